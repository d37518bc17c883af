/-! TreeOddsModel -/
set_option maxRecDepth 100000
def RX5 : String := "TreeOddsModel"
def TX5 : u_T := fun k => match k with
  | 0 => ("TreeOddsModel", "now", "[I", true)
  | 1 => ("TreeOddsModel", "past", "[I", true)
  | 2 => ("TreeOddsModel", "states", "I", false)
  | 3 => ("TreeOddsModel", "refused", "[I", true)
  | 4 => ("TreeOddsModel", "line", "[I", true)
  | 5 => ("TreeOddsModel", "came", "I", false)
  | 6 => ("TreeOddsModel", "byDepth", "I", false)
  | 7 => ("TreeOddsModel", "byGuesser", "I", false)
  | 8 => ("TreeOddsModel", "noughts", "[I", true)
  | 9 => ("TreeOddsModel", "ones", "[I", true)
  | 10 => ("TreeOddsModel", "weights", "[I", true)
  | 11 => ("TreeOddsModel", "ownCost", "[I", true)
  | 12 => ("TreeOddsModel", "way", "[I", true)
  | 13 => ("TreeOddsModel", "own", "[I", true)
  | 14 => ("TreeOddsModel", "mixed", "[I", true)
  | 15 => ("TreeOddsModel", "guessAt", "[I", true)
  | 16 => ("TreeOddsModel", "treeCost", "[I", true)
  | 17 => ("TreeOddsModel", "isLeaf", "[Z", true)
  | 18 => ("TreeOddsModel", "inTree", "[I", true)
  | 19 => ("TreeOddsModel", "out", "[I", true)
  | 20 => ("TreeOddsModel", "outLong", "I", false)
  | 21 => ("TreeOddsModel", "low", "J", false)
  | 22 => ("TreeOddsModel", "text", "[I", true)
  | 23 => ("TreeOddsModel", "textLong", "I", false)
  | 24 => ("TreeOddsModel", "place", "I", false)
  | 25 => ("TreeOddsModel", "read", "[I", true)
  | _ => ("TreeOddsModel", "readLong", "I", false)
def tyX5 : Nat → FieldType := fun k => match k with
  | 0 => .array .int
  | 1 => .array .int
  | 2 => .int
  | 3 => .array .int
  | 4 => .array .int
  | 5 => .int
  | 6 => .int
  | 7 => .int
  | 8 => .array .int
  | 9 => .array .int
  | 10 => .array .int
  | 11 => .array .int
  | 12 => .array .int
  | 13 => .array .int
  | 14 => .array .int
  | 15 => .array .int
  | 16 => .array .int
  | 17 => .array .boolean
  | 18 => .array .int
  | 19 => .array .int
  | 20 => .int
  | 21 => .long
  | 22 => .array .int
  | 23 => .int
  | 24 => .int
  | 25 => .array .int
  | _ => .int
abbrev wsX50 : List Cond := u_ws RX5 TX5 27
set_option maxRecDepth 100000 in
theorem nmX5 : ∀ a, a < 27 → ∀ b, b < 27 → a ≠ b → (TX5 a).2.1 ≠ (TX5 b).2.1 := by decide +kernel
set_option maxRecDepth 100000 in
theorem tyX5_ok : ∀ k, k < 27 → parseFieldDescriptor (TX5 k).2.2.1 = some (tyX5 k) := by decide +kernel
abbrev cX5_init : ByteArray := prog_11_method_1_code
def yX5_init : MethodName := ⟨RX5, "<init>", "()V"⟩
def dkwX5_init_6 : List UInt8 := [181, 0, 59, 42, 17, 0, 128, 188, 10, 181, 0, 62, 42, 180, 0, 7, 16, 101, 6, 79, 177]
abbrev dktX5_init_6 : List UInt8 := dkwX5_init_6 ++ []
def dkwX5_init_5 : List UInt8 := [42, 16, 127, 188, 10, 181, 0, 53, 42, 17, 1, 0, 188, 10, 181, 0, 56, 42, 16, 120, 188, 10]
abbrev dktX5_init_5 : List UInt8 := dkwX5_init_5 ++ dktX5_init_6
def dkwX5_init_4 : List UInt8 := [17, 0, 128, 188, 10, 181, 0, 43, 42, 16, 127, 188, 10, 181, 0, 46, 42, 16, 127, 188, 4, 181, 0, 49]
abbrev dktX5_init_4 : List UInt8 := dkwX5_init_4 ++ dktX5_init_5
def dkwX5_init_3 : List UInt8 := [16, 7, 188, 10, 181, 0, 34, 42, 16, 7, 188, 10, 181, 0, 37, 42, 16, 7, 188, 10, 181, 0, 40, 42]
abbrev dktX5_init_3 : List UInt8 := dkwX5_init_3 ++ dktX5_init_4
def dkwX5_init_2 : List UInt8 := [16, 127, 188, 10, 181, 0, 25, 42, 16, 127, 188, 10, 181, 0, 28, 42, 16, 127, 188, 10, 181, 0, 31, 42]
abbrev dktX5_init_2 : List UInt8 := dkwX5_init_2 ++ dktX5_init_3
def dkwX5_init_1 : List UInt8 := [188, 10, 181, 0, 16, 42, 17, 0, 128, 188, 10, 181, 0, 19, 42, 16, 127, 188, 10, 181, 0, 22, 42]
abbrev dktX5_init_1 : List UInt8 := dkwX5_init_1 ++ dktX5_init_2
def dkwX5_init_0 : List UInt8 := [42, 183, 0, 1, 42, 16, 103, 188, 10, 181, 0, 7, 42, 17, 2, 106, 188, 10, 181, 0, 13, 42, 6]
abbrev dktX5_init_0 : List UInt8 := dkwX5_init_0 ++ dktX5_init_1
theorem dksX5_init_0 : cX5_init.data.toList.drop 0 = dktX5_init_0 := by decide +kernel
theorem dksX5_init_1 : cX5_init.data.toList.drop 23 = dktX5_init_1 := dk_seg dksX5_init_0 23 rfl rfl
theorem dksX5_init_2 : cX5_init.data.toList.drop 46 = dktX5_init_2 := dk_seg dksX5_init_1 23 rfl rfl
theorem dksX5_init_3 : cX5_init.data.toList.drop 70 = dktX5_init_3 := dk_seg dksX5_init_2 24 rfl rfl
theorem dksX5_init_4 : cX5_init.data.toList.drop 94 = dktX5_init_4 := dk_seg dksX5_init_3 24 rfl rfl
theorem dksX5_init_5 : cX5_init.data.toList.drop 118 = dktX5_init_5 := dk_seg dksX5_init_4 24 rfl rfl
theorem dksX5_init_6 : cX5_init.data.toList.drop 140 = dktX5_init_6 := dk_seg dksX5_init_5 22 rfl rfl
theorem dX5_init_0 : decode cX5_init 0 = .ok (.aload_n 0, 1) := dk_42 (dk_at dksX5_init_0 0 rfl rfl)
theorem dX5_init_1 : decode cX5_init 1 = .ok (.invokespecial 1, 3) := dk_183 0 1 (dk_at dksX5_init_0 1 rfl rfl)
theorem dX5_init_4 : decode cX5_init 4 = .ok (.aload_n 0, 1) := dk_42 (dk_at dksX5_init_0 4 rfl rfl)
theorem dX5_init_5 : decode cX5_init 5 = .ok (.bipush 103, 2) := dk_16 103 (dk_at dksX5_init_0 5 rfl rfl)
theorem dX5_init_7 : decode cX5_init 7 = .ok (.newarray .int, 2) := dk_188_10 (dk_at dksX5_init_0 7 rfl rfl)
theorem dX5_init_9 : decode cX5_init 9 = .ok (.putfield 7, 3) := dk_181 0 7 (dk_at dksX5_init_0 9 rfl rfl)
theorem dX5_init_12 : decode cX5_init 12 = .ok (.aload_n 0, 1) := dk_42 (dk_at dksX5_init_0 12 rfl rfl)
theorem dX5_init_13 : decode cX5_init 13 = .ok (.sipush 618, 3) := dk_17 2 106 (dk_at dksX5_init_0 13 rfl rfl)
theorem dX5_init_16 : decode cX5_init 16 = .ok (.newarray .int, 2) := dk_188_10 (dk_at dksX5_init_0 16 rfl rfl)
theorem dX5_init_18 : decode cX5_init 18 = .ok (.putfield 13, 3) := dk_181 0 13 (dk_at dksX5_init_0 18 rfl rfl)
theorem dX5_init_21 : decode cX5_init 21 = .ok (.aload_n 0, 1) := dk_42 (dk_at dksX5_init_0 21 rfl rfl)
theorem dX5_init_22 : decode cX5_init 22 = .ok (.iconst 3, 1) := dk_6 (dk_at dksX5_init_0 22 rfl rfl)
theorem dX5_init_23 : decode cX5_init 23 = .ok (.newarray .int, 2) := dk_188_10 (dk_at dksX5_init_1 0 rfl rfl)
theorem dX5_init_25 : decode cX5_init 25 = .ok (.putfield 16, 3) := dk_181 0 16 (dk_at dksX5_init_1 2 rfl rfl)
theorem dX5_init_28 : decode cX5_init 28 = .ok (.aload_n 0, 1) := dk_42 (dk_at dksX5_init_1 5 rfl rfl)
theorem dX5_init_29 : decode cX5_init 29 = .ok (.sipush 128, 3) := dk_17 0 128 (dk_at dksX5_init_1 6 rfl rfl)
theorem dX5_init_32 : decode cX5_init 32 = .ok (.newarray .int, 2) := dk_188_10 (dk_at dksX5_init_1 9 rfl rfl)
theorem dX5_init_34 : decode cX5_init 34 = .ok (.putfield 19, 3) := dk_181 0 19 (dk_at dksX5_init_1 11 rfl rfl)
theorem dX5_init_37 : decode cX5_init 37 = .ok (.aload_n 0, 1) := dk_42 (dk_at dksX5_init_1 14 rfl rfl)
theorem dX5_init_38 : decode cX5_init 38 = .ok (.bipush 127, 2) := dk_16 127 (dk_at dksX5_init_1 15 rfl rfl)
theorem dX5_init_40 : decode cX5_init 40 = .ok (.newarray .int, 2) := dk_188_10 (dk_at dksX5_init_1 17 rfl rfl)
theorem dX5_init_42 : decode cX5_init 42 = .ok (.putfield 22, 3) := dk_181 0 22 (dk_at dksX5_init_1 19 rfl rfl)
theorem dX5_init_45 : decode cX5_init 45 = .ok (.aload_n 0, 1) := dk_42 (dk_at dksX5_init_1 22 rfl rfl)
theorem dX5_init_46 : decode cX5_init 46 = .ok (.bipush 127, 2) := dk_16 127 (dk_at dksX5_init_2 0 rfl rfl)
theorem dX5_init_48 : decode cX5_init 48 = .ok (.newarray .int, 2) := dk_188_10 (dk_at dksX5_init_2 2 rfl rfl)
theorem dX5_init_50 : decode cX5_init 50 = .ok (.putfield 25, 3) := dk_181 0 25 (dk_at dksX5_init_2 4 rfl rfl)
theorem dX5_init_53 : decode cX5_init 53 = .ok (.aload_n 0, 1) := dk_42 (dk_at dksX5_init_2 7 rfl rfl)
theorem dX5_init_54 : decode cX5_init 54 = .ok (.bipush 127, 2) := dk_16 127 (dk_at dksX5_init_2 8 rfl rfl)
theorem dX5_init_56 : decode cX5_init 56 = .ok (.newarray .int, 2) := dk_188_10 (dk_at dksX5_init_2 10 rfl rfl)
theorem dX5_init_58 : decode cX5_init 58 = .ok (.putfield 28, 3) := dk_181 0 28 (dk_at dksX5_init_2 12 rfl rfl)
theorem dX5_init_61 : decode cX5_init 61 = .ok (.aload_n 0, 1) := dk_42 (dk_at dksX5_init_2 15 rfl rfl)
theorem dX5_init_62 : decode cX5_init 62 = .ok (.bipush 127, 2) := dk_16 127 (dk_at dksX5_init_2 16 rfl rfl)
theorem dX5_init_64 : decode cX5_init 64 = .ok (.newarray .int, 2) := dk_188_10 (dk_at dksX5_init_2 18 rfl rfl)
theorem dX5_init_66 : decode cX5_init 66 = .ok (.putfield 31, 3) := dk_181 0 31 (dk_at dksX5_init_2 20 rfl rfl)
theorem dX5_init_69 : decode cX5_init 69 = .ok (.aload_n 0, 1) := dk_42 (dk_at dksX5_init_2 23 rfl rfl)
theorem dX5_init_70 : decode cX5_init 70 = .ok (.bipush 7, 2) := dk_16 7 (dk_at dksX5_init_3 0 rfl rfl)
theorem dX5_init_72 : decode cX5_init 72 = .ok (.newarray .int, 2) := dk_188_10 (dk_at dksX5_init_3 2 rfl rfl)
theorem dX5_init_74 : decode cX5_init 74 = .ok (.putfield 34, 3) := dk_181 0 34 (dk_at dksX5_init_3 4 rfl rfl)
theorem dX5_init_77 : decode cX5_init 77 = .ok (.aload_n 0, 1) := dk_42 (dk_at dksX5_init_3 7 rfl rfl)
theorem dX5_init_78 : decode cX5_init 78 = .ok (.bipush 7, 2) := dk_16 7 (dk_at dksX5_init_3 8 rfl rfl)
theorem dX5_init_80 : decode cX5_init 80 = .ok (.newarray .int, 2) := dk_188_10 (dk_at dksX5_init_3 10 rfl rfl)
theorem dX5_init_82 : decode cX5_init 82 = .ok (.putfield 37, 3) := dk_181 0 37 (dk_at dksX5_init_3 12 rfl rfl)
theorem dX5_init_85 : decode cX5_init 85 = .ok (.aload_n 0, 1) := dk_42 (dk_at dksX5_init_3 15 rfl rfl)
theorem dX5_init_86 : decode cX5_init 86 = .ok (.bipush 7, 2) := dk_16 7 (dk_at dksX5_init_3 16 rfl rfl)
theorem dX5_init_88 : decode cX5_init 88 = .ok (.newarray .int, 2) := dk_188_10 (dk_at dksX5_init_3 18 rfl rfl)
theorem dX5_init_90 : decode cX5_init 90 = .ok (.putfield 40, 3) := dk_181 0 40 (dk_at dksX5_init_3 20 rfl rfl)
theorem dX5_init_93 : decode cX5_init 93 = .ok (.aload_n 0, 1) := dk_42 (dk_at dksX5_init_3 23 rfl rfl)
theorem dX5_init_94 : decode cX5_init 94 = .ok (.sipush 128, 3) := dk_17 0 128 (dk_at dksX5_init_4 0 rfl rfl)
theorem dX5_init_97 : decode cX5_init 97 = .ok (.newarray .int, 2) := dk_188_10 (dk_at dksX5_init_4 3 rfl rfl)
theorem dX5_init_99 : decode cX5_init 99 = .ok (.putfield 43, 3) := dk_181 0 43 (dk_at dksX5_init_4 5 rfl rfl)
theorem dX5_init_102 : decode cX5_init 102 = .ok (.aload_n 0, 1) := dk_42 (dk_at dksX5_init_4 8 rfl rfl)
theorem dX5_init_103 : decode cX5_init 103 = .ok (.bipush 127, 2) := dk_16 127 (dk_at dksX5_init_4 9 rfl rfl)
theorem dX5_init_105 : decode cX5_init 105 = .ok (.newarray .int, 2) := dk_188_10 (dk_at dksX5_init_4 11 rfl rfl)
theorem dX5_init_107 : decode cX5_init 107 = .ok (.putfield 46, 3) := dk_181 0 46 (dk_at dksX5_init_4 13 rfl rfl)
theorem dX5_init_110 : decode cX5_init 110 = .ok (.aload_n 0, 1) := dk_42 (dk_at dksX5_init_4 16 rfl rfl)
theorem dX5_init_111 : decode cX5_init 111 = .ok (.bipush 127, 2) := dk_16 127 (dk_at dksX5_init_4 17 rfl rfl)
theorem dX5_init_113 : decode cX5_init 113 = .ok (.newarray .boolean, 2) := dk_188_4 (dk_at dksX5_init_4 19 rfl rfl)
theorem dX5_init_115 : decode cX5_init 115 = .ok (.putfield 49, 3) := dk_181 0 49 (dk_at dksX5_init_4 21 rfl rfl)
theorem dX5_init_118 : decode cX5_init 118 = .ok (.aload_n 0, 1) := dk_42 (dk_at dksX5_init_5 0 rfl rfl)
theorem dX5_init_119 : decode cX5_init 119 = .ok (.bipush 127, 2) := dk_16 127 (dk_at dksX5_init_5 1 rfl rfl)
theorem dX5_init_121 : decode cX5_init 121 = .ok (.newarray .int, 2) := dk_188_10 (dk_at dksX5_init_5 3 rfl rfl)
theorem dX5_init_123 : decode cX5_init 123 = .ok (.putfield 53, 3) := dk_181 0 53 (dk_at dksX5_init_5 5 rfl rfl)
theorem dX5_init_126 : decode cX5_init 126 = .ok (.aload_n 0, 1) := dk_42 (dk_at dksX5_init_5 8 rfl rfl)
theorem dX5_init_127 : decode cX5_init 127 = .ok (.sipush 256, 3) := dk_17 1 0 (dk_at dksX5_init_5 9 rfl rfl)
theorem dX5_init_130 : decode cX5_init 130 = .ok (.newarray .int, 2) := dk_188_10 (dk_at dksX5_init_5 12 rfl rfl)
theorem dX5_init_132 : decode cX5_init 132 = .ok (.putfield 56, 3) := dk_181 0 56 (dk_at dksX5_init_5 14 rfl rfl)
theorem dX5_init_135 : decode cX5_init 135 = .ok (.aload_n 0, 1) := dk_42 (dk_at dksX5_init_5 17 rfl rfl)
theorem dX5_init_136 : decode cX5_init 136 = .ok (.bipush 120, 2) := dk_16 120 (dk_at dksX5_init_5 18 rfl rfl)
theorem dX5_init_138 : decode cX5_init 138 = .ok (.newarray .int, 2) := dk_188_10 (dk_at dksX5_init_5 20 rfl rfl)
theorem dX5_init_140 : decode cX5_init 140 = .ok (.putfield 59, 3) := dk_181 0 59 (dk_at dksX5_init_6 0 rfl rfl)
theorem dX5_init_143 : decode cX5_init 143 = .ok (.aload_n 0, 1) := dk_42 (dk_at dksX5_init_6 3 rfl rfl)
theorem dX5_init_144 : decode cX5_init 144 = .ok (.sipush 128, 3) := dk_17 0 128 (dk_at dksX5_init_6 4 rfl rfl)
theorem dX5_init_147 : decode cX5_init 147 = .ok (.newarray .int, 2) := dk_188_10 (dk_at dksX5_init_6 7 rfl rfl)
theorem dX5_init_149 : decode cX5_init 149 = .ok (.putfield 62, 3) := dk_181 0 62 (dk_at dksX5_init_6 9 rfl rfl)
theorem dX5_init_152 : decode cX5_init 152 = .ok (.aload_n 0, 1) := dk_42 (dk_at dksX5_init_6 12 rfl rfl)
theorem dX5_init_153 : decode cX5_init 153 = .ok (.getfield 7, 3) := dk_180 0 7 (dk_at dksX5_init_6 13 rfl rfl)
theorem dX5_init_156 : decode cX5_init 156 = .ok (.bipush 101, 2) := dk_16 101 (dk_at dksX5_init_6 16 rfl rfl)
theorem dX5_init_158 : decode cX5_init 158 = .ok (.iconst 3, 1) := dk_6 (dk_at dksX5_init_6 18 rfl rfl)
theorem dX5_init_159 : decode cX5_init 159 = .ok (.iastore, 1) := dk_79 (dk_at dksX5_init_6 19 rfl rfl)
theorem dX5_init_160 : decode cX5_init 160 = .ok (.return_, 1) := dk_177 (dk_at dksX5_init_6 20 rfl rfl)
abbrev cX5_sign : ByteArray := prog_11_method_24_code
def yX5_sign : MethodName := ⟨RX5, "sign", "(I)I"⟩
def dkwX5_sign_2 : List UInt8 := [182, 0, 154, 172]
abbrev dktX5_sign_2 : List UInt8 := dkwX5_sign_2 ++ []
def dkwX5_sign_1 : List UInt8 := [160, 0, 8, 42, 182, 0, 145, 172, 42, 182, 0, 148, 42, 27, 182, 0, 151, 42, 42, 182, 0, 112, 4, 100]
abbrev dktX5_sign_1 : List UInt8 := dkwX5_sign_1 ++ dktX5_sign_2
def dkwX5_sign_0 : List UInt8 := [27, 133, 9, 10, 184, 0, 138, 154, 0, 10, 42, 16, 254, 182, 0, 142, 172, 42, 182, 0, 112, 16, 100]
abbrev dktX5_sign_0 : List UInt8 := dkwX5_sign_0 ++ dktX5_sign_1
theorem dksX5_sign_0 : cX5_sign.data.toList.drop 0 = dktX5_sign_0 := by decide +kernel
theorem dksX5_sign_1 : cX5_sign.data.toList.drop 23 = dktX5_sign_1 := dk_seg dksX5_sign_0 23 rfl rfl
theorem dksX5_sign_2 : cX5_sign.data.toList.drop 47 = dktX5_sign_2 := dk_seg dksX5_sign_1 24 rfl rfl
theorem dX5_sign_0 : decode cX5_sign 0 = .ok (.iload_n 1, 1) := dk_27 (dk_at dksX5_sign_0 0 rfl rfl)
theorem dX5_sign_1 : decode cX5_sign 1 = .ok (.i2l, 1) := dk_133 (dk_at dksX5_sign_0 1 rfl rfl)
theorem dX5_sign_2 : decode cX5_sign 2 = .ok (.lconst 0, 1) := dk_9 (dk_at dksX5_sign_0 2 rfl rfl)
theorem dX5_sign_3 : decode cX5_sign 3 = .ok (.lconst 1, 1) := dk_10 (dk_at dksX5_sign_0 3 rfl rfl)
theorem dX5_sign_4 : decode cX5_sign 4 = .ok (.invokestatic 138, 3) := dk_184 0 138 (dk_at dksX5_sign_0 4 rfl rfl)
theorem dX5_sign_7 : decode cX5_sign 7 = .ok (.ifCond .ne 10, 3) := dk_154 0 10 (dk_at dksX5_sign_0 7 rfl rfl)
theorem dX5_sign_10 : decode cX5_sign 10 = .ok (.aload_n 0, 1) := dk_42 (dk_at dksX5_sign_0 10 rfl rfl)
theorem dX5_sign_11 : decode cX5_sign 11 = .ok (.bipush (-2), 2) := dk_16 254 (dk_at dksX5_sign_0 11 rfl rfl)
theorem dX5_sign_13 : decode cX5_sign 13 = .ok (.invokevirtual 142, 3) := dk_182 0 142 (dk_at dksX5_sign_0 13 rfl rfl)
theorem dX5_sign_16 : decode cX5_sign 16 = .ok (.ireturn, 1) := dk_172 (dk_at dksX5_sign_0 16 rfl rfl)
theorem dX5_sign_17 : decode cX5_sign 17 = .ok (.aload_n 0, 1) := dk_42 (dk_at dksX5_sign_0 17 rfl rfl)
theorem dX5_sign_18 : decode cX5_sign 18 = .ok (.invokevirtual 112, 3) := dk_182 0 112 (dk_at dksX5_sign_0 18 rfl rfl)
theorem dX5_sign_21 : decode cX5_sign 21 = .ok (.bipush 100, 2) := dk_16 100 (dk_at dksX5_sign_0 21 rfl rfl)
theorem dX5_sign_23 : decode cX5_sign 23 = .ok (.if_icmp .ne 8, 3) := dk_160 0 8 (dk_at dksX5_sign_1 0 rfl rfl)
theorem dX5_sign_26 : decode cX5_sign 26 = .ok (.aload_n 0, 1) := dk_42 (dk_at dksX5_sign_1 3 rfl rfl)
theorem dX5_sign_27 : decode cX5_sign 27 = .ok (.invokevirtual 145, 3) := dk_182 0 145 (dk_at dksX5_sign_1 4 rfl rfl)
theorem dX5_sign_30 : decode cX5_sign 30 = .ok (.ireturn, 1) := dk_172 (dk_at dksX5_sign_1 7 rfl rfl)
theorem dX5_sign_31 : decode cX5_sign 31 = .ok (.aload_n 0, 1) := dk_42 (dk_at dksX5_sign_1 8 rfl rfl)
theorem dX5_sign_32 : decode cX5_sign 32 = .ok (.invokevirtual 148, 3) := dk_182 0 148 (dk_at dksX5_sign_1 9 rfl rfl)
theorem dX5_sign_35 : decode cX5_sign 35 = .ok (.aload_n 0, 1) := dk_42 (dk_at dksX5_sign_1 12 rfl rfl)
theorem dX5_sign_36 : decode cX5_sign 36 = .ok (.iload_n 1, 1) := dk_27 (dk_at dksX5_sign_1 13 rfl rfl)
theorem dX5_sign_37 : decode cX5_sign 37 = .ok (.invokevirtual 151, 3) := dk_182 0 151 (dk_at dksX5_sign_1 14 rfl rfl)
theorem dX5_sign_40 : decode cX5_sign 40 = .ok (.aload_n 0, 1) := dk_42 (dk_at dksX5_sign_1 17 rfl rfl)
theorem dX5_sign_41 : decode cX5_sign 41 = .ok (.aload_n 0, 1) := dk_42 (dk_at dksX5_sign_1 18 rfl rfl)
theorem dX5_sign_42 : decode cX5_sign 42 = .ok (.invokevirtual 112, 3) := dk_182 0 112 (dk_at dksX5_sign_1 19 rfl rfl)
theorem dX5_sign_45 : decode cX5_sign 45 = .ok (.iconst 1, 1) := dk_4 (dk_at dksX5_sign_1 22 rfl rfl)
theorem dX5_sign_46 : decode cX5_sign 46 = .ok (.isub, 1) := dk_100 (dk_at dksX5_sign_1 23 rfl rfl)
theorem dX5_sign_47 : decode cX5_sign 47 = .ok (.invokevirtual 154, 3) := dk_182 0 154 (dk_at dksX5_sign_2 0 rfl rfl)
theorem dX5_sign_50 : decode cX5_sign 50 = .ok (.ireturn, 1) := dk_172 (dk_at dksX5_sign_2 3 rfl rfl)
abbrev cX5_in : ByteArray := prog_11_method_3_code
def yX5_in : MethodName := ⟨RX5, "in", "(JJJ)Z"⟩
def dkwX5_in_0 : List UInt8 := [30, 32, 148, 155, 0, 14, 30, 22, 4, 148, 157, 0, 7, 4, 167, 0, 4, 3, 172]
abbrev dktX5_in_0 : List UInt8 := dkwX5_in_0 ++ []
theorem dksX5_in_0 : cX5_in.data.toList.drop 0 = dktX5_in_0 := by decide +kernel
theorem dX5_in_0 : decode cX5_in 0 = .ok (.lload_n 0, 1) := dk_30 (dk_at dksX5_in_0 0 rfl rfl)
theorem dX5_in_1 : decode cX5_in 1 = .ok (.lload_n 2, 1) := dk_32 (dk_at dksX5_in_0 1 rfl rfl)
theorem dX5_in_2 : decode cX5_in 2 = .ok (.lcmp, 1) := dk_148 (dk_at dksX5_in_0 2 rfl rfl)
theorem dX5_in_3 : decode cX5_in 3 = .ok (.ifCond .lt 14, 3) := dk_155 0 14 (dk_at dksX5_in_0 3 rfl rfl)
theorem dX5_in_6 : decode cX5_in 6 = .ok (.lload_n 0, 1) := dk_30 (dk_at dksX5_in_0 6 rfl rfl)
theorem dX5_in_7 : decode cX5_in 7 = .ok (.lload 4, 2) := dk_22 4 (dk_at dksX5_in_0 7 rfl rfl)
theorem dX5_in_9 : decode cX5_in 9 = .ok (.lcmp, 1) := dk_148 (dk_at dksX5_in_0 9 rfl rfl)
theorem dX5_in_10 : decode cX5_in 10 = .ok (.ifCond .gt 7, 3) := dk_157 0 7 (dk_at dksX5_in_0 10 rfl rfl)
theorem dX5_in_13 : decode cX5_in 13 = .ok (.iconst 1, 1) := dk_4 (dk_at dksX5_in_0 13 rfl rfl)
theorem dX5_in_14 : decode cX5_in 14 = .ok (.goto 4, 3) := dk_167 0 4 (dk_at dksX5_in_0 14 rfl rfl)
theorem dX5_in_17 : decode cX5_in 17 = .ok (.iconst 0, 1) := dk_3 (dk_at dksX5_in_0 17 rfl rfl)
theorem dX5_in_18 : decode cX5_in 18 = .ok (.ireturn, 1) := dk_172 (dk_at dksX5_in_0 18 rfl rfl)
abbrev cX5_bad : ByteArray := prog_11_method_4_code
def yX5_bad : MethodName := ⟨RX5, "bad", "(I)I"⟩
def dkwX5_bad_0 : List UInt8 := [42, 180, 0, 16, 3, 92, 46, 4, 96, 79, 27, 172]
abbrev dktX5_bad_0 : List UInt8 := dkwX5_bad_0 ++ []
theorem dksX5_bad_0 : cX5_bad.data.toList.drop 0 = dktX5_bad_0 := by decide +kernel
theorem dX5_bad_0 : decode cX5_bad 0 = .ok (.aload_n 0, 1) := dk_42 (dk_at dksX5_bad_0 0 rfl rfl)
theorem dX5_bad_1 : decode cX5_bad 1 = .ok (.getfield 16, 3) := dk_180 0 16 (dk_at dksX5_bad_0 1 rfl rfl)
theorem dX5_bad_4 : decode cX5_bad 4 = .ok (.iconst 0, 1) := dk_3 (dk_at dksX5_bad_0 4 rfl rfl)
theorem dX5_bad_5 : decode cX5_bad 5 = .ok (.dup2, 1) := dk_92 (dk_at dksX5_bad_0 5 rfl rfl)
theorem dX5_bad_6 : decode cX5_bad 6 = .ok (.iaload, 1) := dk_46 (dk_at dksX5_bad_0 6 rfl rfl)
theorem dX5_bad_7 : decode cX5_bad 7 = .ok (.iconst 1, 1) := dk_4 (dk_at dksX5_bad_0 7 rfl rfl)
theorem dX5_bad_8 : decode cX5_bad 8 = .ok (.iadd, 1) := dk_96 (dk_at dksX5_bad_0 8 rfl rfl)
theorem dX5_bad_9 : decode cX5_bad 9 = .ok (.iastore, 1) := dk_79 (dk_at dksX5_bad_0 9 rfl rfl)
theorem dX5_bad_10 : decode cX5_bad 10 = .ok (.iload_n 1, 1) := dk_27 (dk_at dksX5_bad_0 10 rfl rfl)
theorem dX5_bad_11 : decode cX5_bad 11 = .ok (.ireturn, 1) := dk_172 (dk_at dksX5_bad_0 11 rfl rfl)
abbrev cX5_many : ByteArray := prog_11_method_7_code
def yX5_many : MethodName := ⟨RX5, "many", "()I"⟩
def dkwX5_many_0 : List UInt8 := [42, 180, 0, 7, 16, 100, 46, 172]
abbrev dktX5_many_0 : List UInt8 := dkwX5_many_0 ++ []
theorem dksX5_many_0 : cX5_many.data.toList.drop 0 = dktX5_many_0 := by decide +kernel
theorem dX5_many_0 : decode cX5_many 0 = .ok (.aload_n 0, 1) := dk_42 (dk_at dksX5_many_0 0 rfl rfl)
theorem dX5_many_1 : decode cX5_many 1 = .ok (.getfield 7, 3) := dk_180 0 7 (dk_at dksX5_many_0 1 rfl rfl)
theorem dX5_many_4 : decode cX5_many 4 = .ok (.bipush 100, 2) := dk_16 100 (dk_at dksX5_many_0 4 rfl rfl)
theorem dX5_many_6 : decode cX5_many 6 = .ok (.iaload, 1) := dk_46 (dk_at dksX5_many_0 6 rfl rfl)
theorem dX5_many_7 : decode cX5_many 7 = .ok (.ireturn, 1) := dk_172 (dk_at dksX5_many_0 7 rfl rfl)
abbrev cX5_full : ByteArray := prog_11_method_6_code
def yX5_full : MethodName := ⟨RX5, "full", "()I"⟩
def dkwX5_full_0 : List UInt8 := [42, 180, 0, 16, 5, 92, 46, 4, 96, 79, 16, 252, 172]
abbrev dktX5_full_0 : List UInt8 := dkwX5_full_0 ++ []
theorem dksX5_full_0 : cX5_full.data.toList.drop 0 = dktX5_full_0 := by decide +kernel
theorem dX5_full_0 : decode cX5_full 0 = .ok (.aload_n 0, 1) := dk_42 (dk_at dksX5_full_0 0 rfl rfl)
theorem dX5_full_1 : decode cX5_full 1 = .ok (.getfield 16, 3) := dk_180 0 16 (dk_at dksX5_full_0 1 rfl rfl)
theorem dX5_full_4 : decode cX5_full 4 = .ok (.iconst 2, 1) := dk_5 (dk_at dksX5_full_0 4 rfl rfl)
theorem dX5_full_5 : decode cX5_full 5 = .ok (.dup2, 1) := dk_92 (dk_at dksX5_full_0 5 rfl rfl)
theorem dX5_full_6 : decode cX5_full 6 = .ok (.iaload, 1) := dk_46 (dk_at dksX5_full_0 6 rfl rfl)
theorem dX5_full_7 : decode cX5_full 7 = .ok (.iconst 1, 1) := dk_4 (dk_at dksX5_full_0 7 rfl rfl)
theorem dX5_full_8 : decode cX5_full 8 = .ok (.iadd, 1) := dk_96 (dk_at dksX5_full_0 8 rfl rfl)
theorem dX5_full_9 : decode cX5_full 9 = .ok (.iastore, 1) := dk_79 (dk_at dksX5_full_0 9 rfl rfl)
theorem dX5_full_10 : decode cX5_full 10 = .ok (.bipush (-4), 2) := dk_16 252 (dk_at dksX5_full_0 10 rfl rfl)
theorem dX5_full_12 : decode cX5_full 12 = .ok (.ireturn, 1) := dk_172 (dk_at dksX5_full_0 12 rfl rfl)
abbrev cX5_keep : ByteArray := prog_11_method_10_code
def yX5_keep : MethodName := ⟨RX5, "keep", "()V"⟩
def dkwX5_keep_3 : List UInt8 := [42, 180, 0, 7, 27, 46, 79, 132, 1, 1, 167, 255, 227, 42, 89, 180, 0, 65, 4, 96, 181, 0, 65, 177]
abbrev dktX5_keep_3 : List UInt8 := dkwX5_keep_3 ++ []
def dkwX5_keep_2 : List UInt8 := [181, 0, 65, 3, 60, 27, 16, 103, 162, 0, 29, 42, 180, 0, 13, 16, 103, 42, 180, 0, 65, 104, 27, 96]
abbrev dktX5_keep_2 : List UInt8 := dkwX5_keep_2 ++ dktX5_keep_3
def dkwX5_keep_1 : List UInt8 := [180, 0, 13, 27, 16, 103, 96, 46, 79, 132, 1, 1, 167, 255, 231, 42, 89, 180, 0, 65, 4, 100]
abbrev dktX5_keep_1 : List UInt8 := dkwX5_keep_1 ++ dktX5_keep_2
def dkwX5_keep_0 : List UInt8 := [42, 180, 0, 65, 16, 6, 160, 0, 43, 3, 60, 27, 17, 2, 3, 162, 0, 24, 42, 180, 0, 13, 27, 42]
abbrev dktX5_keep_0 : List UInt8 := dkwX5_keep_0 ++ dktX5_keep_1
theorem dksX5_keep_0 : cX5_keep.data.toList.drop 0 = dktX5_keep_0 := by decide +kernel
theorem dksX5_keep_1 : cX5_keep.data.toList.drop 24 = dktX5_keep_1 := dk_seg dksX5_keep_0 24 rfl rfl
theorem dksX5_keep_2 : cX5_keep.data.toList.drop 46 = dktX5_keep_2 := dk_seg dksX5_keep_1 22 rfl rfl
theorem dksX5_keep_3 : cX5_keep.data.toList.drop 70 = dktX5_keep_3 := dk_seg dksX5_keep_2 24 rfl rfl
theorem dX5_keep_0 : decode cX5_keep 0 = .ok (.aload_n 0, 1) := dk_42 (dk_at dksX5_keep_0 0 rfl rfl)
theorem dX5_keep_1 : decode cX5_keep 1 = .ok (.getfield 65, 3) := dk_180 0 65 (dk_at dksX5_keep_0 1 rfl rfl)
theorem dX5_keep_4 : decode cX5_keep 4 = .ok (.bipush 6, 2) := dk_16 6 (dk_at dksX5_keep_0 4 rfl rfl)
theorem dX5_keep_6 : decode cX5_keep 6 = .ok (.if_icmp .ne 43, 3) := dk_160 0 43 (dk_at dksX5_keep_0 6 rfl rfl)
theorem dX5_keep_9 : decode cX5_keep 9 = .ok (.iconst 0, 1) := dk_3 (dk_at dksX5_keep_0 9 rfl rfl)
theorem dX5_keep_10 : decode cX5_keep 10 = .ok (.istore_n 1, 1) := dk_60 (dk_at dksX5_keep_0 10 rfl rfl)
theorem dX5_keep_11 : decode cX5_keep 11 = .ok (.iload_n 1, 1) := dk_27 (dk_at dksX5_keep_0 11 rfl rfl)
theorem dX5_keep_12 : decode cX5_keep 12 = .ok (.sipush 515, 3) := dk_17 2 3 (dk_at dksX5_keep_0 12 rfl rfl)
theorem dX5_keep_15 : decode cX5_keep 15 = .ok (.if_icmp .ge 24, 3) := dk_162 0 24 (dk_at dksX5_keep_0 15 rfl rfl)
theorem dX5_keep_18 : decode cX5_keep 18 = .ok (.aload_n 0, 1) := dk_42 (dk_at dksX5_keep_0 18 rfl rfl)
theorem dX5_keep_19 : decode cX5_keep 19 = .ok (.getfield 13, 3) := dk_180 0 13 (dk_at dksX5_keep_0 19 rfl rfl)
theorem dX5_keep_22 : decode cX5_keep 22 = .ok (.iload_n 1, 1) := dk_27 (dk_at dksX5_keep_0 22 rfl rfl)
theorem dX5_keep_23 : decode cX5_keep 23 = .ok (.aload_n 0, 1) := dk_42 (dk_at dksX5_keep_0 23 rfl rfl)
theorem dX5_keep_24 : decode cX5_keep 24 = .ok (.getfield 13, 3) := dk_180 0 13 (dk_at dksX5_keep_1 0 rfl rfl)
theorem dX5_keep_27 : decode cX5_keep 27 = .ok (.iload_n 1, 1) := dk_27 (dk_at dksX5_keep_1 3 rfl rfl)
theorem dX5_keep_28 : decode cX5_keep 28 = .ok (.bipush 103, 2) := dk_16 103 (dk_at dksX5_keep_1 4 rfl rfl)
theorem dX5_keep_30 : decode cX5_keep 30 = .ok (.iadd, 1) := dk_96 (dk_at dksX5_keep_1 6 rfl rfl)
theorem dX5_keep_31 : decode cX5_keep 31 = .ok (.iaload, 1) := dk_46 (dk_at dksX5_keep_1 7 rfl rfl)
theorem dX5_keep_32 : decode cX5_keep 32 = .ok (.iastore, 1) := dk_79 (dk_at dksX5_keep_1 8 rfl rfl)
theorem dX5_keep_33 : decode cX5_keep 33 = .ok (.iinc 1 1, 3) := dk_132 1 1 (dk_at dksX5_keep_1 9 rfl rfl)
theorem dX5_keep_36 : decode cX5_keep 36 = .ok (.goto (-25), 3) := dk_167 255 231 (dk_at dksX5_keep_1 12 rfl rfl)
theorem dX5_keep_39 : decode cX5_keep 39 = .ok (.aload_n 0, 1) := dk_42 (dk_at dksX5_keep_1 15 rfl rfl)
theorem dX5_keep_40 : decode cX5_keep 40 = .ok (.dup, 1) := dk_89 (dk_at dksX5_keep_1 16 rfl rfl)
theorem dX5_keep_41 : decode cX5_keep 41 = .ok (.getfield 65, 3) := dk_180 0 65 (dk_at dksX5_keep_1 17 rfl rfl)
theorem dX5_keep_44 : decode cX5_keep 44 = .ok (.iconst 1, 1) := dk_4 (dk_at dksX5_keep_1 20 rfl rfl)
theorem dX5_keep_45 : decode cX5_keep 45 = .ok (.isub, 1) := dk_100 (dk_at dksX5_keep_1 21 rfl rfl)
theorem dX5_keep_46 : decode cX5_keep 46 = .ok (.putfield 65, 3) := dk_181 0 65 (dk_at dksX5_keep_2 0 rfl rfl)
theorem dX5_keep_49 : decode cX5_keep 49 = .ok (.iconst 0, 1) := dk_3 (dk_at dksX5_keep_2 3 rfl rfl)
theorem dX5_keep_50 : decode cX5_keep 50 = .ok (.istore_n 1, 1) := dk_60 (dk_at dksX5_keep_2 4 rfl rfl)
theorem dX5_keep_51 : decode cX5_keep 51 = .ok (.iload_n 1, 1) := dk_27 (dk_at dksX5_keep_2 5 rfl rfl)
theorem dX5_keep_52 : decode cX5_keep 52 = .ok (.bipush 103, 2) := dk_16 103 (dk_at dksX5_keep_2 6 rfl rfl)
theorem dX5_keep_54 : decode cX5_keep 54 = .ok (.if_icmp .ge 29, 3) := dk_162 0 29 (dk_at dksX5_keep_2 8 rfl rfl)
theorem dX5_keep_57 : decode cX5_keep 57 = .ok (.aload_n 0, 1) := dk_42 (dk_at dksX5_keep_2 11 rfl rfl)
theorem dX5_keep_58 : decode cX5_keep 58 = .ok (.getfield 13, 3) := dk_180 0 13 (dk_at dksX5_keep_2 12 rfl rfl)
theorem dX5_keep_61 : decode cX5_keep 61 = .ok (.bipush 103, 2) := dk_16 103 (dk_at dksX5_keep_2 15 rfl rfl)
theorem dX5_keep_63 : decode cX5_keep 63 = .ok (.aload_n 0, 1) := dk_42 (dk_at dksX5_keep_2 17 rfl rfl)
theorem dX5_keep_64 : decode cX5_keep 64 = .ok (.getfield 65, 3) := dk_180 0 65 (dk_at dksX5_keep_2 18 rfl rfl)
theorem dX5_keep_67 : decode cX5_keep 67 = .ok (.imul, 1) := dk_104 (dk_at dksX5_keep_2 21 rfl rfl)
theorem dX5_keep_68 : decode cX5_keep 68 = .ok (.iload_n 1, 1) := dk_27 (dk_at dksX5_keep_2 22 rfl rfl)
theorem dX5_keep_69 : decode cX5_keep 69 = .ok (.iadd, 1) := dk_96 (dk_at dksX5_keep_2 23 rfl rfl)
theorem dX5_keep_70 : decode cX5_keep 70 = .ok (.aload_n 0, 1) := dk_42 (dk_at dksX5_keep_3 0 rfl rfl)
theorem dX5_keep_71 : decode cX5_keep 71 = .ok (.getfield 7, 3) := dk_180 0 7 (dk_at dksX5_keep_3 1 rfl rfl)
theorem dX5_keep_74 : decode cX5_keep 74 = .ok (.iload_n 1, 1) := dk_27 (dk_at dksX5_keep_3 4 rfl rfl)
theorem dX5_keep_75 : decode cX5_keep 75 = .ok (.iaload, 1) := dk_46 (dk_at dksX5_keep_3 5 rfl rfl)
theorem dX5_keep_76 : decode cX5_keep 76 = .ok (.iastore, 1) := dk_79 (dk_at dksX5_keep_3 6 rfl rfl)
theorem dX5_keep_77 : decode cX5_keep 77 = .ok (.iinc 1 1, 3) := dk_132 1 1 (dk_at dksX5_keep_3 7 rfl rfl)
theorem dX5_keep_80 : decode cX5_keep 80 = .ok (.goto (-29), 3) := dk_167 255 227 (dk_at dksX5_keep_3 10 rfl rfl)
theorem dX5_keep_83 : decode cX5_keep 83 = .ok (.aload_n 0, 1) := dk_42 (dk_at dksX5_keep_3 13 rfl rfl)
theorem dX5_keep_84 : decode cX5_keep 84 = .ok (.dup, 1) := dk_89 (dk_at dksX5_keep_3 14 rfl rfl)
theorem dX5_keep_85 : decode cX5_keep 85 = .ok (.getfield 65, 3) := dk_180 0 65 (dk_at dksX5_keep_3 15 rfl rfl)
theorem dX5_keep_88 : decode cX5_keep 88 = .ok (.iconst 1, 1) := dk_4 (dk_at dksX5_keep_3 18 rfl rfl)
theorem dX5_keep_89 : decode cX5_keep 89 = .ok (.iadd, 1) := dk_96 (dk_at dksX5_keep_3 19 rfl rfl)
theorem dX5_keep_90 : decode cX5_keep 90 = .ok (.putfield 65, 3) := dk_181 0 65 (dk_at dksX5_keep_3 20 rfl rfl)
theorem dX5_keep_93 : decode cX5_keep 93 = .ok (.return_, 1) := dk_177 (dk_at dksX5_keep_3 23 rfl rfl)
abbrev cX5_adds : ByteArray := prog_11_method_22_code
def yX5_adds : MethodName := ⟨RX5, "adds", "(I)V"⟩
def dkwX5_adds_0 : List UInt8 := [42, 180, 0, 7, 42, 182, 0, 112, 27, 79, 42, 180, 0, 7, 16, 100, 92, 46, 4, 96, 79, 177]
abbrev dktX5_adds_0 : List UInt8 := dkwX5_adds_0 ++ []
theorem dksX5_adds_0 : cX5_adds.data.toList.drop 0 = dktX5_adds_0 := by decide +kernel
theorem dX5_adds_0 : decode cX5_adds 0 = .ok (.aload_n 0, 1) := dk_42 (dk_at dksX5_adds_0 0 rfl rfl)
theorem dX5_adds_1 : decode cX5_adds 1 = .ok (.getfield 7, 3) := dk_180 0 7 (dk_at dksX5_adds_0 1 rfl rfl)
theorem dX5_adds_4 : decode cX5_adds 4 = .ok (.aload_n 0, 1) := dk_42 (dk_at dksX5_adds_0 4 rfl rfl)
theorem dX5_adds_5 : decode cX5_adds 5 = .ok (.invokevirtual 112, 3) := dk_182 0 112 (dk_at dksX5_adds_0 5 rfl rfl)
theorem dX5_adds_8 : decode cX5_adds 8 = .ok (.iload_n 1, 1) := dk_27 (dk_at dksX5_adds_0 8 rfl rfl)
theorem dX5_adds_9 : decode cX5_adds 9 = .ok (.iastore, 1) := dk_79 (dk_at dksX5_adds_0 9 rfl rfl)
theorem dX5_adds_10 : decode cX5_adds 10 = .ok (.aload_n 0, 1) := dk_42 (dk_at dksX5_adds_0 10 rfl rfl)
theorem dX5_adds_11 : decode cX5_adds 11 = .ok (.getfield 7, 3) := dk_180 0 7 (dk_at dksX5_adds_0 11 rfl rfl)
theorem dX5_adds_14 : decode cX5_adds 14 = .ok (.bipush 100, 2) := dk_16 100 (dk_at dksX5_adds_0 14 rfl rfl)
theorem dX5_adds_16 : decode cX5_adds 16 = .ok (.dup2, 1) := dk_92 (dk_at dksX5_adds_0 16 rfl rfl)
theorem dX5_adds_17 : decode cX5_adds 17 = .ok (.iaload, 1) := dk_46 (dk_at dksX5_adds_0 17 rfl rfl)
theorem dX5_adds_18 : decode cX5_adds 18 = .ok (.iconst 1, 1) := dk_4 (dk_at dksX5_adds_0 18 rfl rfl)
theorem dX5_adds_19 : decode cX5_adds 19 = .ok (.iadd, 1) := dk_96 (dk_at dksX5_adds_0 19 rfl rfl)
theorem dX5_adds_20 : decode cX5_adds 20 = .ok (.iastore, 1) := dk_79 (dk_at dksX5_adds_0 20 rfl rfl)
theorem dX5_adds_21 : decode cX5_adds 21 = .ok (.return_, 1) := dk_177 (dk_at dksX5_adds_0 21 rfl rfl)
abbrev cX5_costFrom : ByteArray := prog_11_method_23_code
def yX5_costFrom : MethodName := ⟨RX5, "costFrom", "(I)I"⟩
def dkwX5_costFrom_1 : List UInt8 := [182, 0, 135, 96, 61, 132, 4, 1, 167, 255, 235, 28, 172]
abbrev dktX5_costFrom_1 : List UInt8 := dkwX5_costFrom_1 ++ []
def dkwX5_costFrom_0 : List UInt8 := [3, 61, 42, 182, 0, 132, 62, 27, 54, 4, 21, 4, 42, 182, 0, 112, 162, 0, 18, 28, 42, 21, 4]
abbrev dktX5_costFrom_0 : List UInt8 := dkwX5_costFrom_0 ++ dktX5_costFrom_1
theorem dksX5_costFrom_0 : cX5_costFrom.data.toList.drop 0 = dktX5_costFrom_0 := by decide +kernel
theorem dksX5_costFrom_1 : cX5_costFrom.data.toList.drop 23 = dktX5_costFrom_1 := dk_seg dksX5_costFrom_0 23 rfl rfl
theorem dX5_costFrom_0 : decode cX5_costFrom 0 = .ok (.iconst 0, 1) := dk_3 (dk_at dksX5_costFrom_0 0 rfl rfl)
theorem dX5_costFrom_1 : decode cX5_costFrom 1 = .ok (.istore_n 2, 1) := dk_61 (dk_at dksX5_costFrom_0 1 rfl rfl)
theorem dX5_costFrom_2 : decode cX5_costFrom 2 = .ok (.aload_n 0, 1) := dk_42 (dk_at dksX5_costFrom_0 2 rfl rfl)
theorem dX5_costFrom_3 : decode cX5_costFrom 3 = .ok (.invokevirtual 132, 3) := dk_182 0 132 (dk_at dksX5_costFrom_0 3 rfl rfl)
theorem dX5_costFrom_6 : decode cX5_costFrom 6 = .ok (.istore_n 3, 1) := dk_62 (dk_at dksX5_costFrom_0 6 rfl rfl)
theorem dX5_costFrom_7 : decode cX5_costFrom 7 = .ok (.iload_n 1, 1) := dk_27 (dk_at dksX5_costFrom_0 7 rfl rfl)
theorem dX5_costFrom_8 : decode cX5_costFrom 8 = .ok (.istore 4, 2) := dk_54 4 (dk_at dksX5_costFrom_0 8 rfl rfl)
theorem dX5_costFrom_10 : decode cX5_costFrom 10 = .ok (.iload 4, 2) := dk_21 4 (dk_at dksX5_costFrom_0 10 rfl rfl)
theorem dX5_costFrom_12 : decode cX5_costFrom 12 = .ok (.aload_n 0, 1) := dk_42 (dk_at dksX5_costFrom_0 12 rfl rfl)
theorem dX5_costFrom_13 : decode cX5_costFrom 13 = .ok (.invokevirtual 112, 3) := dk_182 0 112 (dk_at dksX5_costFrom_0 13 rfl rfl)
theorem dX5_costFrom_16 : decode cX5_costFrom 16 = .ok (.if_icmp .ge 18, 3) := dk_162 0 18 (dk_at dksX5_costFrom_0 16 rfl rfl)
theorem dX5_costFrom_19 : decode cX5_costFrom 19 = .ok (.iload_n 2, 1) := dk_28 (dk_at dksX5_costFrom_0 19 rfl rfl)
theorem dX5_costFrom_20 : decode cX5_costFrom 20 = .ok (.aload_n 0, 1) := dk_42 (dk_at dksX5_costFrom_0 20 rfl rfl)
theorem dX5_costFrom_21 : decode cX5_costFrom 21 = .ok (.iload 4, 2) := dk_21 4 (dk_at dksX5_costFrom_0 21 rfl rfl)
theorem dX5_costFrom_23 : decode cX5_costFrom 23 = .ok (.invokevirtual 135, 3) := dk_182 0 135 (dk_at dksX5_costFrom_1 0 rfl rfl)
theorem dX5_costFrom_26 : decode cX5_costFrom 26 = .ok (.iadd, 1) := dk_96 (dk_at dksX5_costFrom_1 3 rfl rfl)
theorem dX5_costFrom_27 : decode cX5_costFrom 27 = .ok (.istore_n 2, 1) := dk_61 (dk_at dksX5_costFrom_1 4 rfl rfl)
theorem dX5_costFrom_28 : decode cX5_costFrom 28 = .ok (.iinc 4 1, 3) := dk_132 4 1 (dk_at dksX5_costFrom_1 5 rfl rfl)
theorem dX5_costFrom_31 : decode cX5_costFrom 31 = .ok (.goto (-21), 3) := dk_167 255 235 (dk_at dksX5_costFrom_1 8 rfl rfl)
theorem dX5_costFrom_34 : decode cX5_costFrom 34 = .ok (.iload_n 2, 1) := dk_28 (dk_at dksX5_costFrom_1 11 rfl rfl)
theorem dX5_costFrom_35 : decode cX5_costFrom 35 = .ok (.ireturn, 1) := dk_172 (dk_at dksX5_costFrom_1 12 rfl rfl)
abbrev cX5_goesNow : ByteArray := prog_11_method_20_code
def yX5_goesNow : MethodName := ⟨RX5, "goesNow", "()I"⟩
def dkwX5_goesNow_0 : List UInt8 := [42, 42, 182, 0, 123, 42, 182, 0, 126, 182, 0, 129, 172]
abbrev dktX5_goesNow_0 : List UInt8 := dkwX5_goesNow_0 ++ []
theorem dksX5_goesNow_0 : cX5_goesNow.data.toList.drop 0 = dktX5_goesNow_0 := by decide +kernel
theorem dX5_goesNow_0 : decode cX5_goesNow 0 = .ok (.aload_n 0, 1) := dk_42 (dk_at dksX5_goesNow_0 0 rfl rfl)
theorem dX5_goesNow_1 : decode cX5_goesNow 1 = .ok (.aload_n 0, 1) := dk_42 (dk_at dksX5_goesNow_0 1 rfl rfl)
theorem dX5_goesNow_2 : decode cX5_goesNow 2 = .ok (.invokevirtual 123, 3) := dk_182 0 123 (dk_at dksX5_goesNow_0 2 rfl rfl)
theorem dX5_goesNow_5 : decode cX5_goesNow 5 = .ok (.aload_n 0, 1) := dk_42 (dk_at dksX5_goesNow_0 5 rfl rfl)
theorem dX5_goesNow_6 : decode cX5_goesNow 6 = .ok (.invokevirtual 126, 3) := dk_182 0 126 (dk_at dksX5_goesNow_0 6 rfl rfl)
theorem dX5_goesNow_9 : decode cX5_goesNow 9 = .ok (.invokevirtual 129, 3) := dk_182 0 129 (dk_at dksX5_goesNow_0 9 rfl rfl)
theorem dX5_goesNow_12 : decode cX5_goesNow 12 = .ok (.ireturn, 1) := dk_172 (dk_at dksX5_goesNow_0 12 rfl rfl)
abbrev cX5_depth : ByteArray := prog_11_method_8_code
def yX5_depth : MethodName := ⟨RX5, "depth", "()I"⟩
def dkwX5_depth_0 : List UInt8 := [42, 180, 0, 7, 16, 101, 46, 172]
abbrev dktX5_depth_0 : List UInt8 := dkwX5_depth_0 ++ []
theorem dksX5_depth_0 : cX5_depth.data.toList.drop 0 = dktX5_depth_0 := by decide +kernel
theorem dX5_depth_0 : decode cX5_depth 0 = .ok (.aload_n 0, 1) := dk_42 (dk_at dksX5_depth_0 0 rfl rfl)
theorem dX5_depth_1 : decode cX5_depth 1 = .ok (.getfield 7, 3) := dk_180 0 7 (dk_at dksX5_depth_0 1 rfl rfl)
theorem dX5_depth_4 : decode cX5_depth 4 = .ok (.bipush 101, 2) := dk_16 101 (dk_at dksX5_depth_0 4 rfl rfl)
theorem dX5_depth_6 : decode cX5_depth 6 = .ok (.iaload, 1) := dk_46 (dk_at dksX5_depth_0 6 rfl rfl)
theorem dX5_depth_7 : decode cX5_depth 7 = .ok (.ireturn, 1) := dk_172 (dk_at dksX5_depth_0 7 rfl rfl)
abbrev cX5_guesser : ByteArray := prog_11_method_9_code
def yX5_guesser : MethodName := ⟨RX5, "guesser", "()I"⟩
def dkwX5_guesser_0 : List UInt8 := [42, 180, 0, 7, 16, 102, 46, 172]
abbrev dktX5_guesser_0 : List UInt8 := dkwX5_guesser_0 ++ []
theorem dksX5_guesser_0 : cX5_guesser.data.toList.drop 0 = dktX5_guesser_0 := by decide +kernel
theorem dX5_guesser_0 : decode cX5_guesser 0 = .ok (.aload_n 0, 1) := dk_42 (dk_at dksX5_guesser_0 0 rfl rfl)
theorem dX5_guesser_1 : decode cX5_guesser 1 = .ok (.getfield 7, 3) := dk_180 0 7 (dk_at dksX5_guesser_0 1 rfl rfl)
theorem dX5_guesser_4 : decode cX5_guesser 4 = .ok (.bipush 102, 2) := dk_16 102 (dk_at dksX5_guesser_0 4 rfl rfl)
theorem dX5_guesser_6 : decode cX5_guesser 6 = .ok (.iaload, 1) := dk_46 (dk_at dksX5_guesser_0 6 rfl rfl)
theorem dX5_guesser_7 : decode cX5_guesser 7 = .ok (.ireturn, 1) := dk_172 (dk_at dksX5_guesser_0 7 rfl rfl)
abbrev cX5_goes : ByteArray := prog_11_method_19_code
def yX5_goes : MethodName := ⟨RX5, "goes", "(II)I"⟩
def dkwX5_goes_2 : List UInt8 := [21, 4, 46, 182, 0, 119, 132, 4, 1, 167, 255, 213, 29, 172]
abbrev dktX5_goes_2 : List UInt8 := dkwX5_goes_2 ++ []
def dkwX5_goes_1 : List UInt8 := [182, 0, 116, 42, 180, 0, 7, 21, 4, 46, 184, 0, 97, 184, 0, 105, 96, 62, 42, 42, 180, 0, 7]
abbrev dktX5_goes_1 : List UInt8 := dkwX5_goes_1 ++ dktX5_goes_2
def dkwX5_goes_0 : List UInt8 := [3, 62, 42, 27, 28, 182, 0, 108, 3, 54, 4, 21, 4, 42, 182, 0, 112, 162, 0, 40, 29, 42]
abbrev dktX5_goes_0 : List UInt8 := dkwX5_goes_0 ++ dktX5_goes_1
theorem dksX5_goes_0 : cX5_goes.data.toList.drop 0 = dktX5_goes_0 := by decide +kernel
theorem dksX5_goes_1 : cX5_goes.data.toList.drop 22 = dktX5_goes_1 := dk_seg dksX5_goes_0 22 rfl rfl
theorem dksX5_goes_2 : cX5_goes.data.toList.drop 45 = dktX5_goes_2 := dk_seg dksX5_goes_1 23 rfl rfl
theorem dX5_goes_0 : decode cX5_goes 0 = .ok (.iconst 0, 1) := dk_3 (dk_at dksX5_goes_0 0 rfl rfl)
theorem dX5_goes_1 : decode cX5_goes 1 = .ok (.istore_n 3, 1) := dk_62 (dk_at dksX5_goes_0 1 rfl rfl)
theorem dX5_goes_2 : decode cX5_goes 2 = .ok (.aload_n 0, 1) := dk_42 (dk_at dksX5_goes_0 2 rfl rfl)
theorem dX5_goes_3 : decode cX5_goes 3 = .ok (.iload_n 1, 1) := dk_27 (dk_at dksX5_goes_0 3 rfl rfl)
theorem dX5_goes_4 : decode cX5_goes 4 = .ok (.iload_n 2, 1) := dk_28 (dk_at dksX5_goes_0 4 rfl rfl)
theorem dX5_goes_5 : decode cX5_goes 5 = .ok (.invokevirtual 108, 3) := dk_182 0 108 (dk_at dksX5_goes_0 5 rfl rfl)
theorem dX5_goes_8 : decode cX5_goes 8 = .ok (.iconst 0, 1) := dk_3 (dk_at dksX5_goes_0 8 rfl rfl)
theorem dX5_goes_9 : decode cX5_goes 9 = .ok (.istore 4, 2) := dk_54 4 (dk_at dksX5_goes_0 9 rfl rfl)
theorem dX5_goes_11 : decode cX5_goes 11 = .ok (.iload 4, 2) := dk_21 4 (dk_at dksX5_goes_0 11 rfl rfl)
theorem dX5_goes_13 : decode cX5_goes 13 = .ok (.aload_n 0, 1) := dk_42 (dk_at dksX5_goes_0 13 rfl rfl)
theorem dX5_goes_14 : decode cX5_goes 14 = .ok (.invokevirtual 112, 3) := dk_182 0 112 (dk_at dksX5_goes_0 14 rfl rfl)
theorem dX5_goes_17 : decode cX5_goes 17 = .ok (.if_icmp .ge 40, 3) := dk_162 0 40 (dk_at dksX5_goes_0 17 rfl rfl)
theorem dX5_goes_20 : decode cX5_goes 20 = .ok (.iload_n 3, 1) := dk_29 (dk_at dksX5_goes_0 20 rfl rfl)
theorem dX5_goes_21 : decode cX5_goes 21 = .ok (.aload_n 0, 1) := dk_42 (dk_at dksX5_goes_0 21 rfl rfl)
theorem dX5_goes_22 : decode cX5_goes 22 = .ok (.invokevirtual 116, 3) := dk_182 0 116 (dk_at dksX5_goes_1 0 rfl rfl)
theorem dX5_goes_25 : decode cX5_goes 25 = .ok (.aload_n 0, 1) := dk_42 (dk_at dksX5_goes_1 3 rfl rfl)
theorem dX5_goes_26 : decode cX5_goes 26 = .ok (.getfield 7, 3) := dk_180 0 7 (dk_at dksX5_goes_1 4 rfl rfl)
theorem dX5_goes_29 : decode cX5_goes 29 = .ok (.iload 4, 2) := dk_21 4 (dk_at dksX5_goes_1 7 rfl rfl)
theorem dX5_goes_31 : decode cX5_goes 31 = .ok (.iaload, 1) := dk_46 (dk_at dksX5_goes_1 9 rfl rfl)
theorem dX5_goes_32 : decode cX5_goes 32 = .ok (.invokestatic 97, 3) := dk_184 0 97 (dk_at dksX5_goes_1 10 rfl rfl)
theorem dX5_goes_35 : decode cX5_goes 35 = .ok (.invokestatic 105, 3) := dk_184 0 105 (dk_at dksX5_goes_1 13 rfl rfl)
theorem dX5_goes_38 : decode cX5_goes 38 = .ok (.iadd, 1) := dk_96 (dk_at dksX5_goes_1 16 rfl rfl)
theorem dX5_goes_39 : decode cX5_goes 39 = .ok (.istore_n 3, 1) := dk_62 (dk_at dksX5_goes_1 17 rfl rfl)
theorem dX5_goes_40 : decode cX5_goes 40 = .ok (.aload_n 0, 1) := dk_42 (dk_at dksX5_goes_1 18 rfl rfl)
theorem dX5_goes_41 : decode cX5_goes 41 = .ok (.aload_n 0, 1) := dk_42 (dk_at dksX5_goes_1 19 rfl rfl)
theorem dX5_goes_42 : decode cX5_goes 42 = .ok (.getfield 7, 3) := dk_180 0 7 (dk_at dksX5_goes_1 20 rfl rfl)
theorem dX5_goes_45 : decode cX5_goes 45 = .ok (.iload 4, 2) := dk_21 4 (dk_at dksX5_goes_2 0 rfl rfl)
theorem dX5_goes_47 : decode cX5_goes 47 = .ok (.iaload, 1) := dk_46 (dk_at dksX5_goes_2 2 rfl rfl)
theorem dX5_goes_48 : decode cX5_goes 48 = .ok (.invokevirtual 119, 3) := dk_182 0 119 (dk_at dksX5_goes_2 3 rfl rfl)
theorem dX5_goes_51 : decode cX5_goes 51 = .ok (.iinc 4 1, 3) := dk_132 4 1 (dk_at dksX5_goes_2 6 rfl rfl)
theorem dX5_goes_54 : decode cX5_goes 54 = .ok (.goto (-43), 3) := dk_167 255 213 (dk_at dksX5_goes_2 9 rfl rfl)
theorem dX5_goes_57 : decode cX5_goes 57 = .ok (.iload_n 3, 1) := dk_29 (dk_at dksX5_goes_2 12 rfl rfl)
theorem dX5_goes_58 : decode cX5_goes 58 = .ok (.ireturn, 1) := dk_172 (dk_at dksX5_goes_2 13 rfl rfl)
abbrev cX5_begins : ByteArray := prog_11_method_11_code
def yX5_begins : MethodName := ⟨RX5, "begins", "(II)V"⟩
def dkwX5_begins_2 : List UInt8 := [180, 0, 31, 29, 3, 79, 132, 3, 1, 167, 255, 218, 177]
abbrev dktX5_begins_2 : List UInt8 := dkwX5_begins_2 ++ []
def dkwX5_begins_1 : List UInt8 := [180, 0, 22, 29, 3, 79, 42, 180, 0, 25, 29, 3, 79, 42, 180, 0, 28, 29, 18, 78, 79, 42]
abbrev dktX5_begins_1 : List UInt8 := dkwX5_begins_1 ++ dktX5_begins_2
def dkwX5_begins_0 : List UInt8 := [42, 3, 181, 0, 69, 42, 27, 181, 0, 72, 42, 28, 181, 0, 75, 3, 62, 29, 16, 127, 162, 0, 38, 42]
abbrev dktX5_begins_0 : List UInt8 := dkwX5_begins_0 ++ dktX5_begins_1
theorem dksX5_begins_0 : cX5_begins.data.toList.drop 0 = dktX5_begins_0 := by decide +kernel
theorem dksX5_begins_1 : cX5_begins.data.toList.drop 24 = dktX5_begins_1 := dk_seg dksX5_begins_0 24 rfl rfl
theorem dksX5_begins_2 : cX5_begins.data.toList.drop 46 = dktX5_begins_2 := dk_seg dksX5_begins_1 22 rfl rfl
theorem dX5_begins_0 : decode cX5_begins 0 = .ok (.aload_n 0, 1) := dk_42 (dk_at dksX5_begins_0 0 rfl rfl)
theorem dX5_begins_1 : decode cX5_begins 1 = .ok (.iconst 0, 1) := dk_3 (dk_at dksX5_begins_0 1 rfl rfl)
theorem dX5_begins_2 : decode cX5_begins 2 = .ok (.putfield 69, 3) := dk_181 0 69 (dk_at dksX5_begins_0 2 rfl rfl)
theorem dX5_begins_5 : decode cX5_begins 5 = .ok (.aload_n 0, 1) := dk_42 (dk_at dksX5_begins_0 5 rfl rfl)
theorem dX5_begins_6 : decode cX5_begins 6 = .ok (.iload_n 1, 1) := dk_27 (dk_at dksX5_begins_0 6 rfl rfl)
theorem dX5_begins_7 : decode cX5_begins 7 = .ok (.putfield 72, 3) := dk_181 0 72 (dk_at dksX5_begins_0 7 rfl rfl)
theorem dX5_begins_10 : decode cX5_begins 10 = .ok (.aload_n 0, 1) := dk_42 (dk_at dksX5_begins_0 10 rfl rfl)
theorem dX5_begins_11 : decode cX5_begins 11 = .ok (.iload_n 2, 1) := dk_28 (dk_at dksX5_begins_0 11 rfl rfl)
theorem dX5_begins_12 : decode cX5_begins 12 = .ok (.putfield 75, 3) := dk_181 0 75 (dk_at dksX5_begins_0 12 rfl rfl)
theorem dX5_begins_15 : decode cX5_begins 15 = .ok (.iconst 0, 1) := dk_3 (dk_at dksX5_begins_0 15 rfl rfl)
theorem dX5_begins_16 : decode cX5_begins 16 = .ok (.istore_n 3, 1) := dk_62 (dk_at dksX5_begins_0 16 rfl rfl)
theorem dX5_begins_17 : decode cX5_begins 17 = .ok (.iload_n 3, 1) := dk_29 (dk_at dksX5_begins_0 17 rfl rfl)
theorem dX5_begins_18 : decode cX5_begins 18 = .ok (.bipush 127, 2) := dk_16 127 (dk_at dksX5_begins_0 18 rfl rfl)
theorem dX5_begins_20 : decode cX5_begins 20 = .ok (.if_icmp .ge 38, 3) := dk_162 0 38 (dk_at dksX5_begins_0 20 rfl rfl)
theorem dX5_begins_23 : decode cX5_begins 23 = .ok (.aload_n 0, 1) := dk_42 (dk_at dksX5_begins_0 23 rfl rfl)
theorem dX5_begins_24 : decode cX5_begins 24 = .ok (.getfield 22, 3) := dk_180 0 22 (dk_at dksX5_begins_1 0 rfl rfl)
theorem dX5_begins_27 : decode cX5_begins 27 = .ok (.iload_n 3, 1) := dk_29 (dk_at dksX5_begins_1 3 rfl rfl)
theorem dX5_begins_28 : decode cX5_begins 28 = .ok (.iconst 0, 1) := dk_3 (dk_at dksX5_begins_1 4 rfl rfl)
theorem dX5_begins_29 : decode cX5_begins 29 = .ok (.iastore, 1) := dk_79 (dk_at dksX5_begins_1 5 rfl rfl)
theorem dX5_begins_30 : decode cX5_begins 30 = .ok (.aload_n 0, 1) := dk_42 (dk_at dksX5_begins_1 6 rfl rfl)
theorem dX5_begins_31 : decode cX5_begins 31 = .ok (.getfield 25, 3) := dk_180 0 25 (dk_at dksX5_begins_1 7 rfl rfl)
theorem dX5_begins_34 : decode cX5_begins 34 = .ok (.iload_n 3, 1) := dk_29 (dk_at dksX5_begins_1 10 rfl rfl)
theorem dX5_begins_35 : decode cX5_begins 35 = .ok (.iconst 0, 1) := dk_3 (dk_at dksX5_begins_1 11 rfl rfl)
theorem dX5_begins_36 : decode cX5_begins 36 = .ok (.iastore, 1) := dk_79 (dk_at dksX5_begins_1 12 rfl rfl)
theorem dX5_begins_37 : decode cX5_begins 37 = .ok (.aload_n 0, 1) := dk_42 (dk_at dksX5_begins_1 13 rfl rfl)
theorem dX5_begins_38 : decode cX5_begins 38 = .ok (.getfield 28, 3) := dk_180 0 28 (dk_at dksX5_begins_1 14 rfl rfl)
theorem dX5_begins_41 : decode cX5_begins 41 = .ok (.iload_n 3, 1) := dk_29 (dk_at dksX5_begins_1 17 rfl rfl)
theorem dX5_begins_42 : decode cX5_begins 42 = .ok (.ldc 78, 2) := dk_18 78 (dk_at dksX5_begins_1 18 rfl rfl)
theorem dX5_begins_44 : decode cX5_begins 44 = .ok (.iastore, 1) := dk_79 (dk_at dksX5_begins_1 20 rfl rfl)
theorem dX5_begins_45 : decode cX5_begins 45 = .ok (.aload_n 0, 1) := dk_42 (dk_at dksX5_begins_1 21 rfl rfl)
theorem dX5_begins_46 : decode cX5_begins 46 = .ok (.getfield 31, 3) := dk_180 0 31 (dk_at dksX5_begins_2 0 rfl rfl)
theorem dX5_begins_49 : decode cX5_begins 49 = .ok (.iload_n 3, 1) := dk_29 (dk_at dksX5_begins_2 3 rfl rfl)
theorem dX5_begins_50 : decode cX5_begins 50 = .ok (.iconst 0, 1) := dk_3 (dk_at dksX5_begins_2 4 rfl rfl)
theorem dX5_begins_51 : decode cX5_begins 51 = .ok (.iastore, 1) := dk_79 (dk_at dksX5_begins_2 5 rfl rfl)
theorem dX5_begins_52 : decode cX5_begins 52 = .ok (.iinc 3 1, 3) := dk_132 3 1 (dk_at dksX5_begins_2 6 rfl rfl)
theorem dX5_begins_55 : decode cX5_begins 55 = .ok (.goto (-38), 3) := dk_167 255 218 (dk_at dksX5_begins_2 9 rfl rfl)
theorem dX5_begins_58 : decode cX5_begins 58 = .ok (.return_, 1) := dk_177 (dk_at dksX5_begins_2 12 rfl rfl)
abbrev cX5_guesses : ByteArray := prog_11_method_15_code
def yX5_guesses : MethodName := ⟨RX5, "guesses", "()I"⟩
def dkwX5_guesses_7 : List UInt8 := [3, 46, 172]
abbrev dktX5_guesses_7 : List UInt8 := dkwX5_guesses_7 ++ []
def dkwX5_guesses_6 : List UInt8 := [4, 96, 46, 133, 105, 97, 20, 0, 82, 109, 184, 0, 84, 79, 132, 2, 255, 167, 255, 198, 42, 180, 0, 40]
abbrev dktX5_guesses_6 : List UInt8 := dkwX5_guesses_6 ++ dktX5_guesses_7
def dkwX5_guesses_5 : List UInt8 := [42, 180, 0, 40, 28, 33, 42, 180, 0, 37, 28, 46, 133, 105, 20, 0, 82, 33, 101, 42, 180, 0, 40, 28]
abbrev dktX5_guesses_5 : List UInt8 := dkwX5_guesses_5 ++ dktX5_guesses_6
def dkwX5_guesses_4 : List UInt8 := [42, 180, 0, 72, 4, 100, 61, 28, 155, 0, 60, 42, 180, 0, 28, 42, 180, 0, 34, 28, 46, 46, 133, 66]
abbrev dktX5_guesses_4 : List UInt8 := dkwX5_guesses_4 ++ dktX5_guesses_5
def dkwX5_guesses_3 : List UInt8 := [132, 2, 1, 167, 255, 185, 42, 180, 0, 40, 42, 180, 0, 72, 42, 180, 0, 37, 42, 180, 0, 72, 46, 79]
abbrev dktX5_guesses_3 : List UInt8 := dkwX5_guesses_3 ++ dktX5_guesses_4
def dkwX5_guesses_2 : List UInt8 := [155, 0, 21, 42, 180, 0, 19, 42, 180, 0, 69, 4, 100, 28, 100, 46, 28, 120, 167, 0, 4, 3, 128, 60]
abbrev dktX5_guesses_2 : List UInt8 := dkwX5_guesses_2 ++ dktX5_guesses_3
def dkwX5_guesses_1 : List UInt8 := [180, 0, 37, 28, 42, 42, 180, 0, 34, 28, 46, 182, 0, 92, 79, 27, 42, 180, 0, 69, 4, 100, 28, 100]
abbrev dktX5_guesses_1 : List UInt8 := dkwX5_guesses_1 ++ dktX5_guesses_2
def dkwX5_guesses_0 : List UInt8 := [3, 60, 3, 61, 28, 42, 180, 0, 72, 163, 0, 69, 42, 180, 0, 34, 28, 28, 27, 184, 0, 88, 79, 42]
abbrev dktX5_guesses_0 : List UInt8 := dkwX5_guesses_0 ++ dktX5_guesses_1
theorem dksX5_guesses_0 : cX5_guesses.data.toList.drop 0 = dktX5_guesses_0 := by decide +kernel
theorem dksX5_guesses_1 : cX5_guesses.data.toList.drop 24 = dktX5_guesses_1 := dk_seg dksX5_guesses_0 24 rfl rfl
theorem dksX5_guesses_2 : cX5_guesses.data.toList.drop 48 = dktX5_guesses_2 := dk_seg dksX5_guesses_1 24 rfl rfl
theorem dksX5_guesses_3 : cX5_guesses.data.toList.drop 72 = dktX5_guesses_3 := dk_seg dksX5_guesses_2 24 rfl rfl
theorem dksX5_guesses_4 : cX5_guesses.data.toList.drop 96 = dktX5_guesses_4 := dk_seg dksX5_guesses_3 24 rfl rfl
theorem dksX5_guesses_5 : cX5_guesses.data.toList.drop 120 = dktX5_guesses_5 := dk_seg dksX5_guesses_4 24 rfl rfl
theorem dksX5_guesses_6 : cX5_guesses.data.toList.drop 144 = dktX5_guesses_6 := dk_seg dksX5_guesses_5 24 rfl rfl
theorem dksX5_guesses_7 : cX5_guesses.data.toList.drop 168 = dktX5_guesses_7 := dk_seg dksX5_guesses_6 24 rfl rfl
theorem dX5_guesses_0 : decode cX5_guesses 0 = .ok (.iconst 0, 1) := dk_3 (dk_at dksX5_guesses_0 0 rfl rfl)
theorem dX5_guesses_1 : decode cX5_guesses 1 = .ok (.istore_n 1, 1) := dk_60 (dk_at dksX5_guesses_0 1 rfl rfl)
theorem dX5_guesses_2 : decode cX5_guesses 2 = .ok (.iconst 0, 1) := dk_3 (dk_at dksX5_guesses_0 2 rfl rfl)
theorem dX5_guesses_3 : decode cX5_guesses 3 = .ok (.istore_n 2, 1) := dk_61 (dk_at dksX5_guesses_0 3 rfl rfl)
theorem dX5_guesses_4 : decode cX5_guesses 4 = .ok (.iload_n 2, 1) := dk_28 (dk_at dksX5_guesses_0 4 rfl rfl)
theorem dX5_guesses_5 : decode cX5_guesses 5 = .ok (.aload_n 0, 1) := dk_42 (dk_at dksX5_guesses_0 5 rfl rfl)
theorem dX5_guesses_6 : decode cX5_guesses 6 = .ok (.getfield 72, 3) := dk_180 0 72 (dk_at dksX5_guesses_0 6 rfl rfl)
theorem dX5_guesses_9 : decode cX5_guesses 9 = .ok (.if_icmp .gt 69, 3) := dk_163 0 69 (dk_at dksX5_guesses_0 9 rfl rfl)
theorem dX5_guesses_12 : decode cX5_guesses 12 = .ok (.aload_n 0, 1) := dk_42 (dk_at dksX5_guesses_0 12 rfl rfl)
theorem dX5_guesses_13 : decode cX5_guesses 13 = .ok (.getfield 34, 3) := dk_180 0 34 (dk_at dksX5_guesses_0 13 rfl rfl)
theorem dX5_guesses_16 : decode cX5_guesses 16 = .ok (.iload_n 2, 1) := dk_28 (dk_at dksX5_guesses_0 16 rfl rfl)
theorem dX5_guesses_17 : decode cX5_guesses 17 = .ok (.iload_n 2, 1) := dk_28 (dk_at dksX5_guesses_0 17 rfl rfl)
theorem dX5_guesses_18 : decode cX5_guesses 18 = .ok (.iload_n 1, 1) := dk_27 (dk_at dksX5_guesses_0 18 rfl rfl)
theorem dX5_guesses_19 : decode cX5_guesses 19 = .ok (.invokestatic 88, 3) := dk_184 0 88 (dk_at dksX5_guesses_0 19 rfl rfl)
theorem dX5_guesses_22 : decode cX5_guesses 22 = .ok (.iastore, 1) := dk_79 (dk_at dksX5_guesses_0 22 rfl rfl)
theorem dX5_guesses_23 : decode cX5_guesses 23 = .ok (.aload_n 0, 1) := dk_42 (dk_at dksX5_guesses_0 23 rfl rfl)
theorem dX5_guesses_24 : decode cX5_guesses 24 = .ok (.getfield 37, 3) := dk_180 0 37 (dk_at dksX5_guesses_1 0 rfl rfl)
theorem dX5_guesses_27 : decode cX5_guesses 27 = .ok (.iload_n 2, 1) := dk_28 (dk_at dksX5_guesses_1 3 rfl rfl)
theorem dX5_guesses_28 : decode cX5_guesses 28 = .ok (.aload_n 0, 1) := dk_42 (dk_at dksX5_guesses_1 4 rfl rfl)
theorem dX5_guesses_29 : decode cX5_guesses 29 = .ok (.aload_n 0, 1) := dk_42 (dk_at dksX5_guesses_1 5 rfl rfl)
theorem dX5_guesses_30 : decode cX5_guesses 30 = .ok (.getfield 34, 3) := dk_180 0 34 (dk_at dksX5_guesses_1 6 rfl rfl)
theorem dX5_guesses_33 : decode cX5_guesses 33 = .ok (.iload_n 2, 1) := dk_28 (dk_at dksX5_guesses_1 9 rfl rfl)
theorem dX5_guesses_34 : decode cX5_guesses 34 = .ok (.iaload, 1) := dk_46 (dk_at dksX5_guesses_1 10 rfl rfl)
theorem dX5_guesses_35 : decode cX5_guesses 35 = .ok (.invokevirtual 92, 3) := dk_182 0 92 (dk_at dksX5_guesses_1 11 rfl rfl)
theorem dX5_guesses_38 : decode cX5_guesses 38 = .ok (.iastore, 1) := dk_79 (dk_at dksX5_guesses_1 14 rfl rfl)
theorem dX5_guesses_39 : decode cX5_guesses 39 = .ok (.iload_n 1, 1) := dk_27 (dk_at dksX5_guesses_1 15 rfl rfl)
theorem dX5_guesses_40 : decode cX5_guesses 40 = .ok (.aload_n 0, 1) := dk_42 (dk_at dksX5_guesses_1 16 rfl rfl)
theorem dX5_guesses_41 : decode cX5_guesses 41 = .ok (.getfield 69, 3) := dk_180 0 69 (dk_at dksX5_guesses_1 17 rfl rfl)
theorem dX5_guesses_44 : decode cX5_guesses 44 = .ok (.iconst 1, 1) := dk_4 (dk_at dksX5_guesses_1 20 rfl rfl)
theorem dX5_guesses_45 : decode cX5_guesses 45 = .ok (.isub, 1) := dk_100 (dk_at dksX5_guesses_1 21 rfl rfl)
theorem dX5_guesses_46 : decode cX5_guesses 46 = .ok (.iload_n 2, 1) := dk_28 (dk_at dksX5_guesses_1 22 rfl rfl)
theorem dX5_guesses_47 : decode cX5_guesses 47 = .ok (.isub, 1) := dk_100 (dk_at dksX5_guesses_1 23 rfl rfl)
theorem dX5_guesses_48 : decode cX5_guesses 48 = .ok (.ifCond .lt 21, 3) := dk_155 0 21 (dk_at dksX5_guesses_2 0 rfl rfl)
theorem dX5_guesses_51 : decode cX5_guesses 51 = .ok (.aload_n 0, 1) := dk_42 (dk_at dksX5_guesses_2 3 rfl rfl)
theorem dX5_guesses_52 : decode cX5_guesses 52 = .ok (.getfield 19, 3) := dk_180 0 19 (dk_at dksX5_guesses_2 4 rfl rfl)
theorem dX5_guesses_55 : decode cX5_guesses 55 = .ok (.aload_n 0, 1) := dk_42 (dk_at dksX5_guesses_2 7 rfl rfl)
theorem dX5_guesses_56 : decode cX5_guesses 56 = .ok (.getfield 69, 3) := dk_180 0 69 (dk_at dksX5_guesses_2 8 rfl rfl)
theorem dX5_guesses_59 : decode cX5_guesses 59 = .ok (.iconst 1, 1) := dk_4 (dk_at dksX5_guesses_2 11 rfl rfl)
theorem dX5_guesses_60 : decode cX5_guesses 60 = .ok (.isub, 1) := dk_100 (dk_at dksX5_guesses_2 12 rfl rfl)
theorem dX5_guesses_61 : decode cX5_guesses 61 = .ok (.iload_n 2, 1) := dk_28 (dk_at dksX5_guesses_2 13 rfl rfl)
theorem dX5_guesses_62 : decode cX5_guesses 62 = .ok (.isub, 1) := dk_100 (dk_at dksX5_guesses_2 14 rfl rfl)
theorem dX5_guesses_63 : decode cX5_guesses 63 = .ok (.iaload, 1) := dk_46 (dk_at dksX5_guesses_2 15 rfl rfl)
theorem dX5_guesses_64 : decode cX5_guesses 64 = .ok (.iload_n 2, 1) := dk_28 (dk_at dksX5_guesses_2 16 rfl rfl)
theorem dX5_guesses_65 : decode cX5_guesses 65 = .ok (.ishl, 1) := dk_120 (dk_at dksX5_guesses_2 17 rfl rfl)
theorem dX5_guesses_66 : decode cX5_guesses 66 = .ok (.goto 4, 3) := dk_167 0 4 (dk_at dksX5_guesses_2 18 rfl rfl)
theorem dX5_guesses_69 : decode cX5_guesses 69 = .ok (.iconst 0, 1) := dk_3 (dk_at dksX5_guesses_2 21 rfl rfl)
theorem dX5_guesses_70 : decode cX5_guesses 70 = .ok (.ior, 1) := dk_128 (dk_at dksX5_guesses_2 22 rfl rfl)
theorem dX5_guesses_71 : decode cX5_guesses 71 = .ok (.istore_n 1, 1) := dk_60 (dk_at dksX5_guesses_2 23 rfl rfl)
theorem dX5_guesses_72 : decode cX5_guesses 72 = .ok (.iinc 2 1, 3) := dk_132 2 1 (dk_at dksX5_guesses_3 0 rfl rfl)
theorem dX5_guesses_75 : decode cX5_guesses 75 = .ok (.goto (-71), 3) := dk_167 255 185 (dk_at dksX5_guesses_3 3 rfl rfl)
theorem dX5_guesses_78 : decode cX5_guesses 78 = .ok (.aload_n 0, 1) := dk_42 (dk_at dksX5_guesses_3 6 rfl rfl)
theorem dX5_guesses_79 : decode cX5_guesses 79 = .ok (.getfield 40, 3) := dk_180 0 40 (dk_at dksX5_guesses_3 7 rfl rfl)
theorem dX5_guesses_82 : decode cX5_guesses 82 = .ok (.aload_n 0, 1) := dk_42 (dk_at dksX5_guesses_3 10 rfl rfl)
theorem dX5_guesses_83 : decode cX5_guesses 83 = .ok (.getfield 72, 3) := dk_180 0 72 (dk_at dksX5_guesses_3 11 rfl rfl)
theorem dX5_guesses_86 : decode cX5_guesses 86 = .ok (.aload_n 0, 1) := dk_42 (dk_at dksX5_guesses_3 14 rfl rfl)
theorem dX5_guesses_87 : decode cX5_guesses 87 = .ok (.getfield 37, 3) := dk_180 0 37 (dk_at dksX5_guesses_3 15 rfl rfl)
theorem dX5_guesses_90 : decode cX5_guesses 90 = .ok (.aload_n 0, 1) := dk_42 (dk_at dksX5_guesses_3 18 rfl rfl)
theorem dX5_guesses_91 : decode cX5_guesses 91 = .ok (.getfield 72, 3) := dk_180 0 72 (dk_at dksX5_guesses_3 19 rfl rfl)
theorem dX5_guesses_94 : decode cX5_guesses 94 = .ok (.iaload, 1) := dk_46 (dk_at dksX5_guesses_3 22 rfl rfl)
theorem dX5_guesses_95 : decode cX5_guesses 95 = .ok (.iastore, 1) := dk_79 (dk_at dksX5_guesses_3 23 rfl rfl)
theorem dX5_guesses_96 : decode cX5_guesses 96 = .ok (.aload_n 0, 1) := dk_42 (dk_at dksX5_guesses_4 0 rfl rfl)
theorem dX5_guesses_97 : decode cX5_guesses 97 = .ok (.getfield 72, 3) := dk_180 0 72 (dk_at dksX5_guesses_4 1 rfl rfl)
theorem dX5_guesses_100 : decode cX5_guesses 100 = .ok (.iconst 1, 1) := dk_4 (dk_at dksX5_guesses_4 4 rfl rfl)
theorem dX5_guesses_101 : decode cX5_guesses 101 = .ok (.isub, 1) := dk_100 (dk_at dksX5_guesses_4 5 rfl rfl)
theorem dX5_guesses_102 : decode cX5_guesses 102 = .ok (.istore_n 2, 1) := dk_61 (dk_at dksX5_guesses_4 6 rfl rfl)
theorem dX5_guesses_103 : decode cX5_guesses 103 = .ok (.iload_n 2, 1) := dk_28 (dk_at dksX5_guesses_4 7 rfl rfl)
theorem dX5_guesses_104 : decode cX5_guesses 104 = .ok (.ifCond .lt 60, 3) := dk_155 0 60 (dk_at dksX5_guesses_4 8 rfl rfl)
theorem dX5_guesses_107 : decode cX5_guesses 107 = .ok (.aload_n 0, 1) := dk_42 (dk_at dksX5_guesses_4 11 rfl rfl)
theorem dX5_guesses_108 : decode cX5_guesses 108 = .ok (.getfield 28, 3) := dk_180 0 28 (dk_at dksX5_guesses_4 12 rfl rfl)
theorem dX5_guesses_111 : decode cX5_guesses 111 = .ok (.aload_n 0, 1) := dk_42 (dk_at dksX5_guesses_4 15 rfl rfl)
theorem dX5_guesses_112 : decode cX5_guesses 112 = .ok (.getfield 34, 3) := dk_180 0 34 (dk_at dksX5_guesses_4 16 rfl rfl)
theorem dX5_guesses_115 : decode cX5_guesses 115 = .ok (.iload_n 2, 1) := dk_28 (dk_at dksX5_guesses_4 19 rfl rfl)
theorem dX5_guesses_116 : decode cX5_guesses 116 = .ok (.iaload, 1) := dk_46 (dk_at dksX5_guesses_4 20 rfl rfl)
theorem dX5_guesses_117 : decode cX5_guesses 117 = .ok (.iaload, 1) := dk_46 (dk_at dksX5_guesses_4 21 rfl rfl)
theorem dX5_guesses_118 : decode cX5_guesses 118 = .ok (.i2l, 1) := dk_133 (dk_at dksX5_guesses_4 22 rfl rfl)
theorem dX5_guesses_119 : decode cX5_guesses 119 = .ok (.lstore_n 3, 1) := dk_66 (dk_at dksX5_guesses_4 23 rfl rfl)
theorem dX5_guesses_120 : decode cX5_guesses 120 = .ok (.aload_n 0, 1) := dk_42 (dk_at dksX5_guesses_5 0 rfl rfl)
theorem dX5_guesses_121 : decode cX5_guesses 121 = .ok (.getfield 40, 3) := dk_180 0 40 (dk_at dksX5_guesses_5 1 rfl rfl)
theorem dX5_guesses_124 : decode cX5_guesses 124 = .ok (.iload_n 2, 1) := dk_28 (dk_at dksX5_guesses_5 4 rfl rfl)
theorem dX5_guesses_125 : decode cX5_guesses 125 = .ok (.lload_n 3, 1) := dk_33 (dk_at dksX5_guesses_5 5 rfl rfl)
theorem dX5_guesses_126 : decode cX5_guesses 126 = .ok (.aload_n 0, 1) := dk_42 (dk_at dksX5_guesses_5 6 rfl rfl)
theorem dX5_guesses_127 : decode cX5_guesses 127 = .ok (.getfield 37, 3) := dk_180 0 37 (dk_at dksX5_guesses_5 7 rfl rfl)
theorem dX5_guesses_130 : decode cX5_guesses 130 = .ok (.iload_n 2, 1) := dk_28 (dk_at dksX5_guesses_5 10 rfl rfl)
theorem dX5_guesses_131 : decode cX5_guesses 131 = .ok (.iaload, 1) := dk_46 (dk_at dksX5_guesses_5 11 rfl rfl)
theorem dX5_guesses_132 : decode cX5_guesses 132 = .ok (.i2l, 1) := dk_133 (dk_at dksX5_guesses_5 12 rfl rfl)
theorem dX5_guesses_133 : decode cX5_guesses 133 = .ok (.lmul, 1) := dk_105 (dk_at dksX5_guesses_5 13 rfl rfl)
theorem dX5_guesses_134 : decode cX5_guesses 134 = .ok (.ldc2_w 82, 3) := dk_20 0 82 (dk_at dksX5_guesses_5 14 rfl rfl)
theorem dX5_guesses_137 : decode cX5_guesses 137 = .ok (.lload_n 3, 1) := dk_33 (dk_at dksX5_guesses_5 17 rfl rfl)
theorem dX5_guesses_138 : decode cX5_guesses 138 = .ok (.lsub, 1) := dk_101 (dk_at dksX5_guesses_5 18 rfl rfl)
theorem dX5_guesses_139 : decode cX5_guesses 139 = .ok (.aload_n 0, 1) := dk_42 (dk_at dksX5_guesses_5 19 rfl rfl)
theorem dX5_guesses_140 : decode cX5_guesses 140 = .ok (.getfield 40, 3) := dk_180 0 40 (dk_at dksX5_guesses_5 20 rfl rfl)
theorem dX5_guesses_143 : decode cX5_guesses 143 = .ok (.iload_n 2, 1) := dk_28 (dk_at dksX5_guesses_5 23 rfl rfl)
theorem dX5_guesses_144 : decode cX5_guesses 144 = .ok (.iconst 1, 1) := dk_4 (dk_at dksX5_guesses_6 0 rfl rfl)
theorem dX5_guesses_145 : decode cX5_guesses 145 = .ok (.iadd, 1) := dk_96 (dk_at dksX5_guesses_6 1 rfl rfl)
theorem dX5_guesses_146 : decode cX5_guesses 146 = .ok (.iaload, 1) := dk_46 (dk_at dksX5_guesses_6 2 rfl rfl)
theorem dX5_guesses_147 : decode cX5_guesses 147 = .ok (.i2l, 1) := dk_133 (dk_at dksX5_guesses_6 3 rfl rfl)
theorem dX5_guesses_148 : decode cX5_guesses 148 = .ok (.lmul, 1) := dk_105 (dk_at dksX5_guesses_6 4 rfl rfl)
theorem dX5_guesses_149 : decode cX5_guesses 149 = .ok (.ladd, 1) := dk_97 (dk_at dksX5_guesses_6 5 rfl rfl)
theorem dX5_guesses_150 : decode cX5_guesses 150 = .ok (.ldc2_w 82, 3) := dk_20 0 82 (dk_at dksX5_guesses_6 6 rfl rfl)
theorem dX5_guesses_153 : decode cX5_guesses 153 = .ok (.ldiv, 1) := dk_109 (dk_at dksX5_guesses_6 9 rfl rfl)
theorem dX5_guesses_154 : decode cX5_guesses 154 = .ok (.invokestatic 84, 3) := dk_184 0 84 (dk_at dksX5_guesses_6 10 rfl rfl)
theorem dX5_guesses_157 : decode cX5_guesses 157 = .ok (.iastore, 1) := dk_79 (dk_at dksX5_guesses_6 13 rfl rfl)
theorem dX5_guesses_158 : decode cX5_guesses 158 = .ok (.iinc 2 (-1), 3) := dk_132 2 255 (dk_at dksX5_guesses_6 14 rfl rfl)
theorem dX5_guesses_161 : decode cX5_guesses 161 = .ok (.goto (-58), 3) := dk_167 255 198 (dk_at dksX5_guesses_6 17 rfl rfl)
theorem dX5_guesses_164 : decode cX5_guesses 164 = .ok (.aload_n 0, 1) := dk_42 (dk_at dksX5_guesses_6 20 rfl rfl)
theorem dX5_guesses_165 : decode cX5_guesses 165 = .ok (.getfield 40, 3) := dk_180 0 40 (dk_at dksX5_guesses_6 21 rfl rfl)
theorem dX5_guesses_168 : decode cX5_guesses 168 = .ok (.iconst 0, 1) := dk_3 (dk_at dksX5_guesses_7 0 rfl rfl)
theorem dX5_guesses_169 : decode cX5_guesses 169 = .ok (.iaload, 1) := dk_46 (dk_at dksX5_guesses_7 1 rfl rfl)
theorem dX5_guesses_170 : decode cX5_guesses 170 = .ok (.ireturn, 1) := dk_172 (dk_at dksX5_guesses_7 2 rfl rfl)
abbrev cX5_nodeOf : ByteArray := prog_11_method_14_code
def yX5_nodeOf : MethodName := ⟨RX5, "nodeOf", "(II)I"⟩
def dkwX5_nodeOf_0 : List UInt8 := [4, 26, 120, 4, 100, 27, 96, 172]
abbrev dktX5_nodeOf_0 : List UInt8 := dkwX5_nodeOf_0 ++ []
theorem dksX5_nodeOf_0 : cX5_nodeOf.data.toList.drop 0 = dktX5_nodeOf_0 := by decide +kernel
theorem dX5_nodeOf_0 : decode cX5_nodeOf 0 = .ok (.iconst 1, 1) := dk_4 (dk_at dksX5_nodeOf_0 0 rfl rfl)
theorem dX5_nodeOf_1 : decode cX5_nodeOf 1 = .ok (.iload_n 0, 1) := dk_26 (dk_at dksX5_nodeOf_0 1 rfl rfl)
theorem dX5_nodeOf_2 : decode cX5_nodeOf 2 = .ok (.ishl, 1) := dk_120 (dk_at dksX5_nodeOf_0 2 rfl rfl)
theorem dX5_nodeOf_3 : decode cX5_nodeOf 3 = .ok (.iconst 1, 1) := dk_4 (dk_at dksX5_nodeOf_0 3 rfl rfl)
theorem dX5_nodeOf_4 : decode cX5_nodeOf 4 = .ok (.isub, 1) := dk_100 (dk_at dksX5_nodeOf_0 4 rfl rfl)
theorem dX5_nodeOf_5 : decode cX5_nodeOf 5 = .ok (.iload_n 1, 1) := dk_27 (dk_at dksX5_nodeOf_0 5 rfl rfl)
theorem dX5_nodeOf_6 : decode cX5_nodeOf 6 = .ok (.iadd, 1) := dk_96 (dk_at dksX5_nodeOf_0 6 rfl rfl)
theorem dX5_nodeOf_7 : decode cX5_nodeOf 7 = .ok (.ireturn, 1) := dk_172 (dk_at dksX5_nodeOf_0 7 rfl rfl)
abbrev cX5_ownOf : ByteArray := prog_11_method_13_code
def yX5_ownOf : MethodName := ⟨RX5, "ownOf", "(I)I"⟩
def dkwX5_ownOf_6 : List UInt8 := [105, 21, 5, 133, 109, 184, 0, 84, 172]
abbrev dktX5_ownOf_6 : List UInt8 := dkwX5_ownOf_6 ++ []
def dkwX5_ownOf_5 : List UInt8 := [104, 96, 5, 96, 167, 0, 12, 5, 28, 104, 5, 29, 104, 96, 5, 96, 54, 5, 20, 0, 82, 21, 4, 133]
abbrev dktX5_ownOf_5 : List UInt8 := dkwX5_ownOf_5 ++ dktX5_ownOf_6
def dkwX5_ownOf_4 : List UInt8 := [160, 0, 11, 28, 29, 96, 5, 96, 167, 0, 32, 42, 180, 0, 75, 5, 160, 0, 15, 7, 28, 104, 7, 29]
abbrev dktX5_ownOf_4 : List UInt8 := dkwX5_ownOf_4 ++ dktX5_ownOf_5
def dkwX5_ownOf_3 : List UInt8 := [5, 160, 0, 11, 7, 29, 104, 4, 96, 167, 0, 8, 5, 29, 104, 4, 96, 54, 4, 42, 180, 0, 75, 4]
abbrev dktX5_ownOf_3 : List UInt8 := dkwX5_ownOf_3 ++ dktX5_ownOf_4
def dkwX5_ownOf_2 : List UInt8 := [180, 0, 25, 27, 46, 62, 42, 180, 0, 75, 4, 160, 0, 9, 29, 4, 96, 167, 0, 24, 42, 180, 0, 75]
abbrev dktX5_ownOf_2 : List UInt8 := dkwX5_ownOf_2 ++ dktX5_ownOf_3
def dkwX5_ownOf_1 : List UInt8 := [46, 61, 42, 180, 0, 75, 6, 160, 0, 14, 42, 180, 0, 25, 27, 46, 5, 108, 167, 0, 9, 42]
abbrev dktX5_ownOf_1 : List UInt8 := dkwX5_ownOf_1 ++ dktX5_ownOf_2
def dkwX5_ownOf_0 : List UInt8 := [42, 180, 0, 75, 6, 160, 0, 14, 42, 180, 0, 22, 27, 46, 5, 108, 167, 0, 9, 42, 180, 0, 22, 27]
abbrev dktX5_ownOf_0 : List UInt8 := dkwX5_ownOf_0 ++ dktX5_ownOf_1
theorem dksX5_ownOf_0 : cX5_ownOf.data.toList.drop 0 = dktX5_ownOf_0 := by decide +kernel
theorem dksX5_ownOf_1 : cX5_ownOf.data.toList.drop 24 = dktX5_ownOf_1 := dk_seg dksX5_ownOf_0 24 rfl rfl
theorem dksX5_ownOf_2 : cX5_ownOf.data.toList.drop 46 = dktX5_ownOf_2 := dk_seg dksX5_ownOf_1 22 rfl rfl
theorem dksX5_ownOf_3 : cX5_ownOf.data.toList.drop 70 = dktX5_ownOf_3 := dk_seg dksX5_ownOf_2 24 rfl rfl
theorem dksX5_ownOf_4 : cX5_ownOf.data.toList.drop 94 = dktX5_ownOf_4 := dk_seg dksX5_ownOf_3 24 rfl rfl
theorem dksX5_ownOf_5 : cX5_ownOf.data.toList.drop 118 = dktX5_ownOf_5 := dk_seg dksX5_ownOf_4 24 rfl rfl
theorem dksX5_ownOf_6 : cX5_ownOf.data.toList.drop 142 = dktX5_ownOf_6 := dk_seg dksX5_ownOf_5 24 rfl rfl
theorem dX5_ownOf_0 : decode cX5_ownOf 0 = .ok (.aload_n 0, 1) := dk_42 (dk_at dksX5_ownOf_0 0 rfl rfl)
theorem dX5_ownOf_1 : decode cX5_ownOf 1 = .ok (.getfield 75, 3) := dk_180 0 75 (dk_at dksX5_ownOf_0 1 rfl rfl)
theorem dX5_ownOf_4 : decode cX5_ownOf 4 = .ok (.iconst 3, 1) := dk_6 (dk_at dksX5_ownOf_0 4 rfl rfl)
theorem dX5_ownOf_5 : decode cX5_ownOf 5 = .ok (.if_icmp .ne 14, 3) := dk_160 0 14 (dk_at dksX5_ownOf_0 5 rfl rfl)
theorem dX5_ownOf_8 : decode cX5_ownOf 8 = .ok (.aload_n 0, 1) := dk_42 (dk_at dksX5_ownOf_0 8 rfl rfl)
theorem dX5_ownOf_9 : decode cX5_ownOf 9 = .ok (.getfield 22, 3) := dk_180 0 22 (dk_at dksX5_ownOf_0 9 rfl rfl)
theorem dX5_ownOf_12 : decode cX5_ownOf 12 = .ok (.iload_n 1, 1) := dk_27 (dk_at dksX5_ownOf_0 12 rfl rfl)
theorem dX5_ownOf_13 : decode cX5_ownOf 13 = .ok (.iaload, 1) := dk_46 (dk_at dksX5_ownOf_0 13 rfl rfl)
theorem dX5_ownOf_14 : decode cX5_ownOf 14 = .ok (.iconst 2, 1) := dk_5 (dk_at dksX5_ownOf_0 14 rfl rfl)
theorem dX5_ownOf_15 : decode cX5_ownOf 15 = .ok (.idiv, 1) := dk_108 (dk_at dksX5_ownOf_0 15 rfl rfl)
theorem dX5_ownOf_16 : decode cX5_ownOf 16 = .ok (.goto 9, 3) := dk_167 0 9 (dk_at dksX5_ownOf_0 16 rfl rfl)
theorem dX5_ownOf_19 : decode cX5_ownOf 19 = .ok (.aload_n 0, 1) := dk_42 (dk_at dksX5_ownOf_0 19 rfl rfl)
theorem dX5_ownOf_20 : decode cX5_ownOf 20 = .ok (.getfield 22, 3) := dk_180 0 22 (dk_at dksX5_ownOf_0 20 rfl rfl)
theorem dX5_ownOf_23 : decode cX5_ownOf 23 = .ok (.iload_n 1, 1) := dk_27 (dk_at dksX5_ownOf_0 23 rfl rfl)
theorem dX5_ownOf_24 : decode cX5_ownOf 24 = .ok (.iaload, 1) := dk_46 (dk_at dksX5_ownOf_1 0 rfl rfl)
theorem dX5_ownOf_25 : decode cX5_ownOf 25 = .ok (.istore_n 2, 1) := dk_61 (dk_at dksX5_ownOf_1 1 rfl rfl)
theorem dX5_ownOf_26 : decode cX5_ownOf 26 = .ok (.aload_n 0, 1) := dk_42 (dk_at dksX5_ownOf_1 2 rfl rfl)
theorem dX5_ownOf_27 : decode cX5_ownOf 27 = .ok (.getfield 75, 3) := dk_180 0 75 (dk_at dksX5_ownOf_1 3 rfl rfl)
theorem dX5_ownOf_30 : decode cX5_ownOf 30 = .ok (.iconst 3, 1) := dk_6 (dk_at dksX5_ownOf_1 6 rfl rfl)
theorem dX5_ownOf_31 : decode cX5_ownOf 31 = .ok (.if_icmp .ne 14, 3) := dk_160 0 14 (dk_at dksX5_ownOf_1 7 rfl rfl)
theorem dX5_ownOf_34 : decode cX5_ownOf 34 = .ok (.aload_n 0, 1) := dk_42 (dk_at dksX5_ownOf_1 10 rfl rfl)
theorem dX5_ownOf_35 : decode cX5_ownOf 35 = .ok (.getfield 25, 3) := dk_180 0 25 (dk_at dksX5_ownOf_1 11 rfl rfl)
theorem dX5_ownOf_38 : decode cX5_ownOf 38 = .ok (.iload_n 1, 1) := dk_27 (dk_at dksX5_ownOf_1 14 rfl rfl)
theorem dX5_ownOf_39 : decode cX5_ownOf 39 = .ok (.iaload, 1) := dk_46 (dk_at dksX5_ownOf_1 15 rfl rfl)
theorem dX5_ownOf_40 : decode cX5_ownOf 40 = .ok (.iconst 2, 1) := dk_5 (dk_at dksX5_ownOf_1 16 rfl rfl)
theorem dX5_ownOf_41 : decode cX5_ownOf 41 = .ok (.idiv, 1) := dk_108 (dk_at dksX5_ownOf_1 17 rfl rfl)
theorem dX5_ownOf_42 : decode cX5_ownOf 42 = .ok (.goto 9, 3) := dk_167 0 9 (dk_at dksX5_ownOf_1 18 rfl rfl)
theorem dX5_ownOf_45 : decode cX5_ownOf 45 = .ok (.aload_n 0, 1) := dk_42 (dk_at dksX5_ownOf_1 21 rfl rfl)
theorem dX5_ownOf_46 : decode cX5_ownOf 46 = .ok (.getfield 25, 3) := dk_180 0 25 (dk_at dksX5_ownOf_2 0 rfl rfl)
theorem dX5_ownOf_49 : decode cX5_ownOf 49 = .ok (.iload_n 1, 1) := dk_27 (dk_at dksX5_ownOf_2 3 rfl rfl)
theorem dX5_ownOf_50 : decode cX5_ownOf 50 = .ok (.iaload, 1) := dk_46 (dk_at dksX5_ownOf_2 4 rfl rfl)
theorem dX5_ownOf_51 : decode cX5_ownOf 51 = .ok (.istore_n 3, 1) := dk_62 (dk_at dksX5_ownOf_2 5 rfl rfl)
theorem dX5_ownOf_52 : decode cX5_ownOf 52 = .ok (.aload_n 0, 1) := dk_42 (dk_at dksX5_ownOf_2 6 rfl rfl)
theorem dX5_ownOf_53 : decode cX5_ownOf 53 = .ok (.getfield 75, 3) := dk_180 0 75 (dk_at dksX5_ownOf_2 7 rfl rfl)
theorem dX5_ownOf_56 : decode cX5_ownOf 56 = .ok (.iconst 1, 1) := dk_4 (dk_at dksX5_ownOf_2 10 rfl rfl)
theorem dX5_ownOf_57 : decode cX5_ownOf 57 = .ok (.if_icmp .ne 9, 3) := dk_160 0 9 (dk_at dksX5_ownOf_2 11 rfl rfl)
theorem dX5_ownOf_60 : decode cX5_ownOf 60 = .ok (.iload_n 3, 1) := dk_29 (dk_at dksX5_ownOf_2 14 rfl rfl)
theorem dX5_ownOf_61 : decode cX5_ownOf 61 = .ok (.iconst 1, 1) := dk_4 (dk_at dksX5_ownOf_2 15 rfl rfl)
theorem dX5_ownOf_62 : decode cX5_ownOf 62 = .ok (.iadd, 1) := dk_96 (dk_at dksX5_ownOf_2 16 rfl rfl)
theorem dX5_ownOf_63 : decode cX5_ownOf 63 = .ok (.goto 24, 3) := dk_167 0 24 (dk_at dksX5_ownOf_2 17 rfl rfl)
theorem dX5_ownOf_66 : decode cX5_ownOf 66 = .ok (.aload_n 0, 1) := dk_42 (dk_at dksX5_ownOf_2 20 rfl rfl)
theorem dX5_ownOf_67 : decode cX5_ownOf 67 = .ok (.getfield 75, 3) := dk_180 0 75 (dk_at dksX5_ownOf_2 21 rfl rfl)
theorem dX5_ownOf_70 : decode cX5_ownOf 70 = .ok (.iconst 2, 1) := dk_5 (dk_at dksX5_ownOf_3 0 rfl rfl)
theorem dX5_ownOf_71 : decode cX5_ownOf 71 = .ok (.if_icmp .ne 11, 3) := dk_160 0 11 (dk_at dksX5_ownOf_3 1 rfl rfl)
theorem dX5_ownOf_74 : decode cX5_ownOf 74 = .ok (.iconst 4, 1) := dk_7 (dk_at dksX5_ownOf_3 4 rfl rfl)
theorem dX5_ownOf_75 : decode cX5_ownOf 75 = .ok (.iload_n 3, 1) := dk_29 (dk_at dksX5_ownOf_3 5 rfl rfl)
theorem dX5_ownOf_76 : decode cX5_ownOf 76 = .ok (.imul, 1) := dk_104 (dk_at dksX5_ownOf_3 6 rfl rfl)
theorem dX5_ownOf_77 : decode cX5_ownOf 77 = .ok (.iconst 1, 1) := dk_4 (dk_at dksX5_ownOf_3 7 rfl rfl)
theorem dX5_ownOf_78 : decode cX5_ownOf 78 = .ok (.iadd, 1) := dk_96 (dk_at dksX5_ownOf_3 8 rfl rfl)
theorem dX5_ownOf_79 : decode cX5_ownOf 79 = .ok (.goto 8, 3) := dk_167 0 8 (dk_at dksX5_ownOf_3 9 rfl rfl)
theorem dX5_ownOf_82 : decode cX5_ownOf 82 = .ok (.iconst 2, 1) := dk_5 (dk_at dksX5_ownOf_3 12 rfl rfl)
theorem dX5_ownOf_83 : decode cX5_ownOf 83 = .ok (.iload_n 3, 1) := dk_29 (dk_at dksX5_ownOf_3 13 rfl rfl)
theorem dX5_ownOf_84 : decode cX5_ownOf 84 = .ok (.imul, 1) := dk_104 (dk_at dksX5_ownOf_3 14 rfl rfl)
theorem dX5_ownOf_85 : decode cX5_ownOf 85 = .ok (.iconst 1, 1) := dk_4 (dk_at dksX5_ownOf_3 15 rfl rfl)
theorem dX5_ownOf_86 : decode cX5_ownOf 86 = .ok (.iadd, 1) := dk_96 (dk_at dksX5_ownOf_3 16 rfl rfl)
theorem dX5_ownOf_87 : decode cX5_ownOf 87 = .ok (.istore 4, 2) := dk_54 4 (dk_at dksX5_ownOf_3 17 rfl rfl)
theorem dX5_ownOf_89 : decode cX5_ownOf 89 = .ok (.aload_n 0, 1) := dk_42 (dk_at dksX5_ownOf_3 19 rfl rfl)
theorem dX5_ownOf_90 : decode cX5_ownOf 90 = .ok (.getfield 75, 3) := dk_180 0 75 (dk_at dksX5_ownOf_3 20 rfl rfl)
theorem dX5_ownOf_93 : decode cX5_ownOf 93 = .ok (.iconst 1, 1) := dk_4 (dk_at dksX5_ownOf_3 23 rfl rfl)
theorem dX5_ownOf_94 : decode cX5_ownOf 94 = .ok (.if_icmp .ne 11, 3) := dk_160 0 11 (dk_at dksX5_ownOf_4 0 rfl rfl)
theorem dX5_ownOf_97 : decode cX5_ownOf 97 = .ok (.iload_n 2, 1) := dk_28 (dk_at dksX5_ownOf_4 3 rfl rfl)
theorem dX5_ownOf_98 : decode cX5_ownOf 98 = .ok (.iload_n 3, 1) := dk_29 (dk_at dksX5_ownOf_4 4 rfl rfl)
theorem dX5_ownOf_99 : decode cX5_ownOf 99 = .ok (.iadd, 1) := dk_96 (dk_at dksX5_ownOf_4 5 rfl rfl)
theorem dX5_ownOf_100 : decode cX5_ownOf 100 = .ok (.iconst 2, 1) := dk_5 (dk_at dksX5_ownOf_4 6 rfl rfl)
theorem dX5_ownOf_101 : decode cX5_ownOf 101 = .ok (.iadd, 1) := dk_96 (dk_at dksX5_ownOf_4 7 rfl rfl)
theorem dX5_ownOf_102 : decode cX5_ownOf 102 = .ok (.goto 32, 3) := dk_167 0 32 (dk_at dksX5_ownOf_4 8 rfl rfl)
theorem dX5_ownOf_105 : decode cX5_ownOf 105 = .ok (.aload_n 0, 1) := dk_42 (dk_at dksX5_ownOf_4 11 rfl rfl)
theorem dX5_ownOf_106 : decode cX5_ownOf 106 = .ok (.getfield 75, 3) := dk_180 0 75 (dk_at dksX5_ownOf_4 12 rfl rfl)
theorem dX5_ownOf_109 : decode cX5_ownOf 109 = .ok (.iconst 2, 1) := dk_5 (dk_at dksX5_ownOf_4 15 rfl rfl)
theorem dX5_ownOf_110 : decode cX5_ownOf 110 = .ok (.if_icmp .ne 15, 3) := dk_160 0 15 (dk_at dksX5_ownOf_4 16 rfl rfl)
theorem dX5_ownOf_113 : decode cX5_ownOf 113 = .ok (.iconst 4, 1) := dk_7 (dk_at dksX5_ownOf_4 19 rfl rfl)
theorem dX5_ownOf_114 : decode cX5_ownOf 114 = .ok (.iload_n 2, 1) := dk_28 (dk_at dksX5_ownOf_4 20 rfl rfl)
theorem dX5_ownOf_115 : decode cX5_ownOf 115 = .ok (.imul, 1) := dk_104 (dk_at dksX5_ownOf_4 21 rfl rfl)
theorem dX5_ownOf_116 : decode cX5_ownOf 116 = .ok (.iconst 4, 1) := dk_7 (dk_at dksX5_ownOf_4 22 rfl rfl)
theorem dX5_ownOf_117 : decode cX5_ownOf 117 = .ok (.iload_n 3, 1) := dk_29 (dk_at dksX5_ownOf_4 23 rfl rfl)
theorem dX5_ownOf_118 : decode cX5_ownOf 118 = .ok (.imul, 1) := dk_104 (dk_at dksX5_ownOf_5 0 rfl rfl)
theorem dX5_ownOf_119 : decode cX5_ownOf 119 = .ok (.iadd, 1) := dk_96 (dk_at dksX5_ownOf_5 1 rfl rfl)
theorem dX5_ownOf_120 : decode cX5_ownOf 120 = .ok (.iconst 2, 1) := dk_5 (dk_at dksX5_ownOf_5 2 rfl rfl)
theorem dX5_ownOf_121 : decode cX5_ownOf 121 = .ok (.iadd, 1) := dk_96 (dk_at dksX5_ownOf_5 3 rfl rfl)
theorem dX5_ownOf_122 : decode cX5_ownOf 122 = .ok (.goto 12, 3) := dk_167 0 12 (dk_at dksX5_ownOf_5 4 rfl rfl)
theorem dX5_ownOf_125 : decode cX5_ownOf 125 = .ok (.iconst 2, 1) := dk_5 (dk_at dksX5_ownOf_5 7 rfl rfl)
theorem dX5_ownOf_126 : decode cX5_ownOf 126 = .ok (.iload_n 2, 1) := dk_28 (dk_at dksX5_ownOf_5 8 rfl rfl)
theorem dX5_ownOf_127 : decode cX5_ownOf 127 = .ok (.imul, 1) := dk_104 (dk_at dksX5_ownOf_5 9 rfl rfl)
theorem dX5_ownOf_128 : decode cX5_ownOf 128 = .ok (.iconst 2, 1) := dk_5 (dk_at dksX5_ownOf_5 10 rfl rfl)
theorem dX5_ownOf_129 : decode cX5_ownOf 129 = .ok (.iload_n 3, 1) := dk_29 (dk_at dksX5_ownOf_5 11 rfl rfl)
theorem dX5_ownOf_130 : decode cX5_ownOf 130 = .ok (.imul, 1) := dk_104 (dk_at dksX5_ownOf_5 12 rfl rfl)
theorem dX5_ownOf_131 : decode cX5_ownOf 131 = .ok (.iadd, 1) := dk_96 (dk_at dksX5_ownOf_5 13 rfl rfl)
theorem dX5_ownOf_132 : decode cX5_ownOf 132 = .ok (.iconst 2, 1) := dk_5 (dk_at dksX5_ownOf_5 14 rfl rfl)
theorem dX5_ownOf_133 : decode cX5_ownOf 133 = .ok (.iadd, 1) := dk_96 (dk_at dksX5_ownOf_5 15 rfl rfl)
theorem dX5_ownOf_134 : decode cX5_ownOf 134 = .ok (.istore 5, 2) := dk_54 5 (dk_at dksX5_ownOf_5 16 rfl rfl)
theorem dX5_ownOf_136 : decode cX5_ownOf 136 = .ok (.ldc2_w 82, 3) := dk_20 0 82 (dk_at dksX5_ownOf_5 18 rfl rfl)
theorem dX5_ownOf_139 : decode cX5_ownOf 139 = .ok (.iload 4, 2) := dk_21 4 (dk_at dksX5_ownOf_5 21 rfl rfl)
theorem dX5_ownOf_141 : decode cX5_ownOf 141 = .ok (.i2l, 1) := dk_133 (dk_at dksX5_ownOf_5 23 rfl rfl)
theorem dX5_ownOf_142 : decode cX5_ownOf 142 = .ok (.lmul, 1) := dk_105 (dk_at dksX5_ownOf_6 0 rfl rfl)
theorem dX5_ownOf_143 : decode cX5_ownOf 143 = .ok (.iload 5, 2) := dk_21 5 (dk_at dksX5_ownOf_6 1 rfl rfl)
theorem dX5_ownOf_145 : decode cX5_ownOf 145 = .ok (.i2l, 1) := dk_133 (dk_at dksX5_ownOf_6 3 rfl rfl)
theorem dX5_ownOf_146 : decode cX5_ownOf 146 = .ok (.ldiv, 1) := dk_109 (dk_at dksX5_ownOf_6 4 rfl rfl)
theorem dX5_ownOf_147 : decode cX5_ownOf 147 = .ok (.invokestatic 84, 3) := dk_184 0 84 (dk_at dksX5_ownOf_6 5 rfl rfl)
theorem dX5_ownOf_150 : decode cX5_ownOf 150 = .ok (.ireturn, 1) := dk_172 (dk_at dksX5_ownOf_6 8 rfl rfl)
abbrev cX5_held : ByteArray := prog_11_method_12_code
def yX5_held : MethodName := ⟨RX5, "held", "(J)I"⟩
def dkwX5_held_1 : List UInt8 := [136, 172]
abbrev dktX5_held_1 : List UInt8 := dkwX5_held_1 ++ []
def dkwX5_held_0 : List UInt8 := [30, 10, 148, 156, 0, 7, 4, 167, 0, 18, 30, 20, 0, 79, 148, 158, 0, 8, 18, 81, 167, 0, 5, 30]
abbrev dktX5_held_0 : List UInt8 := dkwX5_held_0 ++ dktX5_held_1
theorem dksX5_held_0 : cX5_held.data.toList.drop 0 = dktX5_held_0 := by decide +kernel
theorem dksX5_held_1 : cX5_held.data.toList.drop 24 = dktX5_held_1 := dk_seg dksX5_held_0 24 rfl rfl
theorem dX5_held_0 : decode cX5_held 0 = .ok (.lload_n 0, 1) := dk_30 (dk_at dksX5_held_0 0 rfl rfl)
theorem dX5_held_1 : decode cX5_held 1 = .ok (.lconst 1, 1) := dk_10 (dk_at dksX5_held_0 1 rfl rfl)
theorem dX5_held_2 : decode cX5_held 2 = .ok (.lcmp, 1) := dk_148 (dk_at dksX5_held_0 2 rfl rfl)
theorem dX5_held_3 : decode cX5_held 3 = .ok (.ifCond .ge 7, 3) := dk_156 0 7 (dk_at dksX5_held_0 3 rfl rfl)
theorem dX5_held_6 : decode cX5_held 6 = .ok (.iconst 1, 1) := dk_4 (dk_at dksX5_held_0 6 rfl rfl)
theorem dX5_held_7 : decode cX5_held 7 = .ok (.goto 18, 3) := dk_167 0 18 (dk_at dksX5_held_0 7 rfl rfl)
theorem dX5_held_10 : decode cX5_held 10 = .ok (.lload_n 0, 1) := dk_30 (dk_at dksX5_held_0 10 rfl rfl)
theorem dX5_held_11 : decode cX5_held 11 = .ok (.ldc2_w 79, 3) := dk_20 0 79 (dk_at dksX5_held_0 11 rfl rfl)
theorem dX5_held_14 : decode cX5_held 14 = .ok (.lcmp, 1) := dk_148 (dk_at dksX5_held_0 14 rfl rfl)
theorem dX5_held_15 : decode cX5_held 15 = .ok (.ifCond .le 8, 3) := dk_158 0 8 (dk_at dksX5_held_0 15 rfl rfl)
theorem dX5_held_18 : decode cX5_held 18 = .ok (.ldc 81, 2) := dk_18 81 (dk_at dksX5_held_0 18 rfl rfl)
theorem dX5_held_20 : decode cX5_held 20 = .ok (.goto 5, 3) := dk_167 0 5 (dk_at dksX5_held_0 20 rfl rfl)
theorem dX5_held_23 : decode cX5_held 23 = .ok (.lload_n 0, 1) := dk_30 (dk_at dksX5_held_0 23 rfl rfl)
theorem dX5_held_24 : decode cX5_held 24 = .ok (.l2i, 1) := dk_136 (dk_at dksX5_held_1 0 rfl rfl)
theorem dX5_held_25 : decode cX5_held 25 = .ok (.ireturn, 1) := dk_172 (dk_at dksX5_held_1 1 rfl rfl)
abbrev cX5_odds : ByteArray := prog_11_method_16_code
def yX5_odds : MethodName := ⟨RX5, "odds", "(II)I"⟩
def dkwX5_odds_0 : List UInt8 := [27, 4, 160, 0, 7, 26, 167, 0, 7, 18, 96, 26, 100, 172]
abbrev dktX5_odds_0 : List UInt8 := dkwX5_odds_0 ++ []
theorem dksX5_odds_0 : cX5_odds.data.toList.drop 0 = dktX5_odds_0 := by decide +kernel
theorem dX5_odds_0 : decode cX5_odds 0 = .ok (.iload_n 1, 1) := dk_27 (dk_at dksX5_odds_0 0 rfl rfl)
theorem dX5_odds_1 : decode cX5_odds 1 = .ok (.iconst 1, 1) := dk_4 (dk_at dksX5_odds_0 1 rfl rfl)
theorem dX5_odds_2 : decode cX5_odds 2 = .ok (.if_icmp .ne 7, 3) := dk_160 0 7 (dk_at dksX5_odds_0 2 rfl rfl)
theorem dX5_odds_5 : decode cX5_odds 5 = .ok (.iload_n 0, 1) := dk_26 (dk_at dksX5_odds_0 5 rfl rfl)
theorem dX5_odds_6 : decode cX5_odds 6 = .ok (.goto 7, 3) := dk_167 0 7 (dk_at dksX5_odds_0 6 rfl rfl)
theorem dX5_odds_9 : decode cX5_odds 9 = .ok (.ldc 96, 2) := dk_18 96 (dk_at dksX5_odds_0 9 rfl rfl)
theorem dX5_odds_11 : decode cX5_odds 11 = .ok (.iload_n 0, 1) := dk_26 (dk_at dksX5_odds_0 11 rfl rfl)
theorem dX5_odds_12 : decode cX5_odds 12 = .ok (.isub, 1) := dk_100 (dk_at dksX5_odds_0 12 rfl rfl)
theorem dX5_odds_13 : decode cX5_odds 13 = .ok (.ireturn, 1) := dk_172 (dk_at dksX5_odds_0 13 rfl rfl)
abbrev cX5_bitsOf : ByteArray := prog_11_method_17_code
def yX5_bitsOf : MethodName := ⟨RX5, "bitsOf", "(I)I"⟩
def dkwX5_bitsOf_2 : List UInt8 := [104, 29, 100, 172]
abbrev dktX5_bitsOf_2 : List UInt8 := dkwX5_bitsOf_2 ++ []
def dkwX5_bitsOf_1 : List UInt8 := [7, 161, 0, 11, 28, 27, 7, 100, 122, 167, 0, 8, 28, 7, 27, 100, 120, 62, 16, 16, 16, 16, 27, 100]
abbrev dktX5_bitsOf_1 : List UInt8 := dkwX5_bitsOf_1 ++ dktX5_bitsOf_2
def dkwX5_bitsOf_0 : List UInt8 := [16, 15, 60, 26, 27, 122, 4, 126, 154, 0, 9, 132, 1, 255, 167, 255, 245, 26, 4, 27, 120, 100, 61, 27]
abbrev dktX5_bitsOf_0 : List UInt8 := dkwX5_bitsOf_0 ++ dktX5_bitsOf_1
theorem dksX5_bitsOf_0 : cX5_bitsOf.data.toList.drop 0 = dktX5_bitsOf_0 := by decide +kernel
theorem dksX5_bitsOf_1 : cX5_bitsOf.data.toList.drop 24 = dktX5_bitsOf_1 := dk_seg dksX5_bitsOf_0 24 rfl rfl
theorem dksX5_bitsOf_2 : cX5_bitsOf.data.toList.drop 48 = dktX5_bitsOf_2 := dk_seg dksX5_bitsOf_1 24 rfl rfl
theorem dX5_bitsOf_0 : decode cX5_bitsOf 0 = .ok (.bipush 15, 2) := dk_16 15 (dk_at dksX5_bitsOf_0 0 rfl rfl)
theorem dX5_bitsOf_2 : decode cX5_bitsOf 2 = .ok (.istore_n 1, 1) := dk_60 (dk_at dksX5_bitsOf_0 2 rfl rfl)
theorem dX5_bitsOf_3 : decode cX5_bitsOf 3 = .ok (.iload_n 0, 1) := dk_26 (dk_at dksX5_bitsOf_0 3 rfl rfl)
theorem dX5_bitsOf_4 : decode cX5_bitsOf 4 = .ok (.iload_n 1, 1) := dk_27 (dk_at dksX5_bitsOf_0 4 rfl rfl)
theorem dX5_bitsOf_5 : decode cX5_bitsOf 5 = .ok (.ishr, 1) := dk_122 (dk_at dksX5_bitsOf_0 5 rfl rfl)
theorem dX5_bitsOf_6 : decode cX5_bitsOf 6 = .ok (.iconst 1, 1) := dk_4 (dk_at dksX5_bitsOf_0 6 rfl rfl)
theorem dX5_bitsOf_7 : decode cX5_bitsOf 7 = .ok (.iand, 1) := dk_126 (dk_at dksX5_bitsOf_0 7 rfl rfl)
theorem dX5_bitsOf_8 : decode cX5_bitsOf 8 = .ok (.ifCond .ne 9, 3) := dk_154 0 9 (dk_at dksX5_bitsOf_0 8 rfl rfl)
theorem dX5_bitsOf_11 : decode cX5_bitsOf 11 = .ok (.iinc 1 (-1), 3) := dk_132 1 255 (dk_at dksX5_bitsOf_0 11 rfl rfl)
theorem dX5_bitsOf_14 : decode cX5_bitsOf 14 = .ok (.goto (-11), 3) := dk_167 255 245 (dk_at dksX5_bitsOf_0 14 rfl rfl)
theorem dX5_bitsOf_17 : decode cX5_bitsOf 17 = .ok (.iload_n 0, 1) := dk_26 (dk_at dksX5_bitsOf_0 17 rfl rfl)
theorem dX5_bitsOf_18 : decode cX5_bitsOf 18 = .ok (.iconst 1, 1) := dk_4 (dk_at dksX5_bitsOf_0 18 rfl rfl)
theorem dX5_bitsOf_19 : decode cX5_bitsOf 19 = .ok (.iload_n 1, 1) := dk_27 (dk_at dksX5_bitsOf_0 19 rfl rfl)
theorem dX5_bitsOf_20 : decode cX5_bitsOf 20 = .ok (.ishl, 1) := dk_120 (dk_at dksX5_bitsOf_0 20 rfl rfl)
theorem dX5_bitsOf_21 : decode cX5_bitsOf 21 = .ok (.isub, 1) := dk_100 (dk_at dksX5_bitsOf_0 21 rfl rfl)
theorem dX5_bitsOf_22 : decode cX5_bitsOf 22 = .ok (.istore_n 2, 1) := dk_61 (dk_at dksX5_bitsOf_0 22 rfl rfl)
theorem dX5_bitsOf_23 : decode cX5_bitsOf 23 = .ok (.iload_n 1, 1) := dk_27 (dk_at dksX5_bitsOf_0 23 rfl rfl)
theorem dX5_bitsOf_24 : decode cX5_bitsOf 24 = .ok (.iconst 4, 1) := dk_7 (dk_at dksX5_bitsOf_1 0 rfl rfl)
theorem dX5_bitsOf_25 : decode cX5_bitsOf 25 = .ok (.if_icmp .lt 11, 3) := dk_161 0 11 (dk_at dksX5_bitsOf_1 1 rfl rfl)
theorem dX5_bitsOf_28 : decode cX5_bitsOf 28 = .ok (.iload_n 2, 1) := dk_28 (dk_at dksX5_bitsOf_1 4 rfl rfl)
theorem dX5_bitsOf_29 : decode cX5_bitsOf 29 = .ok (.iload_n 1, 1) := dk_27 (dk_at dksX5_bitsOf_1 5 rfl rfl)
theorem dX5_bitsOf_30 : decode cX5_bitsOf 30 = .ok (.iconst 4, 1) := dk_7 (dk_at dksX5_bitsOf_1 6 rfl rfl)
theorem dX5_bitsOf_31 : decode cX5_bitsOf 31 = .ok (.isub, 1) := dk_100 (dk_at dksX5_bitsOf_1 7 rfl rfl)
theorem dX5_bitsOf_32 : decode cX5_bitsOf 32 = .ok (.ishr, 1) := dk_122 (dk_at dksX5_bitsOf_1 8 rfl rfl)
theorem dX5_bitsOf_33 : decode cX5_bitsOf 33 = .ok (.goto 8, 3) := dk_167 0 8 (dk_at dksX5_bitsOf_1 9 rfl rfl)
theorem dX5_bitsOf_36 : decode cX5_bitsOf 36 = .ok (.iload_n 2, 1) := dk_28 (dk_at dksX5_bitsOf_1 12 rfl rfl)
theorem dX5_bitsOf_37 : decode cX5_bitsOf 37 = .ok (.iconst 4, 1) := dk_7 (dk_at dksX5_bitsOf_1 13 rfl rfl)
theorem dX5_bitsOf_38 : decode cX5_bitsOf 38 = .ok (.iload_n 1, 1) := dk_27 (dk_at dksX5_bitsOf_1 14 rfl rfl)
theorem dX5_bitsOf_39 : decode cX5_bitsOf 39 = .ok (.isub, 1) := dk_100 (dk_at dksX5_bitsOf_1 15 rfl rfl)
theorem dX5_bitsOf_40 : decode cX5_bitsOf 40 = .ok (.ishl, 1) := dk_120 (dk_at dksX5_bitsOf_1 16 rfl rfl)
theorem dX5_bitsOf_41 : decode cX5_bitsOf 41 = .ok (.istore_n 3, 1) := dk_62 (dk_at dksX5_bitsOf_1 17 rfl rfl)
theorem dX5_bitsOf_42 : decode cX5_bitsOf 42 = .ok (.bipush 16, 2) := dk_16 16 (dk_at dksX5_bitsOf_1 18 rfl rfl)
theorem dX5_bitsOf_44 : decode cX5_bitsOf 44 = .ok (.bipush 16, 2) := dk_16 16 (dk_at dksX5_bitsOf_1 20 rfl rfl)
theorem dX5_bitsOf_46 : decode cX5_bitsOf 46 = .ok (.iload_n 1, 1) := dk_27 (dk_at dksX5_bitsOf_1 22 rfl rfl)
theorem dX5_bitsOf_47 : decode cX5_bitsOf 47 = .ok (.isub, 1) := dk_100 (dk_at dksX5_bitsOf_1 23 rfl rfl)
theorem dX5_bitsOf_48 : decode cX5_bitsOf 48 = .ok (.imul, 1) := dk_104 (dk_at dksX5_bitsOf_2 0 rfl rfl)
theorem dX5_bitsOf_49 : decode cX5_bitsOf 49 = .ok (.iload_n 3, 1) := dk_29 (dk_at dksX5_bitsOf_2 1 rfl rfl)
theorem dX5_bitsOf_50 : decode cX5_bitsOf 50 = .ok (.isub, 1) := dk_100 (dk_at dksX5_bitsOf_2 2 rfl rfl)
theorem dX5_bitsOf_51 : decode cX5_bitsOf 51 = .ok (.ireturn, 1) := dk_172 (dk_at dksX5_bitsOf_2 3 rfl rfl)
abbrev cX5_comes : ByteArray := prog_11_method_18_code
def yX5_comes : MethodName := ⟨RX5, "comes", "(I)V"⟩
def dkwX5_comes_11 : List UInt8 := [181, 0, 69, 177]
abbrev dktX5_comes_11 : List UInt8 := dkwX5_comes_11 ++ []
def dkwX5_comes_10 : List UInt8 := [42, 180, 0, 40, 3, 46, 79, 42, 180, 0, 19, 42, 180, 0, 69, 27, 79, 42, 89, 180, 0, 69, 4, 96]
abbrev dktX5_comes_10 : List UInt8 := dkwX5_comes_10 ++ dktX5_comes_11
def dkwX5_comes_9 : List UInt8 := [42, 180, 0, 25, 29, 92, 46, 5, 108, 79, 132, 2, 1, 167, 255, 152, 42, 180, 0, 43, 42, 180, 0, 69]
abbrev dktX5_comes_9 : List UInt8 := dkwX5_comes_9 ++ dktX5_comes_10
def dkwX5_comes_8 : List UInt8 := [163, 0, 14, 42, 180, 0, 25, 29, 46, 16, 60, 164, 0, 23, 42, 180, 0, 22, 29, 92, 46, 5, 108, 79]
abbrev dktX5_comes_8 : List UInt8 := dkwX5_comes_8 ++ dktX5_comes_9
def dkwX5_comes_7 : List UInt8 := [46, 4, 27, 100, 96, 79, 42, 180, 0, 25, 29, 92, 46, 27, 96, 79, 42, 180, 0, 22, 29, 46, 16, 60]
abbrev dktX5_comes_7 : List UInt8 := dkwX5_comes_7 ++ dktX5_comes_8
def dkwX5_comes_6 : List UInt8 := [29, 92, 46, 42, 180, 0, 37, 28, 46, 27, 184, 0, 97, 184, 0, 105, 96, 79, 42, 180, 0, 22, 29, 92]
abbrev dktX5_comes_6 : List UInt8 := dkwX5_comes_6 ++ dktX5_comes_7
def dkwX5_comes_5 : List UInt8 := [167, 255, 138, 3, 61, 28, 42, 180, 0, 72, 163, 0, 102, 42, 180, 0, 34, 28, 46, 62, 42, 180, 0, 31]
abbrev dktX5_comes_5 : List UInt8 := dkwX5_comes_5 ++ dktX5_comes_6
def dkwX5_comes_4 : List UInt8 := [167, 0, 20, 22, 9, 20, 0, 102, 148, 158, 0, 8, 18, 104, 167, 0, 6, 22, 9, 136, 79, 132, 2, 1]
abbrev dktX5_comes_4 : List UInt8 := dkwX5_comes_4 ++ dktX5_comes_5
def dkwX5_comes_3 : List UInt8 := [109, 55, 9, 42, 180, 0, 28, 42, 180, 0, 34, 28, 46, 22, 9, 20, 0, 100, 148, 156, 0, 8, 16, 64]
abbrev dktX5_comes_3 : List UInt8 := dkwX5_comes_3 ++ dktX5_comes_4
def dkwX5_comes_2 : List UInt8 := [133, 55, 7, 20, 0, 82, 33, 22, 5, 105, 105, 33, 22, 5, 105, 20, 0, 82, 33, 101, 22, 7, 105, 97]
abbrev dktX5_comes_2 : List UInt8 := dkwX5_comes_2 ++ dktX5_comes_3
def dkwX5_comes_1 : List UInt8 := [180, 0, 37, 28, 46, 27, 184, 0, 97, 133, 55, 5, 42, 180, 0, 40, 28, 4, 96, 46, 27, 184, 0, 97]
abbrev dktX5_comes_1 : List UInt8 := dkwX5_comes_1 ++ dktX5_comes_2
def dkwX5_comes_0 : List UInt8 := [3, 61, 28, 42, 180, 0, 72, 162, 0, 116, 42, 180, 0, 28, 42, 180, 0, 34, 28, 46, 46, 133, 66, 42]
abbrev dktX5_comes_0 : List UInt8 := dkwX5_comes_0 ++ dktX5_comes_1
theorem dksX5_comes_0 : cX5_comes.data.toList.drop 0 = dktX5_comes_0 := by decide +kernel
theorem dksX5_comes_1 : cX5_comes.data.toList.drop 24 = dktX5_comes_1 := dk_seg dksX5_comes_0 24 rfl rfl
theorem dksX5_comes_2 : cX5_comes.data.toList.drop 48 = dktX5_comes_2 := dk_seg dksX5_comes_1 24 rfl rfl
theorem dksX5_comes_3 : cX5_comes.data.toList.drop 72 = dktX5_comes_3 := dk_seg dksX5_comes_2 24 rfl rfl
theorem dksX5_comes_4 : cX5_comes.data.toList.drop 96 = dktX5_comes_4 := dk_seg dksX5_comes_3 24 rfl rfl
theorem dksX5_comes_5 : cX5_comes.data.toList.drop 120 = dktX5_comes_5 := dk_seg dksX5_comes_4 24 rfl rfl
theorem dksX5_comes_6 : cX5_comes.data.toList.drop 144 = dktX5_comes_6 := dk_seg dksX5_comes_5 24 rfl rfl
theorem dksX5_comes_7 : cX5_comes.data.toList.drop 168 = dktX5_comes_7 := dk_seg dksX5_comes_6 24 rfl rfl
theorem dksX5_comes_8 : cX5_comes.data.toList.drop 192 = dktX5_comes_8 := dk_seg dksX5_comes_7 24 rfl rfl
theorem dksX5_comes_9 : cX5_comes.data.toList.drop 216 = dktX5_comes_9 := dk_seg dksX5_comes_8 24 rfl rfl
theorem dksX5_comes_10 : cX5_comes.data.toList.drop 240 = dktX5_comes_10 := dk_seg dksX5_comes_9 24 rfl rfl
theorem dksX5_comes_11 : cX5_comes.data.toList.drop 264 = dktX5_comes_11 := dk_seg dksX5_comes_10 24 rfl rfl
theorem dX5_comes_0 : decode cX5_comes 0 = .ok (.iconst 0, 1) := dk_3 (dk_at dksX5_comes_0 0 rfl rfl)
theorem dX5_comes_1 : decode cX5_comes 1 = .ok (.istore_n 2, 1) := dk_61 (dk_at dksX5_comes_0 1 rfl rfl)
theorem dX5_comes_2 : decode cX5_comes 2 = .ok (.iload_n 2, 1) := dk_28 (dk_at dksX5_comes_0 2 rfl rfl)
theorem dX5_comes_3 : decode cX5_comes 3 = .ok (.aload_n 0, 1) := dk_42 (dk_at dksX5_comes_0 3 rfl rfl)
theorem dX5_comes_4 : decode cX5_comes 4 = .ok (.getfield 72, 3) := dk_180 0 72 (dk_at dksX5_comes_0 4 rfl rfl)
theorem dX5_comes_7 : decode cX5_comes 7 = .ok (.if_icmp .ge 116, 3) := dk_162 0 116 (dk_at dksX5_comes_0 7 rfl rfl)
theorem dX5_comes_10 : decode cX5_comes 10 = .ok (.aload_n 0, 1) := dk_42 (dk_at dksX5_comes_0 10 rfl rfl)
theorem dX5_comes_11 : decode cX5_comes 11 = .ok (.getfield 28, 3) := dk_180 0 28 (dk_at dksX5_comes_0 11 rfl rfl)
theorem dX5_comes_14 : decode cX5_comes 14 = .ok (.aload_n 0, 1) := dk_42 (dk_at dksX5_comes_0 14 rfl rfl)
theorem dX5_comes_15 : decode cX5_comes 15 = .ok (.getfield 34, 3) := dk_180 0 34 (dk_at dksX5_comes_0 15 rfl rfl)
theorem dX5_comes_18 : decode cX5_comes 18 = .ok (.iload_n 2, 1) := dk_28 (dk_at dksX5_comes_0 18 rfl rfl)
theorem dX5_comes_19 : decode cX5_comes 19 = .ok (.iaload, 1) := dk_46 (dk_at dksX5_comes_0 19 rfl rfl)
theorem dX5_comes_20 : decode cX5_comes 20 = .ok (.iaload, 1) := dk_46 (dk_at dksX5_comes_0 20 rfl rfl)
theorem dX5_comes_21 : decode cX5_comes 21 = .ok (.i2l, 1) := dk_133 (dk_at dksX5_comes_0 21 rfl rfl)
theorem dX5_comes_22 : decode cX5_comes 22 = .ok (.lstore_n 3, 1) := dk_66 (dk_at dksX5_comes_0 22 rfl rfl)
theorem dX5_comes_23 : decode cX5_comes 23 = .ok (.aload_n 0, 1) := dk_42 (dk_at dksX5_comes_0 23 rfl rfl)
theorem dX5_comes_24 : decode cX5_comes 24 = .ok (.getfield 37, 3) := dk_180 0 37 (dk_at dksX5_comes_1 0 rfl rfl)
theorem dX5_comes_27 : decode cX5_comes 27 = .ok (.iload_n 2, 1) := dk_28 (dk_at dksX5_comes_1 3 rfl rfl)
theorem dX5_comes_28 : decode cX5_comes 28 = .ok (.iaload, 1) := dk_46 (dk_at dksX5_comes_1 4 rfl rfl)
theorem dX5_comes_29 : decode cX5_comes 29 = .ok (.iload_n 1, 1) := dk_27 (dk_at dksX5_comes_1 5 rfl rfl)
theorem dX5_comes_30 : decode cX5_comes 30 = .ok (.invokestatic 97, 3) := dk_184 0 97 (dk_at dksX5_comes_1 6 rfl rfl)
theorem dX5_comes_33 : decode cX5_comes 33 = .ok (.i2l, 1) := dk_133 (dk_at dksX5_comes_1 9 rfl rfl)
theorem dX5_comes_34 : decode cX5_comes 34 = .ok (.lstore 5, 2) := dk_55 5 (dk_at dksX5_comes_1 10 rfl rfl)
theorem dX5_comes_36 : decode cX5_comes 36 = .ok (.aload_n 0, 1) := dk_42 (dk_at dksX5_comes_1 12 rfl rfl)
theorem dX5_comes_37 : decode cX5_comes 37 = .ok (.getfield 40, 3) := dk_180 0 40 (dk_at dksX5_comes_1 13 rfl rfl)
theorem dX5_comes_40 : decode cX5_comes 40 = .ok (.iload_n 2, 1) := dk_28 (dk_at dksX5_comes_1 16 rfl rfl)
theorem dX5_comes_41 : decode cX5_comes 41 = .ok (.iconst 1, 1) := dk_4 (dk_at dksX5_comes_1 17 rfl rfl)
theorem dX5_comes_42 : decode cX5_comes 42 = .ok (.iadd, 1) := dk_96 (dk_at dksX5_comes_1 18 rfl rfl)
theorem dX5_comes_43 : decode cX5_comes 43 = .ok (.iaload, 1) := dk_46 (dk_at dksX5_comes_1 19 rfl rfl)
theorem dX5_comes_44 : decode cX5_comes 44 = .ok (.iload_n 1, 1) := dk_27 (dk_at dksX5_comes_1 20 rfl rfl)
theorem dX5_comes_45 : decode cX5_comes 45 = .ok (.invokestatic 97, 3) := dk_184 0 97 (dk_at dksX5_comes_1 21 rfl rfl)
theorem dX5_comes_48 : decode cX5_comes 48 = .ok (.i2l, 1) := dk_133 (dk_at dksX5_comes_2 0 rfl rfl)
theorem dX5_comes_49 : decode cX5_comes 49 = .ok (.lstore 7, 2) := dk_55 7 (dk_at dksX5_comes_2 1 rfl rfl)
theorem dX5_comes_51 : decode cX5_comes 51 = .ok (.ldc2_w 82, 3) := dk_20 0 82 (dk_at dksX5_comes_2 3 rfl rfl)
theorem dX5_comes_54 : decode cX5_comes 54 = .ok (.lload_n 3, 1) := dk_33 (dk_at dksX5_comes_2 6 rfl rfl)
theorem dX5_comes_55 : decode cX5_comes 55 = .ok (.lload 5, 2) := dk_22 5 (dk_at dksX5_comes_2 7 rfl rfl)
theorem dX5_comes_57 : decode cX5_comes 57 = .ok (.lmul, 1) := dk_105 (dk_at dksX5_comes_2 9 rfl rfl)
theorem dX5_comes_58 : decode cX5_comes 58 = .ok (.lmul, 1) := dk_105 (dk_at dksX5_comes_2 10 rfl rfl)
theorem dX5_comes_59 : decode cX5_comes 59 = .ok (.lload_n 3, 1) := dk_33 (dk_at dksX5_comes_2 11 rfl rfl)
theorem dX5_comes_60 : decode cX5_comes 60 = .ok (.lload 5, 2) := dk_22 5 (dk_at dksX5_comes_2 12 rfl rfl)
theorem dX5_comes_62 : decode cX5_comes 62 = .ok (.lmul, 1) := dk_105 (dk_at dksX5_comes_2 14 rfl rfl)
theorem dX5_comes_63 : decode cX5_comes 63 = .ok (.ldc2_w 82, 3) := dk_20 0 82 (dk_at dksX5_comes_2 15 rfl rfl)
theorem dX5_comes_66 : decode cX5_comes 66 = .ok (.lload_n 3, 1) := dk_33 (dk_at dksX5_comes_2 18 rfl rfl)
theorem dX5_comes_67 : decode cX5_comes 67 = .ok (.lsub, 1) := dk_101 (dk_at dksX5_comes_2 19 rfl rfl)
theorem dX5_comes_68 : decode cX5_comes 68 = .ok (.lload 7, 2) := dk_22 7 (dk_at dksX5_comes_2 20 rfl rfl)
theorem dX5_comes_70 : decode cX5_comes 70 = .ok (.lmul, 1) := dk_105 (dk_at dksX5_comes_2 22 rfl rfl)
theorem dX5_comes_71 : decode cX5_comes 71 = .ok (.ladd, 1) := dk_97 (dk_at dksX5_comes_2 23 rfl rfl)
theorem dX5_comes_72 : decode cX5_comes 72 = .ok (.ldiv, 1) := dk_109 (dk_at dksX5_comes_3 0 rfl rfl)
theorem dX5_comes_73 : decode cX5_comes 73 = .ok (.lstore 9, 2) := dk_55 9 (dk_at dksX5_comes_3 1 rfl rfl)
theorem dX5_comes_75 : decode cX5_comes 75 = .ok (.aload_n 0, 1) := dk_42 (dk_at dksX5_comes_3 3 rfl rfl)
theorem dX5_comes_76 : decode cX5_comes 76 = .ok (.getfield 28, 3) := dk_180 0 28 (dk_at dksX5_comes_3 4 rfl rfl)
theorem dX5_comes_79 : decode cX5_comes 79 = .ok (.aload_n 0, 1) := dk_42 (dk_at dksX5_comes_3 7 rfl rfl)
theorem dX5_comes_80 : decode cX5_comes 80 = .ok (.getfield 34, 3) := dk_180 0 34 (dk_at dksX5_comes_3 8 rfl rfl)
theorem dX5_comes_83 : decode cX5_comes 83 = .ok (.iload_n 2, 1) := dk_28 (dk_at dksX5_comes_3 11 rfl rfl)
theorem dX5_comes_84 : decode cX5_comes 84 = .ok (.iaload, 1) := dk_46 (dk_at dksX5_comes_3 12 rfl rfl)
theorem dX5_comes_85 : decode cX5_comes 85 = .ok (.lload 9, 2) := dk_22 9 (dk_at dksX5_comes_3 13 rfl rfl)
theorem dX5_comes_87 : decode cX5_comes 87 = .ok (.ldc2_w 100, 3) := dk_20 0 100 (dk_at dksX5_comes_3 15 rfl rfl)
theorem dX5_comes_90 : decode cX5_comes 90 = .ok (.lcmp, 1) := dk_148 (dk_at dksX5_comes_3 18 rfl rfl)
theorem dX5_comes_91 : decode cX5_comes 91 = .ok (.ifCond .ge 8, 3) := dk_156 0 8 (dk_at dksX5_comes_3 19 rfl rfl)
theorem dX5_comes_94 : decode cX5_comes 94 = .ok (.bipush 64, 2) := dk_16 64 (dk_at dksX5_comes_3 22 rfl rfl)
theorem dX5_comes_96 : decode cX5_comes 96 = .ok (.goto 20, 3) := dk_167 0 20 (dk_at dksX5_comes_4 0 rfl rfl)
theorem dX5_comes_99 : decode cX5_comes 99 = .ok (.lload 9, 2) := dk_22 9 (dk_at dksX5_comes_4 3 rfl rfl)
theorem dX5_comes_101 : decode cX5_comes 101 = .ok (.ldc2_w 102, 3) := dk_20 0 102 (dk_at dksX5_comes_4 5 rfl rfl)
theorem dX5_comes_104 : decode cX5_comes 104 = .ok (.lcmp, 1) := dk_148 (dk_at dksX5_comes_4 8 rfl rfl)
theorem dX5_comes_105 : decode cX5_comes 105 = .ok (.ifCond .le 8, 3) := dk_158 0 8 (dk_at dksX5_comes_4 9 rfl rfl)
theorem dX5_comes_108 : decode cX5_comes 108 = .ok (.ldc 104, 2) := dk_18 104 (dk_at dksX5_comes_4 12 rfl rfl)
theorem dX5_comes_110 : decode cX5_comes 110 = .ok (.goto 6, 3) := dk_167 0 6 (dk_at dksX5_comes_4 14 rfl rfl)
theorem dX5_comes_113 : decode cX5_comes 113 = .ok (.lload 9, 2) := dk_22 9 (dk_at dksX5_comes_4 17 rfl rfl)
theorem dX5_comes_115 : decode cX5_comes 115 = .ok (.l2i, 1) := dk_136 (dk_at dksX5_comes_4 19 rfl rfl)
theorem dX5_comes_116 : decode cX5_comes 116 = .ok (.iastore, 1) := dk_79 (dk_at dksX5_comes_4 20 rfl rfl)
theorem dX5_comes_117 : decode cX5_comes 117 = .ok (.iinc 2 1, 3) := dk_132 2 1 (dk_at dksX5_comes_4 21 rfl rfl)
theorem dX5_comes_120 : decode cX5_comes 120 = .ok (.goto (-118), 3) := dk_167 255 138 (dk_at dksX5_comes_5 0 rfl rfl)
theorem dX5_comes_123 : decode cX5_comes 123 = .ok (.iconst 0, 1) := dk_3 (dk_at dksX5_comes_5 3 rfl rfl)
theorem dX5_comes_124 : decode cX5_comes 124 = .ok (.istore_n 2, 1) := dk_61 (dk_at dksX5_comes_5 4 rfl rfl)
theorem dX5_comes_125 : decode cX5_comes 125 = .ok (.iload_n 2, 1) := dk_28 (dk_at dksX5_comes_5 5 rfl rfl)
theorem dX5_comes_126 : decode cX5_comes 126 = .ok (.aload_n 0, 1) := dk_42 (dk_at dksX5_comes_5 6 rfl rfl)
theorem dX5_comes_127 : decode cX5_comes 127 = .ok (.getfield 72, 3) := dk_180 0 72 (dk_at dksX5_comes_5 7 rfl rfl)
theorem dX5_comes_130 : decode cX5_comes 130 = .ok (.if_icmp .gt 102, 3) := dk_163 0 102 (dk_at dksX5_comes_5 10 rfl rfl)
theorem dX5_comes_133 : decode cX5_comes 133 = .ok (.aload_n 0, 1) := dk_42 (dk_at dksX5_comes_5 13 rfl rfl)
theorem dX5_comes_134 : decode cX5_comes 134 = .ok (.getfield 34, 3) := dk_180 0 34 (dk_at dksX5_comes_5 14 rfl rfl)
theorem dX5_comes_137 : decode cX5_comes 137 = .ok (.iload_n 2, 1) := dk_28 (dk_at dksX5_comes_5 17 rfl rfl)
theorem dX5_comes_138 : decode cX5_comes 138 = .ok (.iaload, 1) := dk_46 (dk_at dksX5_comes_5 18 rfl rfl)
theorem dX5_comes_139 : decode cX5_comes 139 = .ok (.istore_n 3, 1) := dk_62 (dk_at dksX5_comes_5 19 rfl rfl)
theorem dX5_comes_140 : decode cX5_comes 140 = .ok (.aload_n 0, 1) := dk_42 (dk_at dksX5_comes_5 20 rfl rfl)
theorem dX5_comes_141 : decode cX5_comes 141 = .ok (.getfield 31, 3) := dk_180 0 31 (dk_at dksX5_comes_5 21 rfl rfl)
theorem dX5_comes_144 : decode cX5_comes 144 = .ok (.iload_n 3, 1) := dk_29 (dk_at dksX5_comes_6 0 rfl rfl)
theorem dX5_comes_145 : decode cX5_comes 145 = .ok (.dup2, 1) := dk_92 (dk_at dksX5_comes_6 1 rfl rfl)
theorem dX5_comes_146 : decode cX5_comes 146 = .ok (.iaload, 1) := dk_46 (dk_at dksX5_comes_6 2 rfl rfl)
theorem dX5_comes_147 : decode cX5_comes 147 = .ok (.aload_n 0, 1) := dk_42 (dk_at dksX5_comes_6 3 rfl rfl)
theorem dX5_comes_148 : decode cX5_comes 148 = .ok (.getfield 37, 3) := dk_180 0 37 (dk_at dksX5_comes_6 4 rfl rfl)
theorem dX5_comes_151 : decode cX5_comes 151 = .ok (.iload_n 2, 1) := dk_28 (dk_at dksX5_comes_6 7 rfl rfl)
theorem dX5_comes_152 : decode cX5_comes 152 = .ok (.iaload, 1) := dk_46 (dk_at dksX5_comes_6 8 rfl rfl)
theorem dX5_comes_153 : decode cX5_comes 153 = .ok (.iload_n 1, 1) := dk_27 (dk_at dksX5_comes_6 9 rfl rfl)
theorem dX5_comes_154 : decode cX5_comes 154 = .ok (.invokestatic 97, 3) := dk_184 0 97 (dk_at dksX5_comes_6 10 rfl rfl)
theorem dX5_comes_157 : decode cX5_comes 157 = .ok (.invokestatic 105, 3) := dk_184 0 105 (dk_at dksX5_comes_6 13 rfl rfl)
theorem dX5_comes_160 : decode cX5_comes 160 = .ok (.iadd, 1) := dk_96 (dk_at dksX5_comes_6 16 rfl rfl)
theorem dX5_comes_161 : decode cX5_comes 161 = .ok (.iastore, 1) := dk_79 (dk_at dksX5_comes_6 17 rfl rfl)
theorem dX5_comes_162 : decode cX5_comes 162 = .ok (.aload_n 0, 1) := dk_42 (dk_at dksX5_comes_6 18 rfl rfl)
theorem dX5_comes_163 : decode cX5_comes 163 = .ok (.getfield 22, 3) := dk_180 0 22 (dk_at dksX5_comes_6 19 rfl rfl)
theorem dX5_comes_166 : decode cX5_comes 166 = .ok (.iload_n 3, 1) := dk_29 (dk_at dksX5_comes_6 22 rfl rfl)
theorem dX5_comes_167 : decode cX5_comes 167 = .ok (.dup2, 1) := dk_92 (dk_at dksX5_comes_6 23 rfl rfl)
theorem dX5_comes_168 : decode cX5_comes 168 = .ok (.iaload, 1) := dk_46 (dk_at dksX5_comes_7 0 rfl rfl)
theorem dX5_comes_169 : decode cX5_comes 169 = .ok (.iconst 1, 1) := dk_4 (dk_at dksX5_comes_7 1 rfl rfl)
theorem dX5_comes_170 : decode cX5_comes 170 = .ok (.iload_n 1, 1) := dk_27 (dk_at dksX5_comes_7 2 rfl rfl)
theorem dX5_comes_171 : decode cX5_comes 171 = .ok (.isub, 1) := dk_100 (dk_at dksX5_comes_7 3 rfl rfl)
theorem dX5_comes_172 : decode cX5_comes 172 = .ok (.iadd, 1) := dk_96 (dk_at dksX5_comes_7 4 rfl rfl)
theorem dX5_comes_173 : decode cX5_comes 173 = .ok (.iastore, 1) := dk_79 (dk_at dksX5_comes_7 5 rfl rfl)
theorem dX5_comes_174 : decode cX5_comes 174 = .ok (.aload_n 0, 1) := dk_42 (dk_at dksX5_comes_7 6 rfl rfl)
theorem dX5_comes_175 : decode cX5_comes 175 = .ok (.getfield 25, 3) := dk_180 0 25 (dk_at dksX5_comes_7 7 rfl rfl)
theorem dX5_comes_178 : decode cX5_comes 178 = .ok (.iload_n 3, 1) := dk_29 (dk_at dksX5_comes_7 10 rfl rfl)
theorem dX5_comes_179 : decode cX5_comes 179 = .ok (.dup2, 1) := dk_92 (dk_at dksX5_comes_7 11 rfl rfl)
theorem dX5_comes_180 : decode cX5_comes 180 = .ok (.iaload, 1) := dk_46 (dk_at dksX5_comes_7 12 rfl rfl)
theorem dX5_comes_181 : decode cX5_comes 181 = .ok (.iload_n 1, 1) := dk_27 (dk_at dksX5_comes_7 13 rfl rfl)
theorem dX5_comes_182 : decode cX5_comes 182 = .ok (.iadd, 1) := dk_96 (dk_at dksX5_comes_7 14 rfl rfl)
theorem dX5_comes_183 : decode cX5_comes 183 = .ok (.iastore, 1) := dk_79 (dk_at dksX5_comes_7 15 rfl rfl)
theorem dX5_comes_184 : decode cX5_comes 184 = .ok (.aload_n 0, 1) := dk_42 (dk_at dksX5_comes_7 16 rfl rfl)
theorem dX5_comes_185 : decode cX5_comes 185 = .ok (.getfield 22, 3) := dk_180 0 22 (dk_at dksX5_comes_7 17 rfl rfl)
theorem dX5_comes_188 : decode cX5_comes 188 = .ok (.iload_n 3, 1) := dk_29 (dk_at dksX5_comes_7 20 rfl rfl)
theorem dX5_comes_189 : decode cX5_comes 189 = .ok (.iaload, 1) := dk_46 (dk_at dksX5_comes_7 21 rfl rfl)
theorem dX5_comes_190 : decode cX5_comes 190 = .ok (.bipush 60, 2) := dk_16 60 (dk_at dksX5_comes_7 22 rfl rfl)
theorem dX5_comes_192 : decode cX5_comes 192 = .ok (.if_icmp .gt 14, 3) := dk_163 0 14 (dk_at dksX5_comes_8 0 rfl rfl)
theorem dX5_comes_195 : decode cX5_comes 195 = .ok (.aload_n 0, 1) := dk_42 (dk_at dksX5_comes_8 3 rfl rfl)
theorem dX5_comes_196 : decode cX5_comes 196 = .ok (.getfield 25, 3) := dk_180 0 25 (dk_at dksX5_comes_8 4 rfl rfl)
theorem dX5_comes_199 : decode cX5_comes 199 = .ok (.iload_n 3, 1) := dk_29 (dk_at dksX5_comes_8 7 rfl rfl)
theorem dX5_comes_200 : decode cX5_comes 200 = .ok (.iaload, 1) := dk_46 (dk_at dksX5_comes_8 8 rfl rfl)
theorem dX5_comes_201 : decode cX5_comes 201 = .ok (.bipush 60, 2) := dk_16 60 (dk_at dksX5_comes_8 9 rfl rfl)
theorem dX5_comes_203 : decode cX5_comes 203 = .ok (.if_icmp .le 23, 3) := dk_164 0 23 (dk_at dksX5_comes_8 11 rfl rfl)
theorem dX5_comes_206 : decode cX5_comes 206 = .ok (.aload_n 0, 1) := dk_42 (dk_at dksX5_comes_8 14 rfl rfl)
theorem dX5_comes_207 : decode cX5_comes 207 = .ok (.getfield 22, 3) := dk_180 0 22 (dk_at dksX5_comes_8 15 rfl rfl)
theorem dX5_comes_210 : decode cX5_comes 210 = .ok (.iload_n 3, 1) := dk_29 (dk_at dksX5_comes_8 18 rfl rfl)
theorem dX5_comes_211 : decode cX5_comes 211 = .ok (.dup2, 1) := dk_92 (dk_at dksX5_comes_8 19 rfl rfl)
theorem dX5_comes_212 : decode cX5_comes 212 = .ok (.iaload, 1) := dk_46 (dk_at dksX5_comes_8 20 rfl rfl)
theorem dX5_comes_213 : decode cX5_comes 213 = .ok (.iconst 2, 1) := dk_5 (dk_at dksX5_comes_8 21 rfl rfl)
theorem dX5_comes_214 : decode cX5_comes 214 = .ok (.idiv, 1) := dk_108 (dk_at dksX5_comes_8 22 rfl rfl)
theorem dX5_comes_215 : decode cX5_comes 215 = .ok (.iastore, 1) := dk_79 (dk_at dksX5_comes_8 23 rfl rfl)
theorem dX5_comes_216 : decode cX5_comes 216 = .ok (.aload_n 0, 1) := dk_42 (dk_at dksX5_comes_9 0 rfl rfl)
theorem dX5_comes_217 : decode cX5_comes 217 = .ok (.getfield 25, 3) := dk_180 0 25 (dk_at dksX5_comes_9 1 rfl rfl)
theorem dX5_comes_220 : decode cX5_comes 220 = .ok (.iload_n 3, 1) := dk_29 (dk_at dksX5_comes_9 4 rfl rfl)
theorem dX5_comes_221 : decode cX5_comes 221 = .ok (.dup2, 1) := dk_92 (dk_at dksX5_comes_9 5 rfl rfl)
theorem dX5_comes_222 : decode cX5_comes 222 = .ok (.iaload, 1) := dk_46 (dk_at dksX5_comes_9 6 rfl rfl)
theorem dX5_comes_223 : decode cX5_comes 223 = .ok (.iconst 2, 1) := dk_5 (dk_at dksX5_comes_9 7 rfl rfl)
theorem dX5_comes_224 : decode cX5_comes 224 = .ok (.idiv, 1) := dk_108 (dk_at dksX5_comes_9 8 rfl rfl)
theorem dX5_comes_225 : decode cX5_comes 225 = .ok (.iastore, 1) := dk_79 (dk_at dksX5_comes_9 9 rfl rfl)
theorem dX5_comes_226 : decode cX5_comes 226 = .ok (.iinc 2 1, 3) := dk_132 2 1 (dk_at dksX5_comes_9 10 rfl rfl)
theorem dX5_comes_229 : decode cX5_comes 229 = .ok (.goto (-104), 3) := dk_167 255 152 (dk_at dksX5_comes_9 13 rfl rfl)
theorem dX5_comes_232 : decode cX5_comes 232 = .ok (.aload_n 0, 1) := dk_42 (dk_at dksX5_comes_9 16 rfl rfl)
theorem dX5_comes_233 : decode cX5_comes 233 = .ok (.getfield 43, 3) := dk_180 0 43 (dk_at dksX5_comes_9 17 rfl rfl)
theorem dX5_comes_236 : decode cX5_comes 236 = .ok (.aload_n 0, 1) := dk_42 (dk_at dksX5_comes_9 20 rfl rfl)
theorem dX5_comes_237 : decode cX5_comes 237 = .ok (.getfield 69, 3) := dk_180 0 69 (dk_at dksX5_comes_9 21 rfl rfl)
theorem dX5_comes_240 : decode cX5_comes 240 = .ok (.aload_n 0, 1) := dk_42 (dk_at dksX5_comes_10 0 rfl rfl)
theorem dX5_comes_241 : decode cX5_comes 241 = .ok (.getfield 40, 3) := dk_180 0 40 (dk_at dksX5_comes_10 1 rfl rfl)
theorem dX5_comes_244 : decode cX5_comes 244 = .ok (.iconst 0, 1) := dk_3 (dk_at dksX5_comes_10 4 rfl rfl)
theorem dX5_comes_245 : decode cX5_comes 245 = .ok (.iaload, 1) := dk_46 (dk_at dksX5_comes_10 5 rfl rfl)
theorem dX5_comes_246 : decode cX5_comes 246 = .ok (.iastore, 1) := dk_79 (dk_at dksX5_comes_10 6 rfl rfl)
theorem dX5_comes_247 : decode cX5_comes 247 = .ok (.aload_n 0, 1) := dk_42 (dk_at dksX5_comes_10 7 rfl rfl)
theorem dX5_comes_248 : decode cX5_comes 248 = .ok (.getfield 19, 3) := dk_180 0 19 (dk_at dksX5_comes_10 8 rfl rfl)
theorem dX5_comes_251 : decode cX5_comes 251 = .ok (.aload_n 0, 1) := dk_42 (dk_at dksX5_comes_10 11 rfl rfl)
theorem dX5_comes_252 : decode cX5_comes 252 = .ok (.getfield 69, 3) := dk_180 0 69 (dk_at dksX5_comes_10 12 rfl rfl)
theorem dX5_comes_255 : decode cX5_comes 255 = .ok (.iload_n 1, 1) := dk_27 (dk_at dksX5_comes_10 15 rfl rfl)
theorem dX5_comes_256 : decode cX5_comes 256 = .ok (.iastore, 1) := dk_79 (dk_at dksX5_comes_10 16 rfl rfl)
theorem dX5_comes_257 : decode cX5_comes 257 = .ok (.aload_n 0, 1) := dk_42 (dk_at dksX5_comes_10 17 rfl rfl)
theorem dX5_comes_258 : decode cX5_comes 258 = .ok (.dup, 1) := dk_89 (dk_at dksX5_comes_10 18 rfl rfl)
theorem dX5_comes_259 : decode cX5_comes 259 = .ok (.getfield 69, 3) := dk_180 0 69 (dk_at dksX5_comes_10 19 rfl rfl)
theorem dX5_comes_262 : decode cX5_comes 262 = .ok (.iconst 1, 1) := dk_4 (dk_at dksX5_comes_10 22 rfl rfl)
theorem dX5_comes_263 : decode cX5_comes 263 = .ok (.iadd, 1) := dk_96 (dk_at dksX5_comes_10 23 rfl rfl)
theorem dX5_comes_264 : decode cX5_comes 264 = .ok (.putfield 69, 3) := dk_181 0 69 (dk_at dksX5_comes_11 0 rfl rfl)
theorem dX5_comes_267 : decode cX5_comes 267 = .ok (.return_, 1) := dk_177 (dk_at dksX5_comes_11 3 rfl rfl)
abbrev cX5_costAt : ByteArray := prog_11_method_21_code
def yX5_costAt : MethodName := ⟨RX5, "costAt", "(I)I"⟩
def dkwX5_costAt_0 : List UInt8 := [42, 180, 0, 43, 27, 46, 42, 180, 0, 7, 27, 46, 184, 0, 97, 184, 0, 105, 172]
abbrev dktX5_costAt_0 : List UInt8 := dkwX5_costAt_0 ++ []
theorem dksX5_costAt_0 : cX5_costAt.data.toList.drop 0 = dktX5_costAt_0 := by decide +kernel
theorem dX5_costAt_0 : decode cX5_costAt 0 = .ok (.aload_n 0, 1) := dk_42 (dk_at dksX5_costAt_0 0 rfl rfl)
theorem dX5_costAt_1 : decode cX5_costAt 1 = .ok (.getfield 43, 3) := dk_180 0 43 (dk_at dksX5_costAt_0 1 rfl rfl)
theorem dX5_costAt_4 : decode cX5_costAt 4 = .ok (.iload_n 1, 1) := dk_27 (dk_at dksX5_costAt_0 4 rfl rfl)
theorem dX5_costAt_5 : decode cX5_costAt 5 = .ok (.iaload, 1) := dk_46 (dk_at dksX5_costAt_0 5 rfl rfl)
theorem dX5_costAt_6 : decode cX5_costAt 6 = .ok (.aload_n 0, 1) := dk_42 (dk_at dksX5_costAt_0 6 rfl rfl)
theorem dX5_costAt_7 : decode cX5_costAt 7 = .ok (.getfield 7, 3) := dk_180 0 7 (dk_at dksX5_costAt_0 7 rfl rfl)
theorem dX5_costAt_10 : decode cX5_costAt 10 = .ok (.iload_n 1, 1) := dk_27 (dk_at dksX5_costAt_0 10 rfl rfl)
theorem dX5_costAt_11 : decode cX5_costAt 11 = .ok (.iaload, 1) := dk_46 (dk_at dksX5_costAt_0 11 rfl rfl)
theorem dX5_costAt_12 : decode cX5_costAt 12 = .ok (.invokestatic 97, 3) := dk_184 0 97 (dk_at dksX5_costAt_0 12 rfl rfl)
theorem dX5_costAt_15 : decode cX5_costAt 15 = .ok (.invokestatic 105, 3) := dk_184 0 105 (dk_at dksX5_costAt_0 15 rfl rfl)
theorem dX5_costAt_18 : decode cX5_costAt 18 = .ok (.ireturn, 1) := dk_172 (dk_at dksX5_costAt_0 18 rfl rfl)
abbrev cX5_signs : ByteArray := prog_11_method_25_code
def yX5_signs : MethodName := ⟨RX5, "signs", "(JI)I"⟩
def dkwX5_signs_3 : List UInt8 := [21, 4, 182, 0, 154, 172]
abbrev dktX5_signs_3 : List UInt8 := dkwX5_signs_3 ++ []
def dkwX5_signs_2 : List UInt8 := [21, 5, 29, 162, 0, 20, 42, 31, 21, 5, 123, 10, 127, 136, 182, 0, 151, 132, 5, 1, 167, 255, 236, 42]
abbrev dktX5_signs_2 : List UInt8 := dkwX5_signs_2 ++ dktX5_signs_3
def dkwX5_signs_1 : List UInt8 := [96, 16, 100, 164, 0, 8, 42, 182, 0, 145, 172, 42, 182, 0, 112, 54, 4, 42, 182, 0, 148, 3, 54, 5]
abbrev dktX5_signs_1 : List UInt8 := dkwX5_signs_1 ++ dktX5_signs_2
def dkwX5_signs_0 : List UInt8 := [29, 133, 10, 20, 0, 100, 184, 0, 138, 154, 0, 10, 42, 16, 254, 182, 0, 142, 172, 42, 182, 0, 112, 29]
abbrev dktX5_signs_0 : List UInt8 := dkwX5_signs_0 ++ dktX5_signs_1
theorem dksX5_signs_0 : cX5_signs.data.toList.drop 0 = dktX5_signs_0 := by decide +kernel
theorem dksX5_signs_1 : cX5_signs.data.toList.drop 24 = dktX5_signs_1 := dk_seg dksX5_signs_0 24 rfl rfl
theorem dksX5_signs_2 : cX5_signs.data.toList.drop 48 = dktX5_signs_2 := dk_seg dksX5_signs_1 24 rfl rfl
theorem dksX5_signs_3 : cX5_signs.data.toList.drop 72 = dktX5_signs_3 := dk_seg dksX5_signs_2 24 rfl rfl
theorem dX5_signs_0 : decode cX5_signs 0 = .ok (.iload_n 3, 1) := dk_29 (dk_at dksX5_signs_0 0 rfl rfl)
theorem dX5_signs_1 : decode cX5_signs 1 = .ok (.i2l, 1) := dk_133 (dk_at dksX5_signs_0 1 rfl rfl)
theorem dX5_signs_2 : decode cX5_signs 2 = .ok (.lconst 1, 1) := dk_10 (dk_at dksX5_signs_0 2 rfl rfl)
theorem dX5_signs_3 : decode cX5_signs 3 = .ok (.ldc2_w 100, 3) := dk_20 0 100 (dk_at dksX5_signs_0 3 rfl rfl)
theorem dX5_signs_6 : decode cX5_signs 6 = .ok (.invokestatic 138, 3) := dk_184 0 138 (dk_at dksX5_signs_0 6 rfl rfl)
theorem dX5_signs_9 : decode cX5_signs 9 = .ok (.ifCond .ne 10, 3) := dk_154 0 10 (dk_at dksX5_signs_0 9 rfl rfl)
theorem dX5_signs_12 : decode cX5_signs 12 = .ok (.aload_n 0, 1) := dk_42 (dk_at dksX5_signs_0 12 rfl rfl)
theorem dX5_signs_13 : decode cX5_signs 13 = .ok (.bipush (-2), 2) := dk_16 254 (dk_at dksX5_signs_0 13 rfl rfl)
theorem dX5_signs_15 : decode cX5_signs 15 = .ok (.invokevirtual 142, 3) := dk_182 0 142 (dk_at dksX5_signs_0 15 rfl rfl)
theorem dX5_signs_18 : decode cX5_signs 18 = .ok (.ireturn, 1) := dk_172 (dk_at dksX5_signs_0 18 rfl rfl)
theorem dX5_signs_19 : decode cX5_signs 19 = .ok (.aload_n 0, 1) := dk_42 (dk_at dksX5_signs_0 19 rfl rfl)
theorem dX5_signs_20 : decode cX5_signs 20 = .ok (.invokevirtual 112, 3) := dk_182 0 112 (dk_at dksX5_signs_0 20 rfl rfl)
theorem dX5_signs_23 : decode cX5_signs 23 = .ok (.iload_n 3, 1) := dk_29 (dk_at dksX5_signs_0 23 rfl rfl)
theorem dX5_signs_24 : decode cX5_signs 24 = .ok (.iadd, 1) := dk_96 (dk_at dksX5_signs_1 0 rfl rfl)
theorem dX5_signs_25 : decode cX5_signs 25 = .ok (.bipush 100, 2) := dk_16 100 (dk_at dksX5_signs_1 1 rfl rfl)
theorem dX5_signs_27 : decode cX5_signs 27 = .ok (.if_icmp .le 8, 3) := dk_164 0 8 (dk_at dksX5_signs_1 3 rfl rfl)
theorem dX5_signs_30 : decode cX5_signs 30 = .ok (.aload_n 0, 1) := dk_42 (dk_at dksX5_signs_1 6 rfl rfl)
theorem dX5_signs_31 : decode cX5_signs 31 = .ok (.invokevirtual 145, 3) := dk_182 0 145 (dk_at dksX5_signs_1 7 rfl rfl)
theorem dX5_signs_34 : decode cX5_signs 34 = .ok (.ireturn, 1) := dk_172 (dk_at dksX5_signs_1 10 rfl rfl)
theorem dX5_signs_35 : decode cX5_signs 35 = .ok (.aload_n 0, 1) := dk_42 (dk_at dksX5_signs_1 11 rfl rfl)
theorem dX5_signs_36 : decode cX5_signs 36 = .ok (.invokevirtual 112, 3) := dk_182 0 112 (dk_at dksX5_signs_1 12 rfl rfl)
theorem dX5_signs_39 : decode cX5_signs 39 = .ok (.istore 4, 2) := dk_54 4 (dk_at dksX5_signs_1 15 rfl rfl)
theorem dX5_signs_41 : decode cX5_signs 41 = .ok (.aload_n 0, 1) := dk_42 (dk_at dksX5_signs_1 17 rfl rfl)
theorem dX5_signs_42 : decode cX5_signs 42 = .ok (.invokevirtual 148, 3) := dk_182 0 148 (dk_at dksX5_signs_1 18 rfl rfl)
theorem dX5_signs_45 : decode cX5_signs 45 = .ok (.iconst 0, 1) := dk_3 (dk_at dksX5_signs_1 21 rfl rfl)
theorem dX5_signs_46 : decode cX5_signs 46 = .ok (.istore 5, 2) := dk_54 5 (dk_at dksX5_signs_1 22 rfl rfl)
theorem dX5_signs_48 : decode cX5_signs 48 = .ok (.iload 5, 2) := dk_21 5 (dk_at dksX5_signs_2 0 rfl rfl)
theorem dX5_signs_50 : decode cX5_signs 50 = .ok (.iload_n 3, 1) := dk_29 (dk_at dksX5_signs_2 2 rfl rfl)
theorem dX5_signs_51 : decode cX5_signs 51 = .ok (.if_icmp .ge 20, 3) := dk_162 0 20 (dk_at dksX5_signs_2 3 rfl rfl)
theorem dX5_signs_54 : decode cX5_signs 54 = .ok (.aload_n 0, 1) := dk_42 (dk_at dksX5_signs_2 6 rfl rfl)
theorem dX5_signs_55 : decode cX5_signs 55 = .ok (.lload_n 1, 1) := dk_31 (dk_at dksX5_signs_2 7 rfl rfl)
theorem dX5_signs_56 : decode cX5_signs 56 = .ok (.iload 5, 2) := dk_21 5 (dk_at dksX5_signs_2 8 rfl rfl)
theorem dX5_signs_58 : decode cX5_signs 58 = .ok (.lshr, 1) := dk_123 (dk_at dksX5_signs_2 10 rfl rfl)
theorem dX5_signs_59 : decode cX5_signs 59 = .ok (.lconst 1, 1) := dk_10 (dk_at dksX5_signs_2 11 rfl rfl)
theorem dX5_signs_60 : decode cX5_signs 60 = .ok (.land, 1) := dk_127 (dk_at dksX5_signs_2 12 rfl rfl)
theorem dX5_signs_61 : decode cX5_signs 61 = .ok (.l2i, 1) := dk_136 (dk_at dksX5_signs_2 13 rfl rfl)
theorem dX5_signs_62 : decode cX5_signs 62 = .ok (.invokevirtual 151, 3) := dk_182 0 151 (dk_at dksX5_signs_2 14 rfl rfl)
theorem dX5_signs_65 : decode cX5_signs 65 = .ok (.iinc 5 1, 3) := dk_132 5 1 (dk_at dksX5_signs_2 17 rfl rfl)
theorem dX5_signs_68 : decode cX5_signs 68 = .ok (.goto (-20), 3) := dk_167 255 236 (dk_at dksX5_signs_2 20 rfl rfl)
theorem dX5_signs_71 : decode cX5_signs 71 = .ok (.aload_n 0, 1) := dk_42 (dk_at dksX5_signs_2 23 rfl rfl)
theorem dX5_signs_72 : decode cX5_signs 72 = .ok (.iload 4, 2) := dk_21 4 (dk_at dksX5_signs_3 0 rfl rfl)
theorem dX5_signs_74 : decode cX5_signs 74 = .ok (.invokevirtual 154, 3) := dk_182 0 154 (dk_at dksX5_signs_3 2 rfl rfl)
theorem dX5_signs_77 : decode cX5_signs 77 = .ok (.ireturn, 1) := dk_172 (dk_at dksX5_signs_3 5 rfl rfl)
abbrev cX5_draw : ByteArray := prog_11_method_26_code
def yX5_draw : MethodName := ⟨RX5, "draw", "(III)I"⟩
def dkwX5_draw_5 : List UInt8 := [21, 8, 182, 0, 151, 21, 6, 21, 8, 96, 54, 6, 132, 7, 1, 167, 255, 195, 21, 6, 172]
abbrev dktX5_draw_5 : List UInt8 := dkwX5_draw_5 ++ []
def dkwX5_draw_4 : List UInt8 := [22, 4, 20, 0, 82, 109, 20, 0, 159, 113, 29, 133, 148, 156, 0, 7, 4, 167, 0, 4, 3, 54, 8, 42]
abbrev dktX5_draw_4 : List UInt8 := dkwX5_draw_4 ++ dktX5_draw_5
def dkwX5_draw_3 : List UInt8 := [54, 7, 21, 7, 28, 162, 0, 61, 22, 4, 20, 0, 161, 105, 20, 0, 163, 97, 20, 0, 165, 113, 55, 4]
abbrev dktX5_draw_3 : List UInt8 := dkwX5_draw_3 ++ dktX5_draw_4
def dkwX5_draw_2 : List UInt8 := [96, 16, 100, 164, 0, 8, 42, 182, 0, 145, 172, 27, 133, 55, 4, 3, 54, 6, 42, 182, 0, 148, 3]
abbrev dktX5_draw_2 : List UInt8 := dkwX5_draw_2 ++ dktX5_draw_3
def dkwX5_draw_1 : List UInt8 := [29, 133, 9, 20, 0, 159, 184, 0, 138, 154, 0, 10, 42, 16, 254, 182, 0, 142, 172, 42, 182, 0, 112, 28]
abbrev dktX5_draw_1 : List UInt8 := dkwX5_draw_1 ++ dktX5_draw_2
def dkwX5_draw_0 : List UInt8 := [27, 133, 9, 20, 0, 157, 184, 0, 138, 153, 0, 27, 28, 133, 10, 20, 0, 159, 184, 0, 138, 153, 0, 15]
abbrev dktX5_draw_0 : List UInt8 := dkwX5_draw_0 ++ dktX5_draw_1
theorem dksX5_draw_0 : cX5_draw.data.toList.drop 0 = dktX5_draw_0 := by decide +kernel
theorem dksX5_draw_1 : cX5_draw.data.toList.drop 24 = dktX5_draw_1 := dk_seg dksX5_draw_0 24 rfl rfl
theorem dksX5_draw_2 : cX5_draw.data.toList.drop 48 = dktX5_draw_2 := dk_seg dksX5_draw_1 24 rfl rfl
theorem dksX5_draw_3 : cX5_draw.data.toList.drop 71 = dktX5_draw_3 := dk_seg dksX5_draw_2 23 rfl rfl
theorem dksX5_draw_4 : cX5_draw.data.toList.drop 95 = dktX5_draw_4 := dk_seg dksX5_draw_3 24 rfl rfl
theorem dksX5_draw_5 : cX5_draw.data.toList.drop 119 = dktX5_draw_5 := dk_seg dksX5_draw_4 24 rfl rfl
theorem dX5_draw_0 : decode cX5_draw 0 = .ok (.iload_n 1, 1) := dk_27 (dk_at dksX5_draw_0 0 rfl rfl)
theorem dX5_draw_1 : decode cX5_draw 1 = .ok (.i2l, 1) := dk_133 (dk_at dksX5_draw_0 1 rfl rfl)
theorem dX5_draw_2 : decode cX5_draw 2 = .ok (.lconst 0, 1) := dk_9 (dk_at dksX5_draw_0 2 rfl rfl)
theorem dX5_draw_3 : decode cX5_draw 3 = .ok (.ldc2_w 157, 3) := dk_20 0 157 (dk_at dksX5_draw_0 3 rfl rfl)
theorem dX5_draw_6 : decode cX5_draw 6 = .ok (.invokestatic 138, 3) := dk_184 0 138 (dk_at dksX5_draw_0 6 rfl rfl)
theorem dX5_draw_9 : decode cX5_draw 9 = .ok (.ifCond .eq 27, 3) := dk_153 0 27 (dk_at dksX5_draw_0 9 rfl rfl)
theorem dX5_draw_12 : decode cX5_draw 12 = .ok (.iload_n 2, 1) := dk_28 (dk_at dksX5_draw_0 12 rfl rfl)
theorem dX5_draw_13 : decode cX5_draw 13 = .ok (.i2l, 1) := dk_133 (dk_at dksX5_draw_0 13 rfl rfl)
theorem dX5_draw_14 : decode cX5_draw 14 = .ok (.lconst 1, 1) := dk_10 (dk_at dksX5_draw_0 14 rfl rfl)
theorem dX5_draw_15 : decode cX5_draw 15 = .ok (.ldc2_w 159, 3) := dk_20 0 159 (dk_at dksX5_draw_0 15 rfl rfl)
theorem dX5_draw_18 : decode cX5_draw 18 = .ok (.invokestatic 138, 3) := dk_184 0 138 (dk_at dksX5_draw_0 18 rfl rfl)
theorem dX5_draw_21 : decode cX5_draw 21 = .ok (.ifCond .eq 15, 3) := dk_153 0 15 (dk_at dksX5_draw_0 21 rfl rfl)
theorem dX5_draw_24 : decode cX5_draw 24 = .ok (.iload_n 3, 1) := dk_29 (dk_at dksX5_draw_1 0 rfl rfl)
theorem dX5_draw_25 : decode cX5_draw 25 = .ok (.i2l, 1) := dk_133 (dk_at dksX5_draw_1 1 rfl rfl)
theorem dX5_draw_26 : decode cX5_draw 26 = .ok (.lconst 0, 1) := dk_9 (dk_at dksX5_draw_1 2 rfl rfl)
theorem dX5_draw_27 : decode cX5_draw 27 = .ok (.ldc2_w 159, 3) := dk_20 0 159 (dk_at dksX5_draw_1 3 rfl rfl)
theorem dX5_draw_30 : decode cX5_draw 30 = .ok (.invokestatic 138, 3) := dk_184 0 138 (dk_at dksX5_draw_1 6 rfl rfl)
theorem dX5_draw_33 : decode cX5_draw 33 = .ok (.ifCond .ne 10, 3) := dk_154 0 10 (dk_at dksX5_draw_1 9 rfl rfl)
theorem dX5_draw_36 : decode cX5_draw 36 = .ok (.aload_n 0, 1) := dk_42 (dk_at dksX5_draw_1 12 rfl rfl)
theorem dX5_draw_37 : decode cX5_draw 37 = .ok (.bipush (-2), 2) := dk_16 254 (dk_at dksX5_draw_1 13 rfl rfl)
theorem dX5_draw_39 : decode cX5_draw 39 = .ok (.invokevirtual 142, 3) := dk_182 0 142 (dk_at dksX5_draw_1 15 rfl rfl)
theorem dX5_draw_42 : decode cX5_draw 42 = .ok (.ireturn, 1) := dk_172 (dk_at dksX5_draw_1 18 rfl rfl)
theorem dX5_draw_43 : decode cX5_draw 43 = .ok (.aload_n 0, 1) := dk_42 (dk_at dksX5_draw_1 19 rfl rfl)
theorem dX5_draw_44 : decode cX5_draw 44 = .ok (.invokevirtual 112, 3) := dk_182 0 112 (dk_at dksX5_draw_1 20 rfl rfl)
theorem dX5_draw_47 : decode cX5_draw 47 = .ok (.iload_n 2, 1) := dk_28 (dk_at dksX5_draw_1 23 rfl rfl)
theorem dX5_draw_48 : decode cX5_draw 48 = .ok (.iadd, 1) := dk_96 (dk_at dksX5_draw_2 0 rfl rfl)
theorem dX5_draw_49 : decode cX5_draw 49 = .ok (.bipush 100, 2) := dk_16 100 (dk_at dksX5_draw_2 1 rfl rfl)
theorem dX5_draw_51 : decode cX5_draw 51 = .ok (.if_icmp .le 8, 3) := dk_164 0 8 (dk_at dksX5_draw_2 3 rfl rfl)
theorem dX5_draw_54 : decode cX5_draw 54 = .ok (.aload_n 0, 1) := dk_42 (dk_at dksX5_draw_2 6 rfl rfl)
theorem dX5_draw_55 : decode cX5_draw 55 = .ok (.invokevirtual 145, 3) := dk_182 0 145 (dk_at dksX5_draw_2 7 rfl rfl)
theorem dX5_draw_58 : decode cX5_draw 58 = .ok (.ireturn, 1) := dk_172 (dk_at dksX5_draw_2 10 rfl rfl)
theorem dX5_draw_59 : decode cX5_draw 59 = .ok (.iload_n 1, 1) := dk_27 (dk_at dksX5_draw_2 11 rfl rfl)
theorem dX5_draw_60 : decode cX5_draw 60 = .ok (.i2l, 1) := dk_133 (dk_at dksX5_draw_2 12 rfl rfl)
theorem dX5_draw_61 : decode cX5_draw 61 = .ok (.lstore 4, 2) := dk_55 4 (dk_at dksX5_draw_2 13 rfl rfl)
theorem dX5_draw_63 : decode cX5_draw 63 = .ok (.iconst 0, 1) := dk_3 (dk_at dksX5_draw_2 15 rfl rfl)
theorem dX5_draw_64 : decode cX5_draw 64 = .ok (.istore 6, 2) := dk_54 6 (dk_at dksX5_draw_2 16 rfl rfl)
theorem dX5_draw_66 : decode cX5_draw 66 = .ok (.aload_n 0, 1) := dk_42 (dk_at dksX5_draw_2 18 rfl rfl)
theorem dX5_draw_67 : decode cX5_draw 67 = .ok (.invokevirtual 148, 3) := dk_182 0 148 (dk_at dksX5_draw_2 19 rfl rfl)
theorem dX5_draw_70 : decode cX5_draw 70 = .ok (.iconst 0, 1) := dk_3 (dk_at dksX5_draw_2 22 rfl rfl)
theorem dX5_draw_71 : decode cX5_draw 71 = .ok (.istore 7, 2) := dk_54 7 (dk_at dksX5_draw_3 0 rfl rfl)
theorem dX5_draw_73 : decode cX5_draw 73 = .ok (.iload 7, 2) := dk_21 7 (dk_at dksX5_draw_3 2 rfl rfl)
theorem dX5_draw_75 : decode cX5_draw 75 = .ok (.iload_n 2, 1) := dk_28 (dk_at dksX5_draw_3 4 rfl rfl)
theorem dX5_draw_76 : decode cX5_draw 76 = .ok (.if_icmp .ge 61, 3) := dk_162 0 61 (dk_at dksX5_draw_3 5 rfl rfl)
theorem dX5_draw_79 : decode cX5_draw 79 = .ok (.lload 4, 2) := dk_22 4 (dk_at dksX5_draw_3 8 rfl rfl)
theorem dX5_draw_81 : decode cX5_draw 81 = .ok (.ldc2_w 161, 3) := dk_20 0 161 (dk_at dksX5_draw_3 10 rfl rfl)
theorem dX5_draw_84 : decode cX5_draw 84 = .ok (.lmul, 1) := dk_105 (dk_at dksX5_draw_3 13 rfl rfl)
theorem dX5_draw_85 : decode cX5_draw 85 = .ok (.ldc2_w 163, 3) := dk_20 0 163 (dk_at dksX5_draw_3 14 rfl rfl)
theorem dX5_draw_88 : decode cX5_draw 88 = .ok (.ladd, 1) := dk_97 (dk_at dksX5_draw_3 17 rfl rfl)
theorem dX5_draw_89 : decode cX5_draw 89 = .ok (.ldc2_w 165, 3) := dk_20 0 165 (dk_at dksX5_draw_3 18 rfl rfl)
theorem dX5_draw_92 : decode cX5_draw 92 = .ok (.lrem, 1) := dk_113 (dk_at dksX5_draw_3 21 rfl rfl)
theorem dX5_draw_93 : decode cX5_draw 93 = .ok (.lstore 4, 2) := dk_55 4 (dk_at dksX5_draw_3 22 rfl rfl)
theorem dX5_draw_95 : decode cX5_draw 95 = .ok (.lload 4, 2) := dk_22 4 (dk_at dksX5_draw_4 0 rfl rfl)
theorem dX5_draw_97 : decode cX5_draw 97 = .ok (.ldc2_w 82, 3) := dk_20 0 82 (dk_at dksX5_draw_4 2 rfl rfl)
theorem dX5_draw_100 : decode cX5_draw 100 = .ok (.ldiv, 1) := dk_109 (dk_at dksX5_draw_4 5 rfl rfl)
theorem dX5_draw_101 : decode cX5_draw 101 = .ok (.ldc2_w 159, 3) := dk_20 0 159 (dk_at dksX5_draw_4 6 rfl rfl)
theorem dX5_draw_104 : decode cX5_draw 104 = .ok (.lrem, 1) := dk_113 (dk_at dksX5_draw_4 9 rfl rfl)
theorem dX5_draw_105 : decode cX5_draw 105 = .ok (.iload_n 3, 1) := dk_29 (dk_at dksX5_draw_4 10 rfl rfl)
theorem dX5_draw_106 : decode cX5_draw 106 = .ok (.i2l, 1) := dk_133 (dk_at dksX5_draw_4 11 rfl rfl)
theorem dX5_draw_107 : decode cX5_draw 107 = .ok (.lcmp, 1) := dk_148 (dk_at dksX5_draw_4 12 rfl rfl)
theorem dX5_draw_108 : decode cX5_draw 108 = .ok (.ifCond .ge 7, 3) := dk_156 0 7 (dk_at dksX5_draw_4 13 rfl rfl)
theorem dX5_draw_111 : decode cX5_draw 111 = .ok (.iconst 1, 1) := dk_4 (dk_at dksX5_draw_4 16 rfl rfl)
theorem dX5_draw_112 : decode cX5_draw 112 = .ok (.goto 4, 3) := dk_167 0 4 (dk_at dksX5_draw_4 17 rfl rfl)
theorem dX5_draw_115 : decode cX5_draw 115 = .ok (.iconst 0, 1) := dk_3 (dk_at dksX5_draw_4 20 rfl rfl)
theorem dX5_draw_116 : decode cX5_draw 116 = .ok (.istore 8, 2) := dk_54 8 (dk_at dksX5_draw_4 21 rfl rfl)
theorem dX5_draw_118 : decode cX5_draw 118 = .ok (.aload_n 0, 1) := dk_42 (dk_at dksX5_draw_4 23 rfl rfl)
theorem dX5_draw_119 : decode cX5_draw 119 = .ok (.iload 8, 2) := dk_21 8 (dk_at dksX5_draw_5 0 rfl rfl)
theorem dX5_draw_121 : decode cX5_draw 121 = .ok (.invokevirtual 151, 3) := dk_182 0 151 (dk_at dksX5_draw_5 2 rfl rfl)
theorem dX5_draw_124 : decode cX5_draw 124 = .ok (.iload 6, 2) := dk_21 6 (dk_at dksX5_draw_5 5 rfl rfl)
theorem dX5_draw_126 : decode cX5_draw 126 = .ok (.iload 8, 2) := dk_21 8 (dk_at dksX5_draw_5 7 rfl rfl)
theorem dX5_draw_128 : decode cX5_draw 128 = .ok (.iadd, 1) := dk_96 (dk_at dksX5_draw_5 9 rfl rfl)
theorem dX5_draw_129 : decode cX5_draw 129 = .ok (.istore 6, 2) := dk_54 6 (dk_at dksX5_draw_5 10 rfl rfl)
theorem dX5_draw_131 : decode cX5_draw 131 = .ok (.iinc 7 1, 3) := dk_132 7 1 (dk_at dksX5_draw_5 12 rfl rfl)
theorem dX5_draw_134 : decode cX5_draw 134 = .ok (.goto (-61), 3) := dk_167 255 195 (dk_at dksX5_draw_5 15 rfl rfl)
theorem dX5_draw_137 : decode cX5_draw 137 = .ok (.iload 6, 2) := dk_21 6 (dk_at dksX5_draw_5 18 rfl rfl)
theorem dX5_draw_139 : decode cX5_draw 139 = .ok (.ireturn, 1) := dk_172 (dk_at dksX5_draw_5 20 rfl rfl)
abbrev cX5_sets : ByteArray := prog_11_method_27_code
def yX5_sets : MethodName := ⟨RX5, "sets", "(II)I"⟩
def dkwX5_sets_2 : List UInt8 := [16, 101, 27, 96, 46, 62, 42, 180, 0, 7, 16, 101, 27, 96, 28, 79, 29, 172]
abbrev dktX5_sets_2 : List UInt8 := dkwX5_sets_2 ++ []
def dkwX5_sets_1 : List UInt8 := [20, 0, 169, 184, 0, 138, 154, 0, 10, 42, 16, 254, 182, 0, 142, 172, 42, 182, 0, 148, 42, 180, 0, 7]
abbrev dktX5_sets_1 : List UInt8 := dkwX5_sets_1 ++ dktX5_sets_2
def dkwX5_sets_0 : List UInt8 := [27, 133, 9, 10, 184, 0, 138, 153, 0, 25, 28, 133, 9, 27, 154, 0, 9, 20, 0, 167, 167, 0, 6]
abbrev dktX5_sets_0 : List UInt8 := dkwX5_sets_0 ++ dktX5_sets_1
theorem dksX5_sets_0 : cX5_sets.data.toList.drop 0 = dktX5_sets_0 := by decide +kernel
theorem dksX5_sets_1 : cX5_sets.data.toList.drop 23 = dktX5_sets_1 := dk_seg dksX5_sets_0 23 rfl rfl
theorem dksX5_sets_2 : cX5_sets.data.toList.drop 47 = dktX5_sets_2 := dk_seg dksX5_sets_1 24 rfl rfl
theorem dX5_sets_0 : decode cX5_sets 0 = .ok (.iload_n 1, 1) := dk_27 (dk_at dksX5_sets_0 0 rfl rfl)
theorem dX5_sets_1 : decode cX5_sets 1 = .ok (.i2l, 1) := dk_133 (dk_at dksX5_sets_0 1 rfl rfl)
theorem dX5_sets_2 : decode cX5_sets 2 = .ok (.lconst 0, 1) := dk_9 (dk_at dksX5_sets_0 2 rfl rfl)
theorem dX5_sets_3 : decode cX5_sets 3 = .ok (.lconst 1, 1) := dk_10 (dk_at dksX5_sets_0 3 rfl rfl)
theorem dX5_sets_4 : decode cX5_sets 4 = .ok (.invokestatic 138, 3) := dk_184 0 138 (dk_at dksX5_sets_0 4 rfl rfl)
theorem dX5_sets_7 : decode cX5_sets 7 = .ok (.ifCond .eq 25, 3) := dk_153 0 25 (dk_at dksX5_sets_0 7 rfl rfl)
theorem dX5_sets_10 : decode cX5_sets 10 = .ok (.iload_n 2, 1) := dk_28 (dk_at dksX5_sets_0 10 rfl rfl)
theorem dX5_sets_11 : decode cX5_sets 11 = .ok (.i2l, 1) := dk_133 (dk_at dksX5_sets_0 11 rfl rfl)
theorem dX5_sets_12 : decode cX5_sets 12 = .ok (.lconst 0, 1) := dk_9 (dk_at dksX5_sets_0 12 rfl rfl)
theorem dX5_sets_13 : decode cX5_sets 13 = .ok (.iload_n 1, 1) := dk_27 (dk_at dksX5_sets_0 13 rfl rfl)
theorem dX5_sets_14 : decode cX5_sets 14 = .ok (.ifCond .ne 9, 3) := dk_154 0 9 (dk_at dksX5_sets_0 14 rfl rfl)
theorem dX5_sets_17 : decode cX5_sets 17 = .ok (.ldc2_w 167, 3) := dk_20 0 167 (dk_at dksX5_sets_0 17 rfl rfl)
theorem dX5_sets_20 : decode cX5_sets 20 = .ok (.goto 6, 3) := dk_167 0 6 (dk_at dksX5_sets_0 20 rfl rfl)
theorem dX5_sets_23 : decode cX5_sets 23 = .ok (.ldc2_w 169, 3) := dk_20 0 169 (dk_at dksX5_sets_1 0 rfl rfl)
theorem dX5_sets_26 : decode cX5_sets 26 = .ok (.invokestatic 138, 3) := dk_184 0 138 (dk_at dksX5_sets_1 3 rfl rfl)
theorem dX5_sets_29 : decode cX5_sets 29 = .ok (.ifCond .ne 10, 3) := dk_154 0 10 (dk_at dksX5_sets_1 6 rfl rfl)
theorem dX5_sets_32 : decode cX5_sets 32 = .ok (.aload_n 0, 1) := dk_42 (dk_at dksX5_sets_1 9 rfl rfl)
theorem dX5_sets_33 : decode cX5_sets 33 = .ok (.bipush (-2), 2) := dk_16 254 (dk_at dksX5_sets_1 10 rfl rfl)
theorem dX5_sets_35 : decode cX5_sets 35 = .ok (.invokevirtual 142, 3) := dk_182 0 142 (dk_at dksX5_sets_1 12 rfl rfl)
theorem dX5_sets_38 : decode cX5_sets 38 = .ok (.ireturn, 1) := dk_172 (dk_at dksX5_sets_1 15 rfl rfl)
theorem dX5_sets_39 : decode cX5_sets 39 = .ok (.aload_n 0, 1) := dk_42 (dk_at dksX5_sets_1 16 rfl rfl)
theorem dX5_sets_40 : decode cX5_sets 40 = .ok (.invokevirtual 148, 3) := dk_182 0 148 (dk_at dksX5_sets_1 17 rfl rfl)
theorem dX5_sets_43 : decode cX5_sets 43 = .ok (.aload_n 0, 1) := dk_42 (dk_at dksX5_sets_1 20 rfl rfl)
theorem dX5_sets_44 : decode cX5_sets 44 = .ok (.getfield 7, 3) := dk_180 0 7 (dk_at dksX5_sets_1 21 rfl rfl)
theorem dX5_sets_47 : decode cX5_sets 47 = .ok (.bipush 101, 2) := dk_16 101 (dk_at dksX5_sets_2 0 rfl rfl)
theorem dX5_sets_49 : decode cX5_sets 49 = .ok (.iload_n 1, 1) := dk_27 (dk_at dksX5_sets_2 2 rfl rfl)
theorem dX5_sets_50 : decode cX5_sets 50 = .ok (.iadd, 1) := dk_96 (dk_at dksX5_sets_2 3 rfl rfl)
theorem dX5_sets_51 : decode cX5_sets 51 = .ok (.iaload, 1) := dk_46 (dk_at dksX5_sets_2 4 rfl rfl)
theorem dX5_sets_52 : decode cX5_sets 52 = .ok (.istore_n 3, 1) := dk_62 (dk_at dksX5_sets_2 5 rfl rfl)
theorem dX5_sets_53 : decode cX5_sets 53 = .ok (.aload_n 0, 1) := dk_42 (dk_at dksX5_sets_2 6 rfl rfl)
theorem dX5_sets_54 : decode cX5_sets 54 = .ok (.getfield 7, 3) := dk_180 0 7 (dk_at dksX5_sets_2 7 rfl rfl)
theorem dX5_sets_57 : decode cX5_sets 57 = .ok (.bipush 101, 2) := dk_16 101 (dk_at dksX5_sets_2 10 rfl rfl)
theorem dX5_sets_59 : decode cX5_sets 59 = .ok (.iload_n 1, 1) := dk_27 (dk_at dksX5_sets_2 12 rfl rfl)
theorem dX5_sets_60 : decode cX5_sets 60 = .ok (.iadd, 1) := dk_96 (dk_at dksX5_sets_2 13 rfl rfl)
theorem dX5_sets_61 : decode cX5_sets 61 = .ok (.iload_n 2, 1) := dk_28 (dk_at dksX5_sets_2 14 rfl rfl)
theorem dX5_sets_62 : decode cX5_sets 62 = .ok (.iastore, 1) := dk_79 (dk_at dksX5_sets_2 15 rfl rfl)
theorem dX5_sets_63 : decode cX5_sets 63 = .ok (.iload_n 3, 1) := dk_29 (dk_at dksX5_sets_2 16 rfl rfl)
theorem dX5_sets_64 : decode cX5_sets 64 = .ok (.ireturn, 1) := dk_172 (dk_at dksX5_sets_2 17 rfl rfl)
abbrev cX5_empties : ByteArray := prog_11_method_28_code
def yX5_empties : MethodName := ⟨RX5, "empties", "()I"⟩
def dkwX5_empties_0 : List UInt8 := [42, 182, 0, 112, 60, 42, 182, 0, 148, 42, 180, 0, 7, 16, 100, 3, 79, 27, 172]
abbrev dktX5_empties_0 : List UInt8 := dkwX5_empties_0 ++ []
theorem dksX5_empties_0 : cX5_empties.data.toList.drop 0 = dktX5_empties_0 := by decide +kernel
theorem dX5_empties_0 : decode cX5_empties 0 = .ok (.aload_n 0, 1) := dk_42 (dk_at dksX5_empties_0 0 rfl rfl)
theorem dX5_empties_1 : decode cX5_empties 1 = .ok (.invokevirtual 112, 3) := dk_182 0 112 (dk_at dksX5_empties_0 1 rfl rfl)
theorem dX5_empties_4 : decode cX5_empties 4 = .ok (.istore_n 1, 1) := dk_60 (dk_at dksX5_empties_0 4 rfl rfl)
theorem dX5_empties_5 : decode cX5_empties 5 = .ok (.aload_n 0, 1) := dk_42 (dk_at dksX5_empties_0 5 rfl rfl)
theorem dX5_empties_6 : decode cX5_empties 6 = .ok (.invokevirtual 148, 3) := dk_182 0 148 (dk_at dksX5_empties_0 6 rfl rfl)
theorem dX5_empties_9 : decode cX5_empties 9 = .ok (.aload_n 0, 1) := dk_42 (dk_at dksX5_empties_0 9 rfl rfl)
theorem dX5_empties_10 : decode cX5_empties 10 = .ok (.getfield 7, 3) := dk_180 0 7 (dk_at dksX5_empties_0 10 rfl rfl)
theorem dX5_empties_13 : decode cX5_empties 13 = .ok (.bipush 100, 2) := dk_16 100 (dk_at dksX5_empties_0 13 rfl rfl)
theorem dX5_empties_15 : decode cX5_empties 15 = .ok (.iconst 0, 1) := dk_3 (dk_at dksX5_empties_0 15 rfl rfl)
theorem dX5_empties_16 : decode cX5_empties 16 = .ok (.iastore, 1) := dk_79 (dk_at dksX5_empties_0 16 rfl rfl)
theorem dX5_empties_17 : decode cX5_empties 17 = .ok (.iload_n 1, 1) := dk_27 (dk_at dksX5_empties_0 17 rfl rfl)
theorem dX5_empties_18 : decode cX5_empties 18 = .ok (.ireturn, 1) := dk_172 (dk_at dksX5_empties_0 18 rfl rfl)
abbrev cX5_drop : ByteArray := prog_11_method_29_code
def yX5_drop : MethodName := ⟨RX5, "drop", "()I"⟩
def dkwX5_drop_1 : List UInt8 := [4, 100, 79, 42, 182, 0, 112, 172]
abbrev dktX5_drop_1 : List UInt8 := dkwX5_drop_1 ++ []
def dkwX5_drop_0 : List UInt8 := [42, 182, 0, 112, 154, 0, 8, 42, 182, 0, 171, 172, 42, 182, 0, 148, 42, 180, 0, 7, 16, 100, 92, 46]
abbrev dktX5_drop_0 : List UInt8 := dkwX5_drop_0 ++ dktX5_drop_1
theorem dksX5_drop_0 : cX5_drop.data.toList.drop 0 = dktX5_drop_0 := by decide +kernel
theorem dksX5_drop_1 : cX5_drop.data.toList.drop 24 = dktX5_drop_1 := dk_seg dksX5_drop_0 24 rfl rfl
theorem dX5_drop_0 : decode cX5_drop 0 = .ok (.aload_n 0, 1) := dk_42 (dk_at dksX5_drop_0 0 rfl rfl)
theorem dX5_drop_1 : decode cX5_drop 1 = .ok (.invokevirtual 112, 3) := dk_182 0 112 (dk_at dksX5_drop_0 1 rfl rfl)
theorem dX5_drop_4 : decode cX5_drop 4 = .ok (.ifCond .ne 8, 3) := dk_154 0 8 (dk_at dksX5_drop_0 4 rfl rfl)
theorem dX5_drop_7 : decode cX5_drop 7 = .ok (.aload_n 0, 1) := dk_42 (dk_at dksX5_drop_0 7 rfl rfl)
theorem dX5_drop_8 : decode cX5_drop 8 = .ok (.invokevirtual 171, 3) := dk_182 0 171 (dk_at dksX5_drop_0 8 rfl rfl)
theorem dX5_drop_11 : decode cX5_drop 11 = .ok (.ireturn, 1) := dk_172 (dk_at dksX5_drop_0 11 rfl rfl)
theorem dX5_drop_12 : decode cX5_drop 12 = .ok (.aload_n 0, 1) := dk_42 (dk_at dksX5_drop_0 12 rfl rfl)
theorem dX5_drop_13 : decode cX5_drop 13 = .ok (.invokevirtual 148, 3) := dk_182 0 148 (dk_at dksX5_drop_0 13 rfl rfl)
theorem dX5_drop_16 : decode cX5_drop 16 = .ok (.aload_n 0, 1) := dk_42 (dk_at dksX5_drop_0 16 rfl rfl)
theorem dX5_drop_17 : decode cX5_drop 17 = .ok (.getfield 7, 3) := dk_180 0 7 (dk_at dksX5_drop_0 17 rfl rfl)
theorem dX5_drop_20 : decode cX5_drop 20 = .ok (.bipush 100, 2) := dk_16 100 (dk_at dksX5_drop_0 20 rfl rfl)
theorem dX5_drop_22 : decode cX5_drop 22 = .ok (.dup2, 1) := dk_92 (dk_at dksX5_drop_0 22 rfl rfl)
theorem dX5_drop_23 : decode cX5_drop 23 = .ok (.iaload, 1) := dk_46 (dk_at dksX5_drop_0 23 rfl rfl)
theorem dX5_drop_24 : decode cX5_drop 24 = .ok (.iconst 1, 1) := dk_4 (dk_at dksX5_drop_1 0 rfl rfl)
theorem dX5_drop_25 : decode cX5_drop 25 = .ok (.isub, 1) := dk_100 (dk_at dksX5_drop_1 1 rfl rfl)
theorem dX5_drop_26 : decode cX5_drop 26 = .ok (.iastore, 1) := dk_79 (dk_at dksX5_drop_1 2 rfl rfl)
theorem dX5_drop_27 : decode cX5_drop 27 = .ok (.aload_n 0, 1) := dk_42 (dk_at dksX5_drop_1 3 rfl rfl)
theorem dX5_drop_28 : decode cX5_drop 28 = .ok (.invokevirtual 112, 3) := dk_182 0 112 (dk_at dksX5_drop_1 4 rfl rfl)
theorem dX5_drop_31 : decode cX5_drop 31 = .ok (.ireturn, 1) := dk_172 (dk_at dksX5_drop_1 7 rfl rfl)
abbrev cX5_no : ByteArray := prog_11_method_5_code
def yX5_no : MethodName := ⟨RX5, "no", "()I"⟩
def dkwX5_no_0 : List UInt8 := [42, 180, 0, 16, 4, 92, 46, 4, 96, 79, 16, 253, 172]
abbrev dktX5_no_0 : List UInt8 := dkwX5_no_0 ++ []
theorem dksX5_no_0 : cX5_no.data.toList.drop 0 = dktX5_no_0 := by decide +kernel
theorem dX5_no_0 : decode cX5_no 0 = .ok (.aload_n 0, 1) := dk_42 (dk_at dksX5_no_0 0 rfl rfl)
theorem dX5_no_1 : decode cX5_no 1 = .ok (.getfield 16, 3) := dk_180 0 16 (dk_at dksX5_no_0 1 rfl rfl)
theorem dX5_no_4 : decode cX5_no 4 = .ok (.iconst 1, 1) := dk_4 (dk_at dksX5_no_0 4 rfl rfl)
theorem dX5_no_5 : decode cX5_no 5 = .ok (.dup2, 1) := dk_92 (dk_at dksX5_no_0 5 rfl rfl)
theorem dX5_no_6 : decode cX5_no 6 = .ok (.iaload, 1) := dk_46 (dk_at dksX5_no_0 6 rfl rfl)
theorem dX5_no_7 : decode cX5_no 7 = .ok (.iconst 1, 1) := dk_4 (dk_at dksX5_no_0 7 rfl rfl)
theorem dX5_no_8 : decode cX5_no 8 = .ok (.iadd, 1) := dk_96 (dk_at dksX5_no_0 8 rfl rfl)
theorem dX5_no_9 : decode cX5_no 9 = .ok (.iastore, 1) := dk_79 (dk_at dksX5_no_0 9 rfl rfl)
theorem dX5_no_10 : decode cX5_no 10 = .ok (.bipush (-3), 2) := dk_16 253 (dk_at dksX5_no_0 10 rfl rfl)
theorem dX5_no_12 : decode cX5_no 12 = .ok (.ireturn, 1) := dk_172 (dk_at dksX5_no_0 12 rfl rfl)
abbrev cX5_at : ByteArray := prog_11_method_30_code
def yX5_at : MethodName := ⟨RX5, "at", "(I)I"⟩
def dkwX5_at_1 : List UInt8 := [167, 0, 9, 42, 16, 254, 182, 0, 142, 172]
abbrev dktX5_at_1 : List UInt8 := dkwX5_at_1 ++ []
def dkwX5_at_0 : List UInt8 := [27, 133, 9, 42, 182, 0, 112, 4, 100, 133, 184, 0, 138, 153, 0, 12, 42, 180, 0, 7, 27, 46]
abbrev dktX5_at_0 : List UInt8 := dkwX5_at_0 ++ dktX5_at_1
theorem dksX5_at_0 : cX5_at.data.toList.drop 0 = dktX5_at_0 := by decide +kernel
theorem dksX5_at_1 : cX5_at.data.toList.drop 22 = dktX5_at_1 := dk_seg dksX5_at_0 22 rfl rfl
theorem dX5_at_0 : decode cX5_at 0 = .ok (.iload_n 1, 1) := dk_27 (dk_at dksX5_at_0 0 rfl rfl)
theorem dX5_at_1 : decode cX5_at 1 = .ok (.i2l, 1) := dk_133 (dk_at dksX5_at_0 1 rfl rfl)
theorem dX5_at_2 : decode cX5_at 2 = .ok (.lconst 0, 1) := dk_9 (dk_at dksX5_at_0 2 rfl rfl)
theorem dX5_at_3 : decode cX5_at 3 = .ok (.aload_n 0, 1) := dk_42 (dk_at dksX5_at_0 3 rfl rfl)
theorem dX5_at_4 : decode cX5_at 4 = .ok (.invokevirtual 112, 3) := dk_182 0 112 (dk_at dksX5_at_0 4 rfl rfl)
theorem dX5_at_7 : decode cX5_at 7 = .ok (.iconst 1, 1) := dk_4 (dk_at dksX5_at_0 7 rfl rfl)
theorem dX5_at_8 : decode cX5_at 8 = .ok (.isub, 1) := dk_100 (dk_at dksX5_at_0 8 rfl rfl)
theorem dX5_at_9 : decode cX5_at 9 = .ok (.i2l, 1) := dk_133 (dk_at dksX5_at_0 9 rfl rfl)
theorem dX5_at_10 : decode cX5_at 10 = .ok (.invokestatic 138, 3) := dk_184 0 138 (dk_at dksX5_at_0 10 rfl rfl)
theorem dX5_at_13 : decode cX5_at 13 = .ok (.ifCond .eq 12, 3) := dk_153 0 12 (dk_at dksX5_at_0 13 rfl rfl)
theorem dX5_at_16 : decode cX5_at 16 = .ok (.aload_n 0, 1) := dk_42 (dk_at dksX5_at_0 16 rfl rfl)
theorem dX5_at_17 : decode cX5_at 17 = .ok (.getfield 7, 3) := dk_180 0 7 (dk_at dksX5_at_0 17 rfl rfl)
theorem dX5_at_20 : decode cX5_at 20 = .ok (.iload_n 1, 1) := dk_27 (dk_at dksX5_at_0 20 rfl rfl)
theorem dX5_at_21 : decode cX5_at 21 = .ok (.iaload, 1) := dk_46 (dk_at dksX5_at_0 21 rfl rfl)
theorem dX5_at_22 : decode cX5_at 22 = .ok (.goto 9, 3) := dk_167 0 9 (dk_at dksX5_at_1 0 rfl rfl)
theorem dX5_at_25 : decode cX5_at 25 = .ok (.aload_n 0, 1) := dk_42 (dk_at dksX5_at_1 3 rfl rfl)
theorem dX5_at_26 : decode cX5_at 26 = .ok (.bipush (-2), 2) := dk_16 254 (dk_at dksX5_at_1 4 rfl rfl)
theorem dX5_at_28 : decode cX5_at 28 = .ok (.invokevirtual 142, 3) := dk_182 0 142 (dk_at dksX5_at_1 6 rfl rfl)
theorem dX5_at_31 : decode cX5_at 31 = .ok (.ireturn, 1) := dk_172 (dk_at dksX5_at_1 9 rfl rfl)
abbrev cX5_guess : ByteArray := prog_11_method_32_code
def yX5_guess : MethodName := ⟨RX5, "guess", "()I"⟩
theorem dX5_guess_0 : decode cX5_guess 0 = .ok (.aload_n 0, 1) := by decide +kernel
theorem dX5_guess_1 : decode cX5_guess 1 = .ok (.invokevirtual 174, 3) := by decide +kernel
theorem dX5_guess_4 : decode cX5_guess 4 = .ok (.ireturn, 1) := by decide +kernel
abbrev cX5_guessNow : ByteArray := prog_11_method_31_code
def yX5_guessNow : MethodName := ⟨RX5, "guessNow", "()I"⟩
def dkwX5_guessNow_0 : List UInt8 := [42, 182, 0, 132, 60, 42, 182, 0, 116, 172]
abbrev dktX5_guessNow_0 : List UInt8 := dkwX5_guessNow_0 ++ []
theorem dksX5_guessNow_0 : cX5_guessNow.data.toList.drop 0 = dktX5_guessNow_0 := by decide +kernel
theorem dX5_guessNow_0 : decode cX5_guessNow 0 = .ok (.aload_n 0, 1) := dk_42 (dk_at dksX5_guessNow_0 0 rfl rfl)
theorem dX5_guessNow_1 : decode cX5_guessNow 1 = .ok (.invokevirtual 132, 3) := dk_182 0 132 (dk_at dksX5_guessNow_0 1 rfl rfl)
theorem dX5_guessNow_4 : decode cX5_guessNow 4 = .ok (.istore_n 1, 1) := dk_60 (dk_at dksX5_guessNow_0 4 rfl rfl)
theorem dX5_guessNow_5 : decode cX5_guessNow 5 = .ok (.aload_n 0, 1) := dk_42 (dk_at dksX5_guessNow_0 5 rfl rfl)
theorem dX5_guessNow_6 : decode cX5_guessNow 6 = .ok (.invokevirtual 116, 3) := dk_182 0 116 (dk_at dksX5_guessNow_0 6 rfl rfl)
theorem dX5_guessNow_9 : decode cX5_guessNow 9 = .ok (.ireturn, 1) := dk_172 (dk_at dksX5_guessNow_0 9 rfl rfl)
abbrev cX5_was : ByteArray := prog_11_method_33_code
def yX5_was : MethodName := ⟨RX5, "was", "(II)I"⟩
def dkwX5_was_2 : List UInt8 := [46, 167, 0, 8, 42, 27, 182, 0, 135, 172]
abbrev dktX5_was_2 : List UInt8 := dkwX5_was_2 ++ []
def dkwX5_was_1 : List UInt8 := [154, 0, 10, 42, 16, 254, 182, 0, 142, 172, 42, 182, 0, 132, 62, 28, 154, 0, 12, 42, 180, 0, 43, 27]
abbrev dktX5_was_1 : List UInt8 := dkwX5_was_1 ++ dktX5_was_2
def dkwX5_was_0 : List UInt8 := [27, 133, 9, 42, 182, 0, 112, 4, 100, 133, 184, 0, 138, 153, 0, 13, 28, 133, 9, 10, 184, 0, 138]
abbrev dktX5_was_0 : List UInt8 := dkwX5_was_0 ++ dktX5_was_1
theorem dksX5_was_0 : cX5_was.data.toList.drop 0 = dktX5_was_0 := by decide +kernel
theorem dksX5_was_1 : cX5_was.data.toList.drop 23 = dktX5_was_1 := dk_seg dksX5_was_0 23 rfl rfl
theorem dksX5_was_2 : cX5_was.data.toList.drop 47 = dktX5_was_2 := dk_seg dksX5_was_1 24 rfl rfl
theorem dX5_was_0 : decode cX5_was 0 = .ok (.iload_n 1, 1) := dk_27 (dk_at dksX5_was_0 0 rfl rfl)
theorem dX5_was_1 : decode cX5_was 1 = .ok (.i2l, 1) := dk_133 (dk_at dksX5_was_0 1 rfl rfl)
theorem dX5_was_2 : decode cX5_was 2 = .ok (.lconst 0, 1) := dk_9 (dk_at dksX5_was_0 2 rfl rfl)
theorem dX5_was_3 : decode cX5_was 3 = .ok (.aload_n 0, 1) := dk_42 (dk_at dksX5_was_0 3 rfl rfl)
theorem dX5_was_4 : decode cX5_was 4 = .ok (.invokevirtual 112, 3) := dk_182 0 112 (dk_at dksX5_was_0 4 rfl rfl)
theorem dX5_was_7 : decode cX5_was 7 = .ok (.iconst 1, 1) := dk_4 (dk_at dksX5_was_0 7 rfl rfl)
theorem dX5_was_8 : decode cX5_was 8 = .ok (.isub, 1) := dk_100 (dk_at dksX5_was_0 8 rfl rfl)
theorem dX5_was_9 : decode cX5_was 9 = .ok (.i2l, 1) := dk_133 (dk_at dksX5_was_0 9 rfl rfl)
theorem dX5_was_10 : decode cX5_was 10 = .ok (.invokestatic 138, 3) := dk_184 0 138 (dk_at dksX5_was_0 10 rfl rfl)
theorem dX5_was_13 : decode cX5_was 13 = .ok (.ifCond .eq 13, 3) := dk_153 0 13 (dk_at dksX5_was_0 13 rfl rfl)
theorem dX5_was_16 : decode cX5_was 16 = .ok (.iload_n 2, 1) := dk_28 (dk_at dksX5_was_0 16 rfl rfl)
theorem dX5_was_17 : decode cX5_was 17 = .ok (.i2l, 1) := dk_133 (dk_at dksX5_was_0 17 rfl rfl)
theorem dX5_was_18 : decode cX5_was 18 = .ok (.lconst 0, 1) := dk_9 (dk_at dksX5_was_0 18 rfl rfl)
theorem dX5_was_19 : decode cX5_was 19 = .ok (.lconst 1, 1) := dk_10 (dk_at dksX5_was_0 19 rfl rfl)
theorem dX5_was_20 : decode cX5_was 20 = .ok (.invokestatic 138, 3) := dk_184 0 138 (dk_at dksX5_was_0 20 rfl rfl)
theorem dX5_was_23 : decode cX5_was 23 = .ok (.ifCond .ne 10, 3) := dk_154 0 10 (dk_at dksX5_was_1 0 rfl rfl)
theorem dX5_was_26 : decode cX5_was 26 = .ok (.aload_n 0, 1) := dk_42 (dk_at dksX5_was_1 3 rfl rfl)
theorem dX5_was_27 : decode cX5_was 27 = .ok (.bipush (-2), 2) := dk_16 254 (dk_at dksX5_was_1 4 rfl rfl)
theorem dX5_was_29 : decode cX5_was 29 = .ok (.invokevirtual 142, 3) := dk_182 0 142 (dk_at dksX5_was_1 6 rfl rfl)
theorem dX5_was_32 : decode cX5_was 32 = .ok (.ireturn, 1) := dk_172 (dk_at dksX5_was_1 9 rfl rfl)
theorem dX5_was_33 : decode cX5_was 33 = .ok (.aload_n 0, 1) := dk_42 (dk_at dksX5_was_1 10 rfl rfl)
theorem dX5_was_34 : decode cX5_was 34 = .ok (.invokevirtual 132, 3) := dk_182 0 132 (dk_at dksX5_was_1 11 rfl rfl)
theorem dX5_was_37 : decode cX5_was 37 = .ok (.istore_n 3, 1) := dk_62 (dk_at dksX5_was_1 14 rfl rfl)
theorem dX5_was_38 : decode cX5_was 38 = .ok (.iload_n 2, 1) := dk_28 (dk_at dksX5_was_1 15 rfl rfl)
theorem dX5_was_39 : decode cX5_was 39 = .ok (.ifCond .ne 12, 3) := dk_154 0 12 (dk_at dksX5_was_1 16 rfl rfl)
theorem dX5_was_42 : decode cX5_was 42 = .ok (.aload_n 0, 1) := dk_42 (dk_at dksX5_was_1 19 rfl rfl)
theorem dX5_was_43 : decode cX5_was 43 = .ok (.getfield 43, 3) := dk_180 0 43 (dk_at dksX5_was_1 20 rfl rfl)
theorem dX5_was_46 : decode cX5_was 46 = .ok (.iload_n 1, 1) := dk_27 (dk_at dksX5_was_1 23 rfl rfl)
theorem dX5_was_47 : decode cX5_was 47 = .ok (.iaload, 1) := dk_46 (dk_at dksX5_was_2 0 rfl rfl)
theorem dX5_was_48 : decode cX5_was 48 = .ok (.goto 8, 3) := dk_167 0 8 (dk_at dksX5_was_2 1 rfl rfl)
theorem dX5_was_51 : decode cX5_was 51 = .ok (.aload_n 0, 1) := dk_42 (dk_at dksX5_was_2 4 rfl rfl)
theorem dX5_was_52 : decode cX5_was 52 = .ok (.iload_n 1, 1) := dk_27 (dk_at dksX5_was_2 5 rfl rfl)
theorem dX5_was_53 : decode cX5_was 53 = .ok (.invokevirtual 135, 3) := dk_182 0 135 (dk_at dksX5_was_2 6 rfl rfl)
theorem dX5_was_56 : decode cX5_was 56 = .ok (.ireturn, 1) := dk_172 (dk_at dksX5_was_2 9 rfl rfl)
abbrev cX5_node : ByteArray := prog_11_method_35_code
def yX5_node : MethodName := ⟨RX5, "node", "(III)I"⟩
def dkwX5_node_4 : List UInt8 := [167, 0, 10, 42, 180, 0, 28, 21, 5, 46, 172]
abbrev dktX5_node_4 : List UInt8 := dkwX5_node_4 ++ []
def dkwX5_node_3 : List UInt8 := [29, 5, 160, 0, 12, 42, 21, 5, 182, 0, 92, 167, 0, 23, 27, 42, 182, 0, 123, 160, 0, 8, 18, 96]
abbrev dktX5_node_3 : List UInt8 := dkwX5_node_3 ++ dktX5_node_4
def dkwX5_node_2 : List UInt8 := [180, 0, 22, 21, 5, 46, 167, 0, 52, 29, 4, 160, 0, 13, 42, 180, 0, 25, 21, 5, 46, 167, 0, 37]
abbrev dktX5_node_2 : List UInt8 := dkwX5_node_2 ++ dktX5_node_3
def dkwX5_node_1 : List UInt8 := [182, 0, 142, 172, 42, 182, 0, 132, 54, 4, 27, 28, 184, 0, 88, 54, 5, 29, 154, 0, 13, 42]
abbrev dktX5_node_1 : List UInt8 := dkwX5_node_1 ++ dktX5_node_2
def dkwX5_node_0 : List UInt8 := [42, 27, 28, 182, 0, 177, 153, 0, 15, 29, 133, 9, 20, 0, 169, 184, 0, 138, 154, 0, 10, 42, 16, 254]
abbrev dktX5_node_0 : List UInt8 := dkwX5_node_0 ++ dktX5_node_1
theorem dksX5_node_0 : cX5_node.data.toList.drop 0 = dktX5_node_0 := by decide +kernel
theorem dksX5_node_1 : cX5_node.data.toList.drop 24 = dktX5_node_1 := dk_seg dksX5_node_0 24 rfl rfl
theorem dksX5_node_2 : cX5_node.data.toList.drop 46 = dktX5_node_2 := dk_seg dksX5_node_1 22 rfl rfl
theorem dksX5_node_3 : cX5_node.data.toList.drop 70 = dktX5_node_3 := dk_seg dksX5_node_2 24 rfl rfl
theorem dksX5_node_4 : cX5_node.data.toList.drop 94 = dktX5_node_4 := dk_seg dksX5_node_3 24 rfl rfl
theorem dX5_node_0 : decode cX5_node 0 = .ok (.aload_n 0, 1) := dk_42 (dk_at dksX5_node_0 0 rfl rfl)
theorem dX5_node_1 : decode cX5_node 1 = .ok (.iload_n 1, 1) := dk_27 (dk_at dksX5_node_0 1 rfl rfl)
theorem dX5_node_2 : decode cX5_node 2 = .ok (.iload_n 2, 1) := dk_28 (dk_at dksX5_node_0 2 rfl rfl)
theorem dX5_node_3 : decode cX5_node 3 = .ok (.invokevirtual 177, 3) := dk_182 0 177 (dk_at dksX5_node_0 3 rfl rfl)
theorem dX5_node_6 : decode cX5_node 6 = .ok (.ifCond .eq 15, 3) := dk_153 0 15 (dk_at dksX5_node_0 6 rfl rfl)
theorem dX5_node_9 : decode cX5_node 9 = .ok (.iload_n 3, 1) := dk_29 (dk_at dksX5_node_0 9 rfl rfl)
theorem dX5_node_10 : decode cX5_node 10 = .ok (.i2l, 1) := dk_133 (dk_at dksX5_node_0 10 rfl rfl)
theorem dX5_node_11 : decode cX5_node 11 = .ok (.lconst 0, 1) := dk_9 (dk_at dksX5_node_0 11 rfl rfl)
theorem dX5_node_12 : decode cX5_node 12 = .ok (.ldc2_w 169, 3) := dk_20 0 169 (dk_at dksX5_node_0 12 rfl rfl)
theorem dX5_node_15 : decode cX5_node 15 = .ok (.invokestatic 138, 3) := dk_184 0 138 (dk_at dksX5_node_0 15 rfl rfl)
theorem dX5_node_18 : decode cX5_node 18 = .ok (.ifCond .ne 10, 3) := dk_154 0 10 (dk_at dksX5_node_0 18 rfl rfl)
theorem dX5_node_21 : decode cX5_node 21 = .ok (.aload_n 0, 1) := dk_42 (dk_at dksX5_node_0 21 rfl rfl)
theorem dX5_node_22 : decode cX5_node 22 = .ok (.bipush (-2), 2) := dk_16 254 (dk_at dksX5_node_0 22 rfl rfl)
theorem dX5_node_24 : decode cX5_node 24 = .ok (.invokevirtual 142, 3) := dk_182 0 142 (dk_at dksX5_node_1 0 rfl rfl)
theorem dX5_node_27 : decode cX5_node 27 = .ok (.ireturn, 1) := dk_172 (dk_at dksX5_node_1 3 rfl rfl)
theorem dX5_node_28 : decode cX5_node 28 = .ok (.aload_n 0, 1) := dk_42 (dk_at dksX5_node_1 4 rfl rfl)
theorem dX5_node_29 : decode cX5_node 29 = .ok (.invokevirtual 132, 3) := dk_182 0 132 (dk_at dksX5_node_1 5 rfl rfl)
theorem dX5_node_32 : decode cX5_node 32 = .ok (.istore 4, 2) := dk_54 4 (dk_at dksX5_node_1 8 rfl rfl)
theorem dX5_node_34 : decode cX5_node 34 = .ok (.iload_n 1, 1) := dk_27 (dk_at dksX5_node_1 10 rfl rfl)
theorem dX5_node_35 : decode cX5_node 35 = .ok (.iload_n 2, 1) := dk_28 (dk_at dksX5_node_1 11 rfl rfl)
theorem dX5_node_36 : decode cX5_node 36 = .ok (.invokestatic 88, 3) := dk_184 0 88 (dk_at dksX5_node_1 12 rfl rfl)
theorem dX5_node_39 : decode cX5_node 39 = .ok (.istore 5, 2) := dk_54 5 (dk_at dksX5_node_1 15 rfl rfl)
theorem dX5_node_41 : decode cX5_node 41 = .ok (.iload_n 3, 1) := dk_29 (dk_at dksX5_node_1 17 rfl rfl)
theorem dX5_node_42 : decode cX5_node 42 = .ok (.ifCond .ne 13, 3) := dk_154 0 13 (dk_at dksX5_node_1 18 rfl rfl)
theorem dX5_node_45 : decode cX5_node 45 = .ok (.aload_n 0, 1) := dk_42 (dk_at dksX5_node_1 21 rfl rfl)
theorem dX5_node_46 : decode cX5_node 46 = .ok (.getfield 22, 3) := dk_180 0 22 (dk_at dksX5_node_2 0 rfl rfl)
theorem dX5_node_49 : decode cX5_node 49 = .ok (.iload 5, 2) := dk_21 5 (dk_at dksX5_node_2 3 rfl rfl)
theorem dX5_node_51 : decode cX5_node 51 = .ok (.iaload, 1) := dk_46 (dk_at dksX5_node_2 5 rfl rfl)
theorem dX5_node_52 : decode cX5_node 52 = .ok (.goto 52, 3) := dk_167 0 52 (dk_at dksX5_node_2 6 rfl rfl)
theorem dX5_node_55 : decode cX5_node 55 = .ok (.iload_n 3, 1) := dk_29 (dk_at dksX5_node_2 9 rfl rfl)
theorem dX5_node_56 : decode cX5_node 56 = .ok (.iconst 1, 1) := dk_4 (dk_at dksX5_node_2 10 rfl rfl)
theorem dX5_node_57 : decode cX5_node 57 = .ok (.if_icmp .ne 13, 3) := dk_160 0 13 (dk_at dksX5_node_2 11 rfl rfl)
theorem dX5_node_60 : decode cX5_node 60 = .ok (.aload_n 0, 1) := dk_42 (dk_at dksX5_node_2 14 rfl rfl)
theorem dX5_node_61 : decode cX5_node 61 = .ok (.getfield 25, 3) := dk_180 0 25 (dk_at dksX5_node_2 15 rfl rfl)
theorem dX5_node_64 : decode cX5_node 64 = .ok (.iload 5, 2) := dk_21 5 (dk_at dksX5_node_2 18 rfl rfl)
theorem dX5_node_66 : decode cX5_node 66 = .ok (.iaload, 1) := dk_46 (dk_at dksX5_node_2 20 rfl rfl)
theorem dX5_node_67 : decode cX5_node 67 = .ok (.goto 37, 3) := dk_167 0 37 (dk_at dksX5_node_2 21 rfl rfl)
theorem dX5_node_70 : decode cX5_node 70 = .ok (.iload_n 3, 1) := dk_29 (dk_at dksX5_node_3 0 rfl rfl)
theorem dX5_node_71 : decode cX5_node 71 = .ok (.iconst 2, 1) := dk_5 (dk_at dksX5_node_3 1 rfl rfl)
theorem dX5_node_72 : decode cX5_node 72 = .ok (.if_icmp .ne 12, 3) := dk_160 0 12 (dk_at dksX5_node_3 2 rfl rfl)
theorem dX5_node_75 : decode cX5_node 75 = .ok (.aload_n 0, 1) := dk_42 (dk_at dksX5_node_3 5 rfl rfl)
theorem dX5_node_76 : decode cX5_node 76 = .ok (.iload 5, 2) := dk_21 5 (dk_at dksX5_node_3 6 rfl rfl)
theorem dX5_node_78 : decode cX5_node 78 = .ok (.invokevirtual 92, 3) := dk_182 0 92 (dk_at dksX5_node_3 8 rfl rfl)
theorem dX5_node_81 : decode cX5_node 81 = .ok (.goto 23, 3) := dk_167 0 23 (dk_at dksX5_node_3 11 rfl rfl)
theorem dX5_node_84 : decode cX5_node 84 = .ok (.iload_n 1, 1) := dk_27 (dk_at dksX5_node_3 14 rfl rfl)
theorem dX5_node_85 : decode cX5_node 85 = .ok (.aload_n 0, 1) := dk_42 (dk_at dksX5_node_3 15 rfl rfl)
theorem dX5_node_86 : decode cX5_node 86 = .ok (.invokevirtual 123, 3) := dk_182 0 123 (dk_at dksX5_node_3 16 rfl rfl)
theorem dX5_node_89 : decode cX5_node 89 = .ok (.if_icmp .ne 8, 3) := dk_160 0 8 (dk_at dksX5_node_3 19 rfl rfl)
theorem dX5_node_92 : decode cX5_node 92 = .ok (.ldc 96, 2) := dk_18 96 (dk_at dksX5_node_3 22 rfl rfl)
theorem dX5_node_94 : decode cX5_node 94 = .ok (.goto 10, 3) := dk_167 0 10 (dk_at dksX5_node_4 0 rfl rfl)
theorem dX5_node_97 : decode cX5_node 97 = .ok (.aload_n 0, 1) := dk_42 (dk_at dksX5_node_4 3 rfl rfl)
theorem dX5_node_98 : decode cX5_node 98 = .ok (.getfield 28, 3) := dk_180 0 28 (dk_at dksX5_node_4 4 rfl rfl)
theorem dX5_node_101 : decode cX5_node 101 = .ok (.iload 5, 2) := dk_21 5 (dk_at dksX5_node_4 7 rfl rfl)
theorem dX5_node_103 : decode cX5_node 103 = .ok (.iaload, 1) := dk_46 (dk_at dksX5_node_4 9 rfl rfl)
theorem dX5_node_104 : decode cX5_node 104 = .ok (.ireturn, 1) := dk_172 (dk_at dksX5_node_4 10 rfl rfl)
abbrev cX5_isNode : ByteArray := prog_11_method_34_code
def yX5_isNode : MethodName := ⟨RX5, "isNode", "(II)Z"⟩
def dkwX5_isNode_1 : List UInt8 := [184, 0, 138, 153, 0, 7, 4, 167, 0, 4, 3, 172]
abbrev dktX5_isNode_1 : List UInt8 := dkwX5_isNode_1 ++ []
def dkwX5_isNode_0 : List UInt8 := [27, 133, 9, 42, 182, 0, 123, 133, 184, 0, 138, 153, 0, 22, 28, 133, 9, 4, 27, 120, 4, 100, 133]
abbrev dktX5_isNode_0 : List UInt8 := dkwX5_isNode_0 ++ dktX5_isNode_1
theorem dksX5_isNode_0 : cX5_isNode.data.toList.drop 0 = dktX5_isNode_0 := by decide +kernel
theorem dksX5_isNode_1 : cX5_isNode.data.toList.drop 23 = dktX5_isNode_1 := dk_seg dksX5_isNode_0 23 rfl rfl
theorem dX5_isNode_0 : decode cX5_isNode 0 = .ok (.iload_n 1, 1) := dk_27 (dk_at dksX5_isNode_0 0 rfl rfl)
theorem dX5_isNode_1 : decode cX5_isNode 1 = .ok (.i2l, 1) := dk_133 (dk_at dksX5_isNode_0 1 rfl rfl)
theorem dX5_isNode_2 : decode cX5_isNode 2 = .ok (.lconst 0, 1) := dk_9 (dk_at dksX5_isNode_0 2 rfl rfl)
theorem dX5_isNode_3 : decode cX5_isNode 3 = .ok (.aload_n 0, 1) := dk_42 (dk_at dksX5_isNode_0 3 rfl rfl)
theorem dX5_isNode_4 : decode cX5_isNode 4 = .ok (.invokevirtual 123, 3) := dk_182 0 123 (dk_at dksX5_isNode_0 4 rfl rfl)
theorem dX5_isNode_7 : decode cX5_isNode 7 = .ok (.i2l, 1) := dk_133 (dk_at dksX5_isNode_0 7 rfl rfl)
theorem dX5_isNode_8 : decode cX5_isNode 8 = .ok (.invokestatic 138, 3) := dk_184 0 138 (dk_at dksX5_isNode_0 8 rfl rfl)
theorem dX5_isNode_11 : decode cX5_isNode 11 = .ok (.ifCond .eq 22, 3) := dk_153 0 22 (dk_at dksX5_isNode_0 11 rfl rfl)
theorem dX5_isNode_14 : decode cX5_isNode 14 = .ok (.iload_n 2, 1) := dk_28 (dk_at dksX5_isNode_0 14 rfl rfl)
theorem dX5_isNode_15 : decode cX5_isNode 15 = .ok (.i2l, 1) := dk_133 (dk_at dksX5_isNode_0 15 rfl rfl)
theorem dX5_isNode_16 : decode cX5_isNode 16 = .ok (.lconst 0, 1) := dk_9 (dk_at dksX5_isNode_0 16 rfl rfl)
theorem dX5_isNode_17 : decode cX5_isNode 17 = .ok (.iconst 1, 1) := dk_4 (dk_at dksX5_isNode_0 17 rfl rfl)
theorem dX5_isNode_18 : decode cX5_isNode 18 = .ok (.iload_n 1, 1) := dk_27 (dk_at dksX5_isNode_0 18 rfl rfl)
theorem dX5_isNode_19 : decode cX5_isNode 19 = .ok (.ishl, 1) := dk_120 (dk_at dksX5_isNode_0 19 rfl rfl)
theorem dX5_isNode_20 : decode cX5_isNode 20 = .ok (.iconst 1, 1) := dk_4 (dk_at dksX5_isNode_0 20 rfl rfl)
theorem dX5_isNode_21 : decode cX5_isNode 21 = .ok (.isub, 1) := dk_100 (dk_at dksX5_isNode_0 21 rfl rfl)
theorem dX5_isNode_22 : decode cX5_isNode 22 = .ok (.i2l, 1) := dk_133 (dk_at dksX5_isNode_0 22 rfl rfl)
theorem dX5_isNode_23 : decode cX5_isNode 23 = .ok (.invokestatic 138, 3) := dk_184 0 138 (dk_at dksX5_isNode_1 0 rfl rfl)
theorem dX5_isNode_26 : decode cX5_isNode 26 = .ok (.ifCond .eq 7, 3) := dk_153 0 7 (dk_at dksX5_isNode_1 3 rfl rfl)
theorem dX5_isNode_29 : decode cX5_isNode 29 = .ok (.iconst 1, 1) := dk_4 (dk_at dksX5_isNode_1 6 rfl rfl)
theorem dX5_isNode_30 : decode cX5_isNode 30 = .ok (.goto 4, 3) := dk_167 0 4 (dk_at dksX5_isNode_1 7 rfl rfl)
theorem dX5_isNode_33 : decode cX5_isNode 33 = .ok (.iconst 0, 1) := dk_3 (dk_at dksX5_isNode_1 10 rfl rfl)
theorem dX5_isNode_34 : decode cX5_isNode 34 = .ok (.ireturn, 1) := dk_172 (dk_at dksX5_isNode_1 11 rfl rfl)
abbrev cX5_cost : ByteArray := prog_11_method_36_code
def yX5_cost : MethodName := ⟨RX5, "cost", "()I"⟩
theorem dX5_cost_0 : decode cX5_cost 0 = .ok (.aload_n 0, 1) := by decide +kernel
theorem dX5_cost_1 : decode cX5_cost 1 = .ok (.invokevirtual 132, 3) := by decide +kernel
theorem dX5_cost_4 : decode cX5_cost 4 = .ok (.ireturn, 1) := by decide +kernel
abbrev cX5_costBy : ByteArray := prog_11_method_37_code
def yX5_costBy : MethodName := ⟨RX5, "costBy", "(II)I"⟩
def dkwX5_costBy_1 : List UInt8 := [42, 27, 28, 182, 0, 129, 167, 0, 9, 42, 16, 254, 182, 0, 142, 172]
abbrev dktX5_costBy_1 : List UInt8 := dkwX5_costBy_1 ++ []
def dkwX5_costBy_0 : List UInt8 := [27, 133, 9, 20, 0, 167, 184, 0, 138, 153, 0, 24, 28, 133, 9, 20, 0, 169, 184, 0, 138, 153, 0, 12]
abbrev dktX5_costBy_0 : List UInt8 := dkwX5_costBy_0 ++ dktX5_costBy_1
theorem dksX5_costBy_0 : cX5_costBy.data.toList.drop 0 = dktX5_costBy_0 := by decide +kernel
theorem dksX5_costBy_1 : cX5_costBy.data.toList.drop 24 = dktX5_costBy_1 := dk_seg dksX5_costBy_0 24 rfl rfl
theorem dX5_costBy_0 : decode cX5_costBy 0 = .ok (.iload_n 1, 1) := dk_27 (dk_at dksX5_costBy_0 0 rfl rfl)
theorem dX5_costBy_1 : decode cX5_costBy 1 = .ok (.i2l, 1) := dk_133 (dk_at dksX5_costBy_0 1 rfl rfl)
theorem dX5_costBy_2 : decode cX5_costBy 2 = .ok (.lconst 0, 1) := dk_9 (dk_at dksX5_costBy_0 2 rfl rfl)
theorem dX5_costBy_3 : decode cX5_costBy 3 = .ok (.ldc2_w 167, 3) := dk_20 0 167 (dk_at dksX5_costBy_0 3 rfl rfl)
theorem dX5_costBy_6 : decode cX5_costBy 6 = .ok (.invokestatic 138, 3) := dk_184 0 138 (dk_at dksX5_costBy_0 6 rfl rfl)
theorem dX5_costBy_9 : decode cX5_costBy 9 = .ok (.ifCond .eq 24, 3) := dk_153 0 24 (dk_at dksX5_costBy_0 9 rfl rfl)
theorem dX5_costBy_12 : decode cX5_costBy 12 = .ok (.iload_n 2, 1) := dk_28 (dk_at dksX5_costBy_0 12 rfl rfl)
theorem dX5_costBy_13 : decode cX5_costBy 13 = .ok (.i2l, 1) := dk_133 (dk_at dksX5_costBy_0 13 rfl rfl)
theorem dX5_costBy_14 : decode cX5_costBy 14 = .ok (.lconst 0, 1) := dk_9 (dk_at dksX5_costBy_0 14 rfl rfl)
theorem dX5_costBy_15 : decode cX5_costBy 15 = .ok (.ldc2_w 169, 3) := dk_20 0 169 (dk_at dksX5_costBy_0 15 rfl rfl)
theorem dX5_costBy_18 : decode cX5_costBy 18 = .ok (.invokestatic 138, 3) := dk_184 0 138 (dk_at dksX5_costBy_0 18 rfl rfl)
theorem dX5_costBy_21 : decode cX5_costBy 21 = .ok (.ifCond .eq 12, 3) := dk_153 0 12 (dk_at dksX5_costBy_0 21 rfl rfl)
theorem dX5_costBy_24 : decode cX5_costBy 24 = .ok (.aload_n 0, 1) := dk_42 (dk_at dksX5_costBy_1 0 rfl rfl)
theorem dX5_costBy_25 : decode cX5_costBy 25 = .ok (.iload_n 1, 1) := dk_27 (dk_at dksX5_costBy_1 1 rfl rfl)
theorem dX5_costBy_26 : decode cX5_costBy 26 = .ok (.iload_n 2, 1) := dk_28 (dk_at dksX5_costBy_1 2 rfl rfl)
theorem dX5_costBy_27 : decode cX5_costBy 27 = .ok (.invokevirtual 129, 3) := dk_182 0 129 (dk_at dksX5_costBy_1 3 rfl rfl)
theorem dX5_costBy_30 : decode cX5_costBy 30 = .ok (.goto 9, 3) := dk_167 0 9 (dk_at dksX5_costBy_1 6 rfl rfl)
theorem dX5_costBy_33 : decode cX5_costBy 33 = .ok (.aload_n 0, 1) := dk_42 (dk_at dksX5_costBy_1 9 rfl rfl)
theorem dX5_costBy_34 : decode cX5_costBy 34 = .ok (.bipush (-2), 2) := dk_16 254 (dk_at dksX5_costBy_1 10 rfl rfl)
theorem dX5_costBy_36 : decode cX5_costBy 36 = .ok (.invokevirtual 142, 3) := dk_182 0 142 (dk_at dksX5_costBy_1 12 rfl rfl)
theorem dX5_costBy_39 : decode cX5_costBy 39 = .ok (.ireturn, 1) := dk_172 (dk_at dksX5_costBy_1 15 rfl rfl)
abbrev cX5_best : ByteArray := prog_11_method_38_code
def yX5_best : MethodName := ⟨RX5, "best", "(I)I"⟩
def dkwX5_best_4 : List UInt8 := [4, 160, 0, 9, 28, 7, 112, 167, 0, 4, 29, 172]
abbrev dktX5_best_4 : List UInt8 := dkwX5_best_4 ++ []
def dkwX5_best_3 : List UInt8 := [21, 5, 167, 0, 4, 29, 62, 132, 4, 1, 167, 255, 206, 27, 154, 0, 9, 28, 7, 108, 167, 0, 15, 27]
abbrev dktX5_best_3 : List UInt8 := dkwX5_best_3 ++ dktX5_best_4
def dkwX5_best_2 : List UInt8 := [182, 0, 129, 54, 5, 21, 5, 29, 162, 0, 8, 21, 4, 167, 0, 4, 28, 61, 21, 5, 29, 162, 0, 8]
abbrev dktX5_best_2 : List UInt8 := dkwX5_best_2 ++ dktX5_best_3
def dkwX5_best_1 : List UInt8 := [182, 0, 129, 62, 4, 54, 4, 21, 4, 16, 28, 162, 0, 49, 42, 21, 4, 7, 108, 21, 4, 7, 112]
abbrev dktX5_best_1 : List UInt8 := dkwX5_best_1 ++ dktX5_best_2
def dkwX5_best_0 : List UInt8 := [27, 133, 9, 20, 0, 181, 184, 0, 138, 154, 0, 10, 42, 16, 254, 182, 0, 142, 172, 3, 61, 42, 3, 3]
abbrev dktX5_best_0 : List UInt8 := dkwX5_best_0 ++ dktX5_best_1
theorem dksX5_best_0 : cX5_best.data.toList.drop 0 = dktX5_best_0 := by decide +kernel
theorem dksX5_best_1 : cX5_best.data.toList.drop 24 = dktX5_best_1 := dk_seg dksX5_best_0 24 rfl rfl
theorem dksX5_best_2 : cX5_best.data.toList.drop 47 = dktX5_best_2 := dk_seg dksX5_best_1 23 rfl rfl
theorem dksX5_best_3 : cX5_best.data.toList.drop 71 = dktX5_best_3 := dk_seg dksX5_best_2 24 rfl rfl
theorem dksX5_best_4 : cX5_best.data.toList.drop 95 = dktX5_best_4 := dk_seg dksX5_best_3 24 rfl rfl
theorem dX5_best_0 : decode cX5_best 0 = .ok (.iload_n 1, 1) := dk_27 (dk_at dksX5_best_0 0 rfl rfl)
theorem dX5_best_1 : decode cX5_best 1 = .ok (.i2l, 1) := dk_133 (dk_at dksX5_best_0 1 rfl rfl)
theorem dX5_best_2 : decode cX5_best 2 = .ok (.lconst 0, 1) := dk_9 (dk_at dksX5_best_0 2 rfl rfl)
theorem dX5_best_3 : decode cX5_best 3 = .ok (.ldc2_w 181, 3) := dk_20 0 181 (dk_at dksX5_best_0 3 rfl rfl)
theorem dX5_best_6 : decode cX5_best 6 = .ok (.invokestatic 138, 3) := dk_184 0 138 (dk_at dksX5_best_0 6 rfl rfl)
theorem dX5_best_9 : decode cX5_best 9 = .ok (.ifCond .ne 10, 3) := dk_154 0 10 (dk_at dksX5_best_0 9 rfl rfl)
theorem dX5_best_12 : decode cX5_best 12 = .ok (.aload_n 0, 1) := dk_42 (dk_at dksX5_best_0 12 rfl rfl)
theorem dX5_best_13 : decode cX5_best 13 = .ok (.bipush (-2), 2) := dk_16 254 (dk_at dksX5_best_0 13 rfl rfl)
theorem dX5_best_15 : decode cX5_best 15 = .ok (.invokevirtual 142, 3) := dk_182 0 142 (dk_at dksX5_best_0 15 rfl rfl)
theorem dX5_best_18 : decode cX5_best 18 = .ok (.ireturn, 1) := dk_172 (dk_at dksX5_best_0 18 rfl rfl)
theorem dX5_best_19 : decode cX5_best 19 = .ok (.iconst 0, 1) := dk_3 (dk_at dksX5_best_0 19 rfl rfl)
theorem dX5_best_20 : decode cX5_best 20 = .ok (.istore_n 2, 1) := dk_61 (dk_at dksX5_best_0 20 rfl rfl)
theorem dX5_best_21 : decode cX5_best 21 = .ok (.aload_n 0, 1) := dk_42 (dk_at dksX5_best_0 21 rfl rfl)
theorem dX5_best_22 : decode cX5_best 22 = .ok (.iconst 0, 1) := dk_3 (dk_at dksX5_best_0 22 rfl rfl)
theorem dX5_best_23 : decode cX5_best 23 = .ok (.iconst 0, 1) := dk_3 (dk_at dksX5_best_0 23 rfl rfl)
theorem dX5_best_24 : decode cX5_best 24 = .ok (.invokevirtual 129, 3) := dk_182 0 129 (dk_at dksX5_best_1 0 rfl rfl)
theorem dX5_best_27 : decode cX5_best 27 = .ok (.istore_n 3, 1) := dk_62 (dk_at dksX5_best_1 3 rfl rfl)
theorem dX5_best_28 : decode cX5_best 28 = .ok (.iconst 1, 1) := dk_4 (dk_at dksX5_best_1 4 rfl rfl)
theorem dX5_best_29 : decode cX5_best 29 = .ok (.istore 4, 2) := dk_54 4 (dk_at dksX5_best_1 5 rfl rfl)
theorem dX5_best_31 : decode cX5_best 31 = .ok (.iload 4, 2) := dk_21 4 (dk_at dksX5_best_1 7 rfl rfl)
theorem dX5_best_33 : decode cX5_best 33 = .ok (.bipush 28, 2) := dk_16 28 (dk_at dksX5_best_1 9 rfl rfl)
theorem dX5_best_35 : decode cX5_best 35 = .ok (.if_icmp .ge 49, 3) := dk_162 0 49 (dk_at dksX5_best_1 11 rfl rfl)
theorem dX5_best_38 : decode cX5_best 38 = .ok (.aload_n 0, 1) := dk_42 (dk_at dksX5_best_1 14 rfl rfl)
theorem dX5_best_39 : decode cX5_best 39 = .ok (.iload 4, 2) := dk_21 4 (dk_at dksX5_best_1 15 rfl rfl)
theorem dX5_best_41 : decode cX5_best 41 = .ok (.iconst 4, 1) := dk_7 (dk_at dksX5_best_1 17 rfl rfl)
theorem dX5_best_42 : decode cX5_best 42 = .ok (.idiv, 1) := dk_108 (dk_at dksX5_best_1 18 rfl rfl)
theorem dX5_best_43 : decode cX5_best 43 = .ok (.iload 4, 2) := dk_21 4 (dk_at dksX5_best_1 19 rfl rfl)
theorem dX5_best_45 : decode cX5_best 45 = .ok (.iconst 4, 1) := dk_7 (dk_at dksX5_best_1 21 rfl rfl)
theorem dX5_best_46 : decode cX5_best 46 = .ok (.irem, 1) := dk_112 (dk_at dksX5_best_1 22 rfl rfl)
theorem dX5_best_47 : decode cX5_best 47 = .ok (.invokevirtual 129, 3) := dk_182 0 129 (dk_at dksX5_best_2 0 rfl rfl)
theorem dX5_best_50 : decode cX5_best 50 = .ok (.istore 5, 2) := dk_54 5 (dk_at dksX5_best_2 3 rfl rfl)
theorem dX5_best_52 : decode cX5_best 52 = .ok (.iload 5, 2) := dk_21 5 (dk_at dksX5_best_2 5 rfl rfl)
theorem dX5_best_54 : decode cX5_best 54 = .ok (.iload_n 3, 1) := dk_29 (dk_at dksX5_best_2 7 rfl rfl)
theorem dX5_best_55 : decode cX5_best 55 = .ok (.if_icmp .ge 8, 3) := dk_162 0 8 (dk_at dksX5_best_2 8 rfl rfl)
theorem dX5_best_58 : decode cX5_best 58 = .ok (.iload 4, 2) := dk_21 4 (dk_at dksX5_best_2 11 rfl rfl)
theorem dX5_best_60 : decode cX5_best 60 = .ok (.goto 4, 3) := dk_167 0 4 (dk_at dksX5_best_2 13 rfl rfl)
theorem dX5_best_63 : decode cX5_best 63 = .ok (.iload_n 2, 1) := dk_28 (dk_at dksX5_best_2 16 rfl rfl)
theorem dX5_best_64 : decode cX5_best 64 = .ok (.istore_n 2, 1) := dk_61 (dk_at dksX5_best_2 17 rfl rfl)
theorem dX5_best_65 : decode cX5_best 65 = .ok (.iload 5, 2) := dk_21 5 (dk_at dksX5_best_2 18 rfl rfl)
theorem dX5_best_67 : decode cX5_best 67 = .ok (.iload_n 3, 1) := dk_29 (dk_at dksX5_best_2 20 rfl rfl)
theorem dX5_best_68 : decode cX5_best 68 = .ok (.if_icmp .ge 8, 3) := dk_162 0 8 (dk_at dksX5_best_2 21 rfl rfl)
theorem dX5_best_71 : decode cX5_best 71 = .ok (.iload 5, 2) := dk_21 5 (dk_at dksX5_best_3 0 rfl rfl)
theorem dX5_best_73 : decode cX5_best 73 = .ok (.goto 4, 3) := dk_167 0 4 (dk_at dksX5_best_3 2 rfl rfl)
theorem dX5_best_76 : decode cX5_best 76 = .ok (.iload_n 3, 1) := dk_29 (dk_at dksX5_best_3 5 rfl rfl)
theorem dX5_best_77 : decode cX5_best 77 = .ok (.istore_n 3, 1) := dk_62 (dk_at dksX5_best_3 6 rfl rfl)
theorem dX5_best_78 : decode cX5_best 78 = .ok (.iinc 4 1, 3) := dk_132 4 1 (dk_at dksX5_best_3 7 rfl rfl)
theorem dX5_best_81 : decode cX5_best 81 = .ok (.goto (-50), 3) := dk_167 255 206 (dk_at dksX5_best_3 10 rfl rfl)
theorem dX5_best_84 : decode cX5_best 84 = .ok (.iload_n 1, 1) := dk_27 (dk_at dksX5_best_3 13 rfl rfl)
theorem dX5_best_85 : decode cX5_best 85 = .ok (.ifCond .ne 9, 3) := dk_154 0 9 (dk_at dksX5_best_3 14 rfl rfl)
theorem dX5_best_88 : decode cX5_best 88 = .ok (.iload_n 2, 1) := dk_28 (dk_at dksX5_best_3 17 rfl rfl)
theorem dX5_best_89 : decode cX5_best 89 = .ok (.iconst 4, 1) := dk_7 (dk_at dksX5_best_3 18 rfl rfl)
theorem dX5_best_90 : decode cX5_best 90 = .ok (.idiv, 1) := dk_108 (dk_at dksX5_best_3 19 rfl rfl)
theorem dX5_best_91 : decode cX5_best 91 = .ok (.goto 15, 3) := dk_167 0 15 (dk_at dksX5_best_3 20 rfl rfl)
theorem dX5_best_94 : decode cX5_best 94 = .ok (.iload_n 1, 1) := dk_27 (dk_at dksX5_best_3 23 rfl rfl)
theorem dX5_best_95 : decode cX5_best 95 = .ok (.iconst 1, 1) := dk_4 (dk_at dksX5_best_4 0 rfl rfl)
theorem dX5_best_96 : decode cX5_best 96 = .ok (.if_icmp .ne 9, 3) := dk_160 0 9 (dk_at dksX5_best_4 1 rfl rfl)
theorem dX5_best_99 : decode cX5_best 99 = .ok (.iload_n 2, 1) := dk_28 (dk_at dksX5_best_4 4 rfl rfl)
theorem dX5_best_100 : decode cX5_best 100 = .ok (.iconst 4, 1) := dk_7 (dk_at dksX5_best_4 5 rfl rfl)
theorem dX5_best_101 : decode cX5_best 101 = .ok (.irem, 1) := dk_112 (dk_at dksX5_best_4 6 rfl rfl)
theorem dX5_best_102 : decode cX5_best 102 = .ok (.goto 4, 3) := dk_167 0 4 (dk_at dksX5_best_4 7 rfl rfl)
theorem dX5_best_105 : decode cX5_best 105 = .ok (.iload_n 3, 1) := dk_29 (dk_at dksX5_best_4 10 rfl rfl)
theorem dX5_best_106 : decode cX5_best 106 = .ok (.ireturn, 1) := dk_172 (dk_at dksX5_best_4 11 rfl rfl)
abbrev cX5_follows : ByteArray := prog_11_method_39_code
def yX5_follows : MethodName := ⟨RX5, "follows", "(I)I"⟩
def dkwX5_follows_3 : List UInt8 := [167, 255, 217, 28, 172]
abbrev dktX5_follows_3 : List UInt8 := dkwX5_follows_3 ++ []
def dkwX5_follows_2 : List UInt8 := [167, 0, 4, 3, 54, 5, 28, 21, 5, 21, 4, 120, 128, 61, 42, 21, 5, 182, 0, 119, 132, 4, 1]
abbrev dktX5_follows_2 : List UInt8 := dkwX5_follows_2 ++ dktX5_follows_3
def dkwX5_follows_1 : List UInt8 := [182, 0, 132, 62, 3, 54, 4, 21, 4, 27, 162, 0, 39, 42, 182, 0, 116, 18, 78, 161, 0, 7, 4]
abbrev dktX5_follows_1 : List UInt8 := dkwX5_follows_1 ++ dktX5_follows_2
def dkwX5_follows_0 : List UInt8 := [27, 133, 10, 20, 0, 183, 184, 0, 138, 154, 0, 10, 42, 16, 254, 182, 0, 142, 172, 3, 61, 42]
abbrev dktX5_follows_0 : List UInt8 := dkwX5_follows_0 ++ dktX5_follows_1
theorem dksX5_follows_0 : cX5_follows.data.toList.drop 0 = dktX5_follows_0 := by decide +kernel
theorem dksX5_follows_1 : cX5_follows.data.toList.drop 22 = dktX5_follows_1 := dk_seg dksX5_follows_0 22 rfl rfl
theorem dksX5_follows_2 : cX5_follows.data.toList.drop 45 = dktX5_follows_2 := dk_seg dksX5_follows_1 23 rfl rfl
theorem dksX5_follows_3 : cX5_follows.data.toList.drop 68 = dktX5_follows_3 := dk_seg dksX5_follows_2 23 rfl rfl
theorem dX5_follows_0 : decode cX5_follows 0 = .ok (.iload_n 1, 1) := dk_27 (dk_at dksX5_follows_0 0 rfl rfl)
theorem dX5_follows_1 : decode cX5_follows 1 = .ok (.i2l, 1) := dk_133 (dk_at dksX5_follows_0 1 rfl rfl)
theorem dX5_follows_2 : decode cX5_follows 2 = .ok (.lconst 1, 1) := dk_10 (dk_at dksX5_follows_0 2 rfl rfl)
theorem dX5_follows_3 : decode cX5_follows 3 = .ok (.ldc2_w 183, 3) := dk_20 0 183 (dk_at dksX5_follows_0 3 rfl rfl)
theorem dX5_follows_6 : decode cX5_follows 6 = .ok (.invokestatic 138, 3) := dk_184 0 138 (dk_at dksX5_follows_0 6 rfl rfl)
theorem dX5_follows_9 : decode cX5_follows 9 = .ok (.ifCond .ne 10, 3) := dk_154 0 10 (dk_at dksX5_follows_0 9 rfl rfl)
theorem dX5_follows_12 : decode cX5_follows 12 = .ok (.aload_n 0, 1) := dk_42 (dk_at dksX5_follows_0 12 rfl rfl)
theorem dX5_follows_13 : decode cX5_follows 13 = .ok (.bipush (-2), 2) := dk_16 254 (dk_at dksX5_follows_0 13 rfl rfl)
theorem dX5_follows_15 : decode cX5_follows 15 = .ok (.invokevirtual 142, 3) := dk_182 0 142 (dk_at dksX5_follows_0 15 rfl rfl)
theorem dX5_follows_18 : decode cX5_follows 18 = .ok (.ireturn, 1) := dk_172 (dk_at dksX5_follows_0 18 rfl rfl)
theorem dX5_follows_19 : decode cX5_follows 19 = .ok (.iconst 0, 1) := dk_3 (dk_at dksX5_follows_0 19 rfl rfl)
theorem dX5_follows_20 : decode cX5_follows 20 = .ok (.istore_n 2, 1) := dk_61 (dk_at dksX5_follows_0 20 rfl rfl)
theorem dX5_follows_21 : decode cX5_follows 21 = .ok (.aload_n 0, 1) := dk_42 (dk_at dksX5_follows_0 21 rfl rfl)
theorem dX5_follows_22 : decode cX5_follows 22 = .ok (.invokevirtual 132, 3) := dk_182 0 132 (dk_at dksX5_follows_1 0 rfl rfl)
theorem dX5_follows_25 : decode cX5_follows 25 = .ok (.istore_n 3, 1) := dk_62 (dk_at dksX5_follows_1 3 rfl rfl)
theorem dX5_follows_26 : decode cX5_follows 26 = .ok (.iconst 0, 1) := dk_3 (dk_at dksX5_follows_1 4 rfl rfl)
theorem dX5_follows_27 : decode cX5_follows 27 = .ok (.istore 4, 2) := dk_54 4 (dk_at dksX5_follows_1 5 rfl rfl)
theorem dX5_follows_29 : decode cX5_follows 29 = .ok (.iload 4, 2) := dk_21 4 (dk_at dksX5_follows_1 7 rfl rfl)
theorem dX5_follows_31 : decode cX5_follows 31 = .ok (.iload_n 1, 1) := dk_27 (dk_at dksX5_follows_1 9 rfl rfl)
theorem dX5_follows_32 : decode cX5_follows 32 = .ok (.if_icmp .ge 39, 3) := dk_162 0 39 (dk_at dksX5_follows_1 10 rfl rfl)
theorem dX5_follows_35 : decode cX5_follows 35 = .ok (.aload_n 0, 1) := dk_42 (dk_at dksX5_follows_1 13 rfl rfl)
theorem dX5_follows_36 : decode cX5_follows 36 = .ok (.invokevirtual 116, 3) := dk_182 0 116 (dk_at dksX5_follows_1 14 rfl rfl)
theorem dX5_follows_39 : decode cX5_follows 39 = .ok (.ldc 78, 2) := dk_18 78 (dk_at dksX5_follows_1 17 rfl rfl)
theorem dX5_follows_41 : decode cX5_follows 41 = .ok (.if_icmp .lt 7, 3) := dk_161 0 7 (dk_at dksX5_follows_1 19 rfl rfl)
theorem dX5_follows_44 : decode cX5_follows 44 = .ok (.iconst 1, 1) := dk_4 (dk_at dksX5_follows_1 22 rfl rfl)
theorem dX5_follows_45 : decode cX5_follows 45 = .ok (.goto 4, 3) := dk_167 0 4 (dk_at dksX5_follows_2 0 rfl rfl)
theorem dX5_follows_48 : decode cX5_follows 48 = .ok (.iconst 0, 1) := dk_3 (dk_at dksX5_follows_2 3 rfl rfl)
theorem dX5_follows_49 : decode cX5_follows 49 = .ok (.istore 5, 2) := dk_54 5 (dk_at dksX5_follows_2 4 rfl rfl)
theorem dX5_follows_51 : decode cX5_follows 51 = .ok (.iload_n 2, 1) := dk_28 (dk_at dksX5_follows_2 6 rfl rfl)
theorem dX5_follows_52 : decode cX5_follows 52 = .ok (.iload 5, 2) := dk_21 5 (dk_at dksX5_follows_2 7 rfl rfl)
theorem dX5_follows_54 : decode cX5_follows 54 = .ok (.iload 4, 2) := dk_21 4 (dk_at dksX5_follows_2 9 rfl rfl)
theorem dX5_follows_56 : decode cX5_follows 56 = .ok (.ishl, 1) := dk_120 (dk_at dksX5_follows_2 11 rfl rfl)
theorem dX5_follows_57 : decode cX5_follows 57 = .ok (.ior, 1) := dk_128 (dk_at dksX5_follows_2 12 rfl rfl)
theorem dX5_follows_58 : decode cX5_follows 58 = .ok (.istore_n 2, 1) := dk_61 (dk_at dksX5_follows_2 13 rfl rfl)
theorem dX5_follows_59 : decode cX5_follows 59 = .ok (.aload_n 0, 1) := dk_42 (dk_at dksX5_follows_2 14 rfl rfl)
theorem dX5_follows_60 : decode cX5_follows 60 = .ok (.iload 5, 2) := dk_21 5 (dk_at dksX5_follows_2 15 rfl rfl)
theorem dX5_follows_62 : decode cX5_follows 62 = .ok (.invokevirtual 119, 3) := dk_182 0 119 (dk_at dksX5_follows_2 17 rfl rfl)
theorem dX5_follows_65 : decode cX5_follows 65 = .ok (.iinc 4 1, 3) := dk_132 4 1 (dk_at dksX5_follows_2 20 rfl rfl)
theorem dX5_follows_68 : decode cX5_follows 68 = .ok (.goto (-39), 3) := dk_167 255 217 (dk_at dksX5_follows_3 0 rfl rfl)
theorem dX5_follows_71 : decode cX5_follows 71 = .ok (.iload_n 2, 1) := dk_28 (dk_at dksX5_follows_3 3 rfl rfl)
theorem dX5_follows_72 : decode cX5_follows 72 = .ok (.ireturn, 1) := dk_172 (dk_at dksX5_follows_3 4 rfl rfl)
abbrev cX5_tree : ByteArray := prog_11_method_43_code
def yX5_tree : MethodName := ⟨RX5, "tree", "(I)I"⟩
def dkwX5_tree_1 : List UInt8 := [182, 0, 142, 172]
abbrev dktX5_tree_1 : List UInt8 := dkwX5_tree_1 ++ []
def dkwX5_tree_0 : List UInt8 := [27, 133, 9, 20, 0, 181, 184, 0, 138, 153, 0, 11, 42, 27, 182, 0, 192, 167, 0, 9, 42, 16, 254]
abbrev dktX5_tree_0 : List UInt8 := dkwX5_tree_0 ++ dktX5_tree_1
theorem dksX5_tree_0 : cX5_tree.data.toList.drop 0 = dktX5_tree_0 := by decide +kernel
theorem dksX5_tree_1 : cX5_tree.data.toList.drop 23 = dktX5_tree_1 := dk_seg dksX5_tree_0 23 rfl rfl
theorem dX5_tree_0 : decode cX5_tree 0 = .ok (.iload_n 1, 1) := dk_27 (dk_at dksX5_tree_0 0 rfl rfl)
theorem dX5_tree_1 : decode cX5_tree 1 = .ok (.i2l, 1) := dk_133 (dk_at dksX5_tree_0 1 rfl rfl)
theorem dX5_tree_2 : decode cX5_tree 2 = .ok (.lconst 0, 1) := dk_9 (dk_at dksX5_tree_0 2 rfl rfl)
theorem dX5_tree_3 : decode cX5_tree 3 = .ok (.ldc2_w 181, 3) := dk_20 0 181 (dk_at dksX5_tree_0 3 rfl rfl)
theorem dX5_tree_6 : decode cX5_tree 6 = .ok (.invokestatic 138, 3) := dk_184 0 138 (dk_at dksX5_tree_0 6 rfl rfl)
theorem dX5_tree_9 : decode cX5_tree 9 = .ok (.ifCond .eq 11, 3) := dk_153 0 11 (dk_at dksX5_tree_0 9 rfl rfl)
theorem dX5_tree_12 : decode cX5_tree 12 = .ok (.aload_n 0, 1) := dk_42 (dk_at dksX5_tree_0 12 rfl rfl)
theorem dX5_tree_13 : decode cX5_tree 13 = .ok (.iload_n 1, 1) := dk_27 (dk_at dksX5_tree_0 13 rfl rfl)
theorem dX5_tree_14 : decode cX5_tree 14 = .ok (.invokevirtual 192, 3) := dk_182 0 192 (dk_at dksX5_tree_0 14 rfl rfl)
theorem dX5_tree_17 : decode cX5_tree 17 = .ok (.goto 9, 3) := dk_167 0 9 (dk_at dksX5_tree_0 17 rfl rfl)
theorem dX5_tree_20 : decode cX5_tree 20 = .ok (.aload_n 0, 1) := dk_42 (dk_at dksX5_tree_0 20 rfl rfl)
theorem dX5_tree_21 : decode cX5_tree 21 = .ok (.bipush (-2), 2) := dk_16 254 (dk_at dksX5_tree_0 21 rfl rfl)
theorem dX5_tree_23 : decode cX5_tree 23 = .ok (.invokevirtual 142, 3) := dk_182 0 142 (dk_at dksX5_tree_1 0 rfl rfl)
theorem dX5_tree_26 : decode cX5_tree 26 = .ok (.ireturn, 1) := dk_172 (dk_at dksX5_tree_1 3 rfl rfl)
abbrev cX5_treeOf : ByteArray := prog_11_method_42_code
def yX5_treeOf : MethodName := ⟨RX5, "treeOf", "(I)I"⟩
def dkwX5_treeOf_1 : List UInt8 := [167, 0, 4, 3, 182, 0, 188, 172]
abbrev dktX5_treeOf_1 : List UInt8 := dkwX5_treeOf_1 ++ []
def dkwX5_treeOf_0 : List UInt8 := [42, 182, 0, 185, 27, 154, 0, 12, 42, 180, 0, 46, 3, 46, 167, 0, 17, 42, 27, 5, 160, 0, 7, 4]
abbrev dktX5_treeOf_0 : List UInt8 := dkwX5_treeOf_0 ++ dktX5_treeOf_1
theorem dksX5_treeOf_0 : cX5_treeOf.data.toList.drop 0 = dktX5_treeOf_0 := by decide +kernel
theorem dksX5_treeOf_1 : cX5_treeOf.data.toList.drop 24 = dktX5_treeOf_1 := dk_seg dksX5_treeOf_0 24 rfl rfl
theorem dX5_treeOf_0 : decode cX5_treeOf 0 = .ok (.aload_n 0, 1) := dk_42 (dk_at dksX5_treeOf_0 0 rfl rfl)
theorem dX5_treeOf_1 : decode cX5_treeOf 1 = .ok (.invokevirtual 185, 3) := dk_182 0 185 (dk_at dksX5_treeOf_0 1 rfl rfl)
theorem dX5_treeOf_4 : decode cX5_treeOf 4 = .ok (.iload_n 1, 1) := dk_27 (dk_at dksX5_treeOf_0 4 rfl rfl)
theorem dX5_treeOf_5 : decode cX5_treeOf 5 = .ok (.ifCond .ne 12, 3) := dk_154 0 12 (dk_at dksX5_treeOf_0 5 rfl rfl)
theorem dX5_treeOf_8 : decode cX5_treeOf 8 = .ok (.aload_n 0, 1) := dk_42 (dk_at dksX5_treeOf_0 8 rfl rfl)
theorem dX5_treeOf_9 : decode cX5_treeOf 9 = .ok (.getfield 46, 3) := dk_180 0 46 (dk_at dksX5_treeOf_0 9 rfl rfl)
theorem dX5_treeOf_12 : decode cX5_treeOf 12 = .ok (.iconst 0, 1) := dk_3 (dk_at dksX5_treeOf_0 12 rfl rfl)
theorem dX5_treeOf_13 : decode cX5_treeOf 13 = .ok (.iaload, 1) := dk_46 (dk_at dksX5_treeOf_0 13 rfl rfl)
theorem dX5_treeOf_14 : decode cX5_treeOf 14 = .ok (.goto 17, 3) := dk_167 0 17 (dk_at dksX5_treeOf_0 14 rfl rfl)
theorem dX5_treeOf_17 : decode cX5_treeOf 17 = .ok (.aload_n 0, 1) := dk_42 (dk_at dksX5_treeOf_0 17 rfl rfl)
theorem dX5_treeOf_18 : decode cX5_treeOf 18 = .ok (.iload_n 1, 1) := dk_27 (dk_at dksX5_treeOf_0 18 rfl rfl)
theorem dX5_treeOf_19 : decode cX5_treeOf 19 = .ok (.iconst 2, 1) := dk_5 (dk_at dksX5_treeOf_0 19 rfl rfl)
theorem dX5_treeOf_20 : decode cX5_treeOf 20 = .ok (.if_icmp .ne 7, 3) := dk_160 0 7 (dk_at dksX5_treeOf_0 20 rfl rfl)
theorem dX5_treeOf_23 : decode cX5_treeOf 23 = .ok (.iconst 1, 1) := dk_4 (dk_at dksX5_treeOf_0 23 rfl rfl)
theorem dX5_treeOf_24 : decode cX5_treeOf 24 = .ok (.goto 4, 3) := dk_167 0 4 (dk_at dksX5_treeOf_1 0 rfl rfl)
theorem dX5_treeOf_27 : decode cX5_treeOf 27 = .ok (.iconst 0, 1) := dk_3 (dk_at dksX5_treeOf_1 3 rfl rfl)
theorem dX5_treeOf_28 : decode cX5_treeOf 28 = .ok (.invokevirtual 188, 3) := dk_182 0 188 (dk_at dksX5_treeOf_1 4 rfl rfl)
theorem dX5_treeOf_31 : decode cX5_treeOf 31 = .ok (.ireturn, 1) := dk_172 (dk_at dksX5_treeOf_1 7 rfl rfl)
abbrev cX5_plants : ByteArray := prog_11_method_40_code
def yX5_plants : MethodName := ⟨RX5, "plants", "()V"⟩
def dkwX5_plants_11 : List UInt8 := [167, 0, 4, 5, 79, 132, 3, 1, 167, 255, 174, 132, 2, 1, 167, 255, 158, 177]
abbrev dktX5_plants_11 : List UInt8 := dkwX5_plants_11 ++ []
def dkwX5_plants_10 : List UInt8 := [21, 4, 154, 0, 7, 3, 167, 0, 21, 42, 180, 0, 49, 28, 29, 184, 0, 88, 51, 153, 0, 7, 4]
abbrev dktX5_plants_10 : List UInt8 := dkwX5_plants_10 ++ dktX5_plants_11
def dkwX5_plants_9 : List UInt8 := [184, 0, 88, 46, 5, 160, 0, 7, 4, 167, 0, 4, 3, 54, 4, 42, 180, 0, 53, 28, 29, 184, 0, 88]
abbrev dktX5_plants_9 : List UInt8 := dkwX5_plants_9 ++ dktX5_plants_10
def dkwX5_plants_8 : List UInt8 := [162, 0, 81, 28, 153, 0, 27, 42, 180, 0, 53, 28, 4, 100, 29, 4, 28, 4, 100, 120, 4, 100, 126]
abbrev dktX5_plants_8 : List UInt8 := dkwX5_plants_8 ++ dktX5_plants_9
def dkwX5_plants_7 : List UInt8 := [132, 2, 255, 167, 255, 102, 3, 61, 28, 42, 182, 0, 123, 163, 0, 96, 3, 62, 29, 4, 28, 120]
abbrev dktX5_plants_7 : List UInt8 := dkwX5_plants_7 ++ dktX5_plants_8
def dkwX5_plants_6 : List UInt8 := [167, 0, 5, 21, 6, 21, 5, 153, 0, 7, 3, 167, 0, 5, 16, 8, 96, 79, 132, 3, 1, 167, 255, 114]
abbrev dktX5_plants_6 : List UInt8 := dkwX5_plants_6 ++ dktX5_plants_7
def dkwX5_plants_5 : List UInt8 := [180, 0, 46, 21, 4, 42, 180, 0, 49, 21, 4, 51, 153, 0, 13, 42, 180, 0, 31, 21, 4, 46]
abbrev dktX5_plants_5 : List UInt8 := dkwX5_plants_5 ++ dktX5_plants_6
def dkwX5_plants_4 : List UInt8 := [154, 0, 15, 42, 180, 0, 31, 21, 4, 46, 21, 6, 163, 0, 7, 4, 167, 0, 4, 3, 84, 42]
abbrev dktX5_plants_4 : List UInt8 := dkwX5_plants_4 ++ dktX5_plants_5
def dkwX5_plants_3 : List UInt8 := [4, 96, 29, 4, 28, 120, 96, 184, 0, 88, 46, 96, 54, 6, 42, 180, 0, 49, 21, 4, 21, 5]
abbrev dktX5_plants_3 : List UInt8 := dkwX5_plants_3 ++ dktX5_plants_4
def dkwX5_plants_2 : List UInt8 := [153, 0, 7, 3, 167, 0, 32, 42, 180, 0, 46, 28, 4, 96, 29, 184, 0, 88, 46, 42, 180, 0, 46, 28]
abbrev dktX5_plants_2 : List UInt8 := dkwX5_plants_2 ++ dktX5_plants_3
def dkwX5_plants_1 : List UInt8 := [29, 184, 0, 88, 54, 4, 28, 42, 182, 0, 123, 160, 0, 7, 4, 167, 0, 4, 3, 54, 5, 21, 5]
abbrev dktX5_plants_1 : List UInt8 := dkwX5_plants_1 ++ dktX5_plants_2
def dkwX5_plants_0 : List UInt8 := [42, 182, 0, 132, 60, 42, 182, 0, 123, 61, 28, 155, 0, 156, 3, 62, 29, 4, 28, 120, 162, 0, 141, 28]
abbrev dktX5_plants_0 : List UInt8 := dkwX5_plants_0 ++ dktX5_plants_1
theorem dksX5_plants_0 : cX5_plants.data.toList.drop 0 = dktX5_plants_0 := by decide +kernel
theorem dksX5_plants_1 : cX5_plants.data.toList.drop 24 = dktX5_plants_1 := dk_seg dksX5_plants_0 24 rfl rfl
theorem dksX5_plants_2 : cX5_plants.data.toList.drop 47 = dktX5_plants_2 := dk_seg dksX5_plants_1 23 rfl rfl
theorem dksX5_plants_3 : cX5_plants.data.toList.drop 71 = dktX5_plants_3 := dk_seg dksX5_plants_2 24 rfl rfl
theorem dksX5_plants_4 : cX5_plants.data.toList.drop 93 = dktX5_plants_4 := dk_seg dksX5_plants_3 22 rfl rfl
theorem dksX5_plants_5 : cX5_plants.data.toList.drop 115 = dktX5_plants_5 := dk_seg dksX5_plants_4 22 rfl rfl
theorem dksX5_plants_6 : cX5_plants.data.toList.drop 137 = dktX5_plants_6 := dk_seg dksX5_plants_5 22 rfl rfl
theorem dksX5_plants_7 : cX5_plants.data.toList.drop 161 = dktX5_plants_7 := dk_seg dksX5_plants_6 24 rfl rfl
theorem dksX5_plants_8 : cX5_plants.data.toList.drop 183 = dktX5_plants_8 := dk_seg dksX5_plants_7 22 rfl rfl
theorem dksX5_plants_9 : cX5_plants.data.toList.drop 206 = dktX5_plants_9 := dk_seg dksX5_plants_8 23 rfl rfl
theorem dksX5_plants_10 : cX5_plants.data.toList.drop 230 = dktX5_plants_10 := dk_seg dksX5_plants_9 24 rfl rfl
theorem dksX5_plants_11 : cX5_plants.data.toList.drop 253 = dktX5_plants_11 := dk_seg dksX5_plants_10 23 rfl rfl
theorem dX5_plants_0 : decode cX5_plants 0 = .ok (.aload_n 0, 1) := dk_42 (dk_at dksX5_plants_0 0 rfl rfl)
theorem dX5_plants_1 : decode cX5_plants 1 = .ok (.invokevirtual 132, 3) := dk_182 0 132 (dk_at dksX5_plants_0 1 rfl rfl)
theorem dX5_plants_4 : decode cX5_plants 4 = .ok (.istore_n 1, 1) := dk_60 (dk_at dksX5_plants_0 4 rfl rfl)
theorem dX5_plants_5 : decode cX5_plants 5 = .ok (.aload_n 0, 1) := dk_42 (dk_at dksX5_plants_0 5 rfl rfl)
theorem dX5_plants_6 : decode cX5_plants 6 = .ok (.invokevirtual 123, 3) := dk_182 0 123 (dk_at dksX5_plants_0 6 rfl rfl)
theorem dX5_plants_9 : decode cX5_plants 9 = .ok (.istore_n 2, 1) := dk_61 (dk_at dksX5_plants_0 9 rfl rfl)
theorem dX5_plants_10 : decode cX5_plants 10 = .ok (.iload_n 2, 1) := dk_28 (dk_at dksX5_plants_0 10 rfl rfl)
theorem dX5_plants_11 : decode cX5_plants 11 = .ok (.ifCond .lt 156, 3) := dk_155 0 156 (dk_at dksX5_plants_0 11 rfl rfl)
theorem dX5_plants_14 : decode cX5_plants 14 = .ok (.iconst 0, 1) := dk_3 (dk_at dksX5_plants_0 14 rfl rfl)
theorem dX5_plants_15 : decode cX5_plants 15 = .ok (.istore_n 3, 1) := dk_62 (dk_at dksX5_plants_0 15 rfl rfl)
theorem dX5_plants_16 : decode cX5_plants 16 = .ok (.iload_n 3, 1) := dk_29 (dk_at dksX5_plants_0 16 rfl rfl)
theorem dX5_plants_17 : decode cX5_plants 17 = .ok (.iconst 1, 1) := dk_4 (dk_at dksX5_plants_0 17 rfl rfl)
theorem dX5_plants_18 : decode cX5_plants 18 = .ok (.iload_n 2, 1) := dk_28 (dk_at dksX5_plants_0 18 rfl rfl)
theorem dX5_plants_19 : decode cX5_plants 19 = .ok (.ishl, 1) := dk_120 (dk_at dksX5_plants_0 19 rfl rfl)
theorem dX5_plants_20 : decode cX5_plants 20 = .ok (.if_icmp .ge 141, 3) := dk_162 0 141 (dk_at dksX5_plants_0 20 rfl rfl)
theorem dX5_plants_23 : decode cX5_plants 23 = .ok (.iload_n 2, 1) := dk_28 (dk_at dksX5_plants_0 23 rfl rfl)
theorem dX5_plants_24 : decode cX5_plants 24 = .ok (.iload_n 3, 1) := dk_29 (dk_at dksX5_plants_1 0 rfl rfl)
theorem dX5_plants_25 : decode cX5_plants 25 = .ok (.invokestatic 88, 3) := dk_184 0 88 (dk_at dksX5_plants_1 1 rfl rfl)
theorem dX5_plants_28 : decode cX5_plants 28 = .ok (.istore 4, 2) := dk_54 4 (dk_at dksX5_plants_1 4 rfl rfl)
theorem dX5_plants_30 : decode cX5_plants 30 = .ok (.iload_n 2, 1) := dk_28 (dk_at dksX5_plants_1 6 rfl rfl)
theorem dX5_plants_31 : decode cX5_plants 31 = .ok (.aload_n 0, 1) := dk_42 (dk_at dksX5_plants_1 7 rfl rfl)
theorem dX5_plants_32 : decode cX5_plants 32 = .ok (.invokevirtual 123, 3) := dk_182 0 123 (dk_at dksX5_plants_1 8 rfl rfl)
theorem dX5_plants_35 : decode cX5_plants 35 = .ok (.if_icmp .ne 7, 3) := dk_160 0 7 (dk_at dksX5_plants_1 11 rfl rfl)
theorem dX5_plants_38 : decode cX5_plants 38 = .ok (.iconst 1, 1) := dk_4 (dk_at dksX5_plants_1 14 rfl rfl)
theorem dX5_plants_39 : decode cX5_plants 39 = .ok (.goto 4, 3) := dk_167 0 4 (dk_at dksX5_plants_1 15 rfl rfl)
theorem dX5_plants_42 : decode cX5_plants 42 = .ok (.iconst 0, 1) := dk_3 (dk_at dksX5_plants_1 18 rfl rfl)
theorem dX5_plants_43 : decode cX5_plants 43 = .ok (.istore 5, 2) := dk_54 5 (dk_at dksX5_plants_1 19 rfl rfl)
theorem dX5_plants_45 : decode cX5_plants 45 = .ok (.iload 5, 2) := dk_21 5 (dk_at dksX5_plants_1 21 rfl rfl)
theorem dX5_plants_47 : decode cX5_plants 47 = .ok (.ifCond .eq 7, 3) := dk_153 0 7 (dk_at dksX5_plants_2 0 rfl rfl)
theorem dX5_plants_50 : decode cX5_plants 50 = .ok (.iconst 0, 1) := dk_3 (dk_at dksX5_plants_2 3 rfl rfl)
theorem dX5_plants_51 : decode cX5_plants 51 = .ok (.goto 32, 3) := dk_167 0 32 (dk_at dksX5_plants_2 4 rfl rfl)
theorem dX5_plants_54 : decode cX5_plants 54 = .ok (.aload_n 0, 1) := dk_42 (dk_at dksX5_plants_2 7 rfl rfl)
theorem dX5_plants_55 : decode cX5_plants 55 = .ok (.getfield 46, 3) := dk_180 0 46 (dk_at dksX5_plants_2 8 rfl rfl)
theorem dX5_plants_58 : decode cX5_plants 58 = .ok (.iload_n 2, 1) := dk_28 (dk_at dksX5_plants_2 11 rfl rfl)
theorem dX5_plants_59 : decode cX5_plants 59 = .ok (.iconst 1, 1) := dk_4 (dk_at dksX5_plants_2 12 rfl rfl)
theorem dX5_plants_60 : decode cX5_plants 60 = .ok (.iadd, 1) := dk_96 (dk_at dksX5_plants_2 13 rfl rfl)
theorem dX5_plants_61 : decode cX5_plants 61 = .ok (.iload_n 3, 1) := dk_29 (dk_at dksX5_plants_2 14 rfl rfl)
theorem dX5_plants_62 : decode cX5_plants 62 = .ok (.invokestatic 88, 3) := dk_184 0 88 (dk_at dksX5_plants_2 15 rfl rfl)
theorem dX5_plants_65 : decode cX5_plants 65 = .ok (.iaload, 1) := dk_46 (dk_at dksX5_plants_2 18 rfl rfl)
theorem dX5_plants_66 : decode cX5_plants 66 = .ok (.aload_n 0, 1) := dk_42 (dk_at dksX5_plants_2 19 rfl rfl)
theorem dX5_plants_67 : decode cX5_plants 67 = .ok (.getfield 46, 3) := dk_180 0 46 (dk_at dksX5_plants_2 20 rfl rfl)
theorem dX5_plants_70 : decode cX5_plants 70 = .ok (.iload_n 2, 1) := dk_28 (dk_at dksX5_plants_2 23 rfl rfl)
theorem dX5_plants_71 : decode cX5_plants 71 = .ok (.iconst 1, 1) := dk_4 (dk_at dksX5_plants_3 0 rfl rfl)
theorem dX5_plants_72 : decode cX5_plants 72 = .ok (.iadd, 1) := dk_96 (dk_at dksX5_plants_3 1 rfl rfl)
theorem dX5_plants_73 : decode cX5_plants 73 = .ok (.iload_n 3, 1) := dk_29 (dk_at dksX5_plants_3 2 rfl rfl)
theorem dX5_plants_74 : decode cX5_plants 74 = .ok (.iconst 1, 1) := dk_4 (dk_at dksX5_plants_3 3 rfl rfl)
theorem dX5_plants_75 : decode cX5_plants 75 = .ok (.iload_n 2, 1) := dk_28 (dk_at dksX5_plants_3 4 rfl rfl)
theorem dX5_plants_76 : decode cX5_plants 76 = .ok (.ishl, 1) := dk_120 (dk_at dksX5_plants_3 5 rfl rfl)
theorem dX5_plants_77 : decode cX5_plants 77 = .ok (.iadd, 1) := dk_96 (dk_at dksX5_plants_3 6 rfl rfl)
theorem dX5_plants_78 : decode cX5_plants 78 = .ok (.invokestatic 88, 3) := dk_184 0 88 (dk_at dksX5_plants_3 7 rfl rfl)
theorem dX5_plants_81 : decode cX5_plants 81 = .ok (.iaload, 1) := dk_46 (dk_at dksX5_plants_3 10 rfl rfl)
theorem dX5_plants_82 : decode cX5_plants 82 = .ok (.iadd, 1) := dk_96 (dk_at dksX5_plants_3 11 rfl rfl)
theorem dX5_plants_83 : decode cX5_plants 83 = .ok (.istore 6, 2) := dk_54 6 (dk_at dksX5_plants_3 12 rfl rfl)
theorem dX5_plants_85 : decode cX5_plants 85 = .ok (.aload_n 0, 1) := dk_42 (dk_at dksX5_plants_3 14 rfl rfl)
theorem dX5_plants_86 : decode cX5_plants 86 = .ok (.getfield 49, 3) := dk_180 0 49 (dk_at dksX5_plants_3 15 rfl rfl)
theorem dX5_plants_89 : decode cX5_plants 89 = .ok (.iload 4, 2) := dk_21 4 (dk_at dksX5_plants_3 18 rfl rfl)
theorem dX5_plants_91 : decode cX5_plants 91 = .ok (.iload 5, 2) := dk_21 5 (dk_at dksX5_plants_3 20 rfl rfl)
theorem dX5_plants_93 : decode cX5_plants 93 = .ok (.ifCond .ne 15, 3) := dk_154 0 15 (dk_at dksX5_plants_4 0 rfl rfl)
theorem dX5_plants_96 : decode cX5_plants 96 = .ok (.aload_n 0, 1) := dk_42 (dk_at dksX5_plants_4 3 rfl rfl)
theorem dX5_plants_97 : decode cX5_plants 97 = .ok (.getfield 31, 3) := dk_180 0 31 (dk_at dksX5_plants_4 4 rfl rfl)
theorem dX5_plants_100 : decode cX5_plants 100 = .ok (.iload 4, 2) := dk_21 4 (dk_at dksX5_plants_4 7 rfl rfl)
theorem dX5_plants_102 : decode cX5_plants 102 = .ok (.iaload, 1) := dk_46 (dk_at dksX5_plants_4 9 rfl rfl)
theorem dX5_plants_103 : decode cX5_plants 103 = .ok (.iload 6, 2) := dk_21 6 (dk_at dksX5_plants_4 10 rfl rfl)
theorem dX5_plants_105 : decode cX5_plants 105 = .ok (.if_icmp .gt 7, 3) := dk_163 0 7 (dk_at dksX5_plants_4 12 rfl rfl)
theorem dX5_plants_108 : decode cX5_plants 108 = .ok (.iconst 1, 1) := dk_4 (dk_at dksX5_plants_4 15 rfl rfl)
theorem dX5_plants_109 : decode cX5_plants 109 = .ok (.goto 4, 3) := dk_167 0 4 (dk_at dksX5_plants_4 16 rfl rfl)
theorem dX5_plants_112 : decode cX5_plants 112 = .ok (.iconst 0, 1) := dk_3 (dk_at dksX5_plants_4 19 rfl rfl)
theorem dX5_plants_113 : decode cX5_plants 113 = .ok (.bastore, 1) := dk_84 (dk_at dksX5_plants_4 20 rfl rfl)
theorem dX5_plants_114 : decode cX5_plants 114 = .ok (.aload_n 0, 1) := dk_42 (dk_at dksX5_plants_4 21 rfl rfl)
theorem dX5_plants_115 : decode cX5_plants 115 = .ok (.getfield 46, 3) := dk_180 0 46 (dk_at dksX5_plants_5 0 rfl rfl)
theorem dX5_plants_118 : decode cX5_plants 118 = .ok (.iload 4, 2) := dk_21 4 (dk_at dksX5_plants_5 3 rfl rfl)
theorem dX5_plants_120 : decode cX5_plants 120 = .ok (.aload_n 0, 1) := dk_42 (dk_at dksX5_plants_5 5 rfl rfl)
theorem dX5_plants_121 : decode cX5_plants 121 = .ok (.getfield 49, 3) := dk_180 0 49 (dk_at dksX5_plants_5 6 rfl rfl)
theorem dX5_plants_124 : decode cX5_plants 124 = .ok (.iload 4, 2) := dk_21 4 (dk_at dksX5_plants_5 9 rfl rfl)
theorem dX5_plants_126 : decode cX5_plants 126 = .ok (.baload, 1) := dk_51 (dk_at dksX5_plants_5 11 rfl rfl)
theorem dX5_plants_127 : decode cX5_plants 127 = .ok (.ifCond .eq 13, 3) := dk_153 0 13 (dk_at dksX5_plants_5 12 rfl rfl)
theorem dX5_plants_130 : decode cX5_plants 130 = .ok (.aload_n 0, 1) := dk_42 (dk_at dksX5_plants_5 15 rfl rfl)
theorem dX5_plants_131 : decode cX5_plants 131 = .ok (.getfield 31, 3) := dk_180 0 31 (dk_at dksX5_plants_5 16 rfl rfl)
theorem dX5_plants_134 : decode cX5_plants 134 = .ok (.iload 4, 2) := dk_21 4 (dk_at dksX5_plants_5 19 rfl rfl)
theorem dX5_plants_136 : decode cX5_plants 136 = .ok (.iaload, 1) := dk_46 (dk_at dksX5_plants_5 21 rfl rfl)
theorem dX5_plants_137 : decode cX5_plants 137 = .ok (.goto 5, 3) := dk_167 0 5 (dk_at dksX5_plants_6 0 rfl rfl)
theorem dX5_plants_140 : decode cX5_plants 140 = .ok (.iload 6, 2) := dk_21 6 (dk_at dksX5_plants_6 3 rfl rfl)
theorem dX5_plants_142 : decode cX5_plants 142 = .ok (.iload 5, 2) := dk_21 5 (dk_at dksX5_plants_6 5 rfl rfl)
theorem dX5_plants_144 : decode cX5_plants 144 = .ok (.ifCond .eq 7, 3) := dk_153 0 7 (dk_at dksX5_plants_6 7 rfl rfl)
theorem dX5_plants_147 : decode cX5_plants 147 = .ok (.iconst 0, 1) := dk_3 (dk_at dksX5_plants_6 10 rfl rfl)
theorem dX5_plants_148 : decode cX5_plants 148 = .ok (.goto 5, 3) := dk_167 0 5 (dk_at dksX5_plants_6 11 rfl rfl)
theorem dX5_plants_151 : decode cX5_plants 151 = .ok (.bipush 8, 2) := dk_16 8 (dk_at dksX5_plants_6 14 rfl rfl)
theorem dX5_plants_153 : decode cX5_plants 153 = .ok (.iadd, 1) := dk_96 (dk_at dksX5_plants_6 16 rfl rfl)
theorem dX5_plants_154 : decode cX5_plants 154 = .ok (.iastore, 1) := dk_79 (dk_at dksX5_plants_6 17 rfl rfl)
theorem dX5_plants_155 : decode cX5_plants 155 = .ok (.iinc 3 1, 3) := dk_132 3 1 (dk_at dksX5_plants_6 18 rfl rfl)
theorem dX5_plants_158 : decode cX5_plants 158 = .ok (.goto (-142), 3) := dk_167 255 114 (dk_at dksX5_plants_6 21 rfl rfl)
theorem dX5_plants_161 : decode cX5_plants 161 = .ok (.iinc 2 (-1), 3) := dk_132 2 255 (dk_at dksX5_plants_7 0 rfl rfl)
theorem dX5_plants_164 : decode cX5_plants 164 = .ok (.goto (-154), 3) := dk_167 255 102 (dk_at dksX5_plants_7 3 rfl rfl)
theorem dX5_plants_167 : decode cX5_plants 167 = .ok (.iconst 0, 1) := dk_3 (dk_at dksX5_plants_7 6 rfl rfl)
theorem dX5_plants_168 : decode cX5_plants 168 = .ok (.istore_n 2, 1) := dk_61 (dk_at dksX5_plants_7 7 rfl rfl)
theorem dX5_plants_169 : decode cX5_plants 169 = .ok (.iload_n 2, 1) := dk_28 (dk_at dksX5_plants_7 8 rfl rfl)
theorem dX5_plants_170 : decode cX5_plants 170 = .ok (.aload_n 0, 1) := dk_42 (dk_at dksX5_plants_7 9 rfl rfl)
theorem dX5_plants_171 : decode cX5_plants 171 = .ok (.invokevirtual 123, 3) := dk_182 0 123 (dk_at dksX5_plants_7 10 rfl rfl)
theorem dX5_plants_174 : decode cX5_plants 174 = .ok (.if_icmp .gt 96, 3) := dk_163 0 96 (dk_at dksX5_plants_7 13 rfl rfl)
theorem dX5_plants_177 : decode cX5_plants 177 = .ok (.iconst 0, 1) := dk_3 (dk_at dksX5_plants_7 16 rfl rfl)
theorem dX5_plants_178 : decode cX5_plants 178 = .ok (.istore_n 3, 1) := dk_62 (dk_at dksX5_plants_7 17 rfl rfl)
theorem dX5_plants_179 : decode cX5_plants 179 = .ok (.iload_n 3, 1) := dk_29 (dk_at dksX5_plants_7 18 rfl rfl)
theorem dX5_plants_180 : decode cX5_plants 180 = .ok (.iconst 1, 1) := dk_4 (dk_at dksX5_plants_7 19 rfl rfl)
theorem dX5_plants_181 : decode cX5_plants 181 = .ok (.iload_n 2, 1) := dk_28 (dk_at dksX5_plants_7 20 rfl rfl)
theorem dX5_plants_182 : decode cX5_plants 182 = .ok (.ishl, 1) := dk_120 (dk_at dksX5_plants_7 21 rfl rfl)
theorem dX5_plants_183 : decode cX5_plants 183 = .ok (.if_icmp .ge 81, 3) := dk_162 0 81 (dk_at dksX5_plants_8 0 rfl rfl)
theorem dX5_plants_186 : decode cX5_plants 186 = .ok (.iload_n 2, 1) := dk_28 (dk_at dksX5_plants_8 3 rfl rfl)
theorem dX5_plants_187 : decode cX5_plants 187 = .ok (.ifCond .eq 27, 3) := dk_153 0 27 (dk_at dksX5_plants_8 4 rfl rfl)
theorem dX5_plants_190 : decode cX5_plants 190 = .ok (.aload_n 0, 1) := dk_42 (dk_at dksX5_plants_8 7 rfl rfl)
theorem dX5_plants_191 : decode cX5_plants 191 = .ok (.getfield 53, 3) := dk_180 0 53 (dk_at dksX5_plants_8 8 rfl rfl)
theorem dX5_plants_194 : decode cX5_plants 194 = .ok (.iload_n 2, 1) := dk_28 (dk_at dksX5_plants_8 11 rfl rfl)
theorem dX5_plants_195 : decode cX5_plants 195 = .ok (.iconst 1, 1) := dk_4 (dk_at dksX5_plants_8 12 rfl rfl)
theorem dX5_plants_196 : decode cX5_plants 196 = .ok (.isub, 1) := dk_100 (dk_at dksX5_plants_8 13 rfl rfl)
theorem dX5_plants_197 : decode cX5_plants 197 = .ok (.iload_n 3, 1) := dk_29 (dk_at dksX5_plants_8 14 rfl rfl)
theorem dX5_plants_198 : decode cX5_plants 198 = .ok (.iconst 1, 1) := dk_4 (dk_at dksX5_plants_8 15 rfl rfl)
theorem dX5_plants_199 : decode cX5_plants 199 = .ok (.iload_n 2, 1) := dk_28 (dk_at dksX5_plants_8 16 rfl rfl)
theorem dX5_plants_200 : decode cX5_plants 200 = .ok (.iconst 1, 1) := dk_4 (dk_at dksX5_plants_8 17 rfl rfl)
theorem dX5_plants_201 : decode cX5_plants 201 = .ok (.isub, 1) := dk_100 (dk_at dksX5_plants_8 18 rfl rfl)
theorem dX5_plants_202 : decode cX5_plants 202 = .ok (.ishl, 1) := dk_120 (dk_at dksX5_plants_8 19 rfl rfl)
theorem dX5_plants_203 : decode cX5_plants 203 = .ok (.iconst 1, 1) := dk_4 (dk_at dksX5_plants_8 20 rfl rfl)
theorem dX5_plants_204 : decode cX5_plants 204 = .ok (.isub, 1) := dk_100 (dk_at dksX5_plants_8 21 rfl rfl)
theorem dX5_plants_205 : decode cX5_plants 205 = .ok (.iand, 1) := dk_126 (dk_at dksX5_plants_8 22 rfl rfl)
theorem dX5_plants_206 : decode cX5_plants 206 = .ok (.invokestatic 88, 3) := dk_184 0 88 (dk_at dksX5_plants_9 0 rfl rfl)
theorem dX5_plants_209 : decode cX5_plants 209 = .ok (.iaload, 1) := dk_46 (dk_at dksX5_plants_9 3 rfl rfl)
theorem dX5_plants_210 : decode cX5_plants 210 = .ok (.iconst 2, 1) := dk_5 (dk_at dksX5_plants_9 4 rfl rfl)
theorem dX5_plants_211 : decode cX5_plants 211 = .ok (.if_icmp .ne 7, 3) := dk_160 0 7 (dk_at dksX5_plants_9 5 rfl rfl)
theorem dX5_plants_214 : decode cX5_plants 214 = .ok (.iconst 1, 1) := dk_4 (dk_at dksX5_plants_9 8 rfl rfl)
theorem dX5_plants_215 : decode cX5_plants 215 = .ok (.goto 4, 3) := dk_167 0 4 (dk_at dksX5_plants_9 9 rfl rfl)
theorem dX5_plants_218 : decode cX5_plants 218 = .ok (.iconst 0, 1) := dk_3 (dk_at dksX5_plants_9 12 rfl rfl)
theorem dX5_plants_219 : decode cX5_plants 219 = .ok (.istore 4, 2) := dk_54 4 (dk_at dksX5_plants_9 13 rfl rfl)
theorem dX5_plants_221 : decode cX5_plants 221 = .ok (.aload_n 0, 1) := dk_42 (dk_at dksX5_plants_9 15 rfl rfl)
theorem dX5_plants_222 : decode cX5_plants 222 = .ok (.getfield 53, 3) := dk_180 0 53 (dk_at dksX5_plants_9 16 rfl rfl)
theorem dX5_plants_225 : decode cX5_plants 225 = .ok (.iload_n 2, 1) := dk_28 (dk_at dksX5_plants_9 19 rfl rfl)
theorem dX5_plants_226 : decode cX5_plants 226 = .ok (.iload_n 3, 1) := dk_29 (dk_at dksX5_plants_9 20 rfl rfl)
theorem dX5_plants_227 : decode cX5_plants 227 = .ok (.invokestatic 88, 3) := dk_184 0 88 (dk_at dksX5_plants_9 21 rfl rfl)
theorem dX5_plants_230 : decode cX5_plants 230 = .ok (.iload 4, 2) := dk_21 4 (dk_at dksX5_plants_10 0 rfl rfl)
theorem dX5_plants_232 : decode cX5_plants 232 = .ok (.ifCond .ne 7, 3) := dk_154 0 7 (dk_at dksX5_plants_10 2 rfl rfl)
theorem dX5_plants_235 : decode cX5_plants 235 = .ok (.iconst 0, 1) := dk_3 (dk_at dksX5_plants_10 5 rfl rfl)
theorem dX5_plants_236 : decode cX5_plants 236 = .ok (.goto 21, 3) := dk_167 0 21 (dk_at dksX5_plants_10 6 rfl rfl)
theorem dX5_plants_239 : decode cX5_plants 239 = .ok (.aload_n 0, 1) := dk_42 (dk_at dksX5_plants_10 9 rfl rfl)
theorem dX5_plants_240 : decode cX5_plants 240 = .ok (.getfield 49, 3) := dk_180 0 49 (dk_at dksX5_plants_10 10 rfl rfl)
theorem dX5_plants_243 : decode cX5_plants 243 = .ok (.iload_n 2, 1) := dk_28 (dk_at dksX5_plants_10 13 rfl rfl)
theorem dX5_plants_244 : decode cX5_plants 244 = .ok (.iload_n 3, 1) := dk_29 (dk_at dksX5_plants_10 14 rfl rfl)
theorem dX5_plants_245 : decode cX5_plants 245 = .ok (.invokestatic 88, 3) := dk_184 0 88 (dk_at dksX5_plants_10 15 rfl rfl)
theorem dX5_plants_248 : decode cX5_plants 248 = .ok (.baload, 1) := dk_51 (dk_at dksX5_plants_10 18 rfl rfl)
theorem dX5_plants_249 : decode cX5_plants 249 = .ok (.ifCond .eq 7, 3) := dk_153 0 7 (dk_at dksX5_plants_10 19 rfl rfl)
theorem dX5_plants_252 : decode cX5_plants 252 = .ok (.iconst 1, 1) := dk_4 (dk_at dksX5_plants_10 22 rfl rfl)
theorem dX5_plants_253 : decode cX5_plants 253 = .ok (.goto 4, 3) := dk_167 0 4 (dk_at dksX5_plants_11 0 rfl rfl)
theorem dX5_plants_256 : decode cX5_plants 256 = .ok (.iconst 2, 1) := dk_5 (dk_at dksX5_plants_11 3 rfl rfl)
theorem dX5_plants_257 : decode cX5_plants 257 = .ok (.iastore, 1) := dk_79 (dk_at dksX5_plants_11 4 rfl rfl)
theorem dX5_plants_258 : decode cX5_plants 258 = .ok (.iinc 3 1, 3) := dk_132 3 1 (dk_at dksX5_plants_11 5 rfl rfl)
theorem dX5_plants_261 : decode cX5_plants 261 = .ok (.goto (-82), 3) := dk_167 255 174 (dk_at dksX5_plants_11 8 rfl rfl)
theorem dX5_plants_264 : decode cX5_plants 264 = .ok (.iinc 2 1, 3) := dk_132 2 1 (dk_at dksX5_plants_11 11 rfl rfl)
theorem dX5_plants_267 : decode cX5_plants 267 = .ok (.goto (-98), 3) := dk_167 255 158 (dk_at dksX5_plants_11 14 rfl rfl)
theorem dX5_plants_270 : decode cX5_plants 270 = .ok (.return_, 1) := dk_177 (dk_at dksX5_plants_11 17 rfl rfl)
abbrev cX5_leaves : ByteArray := prog_11_method_41_code
def yX5_leaves : MethodName := ⟨RX5, "leaves", "(Z)I"⟩
def dkwX5_leaves_4 : List UInt8 := [167, 0, 4, 28, 172]
abbrev dktX5_leaves_4 : List UInt8 := dkwX5_leaves_4 ++ []
def dkwX5_leaves_3 : List UInt8 := [167, 0, 4, 29, 62, 132, 5, 1, 167, 255, 196, 132, 4, 1, 167, 255, 178, 27, 153, 0, 7, 29]
abbrev dktX5_leaves_3 : List UInt8 := dkwX5_leaves_3 ++ dktX5_leaves_4
def dkwX5_leaves_2 : List UInt8 := [3, 54, 6, 28, 21, 6, 153, 0, 7, 4, 167, 0, 4, 3, 96, 61, 21, 6, 153, 0, 8, 21, 4]
abbrev dktX5_leaves_2 : List UInt8 := dkwX5_leaves_2 ++ dktX5_leaves_3
def dkwX5_leaves_1 : List UInt8 := [120, 162, 0, 57, 42, 180, 0, 53, 21, 4, 21, 5, 184, 0, 88, 46, 4, 160, 0, 7, 4, 167, 0, 4]
abbrev dktX5_leaves_1 : List UInt8 := dkwX5_leaves_1 ++ dktX5_leaves_2
def dkwX5_leaves_0 : List UInt8 := [3, 61, 3, 62, 3, 54, 4, 21, 4, 42, 182, 0, 123, 163, 0, 75, 3, 54, 5, 21, 5, 4, 21, 4]
abbrev dktX5_leaves_0 : List UInt8 := dkwX5_leaves_0 ++ dktX5_leaves_1
theorem dksX5_leaves_0 : cX5_leaves.data.toList.drop 0 = dktX5_leaves_0 := by decide +kernel
theorem dksX5_leaves_1 : cX5_leaves.data.toList.drop 24 = dktX5_leaves_1 := dk_seg dksX5_leaves_0 24 rfl rfl
theorem dksX5_leaves_2 : cX5_leaves.data.toList.drop 48 = dktX5_leaves_2 := dk_seg dksX5_leaves_1 24 rfl rfl
theorem dksX5_leaves_3 : cX5_leaves.data.toList.drop 71 = dktX5_leaves_3 := dk_seg dksX5_leaves_2 23 rfl rfl
theorem dksX5_leaves_4 : cX5_leaves.data.toList.drop 93 = dktX5_leaves_4 := dk_seg dksX5_leaves_3 22 rfl rfl
theorem dX5_leaves_0 : decode cX5_leaves 0 = .ok (.iconst 0, 1) := dk_3 (dk_at dksX5_leaves_0 0 rfl rfl)
theorem dX5_leaves_1 : decode cX5_leaves 1 = .ok (.istore_n 2, 1) := dk_61 (dk_at dksX5_leaves_0 1 rfl rfl)
theorem dX5_leaves_2 : decode cX5_leaves 2 = .ok (.iconst 0, 1) := dk_3 (dk_at dksX5_leaves_0 2 rfl rfl)
theorem dX5_leaves_3 : decode cX5_leaves 3 = .ok (.istore_n 3, 1) := dk_62 (dk_at dksX5_leaves_0 3 rfl rfl)
theorem dX5_leaves_4 : decode cX5_leaves 4 = .ok (.iconst 0, 1) := dk_3 (dk_at dksX5_leaves_0 4 rfl rfl)
theorem dX5_leaves_5 : decode cX5_leaves 5 = .ok (.istore 4, 2) := dk_54 4 (dk_at dksX5_leaves_0 5 rfl rfl)
theorem dX5_leaves_7 : decode cX5_leaves 7 = .ok (.iload 4, 2) := dk_21 4 (dk_at dksX5_leaves_0 7 rfl rfl)
theorem dX5_leaves_9 : decode cX5_leaves 9 = .ok (.aload_n 0, 1) := dk_42 (dk_at dksX5_leaves_0 9 rfl rfl)
theorem dX5_leaves_10 : decode cX5_leaves 10 = .ok (.invokevirtual 123, 3) := dk_182 0 123 (dk_at dksX5_leaves_0 10 rfl rfl)
theorem dX5_leaves_13 : decode cX5_leaves 13 = .ok (.if_icmp .gt 75, 3) := dk_163 0 75 (dk_at dksX5_leaves_0 13 rfl rfl)
theorem dX5_leaves_16 : decode cX5_leaves 16 = .ok (.iconst 0, 1) := dk_3 (dk_at dksX5_leaves_0 16 rfl rfl)
theorem dX5_leaves_17 : decode cX5_leaves 17 = .ok (.istore 5, 2) := dk_54 5 (dk_at dksX5_leaves_0 17 rfl rfl)
theorem dX5_leaves_19 : decode cX5_leaves 19 = .ok (.iload 5, 2) := dk_21 5 (dk_at dksX5_leaves_0 19 rfl rfl)
theorem dX5_leaves_21 : decode cX5_leaves 21 = .ok (.iconst 1, 1) := dk_4 (dk_at dksX5_leaves_0 21 rfl rfl)
theorem dX5_leaves_22 : decode cX5_leaves 22 = .ok (.iload 4, 2) := dk_21 4 (dk_at dksX5_leaves_0 22 rfl rfl)
theorem dX5_leaves_24 : decode cX5_leaves 24 = .ok (.ishl, 1) := dk_120 (dk_at dksX5_leaves_1 0 rfl rfl)
theorem dX5_leaves_25 : decode cX5_leaves 25 = .ok (.if_icmp .ge 57, 3) := dk_162 0 57 (dk_at dksX5_leaves_1 1 rfl rfl)
theorem dX5_leaves_28 : decode cX5_leaves 28 = .ok (.aload_n 0, 1) := dk_42 (dk_at dksX5_leaves_1 4 rfl rfl)
theorem dX5_leaves_29 : decode cX5_leaves 29 = .ok (.getfield 53, 3) := dk_180 0 53 (dk_at dksX5_leaves_1 5 rfl rfl)
theorem dX5_leaves_32 : decode cX5_leaves 32 = .ok (.iload 4, 2) := dk_21 4 (dk_at dksX5_leaves_1 8 rfl rfl)
theorem dX5_leaves_34 : decode cX5_leaves 34 = .ok (.iload 5, 2) := dk_21 5 (dk_at dksX5_leaves_1 10 rfl rfl)
theorem dX5_leaves_36 : decode cX5_leaves 36 = .ok (.invokestatic 88, 3) := dk_184 0 88 (dk_at dksX5_leaves_1 12 rfl rfl)
theorem dX5_leaves_39 : decode cX5_leaves 39 = .ok (.iaload, 1) := dk_46 (dk_at dksX5_leaves_1 15 rfl rfl)
theorem dX5_leaves_40 : decode cX5_leaves 40 = .ok (.iconst 1, 1) := dk_4 (dk_at dksX5_leaves_1 16 rfl rfl)
theorem dX5_leaves_41 : decode cX5_leaves 41 = .ok (.if_icmp .ne 7, 3) := dk_160 0 7 (dk_at dksX5_leaves_1 17 rfl rfl)
theorem dX5_leaves_44 : decode cX5_leaves 44 = .ok (.iconst 1, 1) := dk_4 (dk_at dksX5_leaves_1 20 rfl rfl)
theorem dX5_leaves_45 : decode cX5_leaves 45 = .ok (.goto 4, 3) := dk_167 0 4 (dk_at dksX5_leaves_1 21 rfl rfl)
theorem dX5_leaves_48 : decode cX5_leaves 48 = .ok (.iconst 0, 1) := dk_3 (dk_at dksX5_leaves_2 0 rfl rfl)
theorem dX5_leaves_49 : decode cX5_leaves 49 = .ok (.istore 6, 2) := dk_54 6 (dk_at dksX5_leaves_2 1 rfl rfl)
theorem dX5_leaves_51 : decode cX5_leaves 51 = .ok (.iload_n 2, 1) := dk_28 (dk_at dksX5_leaves_2 3 rfl rfl)
theorem dX5_leaves_52 : decode cX5_leaves 52 = .ok (.iload 6, 2) := dk_21 6 (dk_at dksX5_leaves_2 4 rfl rfl)
theorem dX5_leaves_54 : decode cX5_leaves 54 = .ok (.ifCond .eq 7, 3) := dk_153 0 7 (dk_at dksX5_leaves_2 6 rfl rfl)
theorem dX5_leaves_57 : decode cX5_leaves 57 = .ok (.iconst 1, 1) := dk_4 (dk_at dksX5_leaves_2 9 rfl rfl)
theorem dX5_leaves_58 : decode cX5_leaves 58 = .ok (.goto 4, 3) := dk_167 0 4 (dk_at dksX5_leaves_2 10 rfl rfl)
theorem dX5_leaves_61 : decode cX5_leaves 61 = .ok (.iconst 0, 1) := dk_3 (dk_at dksX5_leaves_2 13 rfl rfl)
theorem dX5_leaves_62 : decode cX5_leaves 62 = .ok (.iadd, 1) := dk_96 (dk_at dksX5_leaves_2 14 rfl rfl)
theorem dX5_leaves_63 : decode cX5_leaves 63 = .ok (.istore_n 2, 1) := dk_61 (dk_at dksX5_leaves_2 15 rfl rfl)
theorem dX5_leaves_64 : decode cX5_leaves 64 = .ok (.iload 6, 2) := dk_21 6 (dk_at dksX5_leaves_2 16 rfl rfl)
theorem dX5_leaves_66 : decode cX5_leaves 66 = .ok (.ifCond .eq 8, 3) := dk_153 0 8 (dk_at dksX5_leaves_2 18 rfl rfl)
theorem dX5_leaves_69 : decode cX5_leaves 69 = .ok (.iload 4, 2) := dk_21 4 (dk_at dksX5_leaves_2 21 rfl rfl)
theorem dX5_leaves_71 : decode cX5_leaves 71 = .ok (.goto 4, 3) := dk_167 0 4 (dk_at dksX5_leaves_3 0 rfl rfl)
theorem dX5_leaves_74 : decode cX5_leaves 74 = .ok (.iload_n 3, 1) := dk_29 (dk_at dksX5_leaves_3 3 rfl rfl)
theorem dX5_leaves_75 : decode cX5_leaves 75 = .ok (.istore_n 3, 1) := dk_62 (dk_at dksX5_leaves_3 4 rfl rfl)
theorem dX5_leaves_76 : decode cX5_leaves 76 = .ok (.iinc 5 1, 3) := dk_132 5 1 (dk_at dksX5_leaves_3 5 rfl rfl)
theorem dX5_leaves_79 : decode cX5_leaves 79 = .ok (.goto (-60), 3) := dk_167 255 196 (dk_at dksX5_leaves_3 8 rfl rfl)
theorem dX5_leaves_82 : decode cX5_leaves 82 = .ok (.iinc 4 1, 3) := dk_132 4 1 (dk_at dksX5_leaves_3 11 rfl rfl)
theorem dX5_leaves_85 : decode cX5_leaves 85 = .ok (.goto (-78), 3) := dk_167 255 178 (dk_at dksX5_leaves_3 14 rfl rfl)
theorem dX5_leaves_88 : decode cX5_leaves 88 = .ok (.iload_n 1, 1) := dk_27 (dk_at dksX5_leaves_3 17 rfl rfl)
theorem dX5_leaves_89 : decode cX5_leaves 89 = .ok (.ifCond .eq 7, 3) := dk_153 0 7 (dk_at dksX5_leaves_3 18 rfl rfl)
theorem dX5_leaves_92 : decode cX5_leaves 92 = .ok (.iload_n 3, 1) := dk_29 (dk_at dksX5_leaves_3 21 rfl rfl)
theorem dX5_leaves_93 : decode cX5_leaves 93 = .ok (.goto 4, 3) := dk_167 0 4 (dk_at dksX5_leaves_4 0 rfl rfl)
theorem dX5_leaves_96 : decode cX5_leaves 96 = .ok (.iload_n 2, 1) := dk_28 (dk_at dksX5_leaves_4 3 rfl rfl)
theorem dX5_leaves_97 : decode cX5_leaves 97 = .ok (.ireturn, 1) := dk_172 (dk_at dksX5_leaves_4 4 rfl rfl)
abbrev cX5_leaf : ByteArray := prog_11_method_44_code
def yX5_leaf : MethodName := ⟨RX5, "leaf", "(II)I"⟩
def dkwX5_leaf_1 : List UInt8 := [27, 28, 184, 0, 88, 46, 172]
abbrev dktX5_leaf_1 : List UInt8 := dkwX5_leaf_1 ++ []
def dkwX5_leaf_0 : List UInt8 := [42, 27, 28, 182, 0, 177, 154, 0, 10, 42, 16, 254, 182, 0, 142, 172, 42, 182, 0, 185, 42, 180, 0, 53]
abbrev dktX5_leaf_0 : List UInt8 := dkwX5_leaf_0 ++ dktX5_leaf_1
theorem dksX5_leaf_0 : cX5_leaf.data.toList.drop 0 = dktX5_leaf_0 := by decide +kernel
theorem dksX5_leaf_1 : cX5_leaf.data.toList.drop 24 = dktX5_leaf_1 := dk_seg dksX5_leaf_0 24 rfl rfl
theorem dX5_leaf_0 : decode cX5_leaf 0 = .ok (.aload_n 0, 1) := dk_42 (dk_at dksX5_leaf_0 0 rfl rfl)
theorem dX5_leaf_1 : decode cX5_leaf 1 = .ok (.iload_n 1, 1) := dk_27 (dk_at dksX5_leaf_0 1 rfl rfl)
theorem dX5_leaf_2 : decode cX5_leaf 2 = .ok (.iload_n 2, 1) := dk_28 (dk_at dksX5_leaf_0 2 rfl rfl)
theorem dX5_leaf_3 : decode cX5_leaf 3 = .ok (.invokevirtual 177, 3) := dk_182 0 177 (dk_at dksX5_leaf_0 3 rfl rfl)
theorem dX5_leaf_6 : decode cX5_leaf 6 = .ok (.ifCond .ne 10, 3) := dk_154 0 10 (dk_at dksX5_leaf_0 6 rfl rfl)
theorem dX5_leaf_9 : decode cX5_leaf 9 = .ok (.aload_n 0, 1) := dk_42 (dk_at dksX5_leaf_0 9 rfl rfl)
theorem dX5_leaf_10 : decode cX5_leaf 10 = .ok (.bipush (-2), 2) := dk_16 254 (dk_at dksX5_leaf_0 10 rfl rfl)
theorem dX5_leaf_12 : decode cX5_leaf 12 = .ok (.invokevirtual 142, 3) := dk_182 0 142 (dk_at dksX5_leaf_0 12 rfl rfl)
theorem dX5_leaf_15 : decode cX5_leaf 15 = .ok (.ireturn, 1) := dk_172 (dk_at dksX5_leaf_0 15 rfl rfl)
theorem dX5_leaf_16 : decode cX5_leaf 16 = .ok (.aload_n 0, 1) := dk_42 (dk_at dksX5_leaf_0 16 rfl rfl)
theorem dX5_leaf_17 : decode cX5_leaf 17 = .ok (.invokevirtual 185, 3) := dk_182 0 185 (dk_at dksX5_leaf_0 17 rfl rfl)
theorem dX5_leaf_20 : decode cX5_leaf 20 = .ok (.aload_n 0, 1) := dk_42 (dk_at dksX5_leaf_0 20 rfl rfl)
theorem dX5_leaf_21 : decode cX5_leaf 21 = .ok (.getfield 53, 3) := dk_180 0 53 (dk_at dksX5_leaf_0 21 rfl rfl)
theorem dX5_leaf_24 : decode cX5_leaf 24 = .ok (.iload_n 1, 1) := dk_27 (dk_at dksX5_leaf_1 0 rfl rfl)
theorem dX5_leaf_25 : decode cX5_leaf 25 = .ok (.iload_n 2, 1) := dk_28 (dk_at dksX5_leaf_1 1 rfl rfl)
theorem dX5_leaf_26 : decode cX5_leaf 26 = .ok (.invokestatic 88, 3) := dk_184 0 88 (dk_at dksX5_leaf_1 2 rfl rfl)
theorem dX5_leaf_29 : decode cX5_leaf 29 = .ok (.iaload, 1) := dk_46 (dk_at dksX5_leaf_1 5 rfl rfl)
theorem dX5_leaf_30 : decode cX5_leaf 30 = .ok (.ireturn, 1) := dk_172 (dk_at dksX5_leaf_1 6 rfl rfl)
abbrev cX5_written : ByteArray := prog_11_method_47_code
def yX5_written : MethodName := ⟨RX5, "written", "(I)I"⟩
def dkwX5_written_2 : List UInt8 := [16, 251, 172]
abbrev dktX5_written_2 : List UInt8 := dkwX5_written_2 ++ []
def dkwX5_written_1 : List UInt8 := [180, 0, 203, 167, 0, 22, 27, 42, 180, 0, 203, 162, 0, 12, 42, 180, 0, 56, 27, 46, 167, 0, 5]
abbrev dktX5_written_1 : List UInt8 := dkwX5_written_1 ++ dktX5_written_2
def dkwX5_written_0 : List UInt8 := [27, 2, 162, 0, 10, 42, 16, 246, 182, 0, 142, 172, 42, 182, 0, 213, 27, 2, 160, 0, 10, 42]
abbrev dktX5_written_0 : List UInt8 := dkwX5_written_0 ++ dktX5_written_1
theorem dksX5_written_0 : cX5_written.data.toList.drop 0 = dktX5_written_0 := by decide +kernel
theorem dksX5_written_1 : cX5_written.data.toList.drop 22 = dktX5_written_1 := dk_seg dksX5_written_0 22 rfl rfl
theorem dksX5_written_2 : cX5_written.data.toList.drop 45 = dktX5_written_2 := dk_seg dksX5_written_1 23 rfl rfl
theorem dX5_written_0 : decode cX5_written 0 = .ok (.iload_n 1, 1) := dk_27 (dk_at dksX5_written_0 0 rfl rfl)
theorem dX5_written_1 : decode cX5_written 1 = .ok (.iconst (-1), 1) := dk_2 (dk_at dksX5_written_0 1 rfl rfl)
theorem dX5_written_2 : decode cX5_written 2 = .ok (.if_icmp .ge 10, 3) := dk_162 0 10 (dk_at dksX5_written_0 2 rfl rfl)
theorem dX5_written_5 : decode cX5_written 5 = .ok (.aload_n 0, 1) := dk_42 (dk_at dksX5_written_0 5 rfl rfl)
theorem dX5_written_6 : decode cX5_written 6 = .ok (.bipush (-10), 2) := dk_16 246 (dk_at dksX5_written_0 6 rfl rfl)
theorem dX5_written_8 : decode cX5_written 8 = .ok (.invokevirtual 142, 3) := dk_182 0 142 (dk_at dksX5_written_0 8 rfl rfl)
theorem dX5_written_11 : decode cX5_written 11 = .ok (.ireturn, 1) := dk_172 (dk_at dksX5_written_0 11 rfl rfl)
theorem dX5_written_12 : decode cX5_written 12 = .ok (.aload_n 0, 1) := dk_42 (dk_at dksX5_written_0 12 rfl rfl)
theorem dX5_written_13 : decode cX5_written 13 = .ok (.invokevirtual 213, 3) := dk_182 0 213 (dk_at dksX5_written_0 13 rfl rfl)
theorem dX5_written_16 : decode cX5_written 16 = .ok (.iload_n 1, 1) := dk_27 (dk_at dksX5_written_0 16 rfl rfl)
theorem dX5_written_17 : decode cX5_written 17 = .ok (.iconst (-1), 1) := dk_2 (dk_at dksX5_written_0 17 rfl rfl)
theorem dX5_written_18 : decode cX5_written 18 = .ok (.if_icmp .ne 10, 3) := dk_160 0 10 (dk_at dksX5_written_0 18 rfl rfl)
theorem dX5_written_21 : decode cX5_written 21 = .ok (.aload_n 0, 1) := dk_42 (dk_at dksX5_written_0 21 rfl rfl)
theorem dX5_written_22 : decode cX5_written 22 = .ok (.getfield 203, 3) := dk_180 0 203 (dk_at dksX5_written_1 0 rfl rfl)
theorem dX5_written_25 : decode cX5_written 25 = .ok (.goto 22, 3) := dk_167 0 22 (dk_at dksX5_written_1 3 rfl rfl)
theorem dX5_written_28 : decode cX5_written 28 = .ok (.iload_n 1, 1) := dk_27 (dk_at dksX5_written_1 6 rfl rfl)
theorem dX5_written_29 : decode cX5_written 29 = .ok (.aload_n 0, 1) := dk_42 (dk_at dksX5_written_1 7 rfl rfl)
theorem dX5_written_30 : decode cX5_written 30 = .ok (.getfield 203, 3) := dk_180 0 203 (dk_at dksX5_written_1 8 rfl rfl)
theorem dX5_written_33 : decode cX5_written 33 = .ok (.if_icmp .ge 12, 3) := dk_162 0 12 (dk_at dksX5_written_1 11 rfl rfl)
theorem dX5_written_36 : decode cX5_written 36 = .ok (.aload_n 0, 1) := dk_42 (dk_at dksX5_written_1 14 rfl rfl)
theorem dX5_written_37 : decode cX5_written 37 = .ok (.getfield 56, 3) := dk_180 0 56 (dk_at dksX5_written_1 15 rfl rfl)
theorem dX5_written_40 : decode cX5_written 40 = .ok (.iload_n 1, 1) := dk_27 (dk_at dksX5_written_1 18 rfl rfl)
theorem dX5_written_41 : decode cX5_written 41 = .ok (.iaload, 1) := dk_46 (dk_at dksX5_written_1 19 rfl rfl)
theorem dX5_written_42 : decode cX5_written 42 = .ok (.goto 5, 3) := dk_167 0 5 (dk_at dksX5_written_1 20 rfl rfl)
theorem dX5_written_45 : decode cX5_written 45 = .ok (.bipush (-5), 2) := dk_16 251 (dk_at dksX5_written_2 0 rfl rfl)
theorem dX5_written_47 : decode cX5_written 47 = .ok (.ireturn, 1) := dk_172 (dk_at dksX5_written_2 2 rfl rfl)
abbrev cX5_writes : ByteArray := prog_11_method_46_code
def yX5_writes : MethodName := ⟨RX5, "writes", "()V"⟩
def dkwX5_writes_5 : List UInt8 := [167, 255, 160, 3, 54, 4, 21, 4, 7, 162, 0, 13, 42, 182, 0, 210, 132, 4, 1, 167, 255, 243, 177]
abbrev dktX5_writes_5 : List UInt8 := dkwX5_writes_5 ++ []
def dkwX5_writes_4 : List UInt8 := [31, 20, 0, 199, 148, 156, 0, 16, 42, 182, 0, 210, 31, 20, 0, 206, 105, 64, 167, 255, 238, 132, 4, 1]
abbrev dktX5_writes_4 : List UInt8 := dkwX5_writes_4 ++ dktX5_writes_5
def dkwX5_writes_3 : List UInt8 := [181, 0, 195, 42, 180, 0, 7, 21, 4, 46, 4, 160, 0, 8, 22, 5, 167, 0, 7, 31, 22, 5, 101, 64]
abbrev dktX5_writes_3 : List UInt8 := dkwX5_writes_3 ++ dktX5_writes_4
def dkwX5_writes_2 : List UInt8 := [89, 180, 0, 195, 42, 180, 0, 7, 21, 4, 46, 4, 160, 0, 7, 9, 167, 0, 5, 22, 5, 97]
abbrev dktX5_writes_2 : List UInt8 := dkwX5_writes_2 ++ dktX5_writes_3
def dkwX5_writes_1 : List UInt8 := [42, 182, 0, 112, 162, 0, 93, 31, 20, 0, 82, 109, 42, 180, 0, 43, 21, 4, 46, 133, 105, 55, 5, 42]
abbrev dktX5_writes_1 : List UInt8 := dkwX5_writes_1 ++ dktX5_writes_2
def dkwX5_writes_0 : List UInt8 := [20, 0, 208, 64, 42, 9, 181, 0, 195, 42, 3, 181, 0, 203, 42, 182, 0, 132, 62, 3, 54, 4, 21, 4]
abbrev dktX5_writes_0 : List UInt8 := dkwX5_writes_0 ++ dktX5_writes_1
theorem dksX5_writes_0 : cX5_writes.data.toList.drop 0 = dktX5_writes_0 := by decide +kernel
theorem dksX5_writes_1 : cX5_writes.data.toList.drop 24 = dktX5_writes_1 := dk_seg dksX5_writes_0 24 rfl rfl
theorem dksX5_writes_2 : cX5_writes.data.toList.drop 48 = dktX5_writes_2 := dk_seg dksX5_writes_1 24 rfl rfl
theorem dksX5_writes_3 : cX5_writes.data.toList.drop 70 = dktX5_writes_3 := dk_seg dksX5_writes_2 22 rfl rfl
theorem dksX5_writes_4 : cX5_writes.data.toList.drop 94 = dktX5_writes_4 := dk_seg dksX5_writes_3 24 rfl rfl
theorem dksX5_writes_5 : cX5_writes.data.toList.drop 118 = dktX5_writes_5 := dk_seg dksX5_writes_4 24 rfl rfl
theorem dX5_writes_0 : decode cX5_writes 0 = .ok (.ldc2_w 208, 3) := dk_20 0 208 (dk_at dksX5_writes_0 0 rfl rfl)
theorem dX5_writes_3 : decode cX5_writes 3 = .ok (.lstore_n 1, 1) := dk_64 (dk_at dksX5_writes_0 3 rfl rfl)
theorem dX5_writes_4 : decode cX5_writes 4 = .ok (.aload_n 0, 1) := dk_42 (dk_at dksX5_writes_0 4 rfl rfl)
theorem dX5_writes_5 : decode cX5_writes 5 = .ok (.lconst 0, 1) := dk_9 (dk_at dksX5_writes_0 5 rfl rfl)
theorem dX5_writes_6 : decode cX5_writes 6 = .ok (.putfield 195, 3) := dk_181 0 195 (dk_at dksX5_writes_0 6 rfl rfl)
theorem dX5_writes_9 : decode cX5_writes 9 = .ok (.aload_n 0, 1) := dk_42 (dk_at dksX5_writes_0 9 rfl rfl)
theorem dX5_writes_10 : decode cX5_writes 10 = .ok (.iconst 0, 1) := dk_3 (dk_at dksX5_writes_0 10 rfl rfl)
theorem dX5_writes_11 : decode cX5_writes 11 = .ok (.putfield 203, 3) := dk_181 0 203 (dk_at dksX5_writes_0 11 rfl rfl)
theorem dX5_writes_14 : decode cX5_writes 14 = .ok (.aload_n 0, 1) := dk_42 (dk_at dksX5_writes_0 14 rfl rfl)
theorem dX5_writes_15 : decode cX5_writes 15 = .ok (.invokevirtual 132, 3) := dk_182 0 132 (dk_at dksX5_writes_0 15 rfl rfl)
theorem dX5_writes_18 : decode cX5_writes 18 = .ok (.istore_n 3, 1) := dk_62 (dk_at dksX5_writes_0 18 rfl rfl)
theorem dX5_writes_19 : decode cX5_writes 19 = .ok (.iconst 0, 1) := dk_3 (dk_at dksX5_writes_0 19 rfl rfl)
theorem dX5_writes_20 : decode cX5_writes 20 = .ok (.istore 4, 2) := dk_54 4 (dk_at dksX5_writes_0 20 rfl rfl)
theorem dX5_writes_22 : decode cX5_writes 22 = .ok (.iload 4, 2) := dk_21 4 (dk_at dksX5_writes_0 22 rfl rfl)
theorem dX5_writes_24 : decode cX5_writes 24 = .ok (.aload_n 0, 1) := dk_42 (dk_at dksX5_writes_1 0 rfl rfl)
theorem dX5_writes_25 : decode cX5_writes 25 = .ok (.invokevirtual 112, 3) := dk_182 0 112 (dk_at dksX5_writes_1 1 rfl rfl)
theorem dX5_writes_28 : decode cX5_writes 28 = .ok (.if_icmp .ge 93, 3) := dk_162 0 93 (dk_at dksX5_writes_1 4 rfl rfl)
theorem dX5_writes_31 : decode cX5_writes 31 = .ok (.lload_n 1, 1) := dk_31 (dk_at dksX5_writes_1 7 rfl rfl)
theorem dX5_writes_32 : decode cX5_writes 32 = .ok (.ldc2_w 82, 3) := dk_20 0 82 (dk_at dksX5_writes_1 8 rfl rfl)
theorem dX5_writes_35 : decode cX5_writes 35 = .ok (.ldiv, 1) := dk_109 (dk_at dksX5_writes_1 11 rfl rfl)
theorem dX5_writes_36 : decode cX5_writes 36 = .ok (.aload_n 0, 1) := dk_42 (dk_at dksX5_writes_1 12 rfl rfl)
theorem dX5_writes_37 : decode cX5_writes 37 = .ok (.getfield 43, 3) := dk_180 0 43 (dk_at dksX5_writes_1 13 rfl rfl)
theorem dX5_writes_40 : decode cX5_writes 40 = .ok (.iload 4, 2) := dk_21 4 (dk_at dksX5_writes_1 16 rfl rfl)
theorem dX5_writes_42 : decode cX5_writes 42 = .ok (.iaload, 1) := dk_46 (dk_at dksX5_writes_1 18 rfl rfl)
theorem dX5_writes_43 : decode cX5_writes 43 = .ok (.i2l, 1) := dk_133 (dk_at dksX5_writes_1 19 rfl rfl)
theorem dX5_writes_44 : decode cX5_writes 44 = .ok (.lmul, 1) := dk_105 (dk_at dksX5_writes_1 20 rfl rfl)
theorem dX5_writes_45 : decode cX5_writes 45 = .ok (.lstore 5, 2) := dk_55 5 (dk_at dksX5_writes_1 21 rfl rfl)
theorem dX5_writes_47 : decode cX5_writes 47 = .ok (.aload_n 0, 1) := dk_42 (dk_at dksX5_writes_1 23 rfl rfl)
theorem dX5_writes_48 : decode cX5_writes 48 = .ok (.dup, 1) := dk_89 (dk_at dksX5_writes_2 0 rfl rfl)
theorem dX5_writes_49 : decode cX5_writes 49 = .ok (.getfield 195, 3) := dk_180 0 195 (dk_at dksX5_writes_2 1 rfl rfl)
theorem dX5_writes_52 : decode cX5_writes 52 = .ok (.aload_n 0, 1) := dk_42 (dk_at dksX5_writes_2 4 rfl rfl)
theorem dX5_writes_53 : decode cX5_writes 53 = .ok (.getfield 7, 3) := dk_180 0 7 (dk_at dksX5_writes_2 5 rfl rfl)
theorem dX5_writes_56 : decode cX5_writes 56 = .ok (.iload 4, 2) := dk_21 4 (dk_at dksX5_writes_2 8 rfl rfl)
theorem dX5_writes_58 : decode cX5_writes 58 = .ok (.iaload, 1) := dk_46 (dk_at dksX5_writes_2 10 rfl rfl)
theorem dX5_writes_59 : decode cX5_writes 59 = .ok (.iconst 1, 1) := dk_4 (dk_at dksX5_writes_2 11 rfl rfl)
theorem dX5_writes_60 : decode cX5_writes 60 = .ok (.if_icmp .ne 7, 3) := dk_160 0 7 (dk_at dksX5_writes_2 12 rfl rfl)
theorem dX5_writes_63 : decode cX5_writes 63 = .ok (.lconst 0, 1) := dk_9 (dk_at dksX5_writes_2 15 rfl rfl)
theorem dX5_writes_64 : decode cX5_writes 64 = .ok (.goto 5, 3) := dk_167 0 5 (dk_at dksX5_writes_2 16 rfl rfl)
theorem dX5_writes_67 : decode cX5_writes 67 = .ok (.lload 5, 2) := dk_22 5 (dk_at dksX5_writes_2 19 rfl rfl)
theorem dX5_writes_69 : decode cX5_writes 69 = .ok (.ladd, 1) := dk_97 (dk_at dksX5_writes_2 21 rfl rfl)
theorem dX5_writes_70 : decode cX5_writes 70 = .ok (.putfield 195, 3) := dk_181 0 195 (dk_at dksX5_writes_3 0 rfl rfl)
theorem dX5_writes_73 : decode cX5_writes 73 = .ok (.aload_n 0, 1) := dk_42 (dk_at dksX5_writes_3 3 rfl rfl)
theorem dX5_writes_74 : decode cX5_writes 74 = .ok (.getfield 7, 3) := dk_180 0 7 (dk_at dksX5_writes_3 4 rfl rfl)
theorem dX5_writes_77 : decode cX5_writes 77 = .ok (.iload 4, 2) := dk_21 4 (dk_at dksX5_writes_3 7 rfl rfl)
theorem dX5_writes_79 : decode cX5_writes 79 = .ok (.iaload, 1) := dk_46 (dk_at dksX5_writes_3 9 rfl rfl)
theorem dX5_writes_80 : decode cX5_writes 80 = .ok (.iconst 1, 1) := dk_4 (dk_at dksX5_writes_3 10 rfl rfl)
theorem dX5_writes_81 : decode cX5_writes 81 = .ok (.if_icmp .ne 8, 3) := dk_160 0 8 (dk_at dksX5_writes_3 11 rfl rfl)
theorem dX5_writes_84 : decode cX5_writes 84 = .ok (.lload 5, 2) := dk_22 5 (dk_at dksX5_writes_3 14 rfl rfl)
theorem dX5_writes_86 : decode cX5_writes 86 = .ok (.goto 7, 3) := dk_167 0 7 (dk_at dksX5_writes_3 16 rfl rfl)
theorem dX5_writes_89 : decode cX5_writes 89 = .ok (.lload_n 1, 1) := dk_31 (dk_at dksX5_writes_3 19 rfl rfl)
theorem dX5_writes_90 : decode cX5_writes 90 = .ok (.lload 5, 2) := dk_22 5 (dk_at dksX5_writes_3 20 rfl rfl)
theorem dX5_writes_92 : decode cX5_writes 92 = .ok (.lsub, 1) := dk_101 (dk_at dksX5_writes_3 22 rfl rfl)
theorem dX5_writes_93 : decode cX5_writes 93 = .ok (.lstore_n 1, 1) := dk_64 (dk_at dksX5_writes_3 23 rfl rfl)
theorem dX5_writes_94 : decode cX5_writes 94 = .ok (.lload_n 1, 1) := dk_31 (dk_at dksX5_writes_4 0 rfl rfl)
theorem dX5_writes_95 : decode cX5_writes 95 = .ok (.ldc2_w 199, 3) := dk_20 0 199 (dk_at dksX5_writes_4 1 rfl rfl)
theorem dX5_writes_98 : decode cX5_writes 98 = .ok (.lcmp, 1) := dk_148 (dk_at dksX5_writes_4 4 rfl rfl)
theorem dX5_writes_99 : decode cX5_writes 99 = .ok (.ifCond .ge 16, 3) := dk_156 0 16 (dk_at dksX5_writes_4 5 rfl rfl)
theorem dX5_writes_102 : decode cX5_writes 102 = .ok (.aload_n 0, 1) := dk_42 (dk_at dksX5_writes_4 8 rfl rfl)
theorem dX5_writes_103 : decode cX5_writes 103 = .ok (.invokevirtual 210, 3) := dk_182 0 210 (dk_at dksX5_writes_4 9 rfl rfl)
theorem dX5_writes_106 : decode cX5_writes 106 = .ok (.lload_n 1, 1) := dk_31 (dk_at dksX5_writes_4 12 rfl rfl)
theorem dX5_writes_107 : decode cX5_writes 107 = .ok (.ldc2_w 206, 3) := dk_20 0 206 (dk_at dksX5_writes_4 13 rfl rfl)
theorem dX5_writes_110 : decode cX5_writes 110 = .ok (.lmul, 1) := dk_105 (dk_at dksX5_writes_4 16 rfl rfl)
theorem dX5_writes_111 : decode cX5_writes 111 = .ok (.lstore_n 1, 1) := dk_64 (dk_at dksX5_writes_4 17 rfl rfl)
theorem dX5_writes_112 : decode cX5_writes 112 = .ok (.goto (-18), 3) := dk_167 255 238 (dk_at dksX5_writes_4 18 rfl rfl)
theorem dX5_writes_115 : decode cX5_writes 115 = .ok (.iinc 4 1, 3) := dk_132 4 1 (dk_at dksX5_writes_4 21 rfl rfl)
theorem dX5_writes_118 : decode cX5_writes 118 = .ok (.goto (-96), 3) := dk_167 255 160 (dk_at dksX5_writes_5 0 rfl rfl)
theorem dX5_writes_121 : decode cX5_writes 121 = .ok (.iconst 0, 1) := dk_3 (dk_at dksX5_writes_5 3 rfl rfl)
theorem dX5_writes_122 : decode cX5_writes 122 = .ok (.istore 4, 2) := dk_54 4 (dk_at dksX5_writes_5 4 rfl rfl)
theorem dX5_writes_124 : decode cX5_writes 124 = .ok (.iload 4, 2) := dk_21 4 (dk_at dksX5_writes_5 6 rfl rfl)
theorem dX5_writes_126 : decode cX5_writes 126 = .ok (.iconst 4, 1) := dk_7 (dk_at dksX5_writes_5 8 rfl rfl)
theorem dX5_writes_127 : decode cX5_writes 127 = .ok (.if_icmp .ge 13, 3) := dk_162 0 13 (dk_at dksX5_writes_5 9 rfl rfl)
theorem dX5_writes_130 : decode cX5_writes 130 = .ok (.aload_n 0, 1) := dk_42 (dk_at dksX5_writes_5 12 rfl rfl)
theorem dX5_writes_131 : decode cX5_writes 131 = .ok (.invokevirtual 210, 3) := dk_182 0 210 (dk_at dksX5_writes_5 13 rfl rfl)
theorem dX5_writes_134 : decode cX5_writes 134 = .ok (.iinc 4 1, 3) := dk_132 4 1 (dk_at dksX5_writes_5 16 rfl rfl)
theorem dX5_writes_137 : decode cX5_writes 137 = .ok (.goto (-13), 3) := dk_167 255 243 (dk_at dksX5_writes_5 19 rfl rfl)
theorem dX5_writes_140 : decode cX5_writes 140 = .ok (.return_, 1) := dk_177 (dk_at dksX5_writes_5 22 rfl rfl)
abbrev cX5_goesOut : ByteArray := prog_11_method_45_code
def yX5_goesOut : MethodName := ⟨RX5, "goesOut", "()V"⟩
def dkwX5_goesOut_4 : List UInt8 := [113, 20, 0, 206, 105, 181, 0, 195, 177]
abbrev dktX5_goesOut_4 : List UInt8 := dkwX5_goesOut_4 ++ []
def dkwX5_goesOut_3 : List UInt8 := [20, 0, 206, 113, 136, 79, 42, 89, 180, 0, 203, 4, 96, 181, 0, 203, 42, 42, 180, 0, 195, 20, 0, 199]
abbrev dktX5_goesOut_3 : List UInt8 := dkwX5_goesOut_3 ++ dktX5_goesOut_4
def dkwX5_goesOut_2 : List UInt8 := [167, 255, 234, 42, 180, 0, 56, 29, 92, 46, 4, 96, 79, 42, 180, 0, 56, 42, 180, 0, 203, 31]
abbrev dktX5_goesOut_2 : List UInt8 := dkwX5_goesOut_2 ++ dktX5_goesOut_3
def dkwX5_goesOut_1 : List UInt8 := [42, 180, 0, 56, 29, 46, 17, 0, 255, 160, 0, 16, 42, 180, 0, 56, 29, 3, 79, 132, 3, 255]
abbrev dktX5_goesOut_1 : List UInt8 := dkwX5_goesOut_1 ++ dktX5_goesOut_2
def dkwX5_goesOut_0 : List UInt8 := [42, 180, 0, 195, 20, 0, 199, 109, 64, 31, 20, 0, 201, 148, 158, 0, 45, 42, 180, 0, 203, 4, 100, 62]
abbrev dktX5_goesOut_0 : List UInt8 := dkwX5_goesOut_0 ++ dktX5_goesOut_1
theorem dksX5_goesOut_0 : cX5_goesOut.data.toList.drop 0 = dktX5_goesOut_0 := by decide +kernel
theorem dksX5_goesOut_1 : cX5_goesOut.data.toList.drop 24 = dktX5_goesOut_1 := dk_seg dksX5_goesOut_0 24 rfl rfl
theorem dksX5_goesOut_2 : cX5_goesOut.data.toList.drop 46 = dktX5_goesOut_2 := dk_seg dksX5_goesOut_1 22 rfl rfl
theorem dksX5_goesOut_3 : cX5_goesOut.data.toList.drop 68 = dktX5_goesOut_3 := dk_seg dksX5_goesOut_2 22 rfl rfl
theorem dksX5_goesOut_4 : cX5_goesOut.data.toList.drop 92 = dktX5_goesOut_4 := dk_seg dksX5_goesOut_3 24 rfl rfl
theorem dX5_goesOut_0 : decode cX5_goesOut 0 = .ok (.aload_n 0, 1) := dk_42 (dk_at dksX5_goesOut_0 0 rfl rfl)
theorem dX5_goesOut_1 : decode cX5_goesOut 1 = .ok (.getfield 195, 3) := dk_180 0 195 (dk_at dksX5_goesOut_0 1 rfl rfl)
theorem dX5_goesOut_4 : decode cX5_goesOut 4 = .ok (.ldc2_w 199, 3) := dk_20 0 199 (dk_at dksX5_goesOut_0 4 rfl rfl)
theorem dX5_goesOut_7 : decode cX5_goesOut 7 = .ok (.ldiv, 1) := dk_109 (dk_at dksX5_goesOut_0 7 rfl rfl)
theorem dX5_goesOut_8 : decode cX5_goesOut 8 = .ok (.lstore_n 1, 1) := dk_64 (dk_at dksX5_goesOut_0 8 rfl rfl)
theorem dX5_goesOut_9 : decode cX5_goesOut 9 = .ok (.lload_n 1, 1) := dk_31 (dk_at dksX5_goesOut_0 9 rfl rfl)
theorem dX5_goesOut_10 : decode cX5_goesOut 10 = .ok (.ldc2_w 201, 3) := dk_20 0 201 (dk_at dksX5_goesOut_0 10 rfl rfl)
theorem dX5_goesOut_13 : decode cX5_goesOut 13 = .ok (.lcmp, 1) := dk_148 (dk_at dksX5_goesOut_0 13 rfl rfl)
theorem dX5_goesOut_14 : decode cX5_goesOut 14 = .ok (.ifCond .le 45, 3) := dk_158 0 45 (dk_at dksX5_goesOut_0 14 rfl rfl)
theorem dX5_goesOut_17 : decode cX5_goesOut 17 = .ok (.aload_n 0, 1) := dk_42 (dk_at dksX5_goesOut_0 17 rfl rfl)
theorem dX5_goesOut_18 : decode cX5_goesOut 18 = .ok (.getfield 203, 3) := dk_180 0 203 (dk_at dksX5_goesOut_0 18 rfl rfl)
theorem dX5_goesOut_21 : decode cX5_goesOut 21 = .ok (.iconst 1, 1) := dk_4 (dk_at dksX5_goesOut_0 21 rfl rfl)
theorem dX5_goesOut_22 : decode cX5_goesOut 22 = .ok (.isub, 1) := dk_100 (dk_at dksX5_goesOut_0 22 rfl rfl)
theorem dX5_goesOut_23 : decode cX5_goesOut 23 = .ok (.istore_n 3, 1) := dk_62 (dk_at dksX5_goesOut_0 23 rfl rfl)
theorem dX5_goesOut_24 : decode cX5_goesOut 24 = .ok (.aload_n 0, 1) := dk_42 (dk_at dksX5_goesOut_1 0 rfl rfl)
theorem dX5_goesOut_25 : decode cX5_goesOut 25 = .ok (.getfield 56, 3) := dk_180 0 56 (dk_at dksX5_goesOut_1 1 rfl rfl)
theorem dX5_goesOut_28 : decode cX5_goesOut 28 = .ok (.iload_n 3, 1) := dk_29 (dk_at dksX5_goesOut_1 4 rfl rfl)
theorem dX5_goesOut_29 : decode cX5_goesOut 29 = .ok (.iaload, 1) := dk_46 (dk_at dksX5_goesOut_1 5 rfl rfl)
theorem dX5_goesOut_30 : decode cX5_goesOut 30 = .ok (.sipush 255, 3) := dk_17 0 255 (dk_at dksX5_goesOut_1 6 rfl rfl)
theorem dX5_goesOut_33 : decode cX5_goesOut 33 = .ok (.if_icmp .ne 16, 3) := dk_160 0 16 (dk_at dksX5_goesOut_1 9 rfl rfl)
theorem dX5_goesOut_36 : decode cX5_goesOut 36 = .ok (.aload_n 0, 1) := dk_42 (dk_at dksX5_goesOut_1 12 rfl rfl)
theorem dX5_goesOut_37 : decode cX5_goesOut 37 = .ok (.getfield 56, 3) := dk_180 0 56 (dk_at dksX5_goesOut_1 13 rfl rfl)
theorem dX5_goesOut_40 : decode cX5_goesOut 40 = .ok (.iload_n 3, 1) := dk_29 (dk_at dksX5_goesOut_1 16 rfl rfl)
theorem dX5_goesOut_41 : decode cX5_goesOut 41 = .ok (.iconst 0, 1) := dk_3 (dk_at dksX5_goesOut_1 17 rfl rfl)
theorem dX5_goesOut_42 : decode cX5_goesOut 42 = .ok (.iastore, 1) := dk_79 (dk_at dksX5_goesOut_1 18 rfl rfl)
theorem dX5_goesOut_43 : decode cX5_goesOut 43 = .ok (.iinc 3 (-1), 3) := dk_132 3 255 (dk_at dksX5_goesOut_1 19 rfl rfl)
theorem dX5_goesOut_46 : decode cX5_goesOut 46 = .ok (.goto (-22), 3) := dk_167 255 234 (dk_at dksX5_goesOut_2 0 rfl rfl)
theorem dX5_goesOut_49 : decode cX5_goesOut 49 = .ok (.aload_n 0, 1) := dk_42 (dk_at dksX5_goesOut_2 3 rfl rfl)
theorem dX5_goesOut_50 : decode cX5_goesOut 50 = .ok (.getfield 56, 3) := dk_180 0 56 (dk_at dksX5_goesOut_2 4 rfl rfl)
theorem dX5_goesOut_53 : decode cX5_goesOut 53 = .ok (.iload_n 3, 1) := dk_29 (dk_at dksX5_goesOut_2 7 rfl rfl)
theorem dX5_goesOut_54 : decode cX5_goesOut 54 = .ok (.dup2, 1) := dk_92 (dk_at dksX5_goesOut_2 8 rfl rfl)
theorem dX5_goesOut_55 : decode cX5_goesOut 55 = .ok (.iaload, 1) := dk_46 (dk_at dksX5_goesOut_2 9 rfl rfl)
theorem dX5_goesOut_56 : decode cX5_goesOut 56 = .ok (.iconst 1, 1) := dk_4 (dk_at dksX5_goesOut_2 10 rfl rfl)
theorem dX5_goesOut_57 : decode cX5_goesOut 57 = .ok (.iadd, 1) := dk_96 (dk_at dksX5_goesOut_2 11 rfl rfl)
theorem dX5_goesOut_58 : decode cX5_goesOut 58 = .ok (.iastore, 1) := dk_79 (dk_at dksX5_goesOut_2 12 rfl rfl)
theorem dX5_goesOut_59 : decode cX5_goesOut 59 = .ok (.aload_n 0, 1) := dk_42 (dk_at dksX5_goesOut_2 13 rfl rfl)
theorem dX5_goesOut_60 : decode cX5_goesOut 60 = .ok (.getfield 56, 3) := dk_180 0 56 (dk_at dksX5_goesOut_2 14 rfl rfl)
theorem dX5_goesOut_63 : decode cX5_goesOut 63 = .ok (.aload_n 0, 1) := dk_42 (dk_at dksX5_goesOut_2 17 rfl rfl)
theorem dX5_goesOut_64 : decode cX5_goesOut 64 = .ok (.getfield 203, 3) := dk_180 0 203 (dk_at dksX5_goesOut_2 18 rfl rfl)
theorem dX5_goesOut_67 : decode cX5_goesOut 67 = .ok (.lload_n 1, 1) := dk_31 (dk_at dksX5_goesOut_2 21 rfl rfl)
theorem dX5_goesOut_68 : decode cX5_goesOut 68 = .ok (.ldc2_w 206, 3) := dk_20 0 206 (dk_at dksX5_goesOut_3 0 rfl rfl)
theorem dX5_goesOut_71 : decode cX5_goesOut 71 = .ok (.lrem, 1) := dk_113 (dk_at dksX5_goesOut_3 3 rfl rfl)
theorem dX5_goesOut_72 : decode cX5_goesOut 72 = .ok (.l2i, 1) := dk_136 (dk_at dksX5_goesOut_3 4 rfl rfl)
theorem dX5_goesOut_73 : decode cX5_goesOut 73 = .ok (.iastore, 1) := dk_79 (dk_at dksX5_goesOut_3 5 rfl rfl)
theorem dX5_goesOut_74 : decode cX5_goesOut 74 = .ok (.aload_n 0, 1) := dk_42 (dk_at dksX5_goesOut_3 6 rfl rfl)
theorem dX5_goesOut_75 : decode cX5_goesOut 75 = .ok (.dup, 1) := dk_89 (dk_at dksX5_goesOut_3 7 rfl rfl)
theorem dX5_goesOut_76 : decode cX5_goesOut 76 = .ok (.getfield 203, 3) := dk_180 0 203 (dk_at dksX5_goesOut_3 8 rfl rfl)
theorem dX5_goesOut_79 : decode cX5_goesOut 79 = .ok (.iconst 1, 1) := dk_4 (dk_at dksX5_goesOut_3 11 rfl rfl)
theorem dX5_goesOut_80 : decode cX5_goesOut 80 = .ok (.iadd, 1) := dk_96 (dk_at dksX5_goesOut_3 12 rfl rfl)
theorem dX5_goesOut_81 : decode cX5_goesOut 81 = .ok (.putfield 203, 3) := dk_181 0 203 (dk_at dksX5_goesOut_3 13 rfl rfl)
theorem dX5_goesOut_84 : decode cX5_goesOut 84 = .ok (.aload_n 0, 1) := dk_42 (dk_at dksX5_goesOut_3 16 rfl rfl)
theorem dX5_goesOut_85 : decode cX5_goesOut 85 = .ok (.aload_n 0, 1) := dk_42 (dk_at dksX5_goesOut_3 17 rfl rfl)
theorem dX5_goesOut_86 : decode cX5_goesOut 86 = .ok (.getfield 195, 3) := dk_180 0 195 (dk_at dksX5_goesOut_3 18 rfl rfl)
theorem dX5_goesOut_89 : decode cX5_goesOut 89 = .ok (.ldc2_w 199, 3) := dk_20 0 199 (dk_at dksX5_goesOut_3 21 rfl rfl)
theorem dX5_goesOut_92 : decode cX5_goesOut 92 = .ok (.lrem, 1) := dk_113 (dk_at dksX5_goesOut_4 0 rfl rfl)
theorem dX5_goesOut_93 : decode cX5_goesOut 93 = .ok (.ldc2_w 206, 3) := dk_20 0 206 (dk_at dksX5_goesOut_4 1 rfl rfl)
theorem dX5_goesOut_96 : decode cX5_goesOut 96 = .ok (.lmul, 1) := dk_105 (dk_at dksX5_goesOut_4 4 rfl rfl)
theorem dX5_goesOut_97 : decode cX5_goesOut 97 = .ok (.putfield 195, 3) := dk_181 0 195 (dk_at dksX5_goesOut_4 5 rfl rfl)
theorem dX5_goesOut_100 : decode cX5_goesOut 100 = .ok (.return_, 1) := dk_177 (dk_at dksX5_goesOut_4 8 rfl rfl)
abbrev cX5_reads : ByteArray := prog_11_method_49_code
def yX5_reads : MethodName := ⟨RX5, "reads", "(II)I"⟩
def dkwX5_reads_10 : List UInt8 := [46, 160, 0, 7, 4, 167, 0, 4, 3, 96, 54, 8, 132, 9, 1, 167, 255, 118, 21, 8, 172]
abbrev dktX5_reads_10 : List UInt8 := dkwX5_reads_10 ++ []
def dkwX5_reads_9 : List UInt8 := [55, 5, 132, 7, 1, 167, 255, 222, 42, 21, 12, 182, 0, 119, 21, 8, 21, 12, 42, 180, 0, 7, 21, 9]
abbrev dktX5_reads_9 : List UInt8 := dkwX5_reads_9 ++ dktX5_reads_10
def dkwX5_reads_8 : List UInt8 := [148, 156, 0, 31, 20, 0, 206, 33, 105, 42, 21, 7, 182, 0, 218, 133, 97, 66, 22, 5, 20, 0, 206, 105]
abbrev dktX5_reads_8 : List UInt8 := dkwX5_reads_8 ++ dktX5_reads_9
def dkwX5_reads_7 : List UInt8 := [66, 21, 12, 4, 160, 0, 8, 22, 10, 167, 0, 8, 22, 5, 22, 10, 101, 55, 5, 22, 5, 20, 0, 199]
abbrev dktX5_reads_7 : List UInt8 := dkwX5_reads_7 ++ dktX5_reads_8
def dkwX5_reads_6 : List UInt8 := [156, 0, 7, 4, 167, 0, 4, 3, 54, 12, 33, 21, 12, 4, 160, 0, 7, 9, 167, 0, 5, 22, 10, 101]
abbrev dktX5_reads_6 : List UInt8 := dkwX5_reads_6 ++ dktX5_reads_7
def dkwX5_reads_5 : List UInt8 := [182, 0, 112, 162, 0, 135, 22, 5, 20, 0, 82, 109, 42, 182, 0, 116, 133, 105, 55, 10, 33, 22, 10, 148]
abbrev dktX5_reads_5 : List UInt8 := dkwX5_reads_5 ++ dktX5_reads_6
def dkwX5_reads_4 : List UInt8 := [167, 255, 233, 3, 54, 8, 42, 42, 182, 0, 123, 42, 182, 0, 126, 182, 0, 108, 3, 54, 9, 21, 9, 42]
abbrev dktX5_reads_4 : List UInt8 := dkwX5_reads_4 ++ dktX5_reads_5
def dkwX5_reads_3 : List UInt8 := [21, 7, 7, 162, 0, 23, 20, 0, 206, 33, 105, 42, 21, 7, 182, 0, 218, 133, 97, 66, 132, 7, 1]
abbrev dktX5_reads_3 : List UInt8 := dkwX5_reads_3 ++ dktX5_reads_4
def dkwX5_reads_2 : List UInt8 := [159, 0, 13, 42, 180, 0, 56, 27, 92, 46, 28, 130, 79, 9, 66, 20, 0, 208, 55, 5, 3, 54, 7]
abbrev dktX5_reads_2 : List UInt8 := dkwX5_reads_2 ++ dktX5_reads_3
def dkwX5_reads_1 : List UInt8 := [159, 0, 22, 28, 133, 10, 20, 0, 201, 184, 0, 138, 154, 0, 10, 42, 16, 254, 182, 0, 142, 172, 27, 2]
abbrev dktX5_reads_1 : List UInt8 := dkwX5_reads_1 ++ dktX5_reads_2
def dkwX5_reads_0 : List UInt8 := [42, 182, 0, 213, 27, 133, 20, 0, 216, 42, 180, 0, 203, 4, 100, 133, 184, 0, 138, 153, 0, 20, 27, 2]
abbrev dktX5_reads_0 : List UInt8 := dkwX5_reads_0 ++ dktX5_reads_1
theorem dksX5_reads_0 : cX5_reads.data.toList.drop 0 = dktX5_reads_0 := by decide +kernel
theorem dksX5_reads_1 : cX5_reads.data.toList.drop 24 = dktX5_reads_1 := dk_seg dksX5_reads_0 24 rfl rfl
theorem dksX5_reads_2 : cX5_reads.data.toList.drop 48 = dktX5_reads_2 := dk_seg dksX5_reads_1 24 rfl rfl
theorem dksX5_reads_3 : cX5_reads.data.toList.drop 71 = dktX5_reads_3 := dk_seg dksX5_reads_2 23 rfl rfl
theorem dksX5_reads_4 : cX5_reads.data.toList.drop 94 = dktX5_reads_4 := dk_seg dksX5_reads_3 23 rfl rfl
theorem dksX5_reads_5 : cX5_reads.data.toList.drop 118 = dktX5_reads_5 := dk_seg dksX5_reads_4 24 rfl rfl
theorem dksX5_reads_6 : cX5_reads.data.toList.drop 142 = dktX5_reads_6 := dk_seg dksX5_reads_5 24 rfl rfl
theorem dksX5_reads_7 : cX5_reads.data.toList.drop 166 = dktX5_reads_7 := dk_seg dksX5_reads_6 24 rfl rfl
theorem dksX5_reads_8 : cX5_reads.data.toList.drop 190 = dktX5_reads_8 := dk_seg dksX5_reads_7 24 rfl rfl
theorem dksX5_reads_9 : cX5_reads.data.toList.drop 214 = dktX5_reads_9 := dk_seg dksX5_reads_8 24 rfl rfl
theorem dksX5_reads_10 : cX5_reads.data.toList.drop 238 = dktX5_reads_10 := dk_seg dksX5_reads_9 24 rfl rfl
theorem dX5_reads_0 : decode cX5_reads 0 = .ok (.aload_n 0, 1) := dk_42 (dk_at dksX5_reads_0 0 rfl rfl)
theorem dX5_reads_1 : decode cX5_reads 1 = .ok (.invokevirtual 213, 3) := dk_182 0 213 (dk_at dksX5_reads_0 1 rfl rfl)
theorem dX5_reads_4 : decode cX5_reads 4 = .ok (.iload_n 1, 1) := dk_27 (dk_at dksX5_reads_0 4 rfl rfl)
theorem dX5_reads_5 : decode cX5_reads 5 = .ok (.i2l, 1) := dk_133 (dk_at dksX5_reads_0 5 rfl rfl)
theorem dX5_reads_6 : decode cX5_reads 6 = .ok (.ldc2_w 216, 3) := dk_20 0 216 (dk_at dksX5_reads_0 6 rfl rfl)
theorem dX5_reads_9 : decode cX5_reads 9 = .ok (.aload_n 0, 1) := dk_42 (dk_at dksX5_reads_0 9 rfl rfl)
theorem dX5_reads_10 : decode cX5_reads 10 = .ok (.getfield 203, 3) := dk_180 0 203 (dk_at dksX5_reads_0 10 rfl rfl)
theorem dX5_reads_13 : decode cX5_reads 13 = .ok (.iconst 1, 1) := dk_4 (dk_at dksX5_reads_0 13 rfl rfl)
theorem dX5_reads_14 : decode cX5_reads 14 = .ok (.isub, 1) := dk_100 (dk_at dksX5_reads_0 14 rfl rfl)
theorem dX5_reads_15 : decode cX5_reads 15 = .ok (.i2l, 1) := dk_133 (dk_at dksX5_reads_0 15 rfl rfl)
theorem dX5_reads_16 : decode cX5_reads 16 = .ok (.invokestatic 138, 3) := dk_184 0 138 (dk_at dksX5_reads_0 16 rfl rfl)
theorem dX5_reads_19 : decode cX5_reads 19 = .ok (.ifCond .eq 20, 3) := dk_153 0 20 (dk_at dksX5_reads_0 19 rfl rfl)
theorem dX5_reads_22 : decode cX5_reads 22 = .ok (.iload_n 1, 1) := dk_27 (dk_at dksX5_reads_0 22 rfl rfl)
theorem dX5_reads_23 : decode cX5_reads 23 = .ok (.iconst (-1), 1) := dk_2 (dk_at dksX5_reads_0 23 rfl rfl)
theorem dX5_reads_24 : decode cX5_reads 24 = .ok (.if_icmp .eq 22, 3) := dk_159 0 22 (dk_at dksX5_reads_1 0 rfl rfl)
theorem dX5_reads_27 : decode cX5_reads 27 = .ok (.iload_n 2, 1) := dk_28 (dk_at dksX5_reads_1 3 rfl rfl)
theorem dX5_reads_28 : decode cX5_reads 28 = .ok (.i2l, 1) := dk_133 (dk_at dksX5_reads_1 4 rfl rfl)
theorem dX5_reads_29 : decode cX5_reads 29 = .ok (.lconst 1, 1) := dk_10 (dk_at dksX5_reads_1 5 rfl rfl)
theorem dX5_reads_30 : decode cX5_reads 30 = .ok (.ldc2_w 201, 3) := dk_20 0 201 (dk_at dksX5_reads_1 6 rfl rfl)
theorem dX5_reads_33 : decode cX5_reads 33 = .ok (.invokestatic 138, 3) := dk_184 0 138 (dk_at dksX5_reads_1 9 rfl rfl)
theorem dX5_reads_36 : decode cX5_reads 36 = .ok (.ifCond .ne 10, 3) := dk_154 0 10 (dk_at dksX5_reads_1 12 rfl rfl)
theorem dX5_reads_39 : decode cX5_reads 39 = .ok (.aload_n 0, 1) := dk_42 (dk_at dksX5_reads_1 15 rfl rfl)
theorem dX5_reads_40 : decode cX5_reads 40 = .ok (.bipush (-2), 2) := dk_16 254 (dk_at dksX5_reads_1 16 rfl rfl)
theorem dX5_reads_42 : decode cX5_reads 42 = .ok (.invokevirtual 142, 3) := dk_182 0 142 (dk_at dksX5_reads_1 18 rfl rfl)
theorem dX5_reads_45 : decode cX5_reads 45 = .ok (.ireturn, 1) := dk_172 (dk_at dksX5_reads_1 21 rfl rfl)
theorem dX5_reads_46 : decode cX5_reads 46 = .ok (.iload_n 1, 1) := dk_27 (dk_at dksX5_reads_1 22 rfl rfl)
theorem dX5_reads_47 : decode cX5_reads 47 = .ok (.iconst (-1), 1) := dk_2 (dk_at dksX5_reads_1 23 rfl rfl)
theorem dX5_reads_48 : decode cX5_reads 48 = .ok (.if_icmp .eq 13, 3) := dk_159 0 13 (dk_at dksX5_reads_2 0 rfl rfl)
theorem dX5_reads_51 : decode cX5_reads 51 = .ok (.aload_n 0, 1) := dk_42 (dk_at dksX5_reads_2 3 rfl rfl)
theorem dX5_reads_52 : decode cX5_reads 52 = .ok (.getfield 56, 3) := dk_180 0 56 (dk_at dksX5_reads_2 4 rfl rfl)
theorem dX5_reads_55 : decode cX5_reads 55 = .ok (.iload_n 1, 1) := dk_27 (dk_at dksX5_reads_2 7 rfl rfl)
theorem dX5_reads_56 : decode cX5_reads 56 = .ok (.dup2, 1) := dk_92 (dk_at dksX5_reads_2 8 rfl rfl)
theorem dX5_reads_57 : decode cX5_reads 57 = .ok (.iaload, 1) := dk_46 (dk_at dksX5_reads_2 9 rfl rfl)
theorem dX5_reads_58 : decode cX5_reads 58 = .ok (.iload_n 2, 1) := dk_28 (dk_at dksX5_reads_2 10 rfl rfl)
theorem dX5_reads_59 : decode cX5_reads 59 = .ok (.ixor, 1) := dk_130 (dk_at dksX5_reads_2 11 rfl rfl)
theorem dX5_reads_60 : decode cX5_reads 60 = .ok (.iastore, 1) := dk_79 (dk_at dksX5_reads_2 12 rfl rfl)
theorem dX5_reads_61 : decode cX5_reads 61 = .ok (.lconst 0, 1) := dk_9 (dk_at dksX5_reads_2 13 rfl rfl)
theorem dX5_reads_62 : decode cX5_reads 62 = .ok (.lstore_n 3, 1) := dk_66 (dk_at dksX5_reads_2 14 rfl rfl)
theorem dX5_reads_63 : decode cX5_reads 63 = .ok (.ldc2_w 208, 3) := dk_20 0 208 (dk_at dksX5_reads_2 15 rfl rfl)
theorem dX5_reads_66 : decode cX5_reads 66 = .ok (.lstore 5, 2) := dk_55 5 (dk_at dksX5_reads_2 18 rfl rfl)
theorem dX5_reads_68 : decode cX5_reads 68 = .ok (.iconst 0, 1) := dk_3 (dk_at dksX5_reads_2 20 rfl rfl)
theorem dX5_reads_69 : decode cX5_reads 69 = .ok (.istore 7, 2) := dk_54 7 (dk_at dksX5_reads_2 21 rfl rfl)
theorem dX5_reads_71 : decode cX5_reads 71 = .ok (.iload 7, 2) := dk_21 7 (dk_at dksX5_reads_3 0 rfl rfl)
theorem dX5_reads_73 : decode cX5_reads 73 = .ok (.iconst 4, 1) := dk_7 (dk_at dksX5_reads_3 2 rfl rfl)
theorem dX5_reads_74 : decode cX5_reads 74 = .ok (.if_icmp .ge 23, 3) := dk_162 0 23 (dk_at dksX5_reads_3 3 rfl rfl)
theorem dX5_reads_77 : decode cX5_reads 77 = .ok (.ldc2_w 206, 3) := dk_20 0 206 (dk_at dksX5_reads_3 6 rfl rfl)
theorem dX5_reads_80 : decode cX5_reads 80 = .ok (.lload_n 3, 1) := dk_33 (dk_at dksX5_reads_3 9 rfl rfl)
theorem dX5_reads_81 : decode cX5_reads 81 = .ok (.lmul, 1) := dk_105 (dk_at dksX5_reads_3 10 rfl rfl)
theorem dX5_reads_82 : decode cX5_reads 82 = .ok (.aload_n 0, 1) := dk_42 (dk_at dksX5_reads_3 11 rfl rfl)
theorem dX5_reads_83 : decode cX5_reads 83 = .ok (.iload 7, 2) := dk_21 7 (dk_at dksX5_reads_3 12 rfl rfl)
theorem dX5_reads_85 : decode cX5_reads 85 = .ok (.invokevirtual 218, 3) := dk_182 0 218 (dk_at dksX5_reads_3 14 rfl rfl)
theorem dX5_reads_88 : decode cX5_reads 88 = .ok (.i2l, 1) := dk_133 (dk_at dksX5_reads_3 17 rfl rfl)
theorem dX5_reads_89 : decode cX5_reads 89 = .ok (.ladd, 1) := dk_97 (dk_at dksX5_reads_3 18 rfl rfl)
theorem dX5_reads_90 : decode cX5_reads 90 = .ok (.lstore_n 3, 1) := dk_66 (dk_at dksX5_reads_3 19 rfl rfl)
theorem dX5_reads_91 : decode cX5_reads 91 = .ok (.iinc 7 1, 3) := dk_132 7 1 (dk_at dksX5_reads_3 20 rfl rfl)
theorem dX5_reads_94 : decode cX5_reads 94 = .ok (.goto (-23), 3) := dk_167 255 233 (dk_at dksX5_reads_4 0 rfl rfl)
theorem dX5_reads_97 : decode cX5_reads 97 = .ok (.iconst 0, 1) := dk_3 (dk_at dksX5_reads_4 3 rfl rfl)
theorem dX5_reads_98 : decode cX5_reads 98 = .ok (.istore 8, 2) := dk_54 8 (dk_at dksX5_reads_4 4 rfl rfl)
theorem dX5_reads_100 : decode cX5_reads 100 = .ok (.aload_n 0, 1) := dk_42 (dk_at dksX5_reads_4 6 rfl rfl)
theorem dX5_reads_101 : decode cX5_reads 101 = .ok (.aload_n 0, 1) := dk_42 (dk_at dksX5_reads_4 7 rfl rfl)
theorem dX5_reads_102 : decode cX5_reads 102 = .ok (.invokevirtual 123, 3) := dk_182 0 123 (dk_at dksX5_reads_4 8 rfl rfl)
theorem dX5_reads_105 : decode cX5_reads 105 = .ok (.aload_n 0, 1) := dk_42 (dk_at dksX5_reads_4 11 rfl rfl)
theorem dX5_reads_106 : decode cX5_reads 106 = .ok (.invokevirtual 126, 3) := dk_182 0 126 (dk_at dksX5_reads_4 12 rfl rfl)
theorem dX5_reads_109 : decode cX5_reads 109 = .ok (.invokevirtual 108, 3) := dk_182 0 108 (dk_at dksX5_reads_4 15 rfl rfl)
theorem dX5_reads_112 : decode cX5_reads 112 = .ok (.iconst 0, 1) := dk_3 (dk_at dksX5_reads_4 18 rfl rfl)
theorem dX5_reads_113 : decode cX5_reads 113 = .ok (.istore 9, 2) := dk_54 9 (dk_at dksX5_reads_4 19 rfl rfl)
theorem dX5_reads_115 : decode cX5_reads 115 = .ok (.iload 9, 2) := dk_21 9 (dk_at dksX5_reads_4 21 rfl rfl)
theorem dX5_reads_117 : decode cX5_reads 117 = .ok (.aload_n 0, 1) := dk_42 (dk_at dksX5_reads_4 23 rfl rfl)
theorem dX5_reads_118 : decode cX5_reads 118 = .ok (.invokevirtual 112, 3) := dk_182 0 112 (dk_at dksX5_reads_5 0 rfl rfl)
theorem dX5_reads_121 : decode cX5_reads 121 = .ok (.if_icmp .ge 135, 3) := dk_162 0 135 (dk_at dksX5_reads_5 3 rfl rfl)
theorem dX5_reads_124 : decode cX5_reads 124 = .ok (.lload 5, 2) := dk_22 5 (dk_at dksX5_reads_5 6 rfl rfl)
theorem dX5_reads_126 : decode cX5_reads 126 = .ok (.ldc2_w 82, 3) := dk_20 0 82 (dk_at dksX5_reads_5 8 rfl rfl)
theorem dX5_reads_129 : decode cX5_reads 129 = .ok (.ldiv, 1) := dk_109 (dk_at dksX5_reads_5 11 rfl rfl)
theorem dX5_reads_130 : decode cX5_reads 130 = .ok (.aload_n 0, 1) := dk_42 (dk_at dksX5_reads_5 12 rfl rfl)
theorem dX5_reads_131 : decode cX5_reads 131 = .ok (.invokevirtual 116, 3) := dk_182 0 116 (dk_at dksX5_reads_5 13 rfl rfl)
theorem dX5_reads_134 : decode cX5_reads 134 = .ok (.i2l, 1) := dk_133 (dk_at dksX5_reads_5 16 rfl rfl)
theorem dX5_reads_135 : decode cX5_reads 135 = .ok (.lmul, 1) := dk_105 (dk_at dksX5_reads_5 17 rfl rfl)
theorem dX5_reads_136 : decode cX5_reads 136 = .ok (.lstore 10, 2) := dk_55 10 (dk_at dksX5_reads_5 18 rfl rfl)
theorem dX5_reads_138 : decode cX5_reads 138 = .ok (.lload_n 3, 1) := dk_33 (dk_at dksX5_reads_5 20 rfl rfl)
theorem dX5_reads_139 : decode cX5_reads 139 = .ok (.lload 10, 2) := dk_22 10 (dk_at dksX5_reads_5 21 rfl rfl)
theorem dX5_reads_141 : decode cX5_reads 141 = .ok (.lcmp, 1) := dk_148 (dk_at dksX5_reads_5 23 rfl rfl)
theorem dX5_reads_142 : decode cX5_reads 142 = .ok (.ifCond .ge 7, 3) := dk_156 0 7 (dk_at dksX5_reads_6 0 rfl rfl)
theorem dX5_reads_145 : decode cX5_reads 145 = .ok (.iconst 1, 1) := dk_4 (dk_at dksX5_reads_6 3 rfl rfl)
theorem dX5_reads_146 : decode cX5_reads 146 = .ok (.goto 4, 3) := dk_167 0 4 (dk_at dksX5_reads_6 4 rfl rfl)
theorem dX5_reads_149 : decode cX5_reads 149 = .ok (.iconst 0, 1) := dk_3 (dk_at dksX5_reads_6 7 rfl rfl)
theorem dX5_reads_150 : decode cX5_reads 150 = .ok (.istore 12, 2) := dk_54 12 (dk_at dksX5_reads_6 8 rfl rfl)
theorem dX5_reads_152 : decode cX5_reads 152 = .ok (.lload_n 3, 1) := dk_33 (dk_at dksX5_reads_6 10 rfl rfl)
theorem dX5_reads_153 : decode cX5_reads 153 = .ok (.iload 12, 2) := dk_21 12 (dk_at dksX5_reads_6 11 rfl rfl)
theorem dX5_reads_155 : decode cX5_reads 155 = .ok (.iconst 1, 1) := dk_4 (dk_at dksX5_reads_6 13 rfl rfl)
theorem dX5_reads_156 : decode cX5_reads 156 = .ok (.if_icmp .ne 7, 3) := dk_160 0 7 (dk_at dksX5_reads_6 14 rfl rfl)
theorem dX5_reads_159 : decode cX5_reads 159 = .ok (.lconst 0, 1) := dk_9 (dk_at dksX5_reads_6 17 rfl rfl)
theorem dX5_reads_160 : decode cX5_reads 160 = .ok (.goto 5, 3) := dk_167 0 5 (dk_at dksX5_reads_6 18 rfl rfl)
theorem dX5_reads_163 : decode cX5_reads 163 = .ok (.lload 10, 2) := dk_22 10 (dk_at dksX5_reads_6 21 rfl rfl)
theorem dX5_reads_165 : decode cX5_reads 165 = .ok (.lsub, 1) := dk_101 (dk_at dksX5_reads_6 23 rfl rfl)
theorem dX5_reads_166 : decode cX5_reads 166 = .ok (.lstore_n 3, 1) := dk_66 (dk_at dksX5_reads_7 0 rfl rfl)
theorem dX5_reads_167 : decode cX5_reads 167 = .ok (.iload 12, 2) := dk_21 12 (dk_at dksX5_reads_7 1 rfl rfl)
theorem dX5_reads_169 : decode cX5_reads 169 = .ok (.iconst 1, 1) := dk_4 (dk_at dksX5_reads_7 3 rfl rfl)
theorem dX5_reads_170 : decode cX5_reads 170 = .ok (.if_icmp .ne 8, 3) := dk_160 0 8 (dk_at dksX5_reads_7 4 rfl rfl)
theorem dX5_reads_173 : decode cX5_reads 173 = .ok (.lload 10, 2) := dk_22 10 (dk_at dksX5_reads_7 7 rfl rfl)
theorem dX5_reads_175 : decode cX5_reads 175 = .ok (.goto 8, 3) := dk_167 0 8 (dk_at dksX5_reads_7 9 rfl rfl)
theorem dX5_reads_178 : decode cX5_reads 178 = .ok (.lload 5, 2) := dk_22 5 (dk_at dksX5_reads_7 12 rfl rfl)
theorem dX5_reads_180 : decode cX5_reads 180 = .ok (.lload 10, 2) := dk_22 10 (dk_at dksX5_reads_7 14 rfl rfl)
theorem dX5_reads_182 : decode cX5_reads 182 = .ok (.lsub, 1) := dk_101 (dk_at dksX5_reads_7 16 rfl rfl)
theorem dX5_reads_183 : decode cX5_reads 183 = .ok (.lstore 5, 2) := dk_55 5 (dk_at dksX5_reads_7 17 rfl rfl)
theorem dX5_reads_185 : decode cX5_reads 185 = .ok (.lload 5, 2) := dk_22 5 (dk_at dksX5_reads_7 19 rfl rfl)
theorem dX5_reads_187 : decode cX5_reads 187 = .ok (.ldc2_w 199, 3) := dk_20 0 199 (dk_at dksX5_reads_7 21 rfl rfl)
theorem dX5_reads_190 : decode cX5_reads 190 = .ok (.lcmp, 1) := dk_148 (dk_at dksX5_reads_8 0 rfl rfl)
theorem dX5_reads_191 : decode cX5_reads 191 = .ok (.ifCond .ge 31, 3) := dk_156 0 31 (dk_at dksX5_reads_8 1 rfl rfl)
theorem dX5_reads_194 : decode cX5_reads 194 = .ok (.ldc2_w 206, 3) := dk_20 0 206 (dk_at dksX5_reads_8 4 rfl rfl)
theorem dX5_reads_197 : decode cX5_reads 197 = .ok (.lload_n 3, 1) := dk_33 (dk_at dksX5_reads_8 7 rfl rfl)
theorem dX5_reads_198 : decode cX5_reads 198 = .ok (.lmul, 1) := dk_105 (dk_at dksX5_reads_8 8 rfl rfl)
theorem dX5_reads_199 : decode cX5_reads 199 = .ok (.aload_n 0, 1) := dk_42 (dk_at dksX5_reads_8 9 rfl rfl)
theorem dX5_reads_200 : decode cX5_reads 200 = .ok (.iload 7, 2) := dk_21 7 (dk_at dksX5_reads_8 10 rfl rfl)
theorem dX5_reads_202 : decode cX5_reads 202 = .ok (.invokevirtual 218, 3) := dk_182 0 218 (dk_at dksX5_reads_8 12 rfl rfl)
theorem dX5_reads_205 : decode cX5_reads 205 = .ok (.i2l, 1) := dk_133 (dk_at dksX5_reads_8 15 rfl rfl)
theorem dX5_reads_206 : decode cX5_reads 206 = .ok (.ladd, 1) := dk_97 (dk_at dksX5_reads_8 16 rfl rfl)
theorem dX5_reads_207 : decode cX5_reads 207 = .ok (.lstore_n 3, 1) := dk_66 (dk_at dksX5_reads_8 17 rfl rfl)
theorem dX5_reads_208 : decode cX5_reads 208 = .ok (.lload 5, 2) := dk_22 5 (dk_at dksX5_reads_8 18 rfl rfl)
theorem dX5_reads_210 : decode cX5_reads 210 = .ok (.ldc2_w 206, 3) := dk_20 0 206 (dk_at dksX5_reads_8 20 rfl rfl)
theorem dX5_reads_213 : decode cX5_reads 213 = .ok (.lmul, 1) := dk_105 (dk_at dksX5_reads_8 23 rfl rfl)
theorem dX5_reads_214 : decode cX5_reads 214 = .ok (.lstore 5, 2) := dk_55 5 (dk_at dksX5_reads_9 0 rfl rfl)
theorem dX5_reads_216 : decode cX5_reads 216 = .ok (.iinc 7 1, 3) := dk_132 7 1 (dk_at dksX5_reads_9 2 rfl rfl)
theorem dX5_reads_219 : decode cX5_reads 219 = .ok (.goto (-34), 3) := dk_167 255 222 (dk_at dksX5_reads_9 5 rfl rfl)
theorem dX5_reads_222 : decode cX5_reads 222 = .ok (.aload_n 0, 1) := dk_42 (dk_at dksX5_reads_9 8 rfl rfl)
theorem dX5_reads_223 : decode cX5_reads 223 = .ok (.iload 12, 2) := dk_21 12 (dk_at dksX5_reads_9 9 rfl rfl)
theorem dX5_reads_225 : decode cX5_reads 225 = .ok (.invokevirtual 119, 3) := dk_182 0 119 (dk_at dksX5_reads_9 11 rfl rfl)
theorem dX5_reads_228 : decode cX5_reads 228 = .ok (.iload 8, 2) := dk_21 8 (dk_at dksX5_reads_9 14 rfl rfl)
theorem dX5_reads_230 : decode cX5_reads 230 = .ok (.iload 12, 2) := dk_21 12 (dk_at dksX5_reads_9 16 rfl rfl)
theorem dX5_reads_232 : decode cX5_reads 232 = .ok (.aload_n 0, 1) := dk_42 (dk_at dksX5_reads_9 18 rfl rfl)
theorem dX5_reads_233 : decode cX5_reads 233 = .ok (.getfield 7, 3) := dk_180 0 7 (dk_at dksX5_reads_9 19 rfl rfl)
theorem dX5_reads_236 : decode cX5_reads 236 = .ok (.iload 9, 2) := dk_21 9 (dk_at dksX5_reads_9 22 rfl rfl)
theorem dX5_reads_238 : decode cX5_reads 238 = .ok (.iaload, 1) := dk_46 (dk_at dksX5_reads_10 0 rfl rfl)
theorem dX5_reads_239 : decode cX5_reads 239 = .ok (.if_icmp .ne 7, 3) := dk_160 0 7 (dk_at dksX5_reads_10 1 rfl rfl)
theorem dX5_reads_242 : decode cX5_reads 242 = .ok (.iconst 1, 1) := dk_4 (dk_at dksX5_reads_10 4 rfl rfl)
theorem dX5_reads_243 : decode cX5_reads 243 = .ok (.goto 4, 3) := dk_167 0 4 (dk_at dksX5_reads_10 5 rfl rfl)
theorem dX5_reads_246 : decode cX5_reads 246 = .ok (.iconst 0, 1) := dk_3 (dk_at dksX5_reads_10 8 rfl rfl)
theorem dX5_reads_247 : decode cX5_reads 247 = .ok (.iadd, 1) := dk_96 (dk_at dksX5_reads_10 9 rfl rfl)
theorem dX5_reads_248 : decode cX5_reads 248 = .ok (.istore 8, 2) := dk_54 8 (dk_at dksX5_reads_10 10 rfl rfl)
theorem dX5_reads_250 : decode cX5_reads 250 = .ok (.iinc 9 1, 3) := dk_132 9 1 (dk_at dksX5_reads_10 12 rfl rfl)
theorem dX5_reads_253 : decode cX5_reads 253 = .ok (.goto (-138), 3) := dk_167 255 118 (dk_at dksX5_reads_10 15 rfl rfl)
theorem dX5_reads_256 : decode cX5_reads 256 = .ok (.iload 8, 2) := dk_21 8 (dk_at dksX5_reads_10 18 rfl rfl)
theorem dX5_reads_258 : decode cX5_reads 258 = .ok (.ireturn, 1) := dk_172 (dk_at dksX5_reads_10 20 rfl rfl)
abbrev cX5_byteAt : ByteArray := prog_11_method_48_code
def yX5_byteAt : MethodName := ⟨RX5, "byteAt", "(I)I"⟩
def dkwX5_byteAt_0 : List UInt8 := [27, 42, 180, 0, 203, 162, 0, 12, 42, 180, 0, 56, 27, 46, 167, 0, 4, 3, 172]
abbrev dktX5_byteAt_0 : List UInt8 := dkwX5_byteAt_0 ++ []
theorem dksX5_byteAt_0 : cX5_byteAt.data.toList.drop 0 = dktX5_byteAt_0 := by decide +kernel
theorem dX5_byteAt_0 : decode cX5_byteAt 0 = .ok (.iload_n 1, 1) := dk_27 (dk_at dksX5_byteAt_0 0 rfl rfl)
theorem dX5_byteAt_1 : decode cX5_byteAt 1 = .ok (.aload_n 0, 1) := dk_42 (dk_at dksX5_byteAt_0 1 rfl rfl)
theorem dX5_byteAt_2 : decode cX5_byteAt 2 = .ok (.getfield 203, 3) := dk_180 0 203 (dk_at dksX5_byteAt_0 2 rfl rfl)
theorem dX5_byteAt_5 : decode cX5_byteAt 5 = .ok (.if_icmp .ge 12, 3) := dk_162 0 12 (dk_at dksX5_byteAt_0 5 rfl rfl)
theorem dX5_byteAt_8 : decode cX5_byteAt 8 = .ok (.aload_n 0, 1) := dk_42 (dk_at dksX5_byteAt_0 8 rfl rfl)
theorem dX5_byteAt_9 : decode cX5_byteAt 9 = .ok (.getfield 56, 3) := dk_180 0 56 (dk_at dksX5_byteAt_0 9 rfl rfl)
theorem dX5_byteAt_12 : decode cX5_byteAt 12 = .ok (.iload_n 1, 1) := dk_27 (dk_at dksX5_byteAt_0 12 rfl rfl)
theorem dX5_byteAt_13 : decode cX5_byteAt 13 = .ok (.iaload, 1) := dk_46 (dk_at dksX5_byteAt_0 13 rfl rfl)
theorem dX5_byteAt_14 : decode cX5_byteAt 14 = .ok (.goto 4, 3) := dk_167 0 4 (dk_at dksX5_byteAt_0 14 rfl rfl)
theorem dX5_byteAt_17 : decode cX5_byteAt 17 = .ok (.iconst 0, 1) := dk_3 (dk_at dksX5_byteAt_0 17 rfl rfl)
theorem dX5_byteAt_18 : decode cX5_byteAt 18 = .ok (.ireturn, 1) := dk_172 (dk_at dksX5_byteAt_0 18 rfl rfl)
abbrev cX5_type : ByteArray := prog_11_method_50_code
def yX5_type : MethodName := ⟨RX5, "type", "(I)I"⟩
def dkwX5_type_2 : List UInt8 := [180, 0, 223, 4, 96, 181, 0, 223, 42, 180, 0, 223, 172]
abbrev dktX5_type_2 : List UInt8 := dkwX5_type_2 ++ []
def dkwX5_type_1 : List UInt8 := [16, 120, 160, 0, 8, 42, 182, 0, 145, 172, 42, 180, 0, 59, 42, 180, 0, 223, 27, 79, 42, 89]
abbrev dktX5_type_1 : List UInt8 := dkwX5_type_1 ++ dktX5_type_2
def dkwX5_type_0 : List UInt8 := [27, 133, 9, 20, 0, 221, 184, 0, 138, 154, 0, 10, 42, 16, 254, 182, 0, 142, 172, 42, 180, 0, 223]
abbrev dktX5_type_0 : List UInt8 := dkwX5_type_0 ++ dktX5_type_1
theorem dksX5_type_0 : cX5_type.data.toList.drop 0 = dktX5_type_0 := by decide +kernel
theorem dksX5_type_1 : cX5_type.data.toList.drop 23 = dktX5_type_1 := dk_seg dksX5_type_0 23 rfl rfl
theorem dksX5_type_2 : cX5_type.data.toList.drop 45 = dktX5_type_2 := dk_seg dksX5_type_1 22 rfl rfl
theorem dX5_type_0 : decode cX5_type 0 = .ok (.iload_n 1, 1) := dk_27 (dk_at dksX5_type_0 0 rfl rfl)
theorem dX5_type_1 : decode cX5_type 1 = .ok (.i2l, 1) := dk_133 (dk_at dksX5_type_0 1 rfl rfl)
theorem dX5_type_2 : decode cX5_type 2 = .ok (.lconst 0, 1) := dk_9 (dk_at dksX5_type_0 2 rfl rfl)
theorem dX5_type_3 : decode cX5_type 3 = .ok (.ldc2_w 221, 3) := dk_20 0 221 (dk_at dksX5_type_0 3 rfl rfl)
theorem dX5_type_6 : decode cX5_type 6 = .ok (.invokestatic 138, 3) := dk_184 0 138 (dk_at dksX5_type_0 6 rfl rfl)
theorem dX5_type_9 : decode cX5_type 9 = .ok (.ifCond .ne 10, 3) := dk_154 0 10 (dk_at dksX5_type_0 9 rfl rfl)
theorem dX5_type_12 : decode cX5_type 12 = .ok (.aload_n 0, 1) := dk_42 (dk_at dksX5_type_0 12 rfl rfl)
theorem dX5_type_13 : decode cX5_type 13 = .ok (.bipush (-2), 2) := dk_16 254 (dk_at dksX5_type_0 13 rfl rfl)
theorem dX5_type_15 : decode cX5_type 15 = .ok (.invokevirtual 142, 3) := dk_182 0 142 (dk_at dksX5_type_0 15 rfl rfl)
theorem dX5_type_18 : decode cX5_type 18 = .ok (.ireturn, 1) := dk_172 (dk_at dksX5_type_0 18 rfl rfl)
theorem dX5_type_19 : decode cX5_type 19 = .ok (.aload_n 0, 1) := dk_42 (dk_at dksX5_type_0 19 rfl rfl)
theorem dX5_type_20 : decode cX5_type 20 = .ok (.getfield 223, 3) := dk_180 0 223 (dk_at dksX5_type_0 20 rfl rfl)
theorem dX5_type_23 : decode cX5_type 23 = .ok (.bipush 120, 2) := dk_16 120 (dk_at dksX5_type_1 0 rfl rfl)
theorem dX5_type_25 : decode cX5_type 25 = .ok (.if_icmp .ne 8, 3) := dk_160 0 8 (dk_at dksX5_type_1 2 rfl rfl)
theorem dX5_type_28 : decode cX5_type 28 = .ok (.aload_n 0, 1) := dk_42 (dk_at dksX5_type_1 5 rfl rfl)
theorem dX5_type_29 : decode cX5_type 29 = .ok (.invokevirtual 145, 3) := dk_182 0 145 (dk_at dksX5_type_1 6 rfl rfl)
theorem dX5_type_32 : decode cX5_type 32 = .ok (.ireturn, 1) := dk_172 (dk_at dksX5_type_1 9 rfl rfl)
theorem dX5_type_33 : decode cX5_type 33 = .ok (.aload_n 0, 1) := dk_42 (dk_at dksX5_type_1 10 rfl rfl)
theorem dX5_type_34 : decode cX5_type 34 = .ok (.getfield 59, 3) := dk_180 0 59 (dk_at dksX5_type_1 11 rfl rfl)
theorem dX5_type_37 : decode cX5_type 37 = .ok (.aload_n 0, 1) := dk_42 (dk_at dksX5_type_1 14 rfl rfl)
theorem dX5_type_38 : decode cX5_type 38 = .ok (.getfield 223, 3) := dk_180 0 223 (dk_at dksX5_type_1 15 rfl rfl)
theorem dX5_type_41 : decode cX5_type 41 = .ok (.iload_n 1, 1) := dk_27 (dk_at dksX5_type_1 18 rfl rfl)
theorem dX5_type_42 : decode cX5_type 42 = .ok (.iastore, 1) := dk_79 (dk_at dksX5_type_1 19 rfl rfl)
theorem dX5_type_43 : decode cX5_type 43 = .ok (.aload_n 0, 1) := dk_42 (dk_at dksX5_type_1 20 rfl rfl)
theorem dX5_type_44 : decode cX5_type 44 = .ok (.dup, 1) := dk_89 (dk_at dksX5_type_1 21 rfl rfl)
theorem dX5_type_45 : decode cX5_type 45 = .ok (.getfield 223, 3) := dk_180 0 223 (dk_at dksX5_type_2 0 rfl rfl)
theorem dX5_type_48 : decode cX5_type 48 = .ok (.iconst 1, 1) := dk_4 (dk_at dksX5_type_2 3 rfl rfl)
theorem dX5_type_49 : decode cX5_type 49 = .ok (.iadd, 1) := dk_96 (dk_at dksX5_type_2 4 rfl rfl)
theorem dX5_type_50 : decode cX5_type 50 = .ok (.putfield 223, 3) := dk_181 0 223 (dk_at dksX5_type_2 5 rfl rfl)
theorem dX5_type_53 : decode cX5_type 53 = .ok (.aload_n 0, 1) := dk_42 (dk_at dksX5_type_2 8 rfl rfl)
theorem dX5_type_54 : decode cX5_type 54 = .ok (.getfield 223, 3) := dk_180 0 223 (dk_at dksX5_type_2 9 rfl rfl)
theorem dX5_type_57 : decode cX5_type 57 = .ok (.ireturn, 1) := dk_172 (dk_at dksX5_type_2 12 rfl rfl)
abbrev cX5_clear : ByteArray := prog_11_method_51_code
def yX5_clear : MethodName := ⟨RX5, "clear", "()I"⟩
def dkwX5_clear_0 : List UInt8 := [42, 180, 0, 223, 60, 42, 3, 181, 0, 223, 27, 172]
abbrev dktX5_clear_0 : List UInt8 := dkwX5_clear_0 ++ []
theorem dksX5_clear_0 : cX5_clear.data.toList.drop 0 = dktX5_clear_0 := by decide +kernel
theorem dX5_clear_0 : decode cX5_clear 0 = .ok (.aload_n 0, 1) := dk_42 (dk_at dksX5_clear_0 0 rfl rfl)
theorem dX5_clear_1 : decode cX5_clear 1 = .ok (.getfield 223, 3) := dk_180 0 223 (dk_at dksX5_clear_0 1 rfl rfl)
theorem dX5_clear_4 : decode cX5_clear 4 = .ok (.istore_n 1, 1) := dk_60 (dk_at dksX5_clear_0 4 rfl rfl)
theorem dX5_clear_5 : decode cX5_clear 5 = .ok (.aload_n 0, 1) := dk_42 (dk_at dksX5_clear_0 5 rfl rfl)
theorem dX5_clear_6 : decode cX5_clear 6 = .ok (.iconst 0, 1) := dk_3 (dk_at dksX5_clear_0 6 rfl rfl)
theorem dX5_clear_7 : decode cX5_clear 7 = .ok (.putfield 223, 3) := dk_181 0 223 (dk_at dksX5_clear_0 7 rfl rfl)
theorem dX5_clear_10 : decode cX5_clear 10 = .ok (.iload_n 1, 1) := dk_27 (dk_at dksX5_clear_0 10 rfl rfl)
theorem dX5_clear_11 : decode cX5_clear 11 = .ok (.ireturn, 1) := dk_172 (dk_at dksX5_clear_0 11 rfl rfl)
abbrev cX5_told : ByteArray := prog_11_method_57_code
def yX5_told : MethodName := ⟨RX5, "told", "()I"⟩
def dkwX5_told_4 : List UInt8 := [46, 182, 0, 151, 132, 1, 1, 167, 255, 235, 42, 180, 0, 240, 172]
abbrev dktX5_told_4 : List UInt8 := dkwX5_told_4 ++ []
def dkwX5_told_3 : List UInt8 := [172, 167, 255, 193, 42, 182, 0, 148, 3, 60, 27, 42, 180, 0, 240, 162, 0, 19, 42, 42, 180, 0, 62, 27]
abbrev dktX5_told_3 : List UInt8 := dkwX5_told_3 ++ dktX5_told_4
def dkwX5_told_2 : List UInt8 := [42, 182, 0, 246, 153, 0, 7, 4, 167, 0, 4, 3, 61, 28, 154, 0, 11, 16, 246, 42, 180, 0, 226, 100]
abbrev dktX5_told_2 : List UInt8 := dkwX5_told_2 ++ dktX5_told_3
def dkwX5_told_1 : List UInt8 := [16, 40, 160, 0, 10, 42, 182, 0, 250, 167, 0, 27, 27, 16, 48, 159, 0, 9, 27, 16, 49, 160, 0, 14]
abbrev dktX5_told_1 : List UInt8 := dkwX5_told_1 ++ dktX5_told_2
def dkwX5_told_0 : List UInt8 := [42, 3, 181, 0, 226, 42, 3, 181, 0, 240, 42, 182, 0, 233, 2, 159, 0, 61, 42, 182, 0, 233, 60, 27]
abbrev dktX5_told_0 : List UInt8 := dkwX5_told_0 ++ dktX5_told_1
theorem dksX5_told_0 : cX5_told.data.toList.drop 0 = dktX5_told_0 := by decide +kernel
theorem dksX5_told_1 : cX5_told.data.toList.drop 24 = dktX5_told_1 := dk_seg dksX5_told_0 24 rfl rfl
theorem dksX5_told_2 : cX5_told.data.toList.drop 48 = dktX5_told_2 := dk_seg dksX5_told_1 24 rfl rfl
theorem dksX5_told_3 : cX5_told.data.toList.drop 72 = dktX5_told_3 := dk_seg dksX5_told_2 24 rfl rfl
theorem dksX5_told_4 : cX5_told.data.toList.drop 96 = dktX5_told_4 := dk_seg dksX5_told_3 24 rfl rfl
theorem dX5_told_0 : decode cX5_told 0 = .ok (.aload_n 0, 1) := dk_42 (dk_at dksX5_told_0 0 rfl rfl)
theorem dX5_told_1 : decode cX5_told 1 = .ok (.iconst 0, 1) := dk_3 (dk_at dksX5_told_0 1 rfl rfl)
theorem dX5_told_2 : decode cX5_told 2 = .ok (.putfield 226, 3) := dk_181 0 226 (dk_at dksX5_told_0 2 rfl rfl)
theorem dX5_told_5 : decode cX5_told 5 = .ok (.aload_n 0, 1) := dk_42 (dk_at dksX5_told_0 5 rfl rfl)
theorem dX5_told_6 : decode cX5_told 6 = .ok (.iconst 0, 1) := dk_3 (dk_at dksX5_told_0 6 rfl rfl)
theorem dX5_told_7 : decode cX5_told 7 = .ok (.putfield 240, 3) := dk_181 0 240 (dk_at dksX5_told_0 7 rfl rfl)
theorem dX5_told_10 : decode cX5_told 10 = .ok (.aload_n 0, 1) := dk_42 (dk_at dksX5_told_0 10 rfl rfl)
theorem dX5_told_11 : decode cX5_told 11 = .ok (.invokevirtual 233, 3) := dk_182 0 233 (dk_at dksX5_told_0 11 rfl rfl)
theorem dX5_told_14 : decode cX5_told 14 = .ok (.iconst (-1), 1) := dk_2 (dk_at dksX5_told_0 14 rfl rfl)
theorem dX5_told_15 : decode cX5_told 15 = .ok (.if_icmp .eq 61, 3) := dk_159 0 61 (dk_at dksX5_told_0 15 rfl rfl)
theorem dX5_told_18 : decode cX5_told 18 = .ok (.aload_n 0, 1) := dk_42 (dk_at dksX5_told_0 18 rfl rfl)
theorem dX5_told_19 : decode cX5_told 19 = .ok (.invokevirtual 233, 3) := dk_182 0 233 (dk_at dksX5_told_0 19 rfl rfl)
theorem dX5_told_22 : decode cX5_told 22 = .ok (.istore_n 1, 1) := dk_60 (dk_at dksX5_told_0 22 rfl rfl)
theorem dX5_told_23 : decode cX5_told 23 = .ok (.iload_n 1, 1) := dk_27 (dk_at dksX5_told_0 23 rfl rfl)
theorem dX5_told_24 : decode cX5_told 24 = .ok (.bipush 40, 2) := dk_16 40 (dk_at dksX5_told_1 0 rfl rfl)
theorem dX5_told_26 : decode cX5_told 26 = .ok (.if_icmp .ne 10, 3) := dk_160 0 10 (dk_at dksX5_told_1 2 rfl rfl)
theorem dX5_told_29 : decode cX5_told 29 = .ok (.aload_n 0, 1) := dk_42 (dk_at dksX5_told_1 5 rfl rfl)
theorem dX5_told_30 : decode cX5_told 30 = .ok (.invokevirtual 250, 3) := dk_182 0 250 (dk_at dksX5_told_1 6 rfl rfl)
theorem dX5_told_33 : decode cX5_told 33 = .ok (.goto 27, 3) := dk_167 0 27 (dk_at dksX5_told_1 9 rfl rfl)
theorem dX5_told_36 : decode cX5_told 36 = .ok (.iload_n 1, 1) := dk_27 (dk_at dksX5_told_1 12 rfl rfl)
theorem dX5_told_37 : decode cX5_told 37 = .ok (.bipush 48, 2) := dk_16 48 (dk_at dksX5_told_1 13 rfl rfl)
theorem dX5_told_39 : decode cX5_told 39 = .ok (.if_icmp .eq 9, 3) := dk_159 0 9 (dk_at dksX5_told_1 15 rfl rfl)
theorem dX5_told_42 : decode cX5_told 42 = .ok (.iload_n 1, 1) := dk_27 (dk_at dksX5_told_1 18 rfl rfl)
theorem dX5_told_43 : decode cX5_told 43 = .ok (.bipush 49, 2) := dk_16 49 (dk_at dksX5_told_1 19 rfl rfl)
theorem dX5_told_45 : decode cX5_told 45 = .ok (.if_icmp .ne 14, 3) := dk_160 0 14 (dk_at dksX5_told_1 21 rfl rfl)
theorem dX5_told_48 : decode cX5_told 48 = .ok (.aload_n 0, 1) := dk_42 (dk_at dksX5_told_2 0 rfl rfl)
theorem dX5_told_49 : decode cX5_told 49 = .ok (.invokevirtual 246, 3) := dk_182 0 246 (dk_at dksX5_told_2 1 rfl rfl)
theorem dX5_told_52 : decode cX5_told 52 = .ok (.ifCond .eq 7, 3) := dk_153 0 7 (dk_at dksX5_told_2 4 rfl rfl)
theorem dX5_told_55 : decode cX5_told 55 = .ok (.iconst 1, 1) := dk_4 (dk_at dksX5_told_2 7 rfl rfl)
theorem dX5_told_56 : decode cX5_told 56 = .ok (.goto 4, 3) := dk_167 0 4 (dk_at dksX5_told_2 8 rfl rfl)
theorem dX5_told_59 : decode cX5_told 59 = .ok (.iconst 0, 1) := dk_3 (dk_at dksX5_told_2 11 rfl rfl)
theorem dX5_told_60 : decode cX5_told 60 = .ok (.istore_n 2, 1) := dk_61 (dk_at dksX5_told_2 12 rfl rfl)
theorem dX5_told_61 : decode cX5_told 61 = .ok (.iload_n 2, 1) := dk_28 (dk_at dksX5_told_2 13 rfl rfl)
theorem dX5_told_62 : decode cX5_told 62 = .ok (.ifCond .ne 11, 3) := dk_154 0 11 (dk_at dksX5_told_2 14 rfl rfl)
theorem dX5_told_65 : decode cX5_told 65 = .ok (.bipush (-10), 2) := dk_16 246 (dk_at dksX5_told_2 17 rfl rfl)
theorem dX5_told_67 : decode cX5_told 67 = .ok (.aload_n 0, 1) := dk_42 (dk_at dksX5_told_2 19 rfl rfl)
theorem dX5_told_68 : decode cX5_told 68 = .ok (.getfield 226, 3) := dk_180 0 226 (dk_at dksX5_told_2 20 rfl rfl)
theorem dX5_told_71 : decode cX5_told 71 = .ok (.isub, 1) := dk_100 (dk_at dksX5_told_2 23 rfl rfl)
theorem dX5_told_72 : decode cX5_told 72 = .ok (.ireturn, 1) := dk_172 (dk_at dksX5_told_3 0 rfl rfl)
theorem dX5_told_73 : decode cX5_told 73 = .ok (.goto (-63), 3) := dk_167 255 193 (dk_at dksX5_told_3 1 rfl rfl)
theorem dX5_told_76 : decode cX5_told 76 = .ok (.aload_n 0, 1) := dk_42 (dk_at dksX5_told_3 4 rfl rfl)
theorem dX5_told_77 : decode cX5_told 77 = .ok (.invokevirtual 148, 3) := dk_182 0 148 (dk_at dksX5_told_3 5 rfl rfl)
theorem dX5_told_80 : decode cX5_told 80 = .ok (.iconst 0, 1) := dk_3 (dk_at dksX5_told_3 8 rfl rfl)
theorem dX5_told_81 : decode cX5_told 81 = .ok (.istore_n 1, 1) := dk_60 (dk_at dksX5_told_3 9 rfl rfl)
theorem dX5_told_82 : decode cX5_told 82 = .ok (.iload_n 1, 1) := dk_27 (dk_at dksX5_told_3 10 rfl rfl)
theorem dX5_told_83 : decode cX5_told 83 = .ok (.aload_n 0, 1) := dk_42 (dk_at dksX5_told_3 11 rfl rfl)
theorem dX5_told_84 : decode cX5_told 84 = .ok (.getfield 240, 3) := dk_180 0 240 (dk_at dksX5_told_3 12 rfl rfl)
theorem dX5_told_87 : decode cX5_told 87 = .ok (.if_icmp .ge 19, 3) := dk_162 0 19 (dk_at dksX5_told_3 15 rfl rfl)
theorem dX5_told_90 : decode cX5_told 90 = .ok (.aload_n 0, 1) := dk_42 (dk_at dksX5_told_3 18 rfl rfl)
theorem dX5_told_91 : decode cX5_told 91 = .ok (.aload_n 0, 1) := dk_42 (dk_at dksX5_told_3 19 rfl rfl)
theorem dX5_told_92 : decode cX5_told 92 = .ok (.getfield 62, 3) := dk_180 0 62 (dk_at dksX5_told_3 20 rfl rfl)
theorem dX5_told_95 : decode cX5_told 95 = .ok (.iload_n 1, 1) := dk_27 (dk_at dksX5_told_3 23 rfl rfl)
theorem dX5_told_96 : decode cX5_told 96 = .ok (.iaload, 1) := dk_46 (dk_at dksX5_told_4 0 rfl rfl)
theorem dX5_told_97 : decode cX5_told 97 = .ok (.invokevirtual 151, 3) := dk_182 0 151 (dk_at dksX5_told_4 1 rfl rfl)
theorem dX5_told_100 : decode cX5_told 100 = .ok (.iinc 1 1, 3) := dk_132 1 1 (dk_at dksX5_told_4 4 rfl rfl)
theorem dX5_told_103 : decode cX5_told 103 = .ok (.goto (-21), 3) := dk_167 255 235 (dk_at dksX5_told_4 7 rfl rfl)
theorem dX5_told_106 : decode cX5_told 106 = .ok (.aload_n 0, 1) := dk_42 (dk_at dksX5_told_4 10 rfl rfl)
theorem dX5_told_107 : decode cX5_told 107 = .ok (.getfield 240, 3) := dk_180 0 240 (dk_at dksX5_told_4 11 rfl rfl)
theorem dX5_told_110 : decode cX5_told 110 = .ok (.ireturn, 1) := dk_172 (dk_at dksX5_told_4 14 rfl rfl)
abbrev cX5_here : ByteArray := prog_11_method_52_code
def yX5_here : MethodName := ⟨RX5, "here", "()I"⟩
def dkwX5_here_2 : List UInt8 := [162, 0, 15, 42, 180, 0, 59, 42, 180, 0, 226, 46, 167, 0, 4, 2, 172]
abbrev dktX5_here_2 : List UInt8 := dkwX5_here_2 ++ []
def dkwX5_here_1 : List UInt8 := [160, 0, 16, 42, 89, 180, 0, 226, 4, 96, 181, 0, 226, 167, 255, 221, 42, 180, 0, 226, 42, 180, 0, 223]
abbrev dktX5_here_1 : List UInt8 := dkwX5_here_1 ++ dktX5_here_2
def dkwX5_here_0 : List UInt8 := [42, 180, 0, 226, 42, 180, 0, 223, 162, 0, 30, 42, 180, 0, 59, 42, 180, 0, 226, 46, 16, 32]
abbrev dktX5_here_0 : List UInt8 := dkwX5_here_0 ++ dktX5_here_1
theorem dksX5_here_0 : cX5_here.data.toList.drop 0 = dktX5_here_0 := by decide +kernel
theorem dksX5_here_1 : cX5_here.data.toList.drop 22 = dktX5_here_1 := dk_seg dksX5_here_0 22 rfl rfl
theorem dksX5_here_2 : cX5_here.data.toList.drop 46 = dktX5_here_2 := dk_seg dksX5_here_1 24 rfl rfl
theorem dX5_here_0 : decode cX5_here 0 = .ok (.aload_n 0, 1) := dk_42 (dk_at dksX5_here_0 0 rfl rfl)
theorem dX5_here_1 : decode cX5_here 1 = .ok (.getfield 226, 3) := dk_180 0 226 (dk_at dksX5_here_0 1 rfl rfl)
theorem dX5_here_4 : decode cX5_here 4 = .ok (.aload_n 0, 1) := dk_42 (dk_at dksX5_here_0 4 rfl rfl)
theorem dX5_here_5 : decode cX5_here 5 = .ok (.getfield 223, 3) := dk_180 0 223 (dk_at dksX5_here_0 5 rfl rfl)
theorem dX5_here_8 : decode cX5_here 8 = .ok (.if_icmp .ge 30, 3) := dk_162 0 30 (dk_at dksX5_here_0 8 rfl rfl)
theorem dX5_here_11 : decode cX5_here 11 = .ok (.aload_n 0, 1) := dk_42 (dk_at dksX5_here_0 11 rfl rfl)
theorem dX5_here_12 : decode cX5_here 12 = .ok (.getfield 59, 3) := dk_180 0 59 (dk_at dksX5_here_0 12 rfl rfl)
theorem dX5_here_15 : decode cX5_here 15 = .ok (.aload_n 0, 1) := dk_42 (dk_at dksX5_here_0 15 rfl rfl)
theorem dX5_here_16 : decode cX5_here 16 = .ok (.getfield 226, 3) := dk_180 0 226 (dk_at dksX5_here_0 16 rfl rfl)
theorem dX5_here_19 : decode cX5_here 19 = .ok (.iaload, 1) := dk_46 (dk_at dksX5_here_0 19 rfl rfl)
theorem dX5_here_20 : decode cX5_here 20 = .ok (.bipush 32, 2) := dk_16 32 (dk_at dksX5_here_0 20 rfl rfl)
theorem dX5_here_22 : decode cX5_here 22 = .ok (.if_icmp .ne 16, 3) := dk_160 0 16 (dk_at dksX5_here_1 0 rfl rfl)
theorem dX5_here_25 : decode cX5_here 25 = .ok (.aload_n 0, 1) := dk_42 (dk_at dksX5_here_1 3 rfl rfl)
theorem dX5_here_26 : decode cX5_here 26 = .ok (.dup, 1) := dk_89 (dk_at dksX5_here_1 4 rfl rfl)
theorem dX5_here_27 : decode cX5_here 27 = .ok (.getfield 226, 3) := dk_180 0 226 (dk_at dksX5_here_1 5 rfl rfl)
theorem dX5_here_30 : decode cX5_here 30 = .ok (.iconst 1, 1) := dk_4 (dk_at dksX5_here_1 8 rfl rfl)
theorem dX5_here_31 : decode cX5_here 31 = .ok (.iadd, 1) := dk_96 (dk_at dksX5_here_1 9 rfl rfl)
theorem dX5_here_32 : decode cX5_here 32 = .ok (.putfield 226, 3) := dk_181 0 226 (dk_at dksX5_here_1 10 rfl rfl)
theorem dX5_here_35 : decode cX5_here 35 = .ok (.goto (-35), 3) := dk_167 255 221 (dk_at dksX5_here_1 13 rfl rfl)
theorem dX5_here_38 : decode cX5_here 38 = .ok (.aload_n 0, 1) := dk_42 (dk_at dksX5_here_1 16 rfl rfl)
theorem dX5_here_39 : decode cX5_here 39 = .ok (.getfield 226, 3) := dk_180 0 226 (dk_at dksX5_here_1 17 rfl rfl)
theorem dX5_here_42 : decode cX5_here 42 = .ok (.aload_n 0, 1) := dk_42 (dk_at dksX5_here_1 20 rfl rfl)
theorem dX5_here_43 : decode cX5_here 43 = .ok (.getfield 223, 3) := dk_180 0 223 (dk_at dksX5_here_1 21 rfl rfl)
theorem dX5_here_46 : decode cX5_here 46 = .ok (.if_icmp .ge 15, 3) := dk_162 0 15 (dk_at dksX5_here_2 0 rfl rfl)
theorem dX5_here_49 : decode cX5_here 49 = .ok (.aload_n 0, 1) := dk_42 (dk_at dksX5_here_2 3 rfl rfl)
theorem dX5_here_50 : decode cX5_here 50 = .ok (.getfield 59, 3) := dk_180 0 59 (dk_at dksX5_here_2 4 rfl rfl)
theorem dX5_here_53 : decode cX5_here 53 = .ok (.aload_n 0, 1) := dk_42 (dk_at dksX5_here_2 7 rfl rfl)
theorem dX5_here_54 : decode cX5_here 54 = .ok (.getfield 226, 3) := dk_180 0 226 (dk_at dksX5_here_2 8 rfl rfl)
theorem dX5_here_57 : decode cX5_here 57 = .ok (.iaload, 1) := dk_46 (dk_at dksX5_here_2 11 rfl rfl)
theorem dX5_here_58 : decode cX5_here 58 = .ok (.goto 4, 3) := dk_167 0 4 (dk_at dksX5_here_2 12 rfl rfl)
theorem dX5_here_61 : decode cX5_here 61 = .ok (.iconst (-1), 1) := dk_2 (dk_at dksX5_here_2 15 rfl rfl)
theorem dX5_here_62 : decode cX5_here 62 = .ok (.ireturn, 1) := dk_172 (dk_at dksX5_here_2 16 rfl rfl)
abbrev cX5_readsMany : ByteArray := prog_11_method_56_code
def yX5_readsMany : MethodName := ⟨RX5, "readsMany", "()Z"⟩
def dkwX5_readsMany_8 : List UInt8 := [4, 96, 181, 0, 240, 132, 5, 1, 167, 255, 214, 4, 172]
abbrev dktX5_readsMany_8 : List UInt8 := dkwX5_readsMany_8 ++ []
def dkwX5_readsMany_7 : List UInt8 := [180, 0, 62, 42, 180, 0, 240, 42, 180, 0, 62, 42, 180, 0, 240, 29, 100, 46, 79, 42, 89, 180, 0, 240]
abbrev dktX5_readsMany_7 : List UInt8 := dkwX5_readsMany_7 ++ dktX5_readsMany_8
def dkwX5_readsMany_6 : List UInt8 := [164, 0, 10, 42, 28, 181, 0, 226, 3, 172, 29, 54, 5, 21, 5, 21, 4, 29, 104, 162, 0, 39, 42]
abbrev dktX5_readsMany_6 : List UInt8 := dkwX5_readsMany_6 ++ dktX5_readsMany_7
def dkwX5_readsMany_5 : List UInt8 := [54, 4, 21, 4, 154, 0, 5, 3, 172, 42, 182, 0, 112, 27, 96, 21, 4, 29, 104, 96, 16, 100]
abbrev dktX5_readsMany_5 : List UInt8 := dkwX5_readsMany_5 ++ dktX5_readsMany_6
def dkwX5_readsMany_4 : List UInt8 := [182, 0, 233, 16, 120, 159, 0, 5, 3, 172, 42, 89, 180, 0, 226, 4, 96, 181, 0, 226, 42, 182, 0, 243]
abbrev dktX5_readsMany_4 : List UInt8 := dkwX5_readsMany_4 ++ dktX5_readsMany_5
def dkwX5_readsMany_3 : List UInt8 := [180, 0, 240, 27, 100, 62, 29, 154, 0, 5, 3, 172, 42, 89, 180, 0, 226, 4, 96, 181, 0, 226, 42]
abbrev dktX5_readsMany_3 : List UInt8 := dkwX5_readsMany_3 ++ dktX5_readsMany_4
def dkwX5_readsMany_2 : List UInt8 := [28, 153, 0, 10, 42, 182, 0, 246, 154, 0, 5, 3, 172, 167, 255, 210, 42, 180, 0, 226, 61, 42]
abbrev dktX5_readsMany_2 : List UInt8 := dkwX5_readsMany_2 ++ dktX5_readsMany_3
def dkwX5_readsMany_1 : List UInt8 := [42, 182, 0, 233, 16, 48, 159, 0, 12, 42, 182, 0, 233, 16, 49, 160, 0, 7, 4, 167, 0, 4, 3, 61]
abbrev dktX5_readsMany_1 : List UInt8 := dkwX5_readsMany_1 ++ dktX5_readsMany_2
def dkwX5_readsMany_0 : List UInt8 := [42, 180, 0, 240, 60, 42, 89, 180, 0, 226, 4, 96, 181, 0, 226, 42, 182, 0, 233, 16, 41, 159, 0, 43]
abbrev dktX5_readsMany_0 : List UInt8 := dkwX5_readsMany_0 ++ dktX5_readsMany_1
theorem dksX5_readsMany_0 : cX5_readsMany.data.toList.drop 0 = dktX5_readsMany_0 := by decide +kernel
theorem dksX5_readsMany_1 : cX5_readsMany.data.toList.drop 24 = dktX5_readsMany_1 := dk_seg dksX5_readsMany_0 24 rfl rfl
theorem dksX5_readsMany_2 : cX5_readsMany.data.toList.drop 48 = dktX5_readsMany_2 := dk_seg dksX5_readsMany_1 24 rfl rfl
theorem dksX5_readsMany_3 : cX5_readsMany.data.toList.drop 70 = dktX5_readsMany_3 := dk_seg dksX5_readsMany_2 22 rfl rfl
theorem dksX5_readsMany_4 : cX5_readsMany.data.toList.drop 93 = dktX5_readsMany_4 := dk_seg dksX5_readsMany_3 23 rfl rfl
theorem dksX5_readsMany_5 : cX5_readsMany.data.toList.drop 117 = dktX5_readsMany_5 := dk_seg dksX5_readsMany_4 24 rfl rfl
theorem dksX5_readsMany_6 : cX5_readsMany.data.toList.drop 139 = dktX5_readsMany_6 := dk_seg dksX5_readsMany_5 22 rfl rfl
theorem dksX5_readsMany_7 : cX5_readsMany.data.toList.drop 162 = dktX5_readsMany_7 := dk_seg dksX5_readsMany_6 23 rfl rfl
theorem dksX5_readsMany_8 : cX5_readsMany.data.toList.drop 186 = dktX5_readsMany_8 := dk_seg dksX5_readsMany_7 24 rfl rfl
theorem dX5_readsMany_0 : decode cX5_readsMany 0 = .ok (.aload_n 0, 1) := dk_42 (dk_at dksX5_readsMany_0 0 rfl rfl)
theorem dX5_readsMany_1 : decode cX5_readsMany 1 = .ok (.getfield 240, 3) := dk_180 0 240 (dk_at dksX5_readsMany_0 1 rfl rfl)
theorem dX5_readsMany_4 : decode cX5_readsMany 4 = .ok (.istore_n 1, 1) := dk_60 (dk_at dksX5_readsMany_0 4 rfl rfl)
theorem dX5_readsMany_5 : decode cX5_readsMany 5 = .ok (.aload_n 0, 1) := dk_42 (dk_at dksX5_readsMany_0 5 rfl rfl)
theorem dX5_readsMany_6 : decode cX5_readsMany 6 = .ok (.dup, 1) := dk_89 (dk_at dksX5_readsMany_0 6 rfl rfl)
theorem dX5_readsMany_7 : decode cX5_readsMany 7 = .ok (.getfield 226, 3) := dk_180 0 226 (dk_at dksX5_readsMany_0 7 rfl rfl)
theorem dX5_readsMany_10 : decode cX5_readsMany 10 = .ok (.iconst 1, 1) := dk_4 (dk_at dksX5_readsMany_0 10 rfl rfl)
theorem dX5_readsMany_11 : decode cX5_readsMany 11 = .ok (.iadd, 1) := dk_96 (dk_at dksX5_readsMany_0 11 rfl rfl)
theorem dX5_readsMany_12 : decode cX5_readsMany 12 = .ok (.putfield 226, 3) := dk_181 0 226 (dk_at dksX5_readsMany_0 12 rfl rfl)
theorem dX5_readsMany_15 : decode cX5_readsMany 15 = .ok (.aload_n 0, 1) := dk_42 (dk_at dksX5_readsMany_0 15 rfl rfl)
theorem dX5_readsMany_16 : decode cX5_readsMany 16 = .ok (.invokevirtual 233, 3) := dk_182 0 233 (dk_at dksX5_readsMany_0 16 rfl rfl)
theorem dX5_readsMany_19 : decode cX5_readsMany 19 = .ok (.bipush 41, 2) := dk_16 41 (dk_at dksX5_readsMany_0 19 rfl rfl)
theorem dX5_readsMany_21 : decode cX5_readsMany 21 = .ok (.if_icmp .eq 43, 3) := dk_159 0 43 (dk_at dksX5_readsMany_0 21 rfl rfl)
theorem dX5_readsMany_24 : decode cX5_readsMany 24 = .ok (.aload_n 0, 1) := dk_42 (dk_at dksX5_readsMany_1 0 rfl rfl)
theorem dX5_readsMany_25 : decode cX5_readsMany 25 = .ok (.invokevirtual 233, 3) := dk_182 0 233 (dk_at dksX5_readsMany_1 1 rfl rfl)
theorem dX5_readsMany_28 : decode cX5_readsMany 28 = .ok (.bipush 48, 2) := dk_16 48 (dk_at dksX5_readsMany_1 4 rfl rfl)
theorem dX5_readsMany_30 : decode cX5_readsMany 30 = .ok (.if_icmp .eq 12, 3) := dk_159 0 12 (dk_at dksX5_readsMany_1 6 rfl rfl)
theorem dX5_readsMany_33 : decode cX5_readsMany 33 = .ok (.aload_n 0, 1) := dk_42 (dk_at dksX5_readsMany_1 9 rfl rfl)
theorem dX5_readsMany_34 : decode cX5_readsMany 34 = .ok (.invokevirtual 233, 3) := dk_182 0 233 (dk_at dksX5_readsMany_1 10 rfl rfl)
theorem dX5_readsMany_37 : decode cX5_readsMany 37 = .ok (.bipush 49, 2) := dk_16 49 (dk_at dksX5_readsMany_1 13 rfl rfl)
theorem dX5_readsMany_39 : decode cX5_readsMany 39 = .ok (.if_icmp .ne 7, 3) := dk_160 0 7 (dk_at dksX5_readsMany_1 15 rfl rfl)
theorem dX5_readsMany_42 : decode cX5_readsMany 42 = .ok (.iconst 1, 1) := dk_4 (dk_at dksX5_readsMany_1 18 rfl rfl)
theorem dX5_readsMany_43 : decode cX5_readsMany 43 = .ok (.goto 4, 3) := dk_167 0 4 (dk_at dksX5_readsMany_1 19 rfl rfl)
theorem dX5_readsMany_46 : decode cX5_readsMany 46 = .ok (.iconst 0, 1) := dk_3 (dk_at dksX5_readsMany_1 22 rfl rfl)
theorem dX5_readsMany_47 : decode cX5_readsMany 47 = .ok (.istore_n 2, 1) := dk_61 (dk_at dksX5_readsMany_1 23 rfl rfl)
theorem dX5_readsMany_48 : decode cX5_readsMany 48 = .ok (.iload_n 2, 1) := dk_28 (dk_at dksX5_readsMany_2 0 rfl rfl)
theorem dX5_readsMany_49 : decode cX5_readsMany 49 = .ok (.ifCond .eq 10, 3) := dk_153 0 10 (dk_at dksX5_readsMany_2 1 rfl rfl)
theorem dX5_readsMany_52 : decode cX5_readsMany 52 = .ok (.aload_n 0, 1) := dk_42 (dk_at dksX5_readsMany_2 4 rfl rfl)
theorem dX5_readsMany_53 : decode cX5_readsMany 53 = .ok (.invokevirtual 246, 3) := dk_182 0 246 (dk_at dksX5_readsMany_2 5 rfl rfl)
theorem dX5_readsMany_56 : decode cX5_readsMany 56 = .ok (.ifCond .ne 5, 3) := dk_154 0 5 (dk_at dksX5_readsMany_2 8 rfl rfl)
theorem dX5_readsMany_59 : decode cX5_readsMany 59 = .ok (.iconst 0, 1) := dk_3 (dk_at dksX5_readsMany_2 11 rfl rfl)
theorem dX5_readsMany_60 : decode cX5_readsMany 60 = .ok (.ireturn, 1) := dk_172 (dk_at dksX5_readsMany_2 12 rfl rfl)
theorem dX5_readsMany_61 : decode cX5_readsMany 61 = .ok (.goto (-46), 3) := dk_167 255 210 (dk_at dksX5_readsMany_2 13 rfl rfl)
theorem dX5_readsMany_64 : decode cX5_readsMany 64 = .ok (.aload_n 0, 1) := dk_42 (dk_at dksX5_readsMany_2 16 rfl rfl)
theorem dX5_readsMany_65 : decode cX5_readsMany 65 = .ok (.getfield 226, 3) := dk_180 0 226 (dk_at dksX5_readsMany_2 17 rfl rfl)
theorem dX5_readsMany_68 : decode cX5_readsMany 68 = .ok (.istore_n 2, 1) := dk_61 (dk_at dksX5_readsMany_2 20 rfl rfl)
theorem dX5_readsMany_69 : decode cX5_readsMany 69 = .ok (.aload_n 0, 1) := dk_42 (dk_at dksX5_readsMany_2 21 rfl rfl)
theorem dX5_readsMany_70 : decode cX5_readsMany 70 = .ok (.getfield 240, 3) := dk_180 0 240 (dk_at dksX5_readsMany_3 0 rfl rfl)
theorem dX5_readsMany_73 : decode cX5_readsMany 73 = .ok (.iload_n 1, 1) := dk_27 (dk_at dksX5_readsMany_3 3 rfl rfl)
theorem dX5_readsMany_74 : decode cX5_readsMany 74 = .ok (.isub, 1) := dk_100 (dk_at dksX5_readsMany_3 4 rfl rfl)
theorem dX5_readsMany_75 : decode cX5_readsMany 75 = .ok (.istore_n 3, 1) := dk_62 (dk_at dksX5_readsMany_3 5 rfl rfl)
theorem dX5_readsMany_76 : decode cX5_readsMany 76 = .ok (.iload_n 3, 1) := dk_29 (dk_at dksX5_readsMany_3 6 rfl rfl)
theorem dX5_readsMany_77 : decode cX5_readsMany 77 = .ok (.ifCond .ne 5, 3) := dk_154 0 5 (dk_at dksX5_readsMany_3 7 rfl rfl)
theorem dX5_readsMany_80 : decode cX5_readsMany 80 = .ok (.iconst 0, 1) := dk_3 (dk_at dksX5_readsMany_3 10 rfl rfl)
theorem dX5_readsMany_81 : decode cX5_readsMany 81 = .ok (.ireturn, 1) := dk_172 (dk_at dksX5_readsMany_3 11 rfl rfl)
theorem dX5_readsMany_82 : decode cX5_readsMany 82 = .ok (.aload_n 0, 1) := dk_42 (dk_at dksX5_readsMany_3 12 rfl rfl)
theorem dX5_readsMany_83 : decode cX5_readsMany 83 = .ok (.dup, 1) := dk_89 (dk_at dksX5_readsMany_3 13 rfl rfl)
theorem dX5_readsMany_84 : decode cX5_readsMany 84 = .ok (.getfield 226, 3) := dk_180 0 226 (dk_at dksX5_readsMany_3 14 rfl rfl)
theorem dX5_readsMany_87 : decode cX5_readsMany 87 = .ok (.iconst 1, 1) := dk_4 (dk_at dksX5_readsMany_3 17 rfl rfl)
theorem dX5_readsMany_88 : decode cX5_readsMany 88 = .ok (.iadd, 1) := dk_96 (dk_at dksX5_readsMany_3 18 rfl rfl)
theorem dX5_readsMany_89 : decode cX5_readsMany 89 = .ok (.putfield 226, 3) := dk_181 0 226 (dk_at dksX5_readsMany_3 19 rfl rfl)
theorem dX5_readsMany_92 : decode cX5_readsMany 92 = .ok (.aload_n 0, 1) := dk_42 (dk_at dksX5_readsMany_3 22 rfl rfl)
theorem dX5_readsMany_93 : decode cX5_readsMany 93 = .ok (.invokevirtual 233, 3) := dk_182 0 233 (dk_at dksX5_readsMany_4 0 rfl rfl)
theorem dX5_readsMany_96 : decode cX5_readsMany 96 = .ok (.bipush 120, 2) := dk_16 120 (dk_at dksX5_readsMany_4 3 rfl rfl)
theorem dX5_readsMany_98 : decode cX5_readsMany 98 = .ok (.if_icmp .eq 5, 3) := dk_159 0 5 (dk_at dksX5_readsMany_4 5 rfl rfl)
theorem dX5_readsMany_101 : decode cX5_readsMany 101 = .ok (.iconst 0, 1) := dk_3 (dk_at dksX5_readsMany_4 8 rfl rfl)
theorem dX5_readsMany_102 : decode cX5_readsMany 102 = .ok (.ireturn, 1) := dk_172 (dk_at dksX5_readsMany_4 9 rfl rfl)
theorem dX5_readsMany_103 : decode cX5_readsMany 103 = .ok (.aload_n 0, 1) := dk_42 (dk_at dksX5_readsMany_4 10 rfl rfl)
theorem dX5_readsMany_104 : decode cX5_readsMany 104 = .ok (.dup, 1) := dk_89 (dk_at dksX5_readsMany_4 11 rfl rfl)
theorem dX5_readsMany_105 : decode cX5_readsMany 105 = .ok (.getfield 226, 3) := dk_180 0 226 (dk_at dksX5_readsMany_4 12 rfl rfl)
theorem dX5_readsMany_108 : decode cX5_readsMany 108 = .ok (.iconst 1, 1) := dk_4 (dk_at dksX5_readsMany_4 15 rfl rfl)
theorem dX5_readsMany_109 : decode cX5_readsMany 109 = .ok (.iadd, 1) := dk_96 (dk_at dksX5_readsMany_4 16 rfl rfl)
theorem dX5_readsMany_110 : decode cX5_readsMany 110 = .ok (.putfield 226, 3) := dk_181 0 226 (dk_at dksX5_readsMany_4 17 rfl rfl)
theorem dX5_readsMany_113 : decode cX5_readsMany 113 = .ok (.aload_n 0, 1) := dk_42 (dk_at dksX5_readsMany_4 20 rfl rfl)
theorem dX5_readsMany_114 : decode cX5_readsMany 114 = .ok (.invokevirtual 243, 3) := dk_182 0 243 (dk_at dksX5_readsMany_4 21 rfl rfl)
theorem dX5_readsMany_117 : decode cX5_readsMany 117 = .ok (.istore 4, 2) := dk_54 4 (dk_at dksX5_readsMany_5 0 rfl rfl)
theorem dX5_readsMany_119 : decode cX5_readsMany 119 = .ok (.iload 4, 2) := dk_21 4 (dk_at dksX5_readsMany_5 2 rfl rfl)
theorem dX5_readsMany_121 : decode cX5_readsMany 121 = .ok (.ifCond .ne 5, 3) := dk_154 0 5 (dk_at dksX5_readsMany_5 4 rfl rfl)
theorem dX5_readsMany_124 : decode cX5_readsMany 124 = .ok (.iconst 0, 1) := dk_3 (dk_at dksX5_readsMany_5 7 rfl rfl)
theorem dX5_readsMany_125 : decode cX5_readsMany 125 = .ok (.ireturn, 1) := dk_172 (dk_at dksX5_readsMany_5 8 rfl rfl)
theorem dX5_readsMany_126 : decode cX5_readsMany 126 = .ok (.aload_n 0, 1) := dk_42 (dk_at dksX5_readsMany_5 9 rfl rfl)
theorem dX5_readsMany_127 : decode cX5_readsMany 127 = .ok (.invokevirtual 112, 3) := dk_182 0 112 (dk_at dksX5_readsMany_5 10 rfl rfl)
theorem dX5_readsMany_130 : decode cX5_readsMany 130 = .ok (.iload_n 1, 1) := dk_27 (dk_at dksX5_readsMany_5 13 rfl rfl)
theorem dX5_readsMany_131 : decode cX5_readsMany 131 = .ok (.iadd, 1) := dk_96 (dk_at dksX5_readsMany_5 14 rfl rfl)
theorem dX5_readsMany_132 : decode cX5_readsMany 132 = .ok (.iload 4, 2) := dk_21 4 (dk_at dksX5_readsMany_5 15 rfl rfl)
theorem dX5_readsMany_134 : decode cX5_readsMany 134 = .ok (.iload_n 3, 1) := dk_29 (dk_at dksX5_readsMany_5 17 rfl rfl)
theorem dX5_readsMany_135 : decode cX5_readsMany 135 = .ok (.imul, 1) := dk_104 (dk_at dksX5_readsMany_5 18 rfl rfl)
theorem dX5_readsMany_136 : decode cX5_readsMany 136 = .ok (.iadd, 1) := dk_96 (dk_at dksX5_readsMany_5 19 rfl rfl)
theorem dX5_readsMany_137 : decode cX5_readsMany 137 = .ok (.bipush 100, 2) := dk_16 100 (dk_at dksX5_readsMany_5 20 rfl rfl)
theorem dX5_readsMany_139 : decode cX5_readsMany 139 = .ok (.if_icmp .le 10, 3) := dk_164 0 10 (dk_at dksX5_readsMany_6 0 rfl rfl)
theorem dX5_readsMany_142 : decode cX5_readsMany 142 = .ok (.aload_n 0, 1) := dk_42 (dk_at dksX5_readsMany_6 3 rfl rfl)
theorem dX5_readsMany_143 : decode cX5_readsMany 143 = .ok (.iload_n 2, 1) := dk_28 (dk_at dksX5_readsMany_6 4 rfl rfl)
theorem dX5_readsMany_144 : decode cX5_readsMany 144 = .ok (.putfield 226, 3) := dk_181 0 226 (dk_at dksX5_readsMany_6 5 rfl rfl)
theorem dX5_readsMany_147 : decode cX5_readsMany 147 = .ok (.iconst 0, 1) := dk_3 (dk_at dksX5_readsMany_6 8 rfl rfl)
theorem dX5_readsMany_148 : decode cX5_readsMany 148 = .ok (.ireturn, 1) := dk_172 (dk_at dksX5_readsMany_6 9 rfl rfl)
theorem dX5_readsMany_149 : decode cX5_readsMany 149 = .ok (.iload_n 3, 1) := dk_29 (dk_at dksX5_readsMany_6 10 rfl rfl)
theorem dX5_readsMany_150 : decode cX5_readsMany 150 = .ok (.istore 5, 2) := dk_54 5 (dk_at dksX5_readsMany_6 11 rfl rfl)
theorem dX5_readsMany_152 : decode cX5_readsMany 152 = .ok (.iload 5, 2) := dk_21 5 (dk_at dksX5_readsMany_6 13 rfl rfl)
theorem dX5_readsMany_154 : decode cX5_readsMany 154 = .ok (.iload 4, 2) := dk_21 4 (dk_at dksX5_readsMany_6 15 rfl rfl)
theorem dX5_readsMany_156 : decode cX5_readsMany 156 = .ok (.iload_n 3, 1) := dk_29 (dk_at dksX5_readsMany_6 17 rfl rfl)
theorem dX5_readsMany_157 : decode cX5_readsMany 157 = .ok (.imul, 1) := dk_104 (dk_at dksX5_readsMany_6 18 rfl rfl)
theorem dX5_readsMany_158 : decode cX5_readsMany 158 = .ok (.if_icmp .ge 39, 3) := dk_162 0 39 (dk_at dksX5_readsMany_6 19 rfl rfl)
theorem dX5_readsMany_161 : decode cX5_readsMany 161 = .ok (.aload_n 0, 1) := dk_42 (dk_at dksX5_readsMany_6 22 rfl rfl)
theorem dX5_readsMany_162 : decode cX5_readsMany 162 = .ok (.getfield 62, 3) := dk_180 0 62 (dk_at dksX5_readsMany_7 0 rfl rfl)
theorem dX5_readsMany_165 : decode cX5_readsMany 165 = .ok (.aload_n 0, 1) := dk_42 (dk_at dksX5_readsMany_7 3 rfl rfl)
theorem dX5_readsMany_166 : decode cX5_readsMany 166 = .ok (.getfield 240, 3) := dk_180 0 240 (dk_at dksX5_readsMany_7 4 rfl rfl)
theorem dX5_readsMany_169 : decode cX5_readsMany 169 = .ok (.aload_n 0, 1) := dk_42 (dk_at dksX5_readsMany_7 7 rfl rfl)
theorem dX5_readsMany_170 : decode cX5_readsMany 170 = .ok (.getfield 62, 3) := dk_180 0 62 (dk_at dksX5_readsMany_7 8 rfl rfl)
theorem dX5_readsMany_173 : decode cX5_readsMany 173 = .ok (.aload_n 0, 1) := dk_42 (dk_at dksX5_readsMany_7 11 rfl rfl)
theorem dX5_readsMany_174 : decode cX5_readsMany 174 = .ok (.getfield 240, 3) := dk_180 0 240 (dk_at dksX5_readsMany_7 12 rfl rfl)
theorem dX5_readsMany_177 : decode cX5_readsMany 177 = .ok (.iload_n 3, 1) := dk_29 (dk_at dksX5_readsMany_7 15 rfl rfl)
theorem dX5_readsMany_178 : decode cX5_readsMany 178 = .ok (.isub, 1) := dk_100 (dk_at dksX5_readsMany_7 16 rfl rfl)
theorem dX5_readsMany_179 : decode cX5_readsMany 179 = .ok (.iaload, 1) := dk_46 (dk_at dksX5_readsMany_7 17 rfl rfl)
theorem dX5_readsMany_180 : decode cX5_readsMany 180 = .ok (.iastore, 1) := dk_79 (dk_at dksX5_readsMany_7 18 rfl rfl)
theorem dX5_readsMany_181 : decode cX5_readsMany 181 = .ok (.aload_n 0, 1) := dk_42 (dk_at dksX5_readsMany_7 19 rfl rfl)
theorem dX5_readsMany_182 : decode cX5_readsMany 182 = .ok (.dup, 1) := dk_89 (dk_at dksX5_readsMany_7 20 rfl rfl)
theorem dX5_readsMany_183 : decode cX5_readsMany 183 = .ok (.getfield 240, 3) := dk_180 0 240 (dk_at dksX5_readsMany_7 21 rfl rfl)
theorem dX5_readsMany_186 : decode cX5_readsMany 186 = .ok (.iconst 1, 1) := dk_4 (dk_at dksX5_readsMany_8 0 rfl rfl)
theorem dX5_readsMany_187 : decode cX5_readsMany 187 = .ok (.iadd, 1) := dk_96 (dk_at dksX5_readsMany_8 1 rfl rfl)
theorem dX5_readsMany_188 : decode cX5_readsMany 188 = .ok (.putfield 240, 3) := dk_181 0 240 (dk_at dksX5_readsMany_8 2 rfl rfl)
theorem dX5_readsMany_191 : decode cX5_readsMany 191 = .ok (.iinc 5 1, 3) := dk_132 5 1 (dk_at dksX5_readsMany_8 5 rfl rfl)
theorem dX5_readsMany_194 : decode cX5_readsMany 194 = .ok (.goto (-42), 3) := dk_167 255 214 (dk_at dksX5_readsMany_8 8 rfl rfl)
theorem dX5_readsMany_197 : decode cX5_readsMany 197 = .ok (.iconst 1, 1) := dk_4 (dk_at dksX5_readsMany_8 11 rfl rfl)
theorem dX5_readsMany_198 : decode cX5_readsMany 198 = .ok (.ireturn, 1) := dk_172 (dk_at dksX5_readsMany_8 12 rfl rfl)
abbrev cX5_readsSign : ByteArray := prog_11_method_55_code
def yX5_readsSign : MethodName := ⟨RX5, "readsSign", "()Z"⟩
def dkwX5_readsSign_5 : List UInt8 := [42, 89, 180, 0, 240, 4, 96, 181, 0, 240, 132, 4, 1, 167, 255, 227, 4, 172]
abbrev dktX5_readsSign_5 : List UInt8 := dkwX5_readsSign_5 ++ []
def dkwX5_readsSign_4 : List UInt8 := [181, 0, 226, 3, 172, 3, 54, 4, 21, 4, 29, 162, 0, 29, 42, 180, 0, 62, 42, 180, 0, 240, 28, 79]
abbrev dktX5_readsSign_4 : List UInt8 := dkwX5_readsSign_4 ++ dktX5_readsSign_5
def dkwX5_readsSign_3 : List UInt8 := [154, 0, 5, 3, 172, 42, 182, 0, 112, 42, 180, 0, 240, 96, 29, 96, 16, 100, 164, 0, 10, 42, 27]
abbrev dktX5_readsSign_3 : List UInt8 := dkwX5_readsSign_3 ++ dktX5_readsSign_4
def dkwX5_readsSign_2 : List UInt8 := [182, 0, 233, 16, 120, 160, 0, 24, 42, 89, 180, 0, 226, 4, 96, 181, 0, 226, 42, 182, 0, 243, 62, 29]
abbrev dktX5_readsSign_2 : List UInt8 := dkwX5_readsSign_2 ++ dktX5_readsSign_3
def dkwX5_readsSign_1 : List UInt8 := [42, 180, 0, 240, 96, 16, 100, 160, 0, 5, 3, 172, 42, 89, 180, 0, 226, 4, 96, 181, 0, 226, 42]
abbrev dktX5_readsSign_1 : List UInt8 := dkwX5_readsSign_1 ++ dktX5_readsSign_2
def dkwX5_readsSign_0 : List UInt8 := [42, 180, 0, 226, 60, 42, 180, 0, 59, 42, 180, 0, 226, 46, 16, 48, 100, 61, 4, 62, 42, 182, 0, 112]
abbrev dktX5_readsSign_0 : List UInt8 := dkwX5_readsSign_0 ++ dktX5_readsSign_1
theorem dksX5_readsSign_0 : cX5_readsSign.data.toList.drop 0 = dktX5_readsSign_0 := by decide +kernel
theorem dksX5_readsSign_1 : cX5_readsSign.data.toList.drop 24 = dktX5_readsSign_1 := dk_seg dksX5_readsSign_0 24 rfl rfl
theorem dksX5_readsSign_2 : cX5_readsSign.data.toList.drop 47 = dktX5_readsSign_2 := dk_seg dksX5_readsSign_1 23 rfl rfl
theorem dksX5_readsSign_3 : cX5_readsSign.data.toList.drop 71 = dktX5_readsSign_3 := dk_seg dksX5_readsSign_2 24 rfl rfl
theorem dksX5_readsSign_4 : cX5_readsSign.data.toList.drop 94 = dktX5_readsSign_4 := dk_seg dksX5_readsSign_3 23 rfl rfl
theorem dksX5_readsSign_5 : cX5_readsSign.data.toList.drop 118 = dktX5_readsSign_5 := dk_seg dksX5_readsSign_4 24 rfl rfl
theorem dX5_readsSign_0 : decode cX5_readsSign 0 = .ok (.aload_n 0, 1) := dk_42 (dk_at dksX5_readsSign_0 0 rfl rfl)
theorem dX5_readsSign_1 : decode cX5_readsSign 1 = .ok (.getfield 226, 3) := dk_180 0 226 (dk_at dksX5_readsSign_0 1 rfl rfl)
theorem dX5_readsSign_4 : decode cX5_readsSign 4 = .ok (.istore_n 1, 1) := dk_60 (dk_at dksX5_readsSign_0 4 rfl rfl)
theorem dX5_readsSign_5 : decode cX5_readsSign 5 = .ok (.aload_n 0, 1) := dk_42 (dk_at dksX5_readsSign_0 5 rfl rfl)
theorem dX5_readsSign_6 : decode cX5_readsSign 6 = .ok (.getfield 59, 3) := dk_180 0 59 (dk_at dksX5_readsSign_0 6 rfl rfl)
theorem dX5_readsSign_9 : decode cX5_readsSign 9 = .ok (.aload_n 0, 1) := dk_42 (dk_at dksX5_readsSign_0 9 rfl rfl)
theorem dX5_readsSign_10 : decode cX5_readsSign 10 = .ok (.getfield 226, 3) := dk_180 0 226 (dk_at dksX5_readsSign_0 10 rfl rfl)
theorem dX5_readsSign_13 : decode cX5_readsSign 13 = .ok (.iaload, 1) := dk_46 (dk_at dksX5_readsSign_0 13 rfl rfl)
theorem dX5_readsSign_14 : decode cX5_readsSign 14 = .ok (.bipush 48, 2) := dk_16 48 (dk_at dksX5_readsSign_0 14 rfl rfl)
theorem dX5_readsSign_16 : decode cX5_readsSign 16 = .ok (.isub, 1) := dk_100 (dk_at dksX5_readsSign_0 16 rfl rfl)
theorem dX5_readsSign_17 : decode cX5_readsSign 17 = .ok (.istore_n 2, 1) := dk_61 (dk_at dksX5_readsSign_0 17 rfl rfl)
theorem dX5_readsSign_18 : decode cX5_readsSign 18 = .ok (.iconst 1, 1) := dk_4 (dk_at dksX5_readsSign_0 18 rfl rfl)
theorem dX5_readsSign_19 : decode cX5_readsSign 19 = .ok (.istore_n 3, 1) := dk_62 (dk_at dksX5_readsSign_0 19 rfl rfl)
theorem dX5_readsSign_20 : decode cX5_readsSign 20 = .ok (.aload_n 0, 1) := dk_42 (dk_at dksX5_readsSign_0 20 rfl rfl)
theorem dX5_readsSign_21 : decode cX5_readsSign 21 = .ok (.invokevirtual 112, 3) := dk_182 0 112 (dk_at dksX5_readsSign_0 21 rfl rfl)
theorem dX5_readsSign_24 : decode cX5_readsSign 24 = .ok (.aload_n 0, 1) := dk_42 (dk_at dksX5_readsSign_1 0 rfl rfl)
theorem dX5_readsSign_25 : decode cX5_readsSign 25 = .ok (.getfield 240, 3) := dk_180 0 240 (dk_at dksX5_readsSign_1 1 rfl rfl)
theorem dX5_readsSign_28 : decode cX5_readsSign 28 = .ok (.iadd, 1) := dk_96 (dk_at dksX5_readsSign_1 4 rfl rfl)
theorem dX5_readsSign_29 : decode cX5_readsSign 29 = .ok (.bipush 100, 2) := dk_16 100 (dk_at dksX5_readsSign_1 5 rfl rfl)
theorem dX5_readsSign_31 : decode cX5_readsSign 31 = .ok (.if_icmp .ne 5, 3) := dk_160 0 5 (dk_at dksX5_readsSign_1 7 rfl rfl)
theorem dX5_readsSign_34 : decode cX5_readsSign 34 = .ok (.iconst 0, 1) := dk_3 (dk_at dksX5_readsSign_1 10 rfl rfl)
theorem dX5_readsSign_35 : decode cX5_readsSign 35 = .ok (.ireturn, 1) := dk_172 (dk_at dksX5_readsSign_1 11 rfl rfl)
theorem dX5_readsSign_36 : decode cX5_readsSign 36 = .ok (.aload_n 0, 1) := dk_42 (dk_at dksX5_readsSign_1 12 rfl rfl)
theorem dX5_readsSign_37 : decode cX5_readsSign 37 = .ok (.dup, 1) := dk_89 (dk_at dksX5_readsSign_1 13 rfl rfl)
theorem dX5_readsSign_38 : decode cX5_readsSign 38 = .ok (.getfield 226, 3) := dk_180 0 226 (dk_at dksX5_readsSign_1 14 rfl rfl)
theorem dX5_readsSign_41 : decode cX5_readsSign 41 = .ok (.iconst 1, 1) := dk_4 (dk_at dksX5_readsSign_1 17 rfl rfl)
theorem dX5_readsSign_42 : decode cX5_readsSign 42 = .ok (.iadd, 1) := dk_96 (dk_at dksX5_readsSign_1 18 rfl rfl)
theorem dX5_readsSign_43 : decode cX5_readsSign 43 = .ok (.putfield 226, 3) := dk_181 0 226 (dk_at dksX5_readsSign_1 19 rfl rfl)
theorem dX5_readsSign_46 : decode cX5_readsSign 46 = .ok (.aload_n 0, 1) := dk_42 (dk_at dksX5_readsSign_1 22 rfl rfl)
theorem dX5_readsSign_47 : decode cX5_readsSign 47 = .ok (.invokevirtual 233, 3) := dk_182 0 233 (dk_at dksX5_readsSign_2 0 rfl rfl)
theorem dX5_readsSign_50 : decode cX5_readsSign 50 = .ok (.bipush 120, 2) := dk_16 120 (dk_at dksX5_readsSign_2 3 rfl rfl)
theorem dX5_readsSign_52 : decode cX5_readsSign 52 = .ok (.if_icmp .ne 24, 3) := dk_160 0 24 (dk_at dksX5_readsSign_2 5 rfl rfl)
theorem dX5_readsSign_55 : decode cX5_readsSign 55 = .ok (.aload_n 0, 1) := dk_42 (dk_at dksX5_readsSign_2 8 rfl rfl)
theorem dX5_readsSign_56 : decode cX5_readsSign 56 = .ok (.dup, 1) := dk_89 (dk_at dksX5_readsSign_2 9 rfl rfl)
theorem dX5_readsSign_57 : decode cX5_readsSign 57 = .ok (.getfield 226, 3) := dk_180 0 226 (dk_at dksX5_readsSign_2 10 rfl rfl)
theorem dX5_readsSign_60 : decode cX5_readsSign 60 = .ok (.iconst 1, 1) := dk_4 (dk_at dksX5_readsSign_2 13 rfl rfl)
theorem dX5_readsSign_61 : decode cX5_readsSign 61 = .ok (.iadd, 1) := dk_96 (dk_at dksX5_readsSign_2 14 rfl rfl)
theorem dX5_readsSign_62 : decode cX5_readsSign 62 = .ok (.putfield 226, 3) := dk_181 0 226 (dk_at dksX5_readsSign_2 15 rfl rfl)
theorem dX5_readsSign_65 : decode cX5_readsSign 65 = .ok (.aload_n 0, 1) := dk_42 (dk_at dksX5_readsSign_2 18 rfl rfl)
theorem dX5_readsSign_66 : decode cX5_readsSign 66 = .ok (.invokevirtual 243, 3) := dk_182 0 243 (dk_at dksX5_readsSign_2 19 rfl rfl)
theorem dX5_readsSign_69 : decode cX5_readsSign 69 = .ok (.istore_n 3, 1) := dk_62 (dk_at dksX5_readsSign_2 22 rfl rfl)
theorem dX5_readsSign_70 : decode cX5_readsSign 70 = .ok (.iload_n 3, 1) := dk_29 (dk_at dksX5_readsSign_2 23 rfl rfl)
theorem dX5_readsSign_71 : decode cX5_readsSign 71 = .ok (.ifCond .ne 5, 3) := dk_154 0 5 (dk_at dksX5_readsSign_3 0 rfl rfl)
theorem dX5_readsSign_74 : decode cX5_readsSign 74 = .ok (.iconst 0, 1) := dk_3 (dk_at dksX5_readsSign_3 3 rfl rfl)
theorem dX5_readsSign_75 : decode cX5_readsSign 75 = .ok (.ireturn, 1) := dk_172 (dk_at dksX5_readsSign_3 4 rfl rfl)
theorem dX5_readsSign_76 : decode cX5_readsSign 76 = .ok (.aload_n 0, 1) := dk_42 (dk_at dksX5_readsSign_3 5 rfl rfl)
theorem dX5_readsSign_77 : decode cX5_readsSign 77 = .ok (.invokevirtual 112, 3) := dk_182 0 112 (dk_at dksX5_readsSign_3 6 rfl rfl)
theorem dX5_readsSign_80 : decode cX5_readsSign 80 = .ok (.aload_n 0, 1) := dk_42 (dk_at dksX5_readsSign_3 9 rfl rfl)
theorem dX5_readsSign_81 : decode cX5_readsSign 81 = .ok (.getfield 240, 3) := dk_180 0 240 (dk_at dksX5_readsSign_3 10 rfl rfl)
theorem dX5_readsSign_84 : decode cX5_readsSign 84 = .ok (.iadd, 1) := dk_96 (dk_at dksX5_readsSign_3 13 rfl rfl)
theorem dX5_readsSign_85 : decode cX5_readsSign 85 = .ok (.iload_n 3, 1) := dk_29 (dk_at dksX5_readsSign_3 14 rfl rfl)
theorem dX5_readsSign_86 : decode cX5_readsSign 86 = .ok (.iadd, 1) := dk_96 (dk_at dksX5_readsSign_3 15 rfl rfl)
theorem dX5_readsSign_87 : decode cX5_readsSign 87 = .ok (.bipush 100, 2) := dk_16 100 (dk_at dksX5_readsSign_3 16 rfl rfl)
theorem dX5_readsSign_89 : decode cX5_readsSign 89 = .ok (.if_icmp .le 10, 3) := dk_164 0 10 (dk_at dksX5_readsSign_3 18 rfl rfl)
theorem dX5_readsSign_92 : decode cX5_readsSign 92 = .ok (.aload_n 0, 1) := dk_42 (dk_at dksX5_readsSign_3 21 rfl rfl)
theorem dX5_readsSign_93 : decode cX5_readsSign 93 = .ok (.iload_n 1, 1) := dk_27 (dk_at dksX5_readsSign_3 22 rfl rfl)
theorem dX5_readsSign_94 : decode cX5_readsSign 94 = .ok (.putfield 226, 3) := dk_181 0 226 (dk_at dksX5_readsSign_4 0 rfl rfl)
theorem dX5_readsSign_97 : decode cX5_readsSign 97 = .ok (.iconst 0, 1) := dk_3 (dk_at dksX5_readsSign_4 3 rfl rfl)
theorem dX5_readsSign_98 : decode cX5_readsSign 98 = .ok (.ireturn, 1) := dk_172 (dk_at dksX5_readsSign_4 4 rfl rfl)
theorem dX5_readsSign_99 : decode cX5_readsSign 99 = .ok (.iconst 0, 1) := dk_3 (dk_at dksX5_readsSign_4 5 rfl rfl)
theorem dX5_readsSign_100 : decode cX5_readsSign 100 = .ok (.istore 4, 2) := dk_54 4 (dk_at dksX5_readsSign_4 6 rfl rfl)
theorem dX5_readsSign_102 : decode cX5_readsSign 102 = .ok (.iload 4, 2) := dk_21 4 (dk_at dksX5_readsSign_4 8 rfl rfl)
theorem dX5_readsSign_104 : decode cX5_readsSign 104 = .ok (.iload_n 3, 1) := dk_29 (dk_at dksX5_readsSign_4 10 rfl rfl)
theorem dX5_readsSign_105 : decode cX5_readsSign 105 = .ok (.if_icmp .ge 29, 3) := dk_162 0 29 (dk_at dksX5_readsSign_4 11 rfl rfl)
theorem dX5_readsSign_108 : decode cX5_readsSign 108 = .ok (.aload_n 0, 1) := dk_42 (dk_at dksX5_readsSign_4 14 rfl rfl)
theorem dX5_readsSign_109 : decode cX5_readsSign 109 = .ok (.getfield 62, 3) := dk_180 0 62 (dk_at dksX5_readsSign_4 15 rfl rfl)
theorem dX5_readsSign_112 : decode cX5_readsSign 112 = .ok (.aload_n 0, 1) := dk_42 (dk_at dksX5_readsSign_4 18 rfl rfl)
theorem dX5_readsSign_113 : decode cX5_readsSign 113 = .ok (.getfield 240, 3) := dk_180 0 240 (dk_at dksX5_readsSign_4 19 rfl rfl)
theorem dX5_readsSign_116 : decode cX5_readsSign 116 = .ok (.iload_n 2, 1) := dk_28 (dk_at dksX5_readsSign_4 22 rfl rfl)
theorem dX5_readsSign_117 : decode cX5_readsSign 117 = .ok (.iastore, 1) := dk_79 (dk_at dksX5_readsSign_4 23 rfl rfl)
theorem dX5_readsSign_118 : decode cX5_readsSign 118 = .ok (.aload_n 0, 1) := dk_42 (dk_at dksX5_readsSign_5 0 rfl rfl)
theorem dX5_readsSign_119 : decode cX5_readsSign 119 = .ok (.dup, 1) := dk_89 (dk_at dksX5_readsSign_5 1 rfl rfl)
theorem dX5_readsSign_120 : decode cX5_readsSign 120 = .ok (.getfield 240, 3) := dk_180 0 240 (dk_at dksX5_readsSign_5 2 rfl rfl)
theorem dX5_readsSign_123 : decode cX5_readsSign 123 = .ok (.iconst 1, 1) := dk_4 (dk_at dksX5_readsSign_5 5 rfl rfl)
theorem dX5_readsSign_124 : decode cX5_readsSign 124 = .ok (.iadd, 1) := dk_96 (dk_at dksX5_readsSign_5 6 rfl rfl)
theorem dX5_readsSign_125 : decode cX5_readsSign 125 = .ok (.putfield 240, 3) := dk_181 0 240 (dk_at dksX5_readsSign_5 7 rfl rfl)
theorem dX5_readsSign_128 : decode cX5_readsSign 128 = .ok (.iinc 4 1, 3) := dk_132 4 1 (dk_at dksX5_readsSign_5 10 rfl rfl)
theorem dX5_readsSign_131 : decode cX5_readsSign 131 = .ok (.goto (-29), 3) := dk_167 255 227 (dk_at dksX5_readsSign_5 13 rfl rfl)
theorem dX5_readsSign_134 : decode cX5_readsSign 134 = .ok (.iconst 1, 1) := dk_4 (dk_at dksX5_readsSign_5 16 rfl rfl)
theorem dX5_readsSign_135 : decode cX5_readsSign 135 = .ok (.ireturn, 1) := dk_172 (dk_at dksX5_readsSign_5 17 rfl rfl)
abbrev cX5_times : ByteArray := prog_11_method_54_code
def yX5_times : MethodName := ⟨RX5, "times", "()I"⟩
def dkwX5_times_4 : List UInt8 := [181, 0, 226, 21, 4, 153, 0, 7, 29, 167, 0, 4, 3, 172]
abbrev dktX5_times_4 : List UInt8 := dkwX5_times_4 ++ []
def dkwX5_times_3 : List UInt8 := [158, 0, 7, 4, 167, 0, 4, 3, 54, 4, 42, 21, 4, 153, 0, 7, 28, 167, 0, 7, 42, 180, 0, 226]
abbrev dktX5_times_3 : List UInt8 := dkwX5_times_3 ++ dktX5_times_4
def dkwX5_times_2 : List UInt8 := [132, 2, 1, 167, 255, 220, 28, 42, 180, 0, 226, 100, 133, 10, 20, 0, 181, 184, 0, 138, 153, 0, 11, 29]
abbrev dktX5_times_2 : List UInt8 := dkwX5_times_2 ++ dktX5_times_3
def dkwX5_times_1 : List UInt8 := [180, 0, 226, 100, 6, 162, 0, 24, 16, 10, 29, 104, 42, 180, 0, 59, 28, 46, 96, 16, 48, 100, 62]
abbrev dktX5_times_1 : List UInt8 := dkwX5_times_1 ++ dktX5_times_2
def dkwX5_times_0 : List UInt8 := [42, 182, 0, 233, 60, 42, 180, 0, 226, 61, 3, 62, 42, 28, 182, 0, 236, 153, 0, 34, 28, 42]
abbrev dktX5_times_0 : List UInt8 := dkwX5_times_0 ++ dktX5_times_1
theorem dksX5_times_0 : cX5_times.data.toList.drop 0 = dktX5_times_0 := by decide +kernel
theorem dksX5_times_1 : cX5_times.data.toList.drop 22 = dktX5_times_1 := dk_seg dksX5_times_0 22 rfl rfl
theorem dksX5_times_2 : cX5_times.data.toList.drop 45 = dktX5_times_2 := dk_seg dksX5_times_1 23 rfl rfl
theorem dksX5_times_3 : cX5_times.data.toList.drop 69 = dktX5_times_3 := dk_seg dksX5_times_2 24 rfl rfl
theorem dksX5_times_4 : cX5_times.data.toList.drop 93 = dktX5_times_4 := dk_seg dksX5_times_3 24 rfl rfl
theorem dX5_times_0 : decode cX5_times 0 = .ok (.aload_n 0, 1) := dk_42 (dk_at dksX5_times_0 0 rfl rfl)
theorem dX5_times_1 : decode cX5_times 1 = .ok (.invokevirtual 233, 3) := dk_182 0 233 (dk_at dksX5_times_0 1 rfl rfl)
theorem dX5_times_4 : decode cX5_times 4 = .ok (.istore_n 1, 1) := dk_60 (dk_at dksX5_times_0 4 rfl rfl)
theorem dX5_times_5 : decode cX5_times 5 = .ok (.aload_n 0, 1) := dk_42 (dk_at dksX5_times_0 5 rfl rfl)
theorem dX5_times_6 : decode cX5_times 6 = .ok (.getfield 226, 3) := dk_180 0 226 (dk_at dksX5_times_0 6 rfl rfl)
theorem dX5_times_9 : decode cX5_times 9 = .ok (.istore_n 2, 1) := dk_61 (dk_at dksX5_times_0 9 rfl rfl)
theorem dX5_times_10 : decode cX5_times 10 = .ok (.iconst 0, 1) := dk_3 (dk_at dksX5_times_0 10 rfl rfl)
theorem dX5_times_11 : decode cX5_times 11 = .ok (.istore_n 3, 1) := dk_62 (dk_at dksX5_times_0 11 rfl rfl)
theorem dX5_times_12 : decode cX5_times 12 = .ok (.aload_n 0, 1) := dk_42 (dk_at dksX5_times_0 12 rfl rfl)
theorem dX5_times_13 : decode cX5_times 13 = .ok (.iload_n 2, 1) := dk_28 (dk_at dksX5_times_0 13 rfl rfl)
theorem dX5_times_14 : decode cX5_times 14 = .ok (.invokevirtual 236, 3) := dk_182 0 236 (dk_at dksX5_times_0 14 rfl rfl)
theorem dX5_times_17 : decode cX5_times 17 = .ok (.ifCond .eq 34, 3) := dk_153 0 34 (dk_at dksX5_times_0 17 rfl rfl)
theorem dX5_times_20 : decode cX5_times 20 = .ok (.iload_n 2, 1) := dk_28 (dk_at dksX5_times_0 20 rfl rfl)
theorem dX5_times_21 : decode cX5_times 21 = .ok (.aload_n 0, 1) := dk_42 (dk_at dksX5_times_0 21 rfl rfl)
theorem dX5_times_22 : decode cX5_times 22 = .ok (.getfield 226, 3) := dk_180 0 226 (dk_at dksX5_times_1 0 rfl rfl)
theorem dX5_times_25 : decode cX5_times 25 = .ok (.isub, 1) := dk_100 (dk_at dksX5_times_1 3 rfl rfl)
theorem dX5_times_26 : decode cX5_times 26 = .ok (.iconst 3, 1) := dk_6 (dk_at dksX5_times_1 4 rfl rfl)
theorem dX5_times_27 : decode cX5_times 27 = .ok (.if_icmp .ge 24, 3) := dk_162 0 24 (dk_at dksX5_times_1 5 rfl rfl)
theorem dX5_times_30 : decode cX5_times 30 = .ok (.bipush 10, 2) := dk_16 10 (dk_at dksX5_times_1 8 rfl rfl)
theorem dX5_times_32 : decode cX5_times 32 = .ok (.iload_n 3, 1) := dk_29 (dk_at dksX5_times_1 10 rfl rfl)
theorem dX5_times_33 : decode cX5_times 33 = .ok (.imul, 1) := dk_104 (dk_at dksX5_times_1 11 rfl rfl)
theorem dX5_times_34 : decode cX5_times 34 = .ok (.aload_n 0, 1) := dk_42 (dk_at dksX5_times_1 12 rfl rfl)
theorem dX5_times_35 : decode cX5_times 35 = .ok (.getfield 59, 3) := dk_180 0 59 (dk_at dksX5_times_1 13 rfl rfl)
theorem dX5_times_38 : decode cX5_times 38 = .ok (.iload_n 2, 1) := dk_28 (dk_at dksX5_times_1 16 rfl rfl)
theorem dX5_times_39 : decode cX5_times 39 = .ok (.iaload, 1) := dk_46 (dk_at dksX5_times_1 17 rfl rfl)
theorem dX5_times_40 : decode cX5_times 40 = .ok (.iadd, 1) := dk_96 (dk_at dksX5_times_1 18 rfl rfl)
theorem dX5_times_41 : decode cX5_times 41 = .ok (.bipush 48, 2) := dk_16 48 (dk_at dksX5_times_1 19 rfl rfl)
theorem dX5_times_43 : decode cX5_times 43 = .ok (.isub, 1) := dk_100 (dk_at dksX5_times_1 21 rfl rfl)
theorem dX5_times_44 : decode cX5_times 44 = .ok (.istore_n 3, 1) := dk_62 (dk_at dksX5_times_1 22 rfl rfl)
theorem dX5_times_45 : decode cX5_times 45 = .ok (.iinc 2 1, 3) := dk_132 2 1 (dk_at dksX5_times_2 0 rfl rfl)
theorem dX5_times_48 : decode cX5_times 48 = .ok (.goto (-36), 3) := dk_167 255 220 (dk_at dksX5_times_2 3 rfl rfl)
theorem dX5_times_51 : decode cX5_times 51 = .ok (.iload_n 2, 1) := dk_28 (dk_at dksX5_times_2 6 rfl rfl)
theorem dX5_times_52 : decode cX5_times 52 = .ok (.aload_n 0, 1) := dk_42 (dk_at dksX5_times_2 7 rfl rfl)
theorem dX5_times_53 : decode cX5_times 53 = .ok (.getfield 226, 3) := dk_180 0 226 (dk_at dksX5_times_2 8 rfl rfl)
theorem dX5_times_56 : decode cX5_times 56 = .ok (.isub, 1) := dk_100 (dk_at dksX5_times_2 11 rfl rfl)
theorem dX5_times_57 : decode cX5_times 57 = .ok (.i2l, 1) := dk_133 (dk_at dksX5_times_2 12 rfl rfl)
theorem dX5_times_58 : decode cX5_times 58 = .ok (.lconst 1, 1) := dk_10 (dk_at dksX5_times_2 13 rfl rfl)
theorem dX5_times_59 : decode cX5_times 59 = .ok (.ldc2_w 181, 3) := dk_20 0 181 (dk_at dksX5_times_2 14 rfl rfl)
theorem dX5_times_62 : decode cX5_times 62 = .ok (.invokestatic 138, 3) := dk_184 0 138 (dk_at dksX5_times_2 17 rfl rfl)
theorem dX5_times_65 : decode cX5_times 65 = .ok (.ifCond .eq 11, 3) := dk_153 0 11 (dk_at dksX5_times_2 20 rfl rfl)
theorem dX5_times_68 : decode cX5_times 68 = .ok (.iload_n 3, 1) := dk_29 (dk_at dksX5_times_2 23 rfl rfl)
theorem dX5_times_69 : decode cX5_times 69 = .ok (.ifCond .le 7, 3) := dk_158 0 7 (dk_at dksX5_times_3 0 rfl rfl)
theorem dX5_times_72 : decode cX5_times 72 = .ok (.iconst 1, 1) := dk_4 (dk_at dksX5_times_3 3 rfl rfl)
theorem dX5_times_73 : decode cX5_times 73 = .ok (.goto 4, 3) := dk_167 0 4 (dk_at dksX5_times_3 4 rfl rfl)
theorem dX5_times_76 : decode cX5_times 76 = .ok (.iconst 0, 1) := dk_3 (dk_at dksX5_times_3 7 rfl rfl)
theorem dX5_times_77 : decode cX5_times 77 = .ok (.istore 4, 2) := dk_54 4 (dk_at dksX5_times_3 8 rfl rfl)
theorem dX5_times_79 : decode cX5_times 79 = .ok (.aload_n 0, 1) := dk_42 (dk_at dksX5_times_3 10 rfl rfl)
theorem dX5_times_80 : decode cX5_times 80 = .ok (.iload 4, 2) := dk_21 4 (dk_at dksX5_times_3 11 rfl rfl)
theorem dX5_times_82 : decode cX5_times 82 = .ok (.ifCond .eq 7, 3) := dk_153 0 7 (dk_at dksX5_times_3 13 rfl rfl)
theorem dX5_times_85 : decode cX5_times 85 = .ok (.iload_n 2, 1) := dk_28 (dk_at dksX5_times_3 16 rfl rfl)
theorem dX5_times_86 : decode cX5_times 86 = .ok (.goto 7, 3) := dk_167 0 7 (dk_at dksX5_times_3 17 rfl rfl)
theorem dX5_times_89 : decode cX5_times 89 = .ok (.aload_n 0, 1) := dk_42 (dk_at dksX5_times_3 20 rfl rfl)
theorem dX5_times_90 : decode cX5_times 90 = .ok (.getfield 226, 3) := dk_180 0 226 (dk_at dksX5_times_3 21 rfl rfl)
theorem dX5_times_93 : decode cX5_times 93 = .ok (.putfield 226, 3) := dk_181 0 226 (dk_at dksX5_times_4 0 rfl rfl)
theorem dX5_times_96 : decode cX5_times 96 = .ok (.iload 4, 2) := dk_21 4 (dk_at dksX5_times_4 3 rfl rfl)
theorem dX5_times_98 : decode cX5_times 98 = .ok (.ifCond .eq 7, 3) := dk_153 0 7 (dk_at dksX5_times_4 5 rfl rfl)
theorem dX5_times_101 : decode cX5_times 101 = .ok (.iload_n 3, 1) := dk_29 (dk_at dksX5_times_4 8 rfl rfl)
theorem dX5_times_102 : decode cX5_times 102 = .ok (.goto 4, 3) := dk_167 0 4 (dk_at dksX5_times_4 9 rfl rfl)
theorem dX5_times_105 : decode cX5_times 105 = .ok (.iconst 0, 1) := dk_3 (dk_at dksX5_times_4 12 rfl rfl)
theorem dX5_times_106 : decode cX5_times 106 = .ok (.ireturn, 1) := dk_172 (dk_at dksX5_times_4 13 rfl rfl)
abbrev cX5_isFigure : ByteArray := prog_11_method_53_code
def yX5_isFigure : MethodName := ⟨RX5, "isFigure", "(I)Z"⟩
def dkwX5_isFigure_1 : List UInt8 := [153, 0, 7, 4, 167, 0, 4, 3, 172]
abbrev dktX5_isFigure_1 : List UInt8 := dkwX5_isFigure_1 ++ []
def dkwX5_isFigure_0 : List UInt8 := [27, 42, 180, 0, 223, 162, 0, 26, 42, 180, 0, 59, 27, 46, 133, 20, 0, 229, 20, 0, 231, 184, 0, 138]
abbrev dktX5_isFigure_0 : List UInt8 := dkwX5_isFigure_0 ++ dktX5_isFigure_1
theorem dksX5_isFigure_0 : cX5_isFigure.data.toList.drop 0 = dktX5_isFigure_0 := by decide +kernel
theorem dksX5_isFigure_1 : cX5_isFigure.data.toList.drop 24 = dktX5_isFigure_1 := dk_seg dksX5_isFigure_0 24 rfl rfl
theorem dX5_isFigure_0 : decode cX5_isFigure 0 = .ok (.iload_n 1, 1) := dk_27 (dk_at dksX5_isFigure_0 0 rfl rfl)
theorem dX5_isFigure_1 : decode cX5_isFigure 1 = .ok (.aload_n 0, 1) := dk_42 (dk_at dksX5_isFigure_0 1 rfl rfl)
theorem dX5_isFigure_2 : decode cX5_isFigure 2 = .ok (.getfield 223, 3) := dk_180 0 223 (dk_at dksX5_isFigure_0 2 rfl rfl)
theorem dX5_isFigure_5 : decode cX5_isFigure 5 = .ok (.if_icmp .ge 26, 3) := dk_162 0 26 (dk_at dksX5_isFigure_0 5 rfl rfl)
theorem dX5_isFigure_8 : decode cX5_isFigure 8 = .ok (.aload_n 0, 1) := dk_42 (dk_at dksX5_isFigure_0 8 rfl rfl)
theorem dX5_isFigure_9 : decode cX5_isFigure 9 = .ok (.getfield 59, 3) := dk_180 0 59 (dk_at dksX5_isFigure_0 9 rfl rfl)
theorem dX5_isFigure_12 : decode cX5_isFigure 12 = .ok (.iload_n 1, 1) := dk_27 (dk_at dksX5_isFigure_0 12 rfl rfl)
theorem dX5_isFigure_13 : decode cX5_isFigure 13 = .ok (.iaload, 1) := dk_46 (dk_at dksX5_isFigure_0 13 rfl rfl)
theorem dX5_isFigure_14 : decode cX5_isFigure 14 = .ok (.i2l, 1) := dk_133 (dk_at dksX5_isFigure_0 14 rfl rfl)
theorem dX5_isFigure_15 : decode cX5_isFigure 15 = .ok (.ldc2_w 229, 3) := dk_20 0 229 (dk_at dksX5_isFigure_0 15 rfl rfl)
theorem dX5_isFigure_18 : decode cX5_isFigure 18 = .ok (.ldc2_w 231, 3) := dk_20 0 231 (dk_at dksX5_isFigure_0 18 rfl rfl)
theorem dX5_isFigure_21 : decode cX5_isFigure 21 = .ok (.invokestatic 138, 3) := dk_184 0 138 (dk_at dksX5_isFigure_0 21 rfl rfl)
theorem dX5_isFigure_24 : decode cX5_isFigure 24 = .ok (.ifCond .eq 7, 3) := dk_153 0 7 (dk_at dksX5_isFigure_1 0 rfl rfl)
theorem dX5_isFigure_27 : decode cX5_isFigure 27 = .ok (.iconst 1, 1) := dk_4 (dk_at dksX5_isFigure_1 3 rfl rfl)
theorem dX5_isFigure_28 : decode cX5_isFigure 28 = .ok (.goto 4, 3) := dk_167 0 4 (dk_at dksX5_isFigure_1 4 rfl rfl)
theorem dX5_isFigure_31 : decode cX5_isFigure 31 = .ok (.iconst 0, 1) := dk_3 (dk_at dksX5_isFigure_1 7 rfl rfl)
theorem dX5_isFigure_32 : decode cX5_isFigure 32 = .ok (.ireturn, 1) := dk_172 (dk_at dksX5_isFigure_1 8 rfl rfl)
abbrev cX5_back : ByteArray := prog_11_method_58_code
def yX5_back : MethodName := ⟨RX5, "back", "()I"⟩
def dkwX5_back_2 : List UInt8 := [46, 79, 132, 1, 1, 167, 255, 227, 42, 180, 0, 65, 172]
abbrev dktX5_back_2 : List UInt8 := dkwX5_back_2 ++ []
def dkwX5_back_1 : List UInt8 := [27, 16, 103, 162, 0, 29, 42, 180, 0, 7, 27, 42, 180, 0, 13, 16, 103, 42, 180, 0, 65, 104, 27, 96]
abbrev dktX5_back_1 : List UInt8 := dkwX5_back_1 ++ dktX5_back_2
def dkwX5_back_0 : List UInt8 := [42, 180, 0, 65, 154, 0, 8, 42, 182, 0, 171, 172, 42, 89, 180, 0, 65, 4, 100, 181, 0, 65, 3, 60]
abbrev dktX5_back_0 : List UInt8 := dkwX5_back_0 ++ dktX5_back_1
theorem dksX5_back_0 : cX5_back.data.toList.drop 0 = dktX5_back_0 := by decide +kernel
theorem dksX5_back_1 : cX5_back.data.toList.drop 24 = dktX5_back_1 := dk_seg dksX5_back_0 24 rfl rfl
theorem dksX5_back_2 : cX5_back.data.toList.drop 48 = dktX5_back_2 := dk_seg dksX5_back_1 24 rfl rfl
theorem dX5_back_0 : decode cX5_back 0 = .ok (.aload_n 0, 1) := dk_42 (dk_at dksX5_back_0 0 rfl rfl)
theorem dX5_back_1 : decode cX5_back 1 = .ok (.getfield 65, 3) := dk_180 0 65 (dk_at dksX5_back_0 1 rfl rfl)
theorem dX5_back_4 : decode cX5_back 4 = .ok (.ifCond .ne 8, 3) := dk_154 0 8 (dk_at dksX5_back_0 4 rfl rfl)
theorem dX5_back_7 : decode cX5_back 7 = .ok (.aload_n 0, 1) := dk_42 (dk_at dksX5_back_0 7 rfl rfl)
theorem dX5_back_8 : decode cX5_back 8 = .ok (.invokevirtual 171, 3) := dk_182 0 171 (dk_at dksX5_back_0 8 rfl rfl)
theorem dX5_back_11 : decode cX5_back 11 = .ok (.ireturn, 1) := dk_172 (dk_at dksX5_back_0 11 rfl rfl)
theorem dX5_back_12 : decode cX5_back 12 = .ok (.aload_n 0, 1) := dk_42 (dk_at dksX5_back_0 12 rfl rfl)
theorem dX5_back_13 : decode cX5_back 13 = .ok (.dup, 1) := dk_89 (dk_at dksX5_back_0 13 rfl rfl)
theorem dX5_back_14 : decode cX5_back 14 = .ok (.getfield 65, 3) := dk_180 0 65 (dk_at dksX5_back_0 14 rfl rfl)
theorem dX5_back_17 : decode cX5_back 17 = .ok (.iconst 1, 1) := dk_4 (dk_at dksX5_back_0 17 rfl rfl)
theorem dX5_back_18 : decode cX5_back 18 = .ok (.isub, 1) := dk_100 (dk_at dksX5_back_0 18 rfl rfl)
theorem dX5_back_19 : decode cX5_back 19 = .ok (.putfield 65, 3) := dk_181 0 65 (dk_at dksX5_back_0 19 rfl rfl)
theorem dX5_back_22 : decode cX5_back 22 = .ok (.iconst 0, 1) := dk_3 (dk_at dksX5_back_0 22 rfl rfl)
theorem dX5_back_23 : decode cX5_back 23 = .ok (.istore_n 1, 1) := dk_60 (dk_at dksX5_back_0 23 rfl rfl)
theorem dX5_back_24 : decode cX5_back 24 = .ok (.iload_n 1, 1) := dk_27 (dk_at dksX5_back_1 0 rfl rfl)
theorem dX5_back_25 : decode cX5_back 25 = .ok (.bipush 103, 2) := dk_16 103 (dk_at dksX5_back_1 1 rfl rfl)
theorem dX5_back_27 : decode cX5_back 27 = .ok (.if_icmp .ge 29, 3) := dk_162 0 29 (dk_at dksX5_back_1 3 rfl rfl)
theorem dX5_back_30 : decode cX5_back 30 = .ok (.aload_n 0, 1) := dk_42 (dk_at dksX5_back_1 6 rfl rfl)
theorem dX5_back_31 : decode cX5_back 31 = .ok (.getfield 7, 3) := dk_180 0 7 (dk_at dksX5_back_1 7 rfl rfl)
theorem dX5_back_34 : decode cX5_back 34 = .ok (.iload_n 1, 1) := dk_27 (dk_at dksX5_back_1 10 rfl rfl)
theorem dX5_back_35 : decode cX5_back 35 = .ok (.aload_n 0, 1) := dk_42 (dk_at dksX5_back_1 11 rfl rfl)
theorem dX5_back_36 : decode cX5_back 36 = .ok (.getfield 13, 3) := dk_180 0 13 (dk_at dksX5_back_1 12 rfl rfl)
theorem dX5_back_39 : decode cX5_back 39 = .ok (.bipush 103, 2) := dk_16 103 (dk_at dksX5_back_1 15 rfl rfl)
theorem dX5_back_41 : decode cX5_back 41 = .ok (.aload_n 0, 1) := dk_42 (dk_at dksX5_back_1 17 rfl rfl)
theorem dX5_back_42 : decode cX5_back 42 = .ok (.getfield 65, 3) := dk_180 0 65 (dk_at dksX5_back_1 18 rfl rfl)
theorem dX5_back_45 : decode cX5_back 45 = .ok (.imul, 1) := dk_104 (dk_at dksX5_back_1 21 rfl rfl)
theorem dX5_back_46 : decode cX5_back 46 = .ok (.iload_n 1, 1) := dk_27 (dk_at dksX5_back_1 22 rfl rfl)
theorem dX5_back_47 : decode cX5_back 47 = .ok (.iadd, 1) := dk_96 (dk_at dksX5_back_1 23 rfl rfl)
theorem dX5_back_48 : decode cX5_back 48 = .ok (.iaload, 1) := dk_46 (dk_at dksX5_back_2 0 rfl rfl)
theorem dX5_back_49 : decode cX5_back 49 = .ok (.iastore, 1) := dk_79 (dk_at dksX5_back_2 1 rfl rfl)
theorem dX5_back_50 : decode cX5_back 50 = .ok (.iinc 1 1, 3) := dk_132 1 1 (dk_at dksX5_back_2 2 rfl rfl)
theorem dX5_back_53 : decode cX5_back 53 = .ok (.goto (-29), 3) := dk_167 255 227 (dk_at dksX5_back_2 5 rfl rfl)
theorem dX5_back_56 : decode cX5_back 56 = .ok (.aload_n 0, 1) := dk_42 (dk_at dksX5_back_2 8 rfl rfl)
theorem dX5_back_57 : decode cX5_back 57 = .ok (.getfield 65, 3) := dk_180 0 65 (dk_at dksX5_back_2 9 rfl rfl)
theorem dX5_back_60 : decode cX5_back 60 = .ok (.ireturn, 1) := dk_172 (dk_at dksX5_back_2 12 rfl rfl)
abbrev cX5_count : ByteArray := prog_11_method_60_code
def yX5_count : MethodName := ⟨RX5, "count", "(I)I"⟩
def dkwX5_count_1 : List UInt8 := [182, 0, 142, 172]
abbrev dktX5_count_1 : List UInt8 := dkwX5_count_1 ++ []
def dkwX5_count_0 : List UInt8 := [27, 133, 9, 20, 0, 253, 184, 0, 138, 153, 0, 11, 42, 27, 182, 0, 255, 167, 0, 9, 42, 16, 254]
abbrev dktX5_count_0 : List UInt8 := dkwX5_count_0 ++ dktX5_count_1
theorem dksX5_count_0 : cX5_count.data.toList.drop 0 = dktX5_count_0 := by decide +kernel
theorem dksX5_count_1 : cX5_count.data.toList.drop 23 = dktX5_count_1 := dk_seg dksX5_count_0 23 rfl rfl
theorem dX5_count_0 : decode cX5_count 0 = .ok (.iload_n 1, 1) := dk_27 (dk_at dksX5_count_0 0 rfl rfl)
theorem dX5_count_1 : decode cX5_count 1 = .ok (.i2l, 1) := dk_133 (dk_at dksX5_count_0 1 rfl rfl)
theorem dX5_count_2 : decode cX5_count 2 = .ok (.lconst 0, 1) := dk_9 (dk_at dksX5_count_0 2 rfl rfl)
theorem dX5_count_3 : decode cX5_count 3 = .ok (.ldc2_w 253, 3) := dk_20 0 253 (dk_at dksX5_count_0 3 rfl rfl)
theorem dX5_count_6 : decode cX5_count 6 = .ok (.invokestatic 138, 3) := dk_184 0 138 (dk_at dksX5_count_0 6 rfl rfl)
theorem dX5_count_9 : decode cX5_count 9 = .ok (.ifCond .eq 11, 3) := dk_153 0 11 (dk_at dksX5_count_0 9 rfl rfl)
theorem dX5_count_12 : decode cX5_count 12 = .ok (.aload_n 0, 1) := dk_42 (dk_at dksX5_count_0 12 rfl rfl)
theorem dX5_count_13 : decode cX5_count 13 = .ok (.iload_n 1, 1) := dk_27 (dk_at dksX5_count_0 13 rfl rfl)
theorem dX5_count_14 : decode cX5_count 14 = .ok (.invokevirtual 255, 3) := dk_182 0 255 (dk_at dksX5_count_0 14 rfl rfl)
theorem dX5_count_17 : decode cX5_count 17 = .ok (.goto 9, 3) := dk_167 0 9 (dk_at dksX5_count_0 17 rfl rfl)
theorem dX5_count_20 : decode cX5_count 20 = .ok (.aload_n 0, 1) := dk_42 (dk_at dksX5_count_0 20 rfl rfl)
theorem dX5_count_21 : decode cX5_count 21 = .ok (.bipush (-2), 2) := dk_16 254 (dk_at dksX5_count_0 21 rfl rfl)
theorem dX5_count_23 : decode cX5_count 23 = .ok (.invokevirtual 142, 3) := dk_182 0 142 (dk_at dksX5_count_1 0 rfl rfl)
theorem dX5_count_26 : decode cX5_count 26 = .ok (.ireturn, 1) := dk_172 (dk_at dksX5_count_1 3 rfl rfl)
abbrev cX5_counted : ByteArray := prog_11_method_59_code
def yX5_counted : MethodName := ⟨RX5, "counted", "(I)I"⟩
def dkwX5_counted_3 : List UInt8 := [172, 42, 180, 0, 16, 27, 46, 172]
abbrev dktX5_counted_3 : List UInt8 := dkwX5_counted_3 ++ []
def dkwX5_counted_2 : List UInt8 := [42, 180, 0, 223, 172, 42, 182, 0, 112, 172, 42, 182, 0, 123, 172, 42, 182, 0, 126, 172, 42, 180, 0, 65]
abbrev dktX5_counted_2 : List UInt8 := dkwX5_counted_2 ++ dktX5_counted_3
def dkwX5_counted_1 : List UInt8 := [170, 0, 0, 0, 0, 0, 60, 0, 0, 0, 3, 0, 0, 0, 7, 0, 0, 0, 35, 0, 0, 0, 40, 0, 0, 0, 45, 0, 0, 0, 50, 0, 0, 0, 55]
abbrev dktX5_counted_1 : List UInt8 := dkwX5_counted_1 ++ dktX5_counted_2
def dkwX5_counted_0 : List UInt8 := [27]
abbrev dktX5_counted_0 : List UInt8 := dkwX5_counted_0 ++ dktX5_counted_1
theorem dksX5_counted_0 : cX5_counted.data.toList.drop 0 = dktX5_counted_0 := by decide +kernel
theorem dksX5_counted_1 : cX5_counted.data.toList.drop 1 = dktX5_counted_1 := dk_seg dksX5_counted_0 1 rfl rfl
theorem dksX5_counted_2 : cX5_counted.data.toList.drop 36 = dktX5_counted_2 := dk_seg dksX5_counted_1 35 rfl rfl
theorem dksX5_counted_3 : cX5_counted.data.toList.drop 60 = dktX5_counted_3 := dk_seg dksX5_counted_2 24 rfl rfl
theorem dX5_counted_0 : decode cX5_counted 0 = .ok (.iload_n 1, 1) := dk_27 (dk_at dksX5_counted_0 0 rfl rfl)
theorem dX5_counted_1 : decode cX5_counted 1 = .ok (.tableswitch 60 3 7 #[35, 40, 45, 50, 55], 35) := by decide +kernel
theorem dX5_counted_36 : decode cX5_counted 36 = .ok (.aload_n 0, 1) := dk_42 (dk_at dksX5_counted_2 0 rfl rfl)
theorem dX5_counted_37 : decode cX5_counted 37 = .ok (.getfield 223, 3) := dk_180 0 223 (dk_at dksX5_counted_2 1 rfl rfl)
theorem dX5_counted_40 : decode cX5_counted 40 = .ok (.ireturn, 1) := dk_172 (dk_at dksX5_counted_2 4 rfl rfl)
theorem dX5_counted_41 : decode cX5_counted 41 = .ok (.aload_n 0, 1) := dk_42 (dk_at dksX5_counted_2 5 rfl rfl)
theorem dX5_counted_42 : decode cX5_counted 42 = .ok (.invokevirtual 112, 3) := dk_182 0 112 (dk_at dksX5_counted_2 6 rfl rfl)
theorem dX5_counted_45 : decode cX5_counted 45 = .ok (.ireturn, 1) := dk_172 (dk_at dksX5_counted_2 9 rfl rfl)
theorem dX5_counted_46 : decode cX5_counted 46 = .ok (.aload_n 0, 1) := dk_42 (dk_at dksX5_counted_2 10 rfl rfl)
theorem dX5_counted_47 : decode cX5_counted 47 = .ok (.invokevirtual 123, 3) := dk_182 0 123 (dk_at dksX5_counted_2 11 rfl rfl)
theorem dX5_counted_50 : decode cX5_counted 50 = .ok (.ireturn, 1) := dk_172 (dk_at dksX5_counted_2 14 rfl rfl)
theorem dX5_counted_51 : decode cX5_counted 51 = .ok (.aload_n 0, 1) := dk_42 (dk_at dksX5_counted_2 15 rfl rfl)
theorem dX5_counted_52 : decode cX5_counted 52 = .ok (.invokevirtual 126, 3) := dk_182 0 126 (dk_at dksX5_counted_2 16 rfl rfl)
theorem dX5_counted_55 : decode cX5_counted 55 = .ok (.ireturn, 1) := dk_172 (dk_at dksX5_counted_2 19 rfl rfl)
theorem dX5_counted_56 : decode cX5_counted 56 = .ok (.aload_n 0, 1) := dk_42 (dk_at dksX5_counted_2 20 rfl rfl)
theorem dX5_counted_57 : decode cX5_counted 57 = .ok (.getfield 65, 3) := dk_180 0 65 (dk_at dksX5_counted_2 21 rfl rfl)
theorem dX5_counted_60 : decode cX5_counted 60 = .ok (.ireturn, 1) := dk_172 (dk_at dksX5_counted_3 0 rfl rfl)
theorem dX5_counted_61 : decode cX5_counted 61 = .ok (.aload_n 0, 1) := dk_42 (dk_at dksX5_counted_3 1 rfl rfl)
theorem dX5_counted_62 : decode cX5_counted 62 = .ok (.getfield 16, 3) := dk_180 0 16 (dk_at dksX5_counted_3 2 rfl rfl)
theorem dX5_counted_65 : decode cX5_counted 65 = .ok (.iload_n 1, 1) := dk_27 (dk_at dksX5_counted_3 5 rfl rfl)
theorem dX5_counted_66 : decode cX5_counted 66 = .ok (.iaload, 1) := dk_46 (dk_at dksX5_counted_3 6 rfl rfl)
theorem dX5_counted_67 : decode cX5_counted 67 = .ok (.ireturn, 1) := dk_172 (dk_at dksX5_counted_3 7 rfl rfl)
abbrev cX5_digest : ByteArray := prog_11_method_61_code
def yX5_digest : MethodName := ⟨RX5, "digest", "()J"⟩
def dkwX5_digest_5 : List UInt8 := [180, 0, 56, 29, 46, 133, 97, 64, 132, 3, 1, 167, 255, 231, 31, 173]
abbrev dktX5_digest_5 : List UInt8 := dkwX5_digest_5 ++ []
def dkwX5_digest_4 : List UInt8 := [133, 97, 64, 42, 182, 0, 213, 3, 62, 29, 42, 180, 0, 203, 162, 0, 23, 20, 1, 4, 31, 105, 42]
abbrev dktX5_digest_4 : List UInt8 := dkwX5_digest_4 ++ dktX5_digest_5
def dkwX5_digest_3 : List UInt8 := [97, 64, 20, 1, 4, 31, 105, 42, 182, 0, 132, 133, 97, 64, 20, 1, 4, 31, 105, 42, 3, 182, 0, 192]
abbrev dktX5_digest_3 : List UInt8 := dkwX5_digest_3 ++ dktX5_digest_4
def dkwX5_digest_2 : List UInt8 := [180, 0, 7, 29, 46, 133, 97, 64, 132, 3, 1, 167, 255, 231, 20, 1, 4, 31, 105, 42, 182, 0, 174, 133]
abbrev dktX5_digest_2 : List UInt8 := dkwX5_digest_2 ++ dktX5_digest_3
def dkwX5_digest_1 : List UInt8 := [64, 132, 3, 1, 167, 255, 234, 3, 62, 29, 42, 182, 0, 112, 162, 0, 23, 20, 1, 4, 31, 105, 42]
abbrev dktX5_digest_1 : List UInt8 := dkwX5_digest_1 ++ dktX5_digest_2
def dkwX5_digest_0 : List UInt8 := [20, 1, 2, 64, 3, 62, 29, 16, 8, 162, 0, 22, 20, 1, 4, 31, 105, 42, 29, 182, 0, 255, 133, 97]
abbrev dktX5_digest_0 : List UInt8 := dkwX5_digest_0 ++ dktX5_digest_1
theorem dksX5_digest_0 : cX5_digest.data.toList.drop 0 = dktX5_digest_0 := by decide +kernel
theorem dksX5_digest_1 : cX5_digest.data.toList.drop 24 = dktX5_digest_1 := dk_seg dksX5_digest_0 24 rfl rfl
theorem dksX5_digest_2 : cX5_digest.data.toList.drop 47 = dktX5_digest_2 := dk_seg dksX5_digest_1 23 rfl rfl
theorem dksX5_digest_3 : cX5_digest.data.toList.drop 71 = dktX5_digest_3 := dk_seg dksX5_digest_2 24 rfl rfl
theorem dksX5_digest_4 : cX5_digest.data.toList.drop 95 = dktX5_digest_4 := dk_seg dksX5_digest_3 24 rfl rfl
theorem dksX5_digest_5 : cX5_digest.data.toList.drop 118 = dktX5_digest_5 := dk_seg dksX5_digest_4 23 rfl rfl
theorem dX5_digest_0 : decode cX5_digest 0 = .ok (.ldc2_w 258, 3) := dk_20 1 2 (dk_at dksX5_digest_0 0 rfl rfl)
theorem dX5_digest_3 : decode cX5_digest 3 = .ok (.lstore_n 1, 1) := dk_64 (dk_at dksX5_digest_0 3 rfl rfl)
theorem dX5_digest_4 : decode cX5_digest 4 = .ok (.iconst 0, 1) := dk_3 (dk_at dksX5_digest_0 4 rfl rfl)
theorem dX5_digest_5 : decode cX5_digest 5 = .ok (.istore_n 3, 1) := dk_62 (dk_at dksX5_digest_0 5 rfl rfl)
theorem dX5_digest_6 : decode cX5_digest 6 = .ok (.iload_n 3, 1) := dk_29 (dk_at dksX5_digest_0 6 rfl rfl)
theorem dX5_digest_7 : decode cX5_digest 7 = .ok (.bipush 8, 2) := dk_16 8 (dk_at dksX5_digest_0 7 rfl rfl)
theorem dX5_digest_9 : decode cX5_digest 9 = .ok (.if_icmp .ge 22, 3) := dk_162 0 22 (dk_at dksX5_digest_0 9 rfl rfl)
theorem dX5_digest_12 : decode cX5_digest 12 = .ok (.ldc2_w 260, 3) := dk_20 1 4 (dk_at dksX5_digest_0 12 rfl rfl)
theorem dX5_digest_15 : decode cX5_digest 15 = .ok (.lload_n 1, 1) := dk_31 (dk_at dksX5_digest_0 15 rfl rfl)
theorem dX5_digest_16 : decode cX5_digest 16 = .ok (.lmul, 1) := dk_105 (dk_at dksX5_digest_0 16 rfl rfl)
theorem dX5_digest_17 : decode cX5_digest 17 = .ok (.aload_n 0, 1) := dk_42 (dk_at dksX5_digest_0 17 rfl rfl)
theorem dX5_digest_18 : decode cX5_digest 18 = .ok (.iload_n 3, 1) := dk_29 (dk_at dksX5_digest_0 18 rfl rfl)
theorem dX5_digest_19 : decode cX5_digest 19 = .ok (.invokevirtual 255, 3) := dk_182 0 255 (dk_at dksX5_digest_0 19 rfl rfl)
theorem dX5_digest_22 : decode cX5_digest 22 = .ok (.i2l, 1) := dk_133 (dk_at dksX5_digest_0 22 rfl rfl)
theorem dX5_digest_23 : decode cX5_digest 23 = .ok (.ladd, 1) := dk_97 (dk_at dksX5_digest_0 23 rfl rfl)
theorem dX5_digest_24 : decode cX5_digest 24 = .ok (.lstore_n 1, 1) := dk_64 (dk_at dksX5_digest_1 0 rfl rfl)
theorem dX5_digest_25 : decode cX5_digest 25 = .ok (.iinc 3 1, 3) := dk_132 3 1 (dk_at dksX5_digest_1 1 rfl rfl)
theorem dX5_digest_28 : decode cX5_digest 28 = .ok (.goto (-22), 3) := dk_167 255 234 (dk_at dksX5_digest_1 4 rfl rfl)
theorem dX5_digest_31 : decode cX5_digest 31 = .ok (.iconst 0, 1) := dk_3 (dk_at dksX5_digest_1 7 rfl rfl)
theorem dX5_digest_32 : decode cX5_digest 32 = .ok (.istore_n 3, 1) := dk_62 (dk_at dksX5_digest_1 8 rfl rfl)
theorem dX5_digest_33 : decode cX5_digest 33 = .ok (.iload_n 3, 1) := dk_29 (dk_at dksX5_digest_1 9 rfl rfl)
theorem dX5_digest_34 : decode cX5_digest 34 = .ok (.aload_n 0, 1) := dk_42 (dk_at dksX5_digest_1 10 rfl rfl)
theorem dX5_digest_35 : decode cX5_digest 35 = .ok (.invokevirtual 112, 3) := dk_182 0 112 (dk_at dksX5_digest_1 11 rfl rfl)
theorem dX5_digest_38 : decode cX5_digest 38 = .ok (.if_icmp .ge 23, 3) := dk_162 0 23 (dk_at dksX5_digest_1 14 rfl rfl)
theorem dX5_digest_41 : decode cX5_digest 41 = .ok (.ldc2_w 260, 3) := dk_20 1 4 (dk_at dksX5_digest_1 17 rfl rfl)
theorem dX5_digest_44 : decode cX5_digest 44 = .ok (.lload_n 1, 1) := dk_31 (dk_at dksX5_digest_1 20 rfl rfl)
theorem dX5_digest_45 : decode cX5_digest 45 = .ok (.lmul, 1) := dk_105 (dk_at dksX5_digest_1 21 rfl rfl)
theorem dX5_digest_46 : decode cX5_digest 46 = .ok (.aload_n 0, 1) := dk_42 (dk_at dksX5_digest_1 22 rfl rfl)
theorem dX5_digest_47 : decode cX5_digest 47 = .ok (.getfield 7, 3) := dk_180 0 7 (dk_at dksX5_digest_2 0 rfl rfl)
theorem dX5_digest_50 : decode cX5_digest 50 = .ok (.iload_n 3, 1) := dk_29 (dk_at dksX5_digest_2 3 rfl rfl)
theorem dX5_digest_51 : decode cX5_digest 51 = .ok (.iaload, 1) := dk_46 (dk_at dksX5_digest_2 4 rfl rfl)
theorem dX5_digest_52 : decode cX5_digest 52 = .ok (.i2l, 1) := dk_133 (dk_at dksX5_digest_2 5 rfl rfl)
theorem dX5_digest_53 : decode cX5_digest 53 = .ok (.ladd, 1) := dk_97 (dk_at dksX5_digest_2 6 rfl rfl)
theorem dX5_digest_54 : decode cX5_digest 54 = .ok (.lstore_n 1, 1) := dk_64 (dk_at dksX5_digest_2 7 rfl rfl)
theorem dX5_digest_55 : decode cX5_digest 55 = .ok (.iinc 3 1, 3) := dk_132 3 1 (dk_at dksX5_digest_2 8 rfl rfl)
theorem dX5_digest_58 : decode cX5_digest 58 = .ok (.goto (-25), 3) := dk_167 255 231 (dk_at dksX5_digest_2 11 rfl rfl)
theorem dX5_digest_61 : decode cX5_digest 61 = .ok (.ldc2_w 260, 3) := dk_20 1 4 (dk_at dksX5_digest_2 14 rfl rfl)
theorem dX5_digest_64 : decode cX5_digest 64 = .ok (.lload_n 1, 1) := dk_31 (dk_at dksX5_digest_2 17 rfl rfl)
theorem dX5_digest_65 : decode cX5_digest 65 = .ok (.lmul, 1) := dk_105 (dk_at dksX5_digest_2 18 rfl rfl)
theorem dX5_digest_66 : decode cX5_digest 66 = .ok (.aload_n 0, 1) := dk_42 (dk_at dksX5_digest_2 19 rfl rfl)
theorem dX5_digest_67 : decode cX5_digest 67 = .ok (.invokevirtual 174, 3) := dk_182 0 174 (dk_at dksX5_digest_2 20 rfl rfl)
theorem dX5_digest_70 : decode cX5_digest 70 = .ok (.i2l, 1) := dk_133 (dk_at dksX5_digest_2 23 rfl rfl)
theorem dX5_digest_71 : decode cX5_digest 71 = .ok (.ladd, 1) := dk_97 (dk_at dksX5_digest_3 0 rfl rfl)
theorem dX5_digest_72 : decode cX5_digest 72 = .ok (.lstore_n 1, 1) := dk_64 (dk_at dksX5_digest_3 1 rfl rfl)
theorem dX5_digest_73 : decode cX5_digest 73 = .ok (.ldc2_w 260, 3) := dk_20 1 4 (dk_at dksX5_digest_3 2 rfl rfl)
theorem dX5_digest_76 : decode cX5_digest 76 = .ok (.lload_n 1, 1) := dk_31 (dk_at dksX5_digest_3 5 rfl rfl)
theorem dX5_digest_77 : decode cX5_digest 77 = .ok (.lmul, 1) := dk_105 (dk_at dksX5_digest_3 6 rfl rfl)
theorem dX5_digest_78 : decode cX5_digest 78 = .ok (.aload_n 0, 1) := dk_42 (dk_at dksX5_digest_3 7 rfl rfl)
theorem dX5_digest_79 : decode cX5_digest 79 = .ok (.invokevirtual 132, 3) := dk_182 0 132 (dk_at dksX5_digest_3 8 rfl rfl)
theorem dX5_digest_82 : decode cX5_digest 82 = .ok (.i2l, 1) := dk_133 (dk_at dksX5_digest_3 11 rfl rfl)
theorem dX5_digest_83 : decode cX5_digest 83 = .ok (.ladd, 1) := dk_97 (dk_at dksX5_digest_3 12 rfl rfl)
theorem dX5_digest_84 : decode cX5_digest 84 = .ok (.lstore_n 1, 1) := dk_64 (dk_at dksX5_digest_3 13 rfl rfl)
theorem dX5_digest_85 : decode cX5_digest 85 = .ok (.ldc2_w 260, 3) := dk_20 1 4 (dk_at dksX5_digest_3 14 rfl rfl)
theorem dX5_digest_88 : decode cX5_digest 88 = .ok (.lload_n 1, 1) := dk_31 (dk_at dksX5_digest_3 17 rfl rfl)
theorem dX5_digest_89 : decode cX5_digest 89 = .ok (.lmul, 1) := dk_105 (dk_at dksX5_digest_3 18 rfl rfl)
theorem dX5_digest_90 : decode cX5_digest 90 = .ok (.aload_n 0, 1) := dk_42 (dk_at dksX5_digest_3 19 rfl rfl)
theorem dX5_digest_91 : decode cX5_digest 91 = .ok (.iconst 0, 1) := dk_3 (dk_at dksX5_digest_3 20 rfl rfl)
theorem dX5_digest_92 : decode cX5_digest 92 = .ok (.invokevirtual 192, 3) := dk_182 0 192 (dk_at dksX5_digest_3 21 rfl rfl)
theorem dX5_digest_95 : decode cX5_digest 95 = .ok (.i2l, 1) := dk_133 (dk_at dksX5_digest_4 0 rfl rfl)
theorem dX5_digest_96 : decode cX5_digest 96 = .ok (.ladd, 1) := dk_97 (dk_at dksX5_digest_4 1 rfl rfl)
theorem dX5_digest_97 : decode cX5_digest 97 = .ok (.lstore_n 1, 1) := dk_64 (dk_at dksX5_digest_4 2 rfl rfl)
theorem dX5_digest_98 : decode cX5_digest 98 = .ok (.aload_n 0, 1) := dk_42 (dk_at dksX5_digest_4 3 rfl rfl)
theorem dX5_digest_99 : decode cX5_digest 99 = .ok (.invokevirtual 213, 3) := dk_182 0 213 (dk_at dksX5_digest_4 4 rfl rfl)
theorem dX5_digest_102 : decode cX5_digest 102 = .ok (.iconst 0, 1) := dk_3 (dk_at dksX5_digest_4 7 rfl rfl)
theorem dX5_digest_103 : decode cX5_digest 103 = .ok (.istore_n 3, 1) := dk_62 (dk_at dksX5_digest_4 8 rfl rfl)
theorem dX5_digest_104 : decode cX5_digest 104 = .ok (.iload_n 3, 1) := dk_29 (dk_at dksX5_digest_4 9 rfl rfl)
theorem dX5_digest_105 : decode cX5_digest 105 = .ok (.aload_n 0, 1) := dk_42 (dk_at dksX5_digest_4 10 rfl rfl)
theorem dX5_digest_106 : decode cX5_digest 106 = .ok (.getfield 203, 3) := dk_180 0 203 (dk_at dksX5_digest_4 11 rfl rfl)
theorem dX5_digest_109 : decode cX5_digest 109 = .ok (.if_icmp .ge 23, 3) := dk_162 0 23 (dk_at dksX5_digest_4 14 rfl rfl)
theorem dX5_digest_112 : decode cX5_digest 112 = .ok (.ldc2_w 260, 3) := dk_20 1 4 (dk_at dksX5_digest_4 17 rfl rfl)
theorem dX5_digest_115 : decode cX5_digest 115 = .ok (.lload_n 1, 1) := dk_31 (dk_at dksX5_digest_4 20 rfl rfl)
theorem dX5_digest_116 : decode cX5_digest 116 = .ok (.lmul, 1) := dk_105 (dk_at dksX5_digest_4 21 rfl rfl)
theorem dX5_digest_117 : decode cX5_digest 117 = .ok (.aload_n 0, 1) := dk_42 (dk_at dksX5_digest_4 22 rfl rfl)
theorem dX5_digest_118 : decode cX5_digest 118 = .ok (.getfield 56, 3) := dk_180 0 56 (dk_at dksX5_digest_5 0 rfl rfl)
theorem dX5_digest_121 : decode cX5_digest 121 = .ok (.iload_n 3, 1) := dk_29 (dk_at dksX5_digest_5 3 rfl rfl)
theorem dX5_digest_122 : decode cX5_digest 122 = .ok (.iaload, 1) := dk_46 (dk_at dksX5_digest_5 4 rfl rfl)
theorem dX5_digest_123 : decode cX5_digest 123 = .ok (.i2l, 1) := dk_133 (dk_at dksX5_digest_5 5 rfl rfl)
theorem dX5_digest_124 : decode cX5_digest 124 = .ok (.ladd, 1) := dk_97 (dk_at dksX5_digest_5 6 rfl rfl)
theorem dX5_digest_125 : decode cX5_digest 125 = .ok (.lstore_n 1, 1) := dk_64 (dk_at dksX5_digest_5 7 rfl rfl)
theorem dX5_digest_126 : decode cX5_digest 126 = .ok (.iinc 3 1, 3) := dk_132 3 1 (dk_at dksX5_digest_5 8 rfl rfl)
theorem dX5_digest_129 : decode cX5_digest 129 = .ok (.goto (-25), 3) := dk_167 255 231 (dk_at dksX5_digest_5 11 rfl rfl)
theorem dX5_digest_132 : decode cX5_digest 132 = .ok (.lload_n 1, 1) := dk_31 (dk_at dksX5_digest_5 14 rfl rfl)
theorem dX5_digest_133 : decode cX5_digest 133 = .ok (.lreturn, 1) := dk_173 (dk_at dksX5_digest_5 15 rfl rfl)
theorem q72 : (Jvm.Cond.initialized "TreeOddsModel") ∈ lw_all := lw_g (lw_at lw_m1 6 rfl) rfl
theorem q693 : (Jvm.Cond.instantiable "TreeOddsModel" (27 : Nat)) ∈ lw_all := lw_g (lw_at lw_m3 147 rfl) rfl
theorem q695 : (Jvm.Cond.instanceMethod ({ cls := "TreeOddsModel", name := "<init>", desc := "()V" } : Jvm.MethodName)) ∈ lw_all := lw_g (lw_at lw_m3 149 rfl) rfl
theorem q696 : (Jvm.Cond.code ({ cls := "TreeOddsModel", name := "<init>", desc := "()V" } : Jvm.MethodName) prog_11_method_1_code (1 : Nat) (Option.none : Option Jvm.ClassFile.FieldType)) ∈ lw_all := lw_g (lw_at lw_m3 150 rfl) rfl
theorem q697 : (Jvm.Cond.methodLink "TreeOddsModel" (1 : Nat) ({ cls := "java/lang/Object", name := "<init>", desc := "()V" } : Jvm.MethodName)) ∈ lw_all := lw_g (lw_at lw_m3 151 rfl) rfl
theorem q698 : (Jvm.Cond.fieldLink "TreeOddsModel" (7 : Nat) "TreeOddsModel" "now" "[I") ∈ lw_all := lw_g (lw_at lw_m3 152 rfl) rfl
theorem q699 : (Jvm.Cond.fieldLink "TreeOddsModel" (13 : Nat) "TreeOddsModel" "past" "[I") ∈ lw_all := lw_g (lw_at lw_m3 153 rfl) rfl
theorem q700 : (Jvm.Cond.fieldLink "TreeOddsModel" (65 : Nat) "TreeOddsModel" "states" "I") ∈ lw_all := lw_g (lw_at lw_m3 154 rfl) rfl
theorem q701 : (Jvm.Cond.fieldLink "TreeOddsModel" (16 : Nat) "TreeOddsModel" "refused" "[I") ∈ lw_all := lw_g (lw_at lw_m3 155 rfl) rfl
theorem q702 : (Jvm.Cond.fieldLink "TreeOddsModel" (19 : Nat) "TreeOddsModel" "line" "[I") ∈ lw_all := lw_g (lw_at lw_m3 156 rfl) rfl
theorem q703 : (Jvm.Cond.fieldLink "TreeOddsModel" (69 : Nat) "TreeOddsModel" "came" "I") ∈ lw_all := lw_g (lw_at lw_m3 157 rfl) rfl
theorem q704 : (Jvm.Cond.fieldLink "TreeOddsModel" (72 : Nat) "TreeOddsModel" "byDepth" "I") ∈ lw_all := lw_g (lw_at lw_m3 158 rfl) rfl
theorem q705 : (Jvm.Cond.fieldLink "TreeOddsModel" (75 : Nat) "TreeOddsModel" "byGuesser" "I") ∈ lw_all := lw_g (lw_at lw_m3 159 rfl) rfl
theorem q706 : (Jvm.Cond.fieldLink "TreeOddsModel" (22 : Nat) "TreeOddsModel" "noughts" "[I") ∈ lw_all := lw_g (lw_at lw_m3 160 rfl) rfl
theorem q707 : (Jvm.Cond.fieldLink "TreeOddsModel" (25 : Nat) "TreeOddsModel" "ones" "[I") ∈ lw_all := lw_g (lw_at lw_m3 161 rfl) rfl
theorem q708 : (Jvm.Cond.fieldLink "TreeOddsModel" (28 : Nat) "TreeOddsModel" "weights" "[I") ∈ lw_all := lw_g (lw_at lw_m3 162 rfl) rfl
theorem q709 : (Jvm.Cond.fieldLink "TreeOddsModel" (31 : Nat) "TreeOddsModel" "ownCost" "[I") ∈ lw_all := lw_g (lw_at lw_m3 163 rfl) rfl
theorem q710 : (Jvm.Cond.fieldLink "TreeOddsModel" (34 : Nat) "TreeOddsModel" "way" "[I") ∈ lw_all := lw_g (lw_at lw_m3 164 rfl) rfl
theorem q711 : (Jvm.Cond.fieldLink "TreeOddsModel" (37 : Nat) "TreeOddsModel" "own" "[I") ∈ lw_all := lw_g (lw_at lw_m3 165 rfl) rfl
theorem q712 : (Jvm.Cond.fieldLink "TreeOddsModel" (40 : Nat) "TreeOddsModel" "mixed" "[I") ∈ lw_all := lw_g (lw_at lw_m3 166 rfl) rfl
theorem q713 : (Jvm.Cond.fieldLink "TreeOddsModel" (43 : Nat) "TreeOddsModel" "guessAt" "[I") ∈ lw_all := lw_g (lw_at lw_m3 167 rfl) rfl
theorem q714 : (Jvm.Cond.fieldLink "TreeOddsModel" (46 : Nat) "TreeOddsModel" "treeCost" "[I") ∈ lw_all := lw_g (lw_at lw_m3 168 rfl) rfl
theorem q715 : (Jvm.Cond.fieldLink "TreeOddsModel" (49 : Nat) "TreeOddsModel" "isLeaf" "[Z") ∈ lw_all := lw_g (lw_at lw_m3 169 rfl) rfl
theorem q716 : (Jvm.Cond.fieldLink "TreeOddsModel" (53 : Nat) "TreeOddsModel" "inTree" "[I") ∈ lw_all := lw_g (lw_at lw_m3 170 rfl) rfl
theorem q717 : (Jvm.Cond.fieldLink "TreeOddsModel" (56 : Nat) "TreeOddsModel" "out" "[I") ∈ lw_all := lw_g (lw_at lw_m3 171 rfl) rfl
theorem q718 : (Jvm.Cond.fieldLink "TreeOddsModel" (203 : Nat) "TreeOddsModel" "outLong" "I") ∈ lw_all := lw_g (lw_at lw_m3 172 rfl) rfl
theorem q719 : (Jvm.Cond.fieldLink "TreeOddsModel" (195 : Nat) "TreeOddsModel" "low" "J") ∈ lw_all := lw_g (lw_at lw_m3 173 rfl) rfl
theorem q720 : (Jvm.Cond.fieldLink "TreeOddsModel" (59 : Nat) "TreeOddsModel" "text" "[I") ∈ lw_all := lw_g (lw_at lw_m3 174 rfl) rfl
theorem q721 : (Jvm.Cond.fieldLink "TreeOddsModel" (223 : Nat) "TreeOddsModel" "textLong" "I") ∈ lw_all := lw_g (lw_at lw_m3 175 rfl) rfl
theorem q722 : (Jvm.Cond.fieldLink "TreeOddsModel" (226 : Nat) "TreeOddsModel" "place" "I") ∈ lw_all := lw_g (lw_at lw_m3 176 rfl) rfl
theorem q723 : (Jvm.Cond.fieldLink "TreeOddsModel" (62 : Nat) "TreeOddsModel" "read" "[I") ∈ lw_all := lw_g (lw_at lw_m3 177 rfl) rfl
theorem q724 : (Jvm.Cond.fieldLink "TreeOddsModel" (240 : Nat) "TreeOddsModel" "readLong" "I") ∈ lw_all := lw_g (lw_at lw_m3 178 rfl) rfl
theorem q725 : (Jvm.Cond.laysFinal "TreeOddsModel" "TreeOddsModel" "now" "[I") ∈ lw_all := lw_g (lw_at lw_m3 179 rfl) rfl
theorem q726 : (Jvm.Cond.soleField "TreeOddsModel" "now") ∈ lw_all := lw_g (lw_at lw_m3 180 rfl) rfl
theorem q727 : (Jvm.Cond.laysFinal "TreeOddsModel" "TreeOddsModel" "past" "[I") ∈ lw_all := lw_g (lw_at lw_m3 181 rfl) rfl
theorem q728 : (Jvm.Cond.soleField "TreeOddsModel" "past") ∈ lw_all := lw_g (lw_at lw_m3 182 rfl) rfl
theorem q729 : (Jvm.Cond.lays "TreeOddsModel" "TreeOddsModel" "states" "I") ∈ lw_all := lw_g (lw_at lw_m3 183 rfl) rfl
theorem q730 : (Jvm.Cond.soleField "TreeOddsModel" "states") ∈ lw_all := lw_g (lw_at lw_m3 184 rfl) rfl
theorem q731 : (Jvm.Cond.laysFinal "TreeOddsModel" "TreeOddsModel" "refused" "[I") ∈ lw_all := lw_g (lw_at lw_m3 185 rfl) rfl
theorem q732 : (Jvm.Cond.soleField "TreeOddsModel" "refused") ∈ lw_all := lw_g (lw_at lw_m3 186 rfl) rfl
theorem q733 : (Jvm.Cond.laysFinal "TreeOddsModel" "TreeOddsModel" "line" "[I") ∈ lw_all := lw_g (lw_at lw_m3 187 rfl) rfl
theorem q734 : (Jvm.Cond.soleField "TreeOddsModel" "line") ∈ lw_all := lw_g (lw_at lw_m3 188 rfl) rfl
theorem q735 : (Jvm.Cond.lays "TreeOddsModel" "TreeOddsModel" "came" "I") ∈ lw_all := lw_g (lw_at lw_m3 189 rfl) rfl
theorem q736 : (Jvm.Cond.soleField "TreeOddsModel" "came") ∈ lw_all := lw_g (lw_at lw_m3 190 rfl) rfl
theorem q737 : (Jvm.Cond.lays "TreeOddsModel" "TreeOddsModel" "byDepth" "I") ∈ lw_all := lw_g (lw_at lw_m3 191 rfl) rfl
theorem q738 : (Jvm.Cond.soleField "TreeOddsModel" "byDepth") ∈ lw_all := lw_g (lw_at lw_m3 192 rfl) rfl
theorem q739 : (Jvm.Cond.lays "TreeOddsModel" "TreeOddsModel" "byGuesser" "I") ∈ lw_all := lw_g (lw_at lw_m3 193 rfl) rfl
theorem q740 : (Jvm.Cond.soleField "TreeOddsModel" "byGuesser") ∈ lw_all := lw_g (lw_at lw_m3 194 rfl) rfl
theorem q741 : (Jvm.Cond.laysFinal "TreeOddsModel" "TreeOddsModel" "noughts" "[I") ∈ lw_all := lw_g (lw_at lw_m3 195 rfl) rfl
theorem q742 : (Jvm.Cond.soleField "TreeOddsModel" "noughts") ∈ lw_all := lw_g (lw_at lw_m3 196 rfl) rfl
theorem q743 : (Jvm.Cond.laysFinal "TreeOddsModel" "TreeOddsModel" "ones" "[I") ∈ lw_all := lw_g (lw_at lw_m3 197 rfl) rfl
theorem q744 : (Jvm.Cond.soleField "TreeOddsModel" "ones") ∈ lw_all := lw_g (lw_at lw_m3 198 rfl) rfl
theorem q745 : (Jvm.Cond.laysFinal "TreeOddsModel" "TreeOddsModel" "weights" "[I") ∈ lw_all := lw_g (lw_at lw_m3 199 rfl) rfl
theorem q746 : (Jvm.Cond.soleField "TreeOddsModel" "weights") ∈ lw_all := lw_g (lw_at lw_m3 200 rfl) rfl
theorem q747 : (Jvm.Cond.laysFinal "TreeOddsModel" "TreeOddsModel" "ownCost" "[I") ∈ lw_all := lw_g (lw_at lw_m3 201 rfl) rfl
theorem q748 : (Jvm.Cond.soleField "TreeOddsModel" "ownCost") ∈ lw_all := lw_g (lw_at lw_m3 202 rfl) rfl
theorem q749 : (Jvm.Cond.laysFinal "TreeOddsModel" "TreeOddsModel" "way" "[I") ∈ lw_all := lw_g (lw_at lw_m3 203 rfl) rfl
theorem q750 : (Jvm.Cond.soleField "TreeOddsModel" "way") ∈ lw_all := lw_g (lw_at lw_m3 204 rfl) rfl
theorem q751 : (Jvm.Cond.laysFinal "TreeOddsModel" "TreeOddsModel" "own" "[I") ∈ lw_all := lw_g (lw_at lw_m3 205 rfl) rfl
theorem q752 : (Jvm.Cond.soleField "TreeOddsModel" "own") ∈ lw_all := lw_g (lw_at lw_m3 206 rfl) rfl
theorem q753 : (Jvm.Cond.laysFinal "TreeOddsModel" "TreeOddsModel" "mixed" "[I") ∈ lw_all := lw_g (lw_at lw_m3 207 rfl) rfl
theorem q754 : (Jvm.Cond.soleField "TreeOddsModel" "mixed") ∈ lw_all := lw_g (lw_at lw_m3 208 rfl) rfl
theorem q755 : (Jvm.Cond.laysFinal "TreeOddsModel" "TreeOddsModel" "guessAt" "[I") ∈ lw_all := lw_g (lw_at lw_m3 209 rfl) rfl
theorem q756 : (Jvm.Cond.soleField "TreeOddsModel" "guessAt") ∈ lw_all := lw_g (lw_at lw_m3 210 rfl) rfl
theorem q757 : (Jvm.Cond.laysFinal "TreeOddsModel" "TreeOddsModel" "treeCost" "[I") ∈ lw_all := lw_g (lw_at lw_m3 211 rfl) rfl
theorem q758 : (Jvm.Cond.soleField "TreeOddsModel" "treeCost") ∈ lw_all := lw_g (lw_at lw_m3 212 rfl) rfl
theorem q759 : (Jvm.Cond.laysFinal "TreeOddsModel" "TreeOddsModel" "isLeaf" "[Z") ∈ lw_all := lw_g (lw_at lw_m3 213 rfl) rfl
theorem q760 : (Jvm.Cond.soleField "TreeOddsModel" "isLeaf") ∈ lw_all := lw_g (lw_at lw_m3 214 rfl) rfl
theorem q761 : (Jvm.Cond.laysFinal "TreeOddsModel" "TreeOddsModel" "inTree" "[I") ∈ lw_all := lw_g (lw_at lw_m3 215 rfl) rfl
theorem q762 : (Jvm.Cond.soleField "TreeOddsModel" "inTree") ∈ lw_all := lw_g (lw_at lw_m3 216 rfl) rfl
theorem q763 : (Jvm.Cond.laysFinal "TreeOddsModel" "TreeOddsModel" "out" "[I") ∈ lw_all := lw_g (lw_at lw_m3 217 rfl) rfl
theorem q764 : (Jvm.Cond.soleField "TreeOddsModel" "out") ∈ lw_all := lw_g (lw_at lw_m3 218 rfl) rfl
theorem q765 : (Jvm.Cond.lays "TreeOddsModel" "TreeOddsModel" "outLong" "I") ∈ lw_all := lw_g (lw_at lw_m3 219 rfl) rfl
theorem q766 : (Jvm.Cond.soleField "TreeOddsModel" "outLong") ∈ lw_all := lw_g (lw_at lw_m3 220 rfl) rfl
theorem q767 : (Jvm.Cond.lays "TreeOddsModel" "TreeOddsModel" "low" "J") ∈ lw_all := lw_g (lw_at lw_m3 221 rfl) rfl
theorem q768 : (Jvm.Cond.soleField "TreeOddsModel" "low") ∈ lw_all := lw_g (lw_at lw_m3 222 rfl) rfl
theorem q769 : (Jvm.Cond.laysFinal "TreeOddsModel" "TreeOddsModel" "text" "[I") ∈ lw_all := lw_g (lw_at lw_m3 223 rfl) rfl
theorem q770 : (Jvm.Cond.soleField "TreeOddsModel" "text") ∈ lw_all := lw_g (lw_at lw_m3 224 rfl) rfl
theorem q771 : (Jvm.Cond.lays "TreeOddsModel" "TreeOddsModel" "textLong" "I") ∈ lw_all := lw_g (lw_at lw_m3 225 rfl) rfl
theorem q772 : (Jvm.Cond.soleField "TreeOddsModel" "textLong") ∈ lw_all := lw_g (lw_at lw_m3 226 rfl) rfl
theorem q773 : (Jvm.Cond.lays "TreeOddsModel" "TreeOddsModel" "place" "I") ∈ lw_all := lw_g (lw_at lw_m3 227 rfl) rfl
theorem q774 : (Jvm.Cond.soleField "TreeOddsModel" "place") ∈ lw_all := lw_g (lw_at lw_m3 228 rfl) rfl
theorem q775 : (Jvm.Cond.laysFinal "TreeOddsModel" "TreeOddsModel" "read" "[I") ∈ lw_all := lw_g (lw_at lw_m3 229 rfl) rfl
theorem q776 : (Jvm.Cond.soleField "TreeOddsModel" "read") ∈ lw_all := lw_g (lw_at lw_m3 230 rfl) rfl
theorem q777 : (Jvm.Cond.lays "TreeOddsModel" "TreeOddsModel" "readLong" "I") ∈ lw_all := lw_g (lw_at lw_m3 231 rfl) rfl
theorem q778 : (Jvm.Cond.soleField "TreeOddsModel" "readLong") ∈ lw_all := lw_g (lw_at lw_m3 232 rfl) rfl
theorem q779 : (Jvm.Cond.superclass "TreeOddsModel" "java/lang/Object") ∈ lw_all := lw_g (lw_at lw_m3 233 rfl) rfl
theorem q781 : (Jvm.Cond.instanceMethod ({ cls := "TreeOddsModel", name := "sign", desc := "(I)I" } : Jvm.MethodName)) ∈ lw_all := lw_g (lw_at lw_m3 235 rfl) rfl
theorem q782 : (Jvm.Cond.selects "TreeOddsModel" ({ cls := "TreeOddsModel", name := "sign", desc := "(I)I" } : Jvm.MethodName) ({ cls := "TreeOddsModel", name := "sign", desc := "(I)I" } : Jvm.MethodName)) ∈ lw_all := lw_g (lw_at lw_m3 236 rfl) rfl
theorem q783 : (Jvm.Cond.code ({ cls := "TreeOddsModel", name := "sign", desc := "(I)I" } : Jvm.MethodName) prog_11_method_24_code (2 : Nat) (Option.some Jvm.ClassFile.FieldType.int)) ∈ lw_all := lw_g (lw_at lw_m3 237 rfl) rfl
theorem q784 : (Jvm.Cond.methodLink "TreeOddsModel" (138 : Nat) ({ cls := "TreeOddsModel", name := "in", desc := "(JJJ)Z" } : Jvm.MethodName)) ∈ lw_all := lw_g (lw_at lw_m3 238 rfl) rfl
theorem q785 : (Jvm.Cond.static ({ cls := "TreeOddsModel", name := "in", desc := "(JJJ)Z" } : Jvm.MethodName)) ∈ lw_all := lw_g (lw_at lw_m3 239 rfl) rfl
theorem q786 : (Jvm.Cond.code ({ cls := "TreeOddsModel", name := "in", desc := "(JJJ)Z" } : Jvm.MethodName) prog_11_method_3_code (6 : Nat) (Option.some Jvm.ClassFile.FieldType.boolean)) ∈ lw_all := lw_g (lw_at lw_m4 0 rfl) rfl
theorem q787 : (Jvm.Cond.methodLink "TreeOddsModel" (142 : Nat) ({ cls := "TreeOddsModel", name := "bad", desc := "(I)I" } : Jvm.MethodName)) ∈ lw_all := lw_g (lw_at lw_m4 1 rfl) rfl
theorem q788 : (Jvm.Cond.privateMethod ({ cls := "TreeOddsModel", name := "bad", desc := "(I)I" } : Jvm.MethodName)) ∈ lw_tbl := lw_at lw_m4 2 rfl
theorem q789 : (Jvm.Cond.instanceMethod ({ cls := "TreeOddsModel", name := "bad", desc := "(I)I" } : Jvm.MethodName)) ∈ lw_all := lw_g (lw_at lw_m4 3 rfl) rfl
theorem q790 : (Jvm.Cond.code ({ cls := "TreeOddsModel", name := "bad", desc := "(I)I" } : Jvm.MethodName) prog_11_method_4_code (2 : Nat) (Option.some Jvm.ClassFile.FieldType.int)) ∈ lw_all := lw_g (lw_at lw_m4 4 rfl) rfl
theorem q791 : (Jvm.Cond.methodLink "TreeOddsModel" (112 : Nat) ({ cls := "TreeOddsModel", name := "many", desc := "()I" } : Jvm.MethodName)) ∈ lw_all := lw_g (lw_at lw_m4 5 rfl) rfl
theorem q792 : (Jvm.Cond.privateMethod ({ cls := "TreeOddsModel", name := "many", desc := "()I" } : Jvm.MethodName)) ∈ lw_tbl := lw_at lw_m4 6 rfl
theorem q793 : (Jvm.Cond.instanceMethod ({ cls := "TreeOddsModel", name := "many", desc := "()I" } : Jvm.MethodName)) ∈ lw_all := lw_g (lw_at lw_m4 7 rfl) rfl
theorem q794 : (Jvm.Cond.code ({ cls := "TreeOddsModel", name := "many", desc := "()I" } : Jvm.MethodName) prog_11_method_7_code (1 : Nat) (Option.some Jvm.ClassFile.FieldType.int)) ∈ lw_all := lw_g (lw_at lw_m4 8 rfl) rfl
theorem q795 : (Jvm.Cond.methodLink "TreeOddsModel" (145 : Nat) ({ cls := "TreeOddsModel", name := "full", desc := "()I" } : Jvm.MethodName)) ∈ lw_all := lw_g (lw_at lw_m4 9 rfl) rfl
theorem q796 : (Jvm.Cond.privateMethod ({ cls := "TreeOddsModel", name := "full", desc := "()I" } : Jvm.MethodName)) ∈ lw_tbl := lw_at lw_m4 10 rfl
theorem q797 : (Jvm.Cond.instanceMethod ({ cls := "TreeOddsModel", name := "full", desc := "()I" } : Jvm.MethodName)) ∈ lw_all := lw_g (lw_at lw_m4 11 rfl) rfl
theorem q798 : (Jvm.Cond.code ({ cls := "TreeOddsModel", name := "full", desc := "()I" } : Jvm.MethodName) prog_11_method_6_code (1 : Nat) (Option.some Jvm.ClassFile.FieldType.int)) ∈ lw_all := lw_g (lw_at lw_m4 12 rfl) rfl
theorem q799 : (Jvm.Cond.methodLink "TreeOddsModel" (148 : Nat) ({ cls := "TreeOddsModel", name := "keep", desc := "()V" } : Jvm.MethodName)) ∈ lw_all := lw_g (lw_at lw_m4 13 rfl) rfl
theorem q800 : (Jvm.Cond.privateMethod ({ cls := "TreeOddsModel", name := "keep", desc := "()V" } : Jvm.MethodName)) ∈ lw_tbl := lw_at lw_m4 14 rfl
theorem q801 : (Jvm.Cond.instanceMethod ({ cls := "TreeOddsModel", name := "keep", desc := "()V" } : Jvm.MethodName)) ∈ lw_all := lw_g (lw_at lw_m4 15 rfl) rfl
theorem q802 : (Jvm.Cond.code ({ cls := "TreeOddsModel", name := "keep", desc := "()V" } : Jvm.MethodName) prog_11_method_10_code (2 : Nat) (Option.none : Option Jvm.ClassFile.FieldType)) ∈ lw_all := lw_g (lw_at lw_m4 16 rfl) rfl
theorem q803 : (Jvm.Cond.methodLink "TreeOddsModel" (151 : Nat) ({ cls := "TreeOddsModel", name := "adds", desc := "(I)V" } : Jvm.MethodName)) ∈ lw_all := lw_g (lw_at lw_m4 17 rfl) rfl
theorem q804 : (Jvm.Cond.privateMethod ({ cls := "TreeOddsModel", name := "adds", desc := "(I)V" } : Jvm.MethodName)) ∈ lw_tbl := lw_at lw_m4 18 rfl
theorem q805 : (Jvm.Cond.instanceMethod ({ cls := "TreeOddsModel", name := "adds", desc := "(I)V" } : Jvm.MethodName)) ∈ lw_all := lw_g (lw_at lw_m4 19 rfl) rfl
theorem q806 : (Jvm.Cond.code ({ cls := "TreeOddsModel", name := "adds", desc := "(I)V" } : Jvm.MethodName) prog_11_method_22_code (2 : Nat) (Option.none : Option Jvm.ClassFile.FieldType)) ∈ lw_all := lw_g (lw_at lw_m4 20 rfl) rfl
theorem q807 : (Jvm.Cond.methodLink "TreeOddsModel" (154 : Nat) ({ cls := "TreeOddsModel", name := "costFrom", desc := "(I)I" } : Jvm.MethodName)) ∈ lw_all := lw_g (lw_at lw_m4 21 rfl) rfl
theorem q808 : (Jvm.Cond.privateMethod ({ cls := "TreeOddsModel", name := "costFrom", desc := "(I)I" } : Jvm.MethodName)) ∈ lw_tbl := lw_at lw_m4 22 rfl
theorem q809 : (Jvm.Cond.instanceMethod ({ cls := "TreeOddsModel", name := "costFrom", desc := "(I)I" } : Jvm.MethodName)) ∈ lw_all := lw_g (lw_at lw_m4 23 rfl) rfl
theorem q810 : (Jvm.Cond.code ({ cls := "TreeOddsModel", name := "costFrom", desc := "(I)I" } : Jvm.MethodName) prog_11_method_23_code (5 : Nat) (Option.some Jvm.ClassFile.FieldType.int)) ∈ lw_all := lw_g (lw_at lw_m4 24 rfl) rfl
theorem q811 : (Jvm.Cond.methodLink "TreeOddsModel" (132 : Nat) ({ cls := "TreeOddsModel", name := "goesNow", desc := "()I" } : Jvm.MethodName)) ∈ lw_all := lw_g (lw_at lw_m4 25 rfl) rfl
theorem q812 : (Jvm.Cond.privateMethod ({ cls := "TreeOddsModel", name := "goesNow", desc := "()I" } : Jvm.MethodName)) ∈ lw_tbl := lw_at lw_m4 26 rfl
theorem q813 : (Jvm.Cond.instanceMethod ({ cls := "TreeOddsModel", name := "goesNow", desc := "()I" } : Jvm.MethodName)) ∈ lw_all := lw_g (lw_at lw_m4 27 rfl) rfl
theorem q814 : (Jvm.Cond.code ({ cls := "TreeOddsModel", name := "goesNow", desc := "()I" } : Jvm.MethodName) prog_11_method_20_code (1 : Nat) (Option.some Jvm.ClassFile.FieldType.int)) ∈ lw_all := lw_g (lw_at lw_m4 28 rfl) rfl
theorem q815 : (Jvm.Cond.methodLink "TreeOddsModel" (123 : Nat) ({ cls := "TreeOddsModel", name := "depth", desc := "()I" } : Jvm.MethodName)) ∈ lw_all := lw_g (lw_at lw_m4 29 rfl) rfl
theorem q816 : (Jvm.Cond.privateMethod ({ cls := "TreeOddsModel", name := "depth", desc := "()I" } : Jvm.MethodName)) ∈ lw_tbl := lw_at lw_m4 30 rfl
theorem q817 : (Jvm.Cond.instanceMethod ({ cls := "TreeOddsModel", name := "depth", desc := "()I" } : Jvm.MethodName)) ∈ lw_all := lw_g (lw_at lw_m4 31 rfl) rfl
theorem q818 : (Jvm.Cond.code ({ cls := "TreeOddsModel", name := "depth", desc := "()I" } : Jvm.MethodName) prog_11_method_8_code (1 : Nat) (Option.some Jvm.ClassFile.FieldType.int)) ∈ lw_all := lw_g (lw_at lw_m4 32 rfl) rfl
theorem q819 : (Jvm.Cond.methodLink "TreeOddsModel" (126 : Nat) ({ cls := "TreeOddsModel", name := "guesser", desc := "()I" } : Jvm.MethodName)) ∈ lw_all := lw_g (lw_at lw_m4 33 rfl) rfl
theorem q820 : (Jvm.Cond.privateMethod ({ cls := "TreeOddsModel", name := "guesser", desc := "()I" } : Jvm.MethodName)) ∈ lw_tbl := lw_at lw_m4 34 rfl
theorem q821 : (Jvm.Cond.instanceMethod ({ cls := "TreeOddsModel", name := "guesser", desc := "()I" } : Jvm.MethodName)) ∈ lw_all := lw_g (lw_at lw_m4 35 rfl) rfl
theorem q822 : (Jvm.Cond.code ({ cls := "TreeOddsModel", name := "guesser", desc := "()I" } : Jvm.MethodName) prog_11_method_9_code (1 : Nat) (Option.some Jvm.ClassFile.FieldType.int)) ∈ lw_all := lw_g (lw_at lw_m4 36 rfl) rfl
theorem q823 : (Jvm.Cond.methodLink "TreeOddsModel" (129 : Nat) ({ cls := "TreeOddsModel", name := "goes", desc := "(II)I" } : Jvm.MethodName)) ∈ lw_all := lw_g (lw_at lw_m4 37 rfl) rfl
theorem q824 : (Jvm.Cond.privateMethod ({ cls := "TreeOddsModel", name := "goes", desc := "(II)I" } : Jvm.MethodName)) ∈ lw_tbl := lw_at lw_m4 38 rfl
theorem q825 : (Jvm.Cond.instanceMethod ({ cls := "TreeOddsModel", name := "goes", desc := "(II)I" } : Jvm.MethodName)) ∈ lw_all := lw_g (lw_at lw_m4 39 rfl) rfl
theorem q826 : (Jvm.Cond.code ({ cls := "TreeOddsModel", name := "goes", desc := "(II)I" } : Jvm.MethodName) prog_11_method_19_code (5 : Nat) (Option.some Jvm.ClassFile.FieldType.int)) ∈ lw_all := lw_g (lw_at lw_m4 40 rfl) rfl
theorem q827 : (Jvm.Cond.methodLink "TreeOddsModel" (108 : Nat) ({ cls := "TreeOddsModel", name := "begins", desc := "(II)V" } : Jvm.MethodName)) ∈ lw_all := lw_g (lw_at lw_m4 41 rfl) rfl
theorem q828 : (Jvm.Cond.privateMethod ({ cls := "TreeOddsModel", name := "begins", desc := "(II)V" } : Jvm.MethodName)) ∈ lw_tbl := lw_at lw_m4 42 rfl
theorem q829 : (Jvm.Cond.instanceMethod ({ cls := "TreeOddsModel", name := "begins", desc := "(II)V" } : Jvm.MethodName)) ∈ lw_all := lw_g (lw_at lw_m4 43 rfl) rfl
theorem q830 : (Jvm.Cond.code ({ cls := "TreeOddsModel", name := "begins", desc := "(II)V" } : Jvm.MethodName) prog_11_method_11_code (4 : Nat) (Option.none : Option Jvm.ClassFile.FieldType)) ∈ lw_all := lw_g (lw_at lw_m4 44 rfl) rfl
theorem q831 : (Jvm.Cond.constant "TreeOddsModel" (78 : Nat) (32768 : Int32)) ∈ lw_all := lw_g (lw_at lw_m4 45 rfl) rfl
theorem q832 : (Jvm.Cond.methodLink "TreeOddsModel" (116 : Nat) ({ cls := "TreeOddsModel", name := "guesses", desc := "()I" } : Jvm.MethodName)) ∈ lw_all := lw_g (lw_at lw_m4 46 rfl) rfl
theorem q833 : (Jvm.Cond.privateMethod ({ cls := "TreeOddsModel", name := "guesses", desc := "()I" } : Jvm.MethodName)) ∈ lw_tbl := lw_at lw_m4 47 rfl
theorem q834 : (Jvm.Cond.instanceMethod ({ cls := "TreeOddsModel", name := "guesses", desc := "()I" } : Jvm.MethodName)) ∈ lw_all := lw_g (lw_at lw_m4 48 rfl) rfl
theorem q835 : (Jvm.Cond.code ({ cls := "TreeOddsModel", name := "guesses", desc := "()I" } : Jvm.MethodName) prog_11_method_15_code (5 : Nat) (Option.some Jvm.ClassFile.FieldType.int)) ∈ lw_all := lw_g (lw_at lw_m4 49 rfl) rfl
theorem q836 : (Jvm.Cond.methodLink "TreeOddsModel" (88 : Nat) ({ cls := "TreeOddsModel", name := "nodeOf", desc := "(II)I" } : Jvm.MethodName)) ∈ lw_all := lw_g (lw_at lw_m4 50 rfl) rfl
theorem q837 : (Jvm.Cond.static ({ cls := "TreeOddsModel", name := "nodeOf", desc := "(II)I" } : Jvm.MethodName)) ∈ lw_all := lw_g (lw_at lw_m4 51 rfl) rfl
theorem q838 : (Jvm.Cond.code ({ cls := "TreeOddsModel", name := "nodeOf", desc := "(II)I" } : Jvm.MethodName) prog_11_method_14_code (2 : Nat) (Option.some Jvm.ClassFile.FieldType.int)) ∈ lw_all := lw_g (lw_at lw_m4 52 rfl) rfl
theorem q839 : (Jvm.Cond.methodLink "TreeOddsModel" (92 : Nat) ({ cls := "TreeOddsModel", name := "ownOf", desc := "(I)I" } : Jvm.MethodName)) ∈ lw_all := lw_g (lw_at lw_m4 53 rfl) rfl
theorem q840 : (Jvm.Cond.privateMethod ({ cls := "TreeOddsModel", name := "ownOf", desc := "(I)I" } : Jvm.MethodName)) ∈ lw_tbl := lw_at lw_m4 54 rfl
theorem q841 : (Jvm.Cond.instanceMethod ({ cls := "TreeOddsModel", name := "ownOf", desc := "(I)I" } : Jvm.MethodName)) ∈ lw_all := lw_g (lw_at lw_m4 55 rfl) rfl
theorem q842 : (Jvm.Cond.code ({ cls := "TreeOddsModel", name := "ownOf", desc := "(I)I" } : Jvm.MethodName) prog_11_method_13_code (6 : Nat) (Option.some Jvm.ClassFile.FieldType.int)) ∈ lw_all := lw_g (lw_at lw_m4 56 rfl) rfl
theorem q843 : (Jvm.Cond.constantLong "TreeOddsModel" (82 : Nat) (65536 : Int64)) ∈ lw_all := lw_g (lw_at lw_m4 57 rfl) rfl
theorem q844 : (Jvm.Cond.methodLink "TreeOddsModel" (84 : Nat) ({ cls := "TreeOddsModel", name := "held", desc := "(J)I" } : Jvm.MethodName)) ∈ lw_all := lw_g (lw_at lw_m4 58 rfl) rfl
theorem q845 : (Jvm.Cond.static ({ cls := "TreeOddsModel", name := "held", desc := "(J)I" } : Jvm.MethodName)) ∈ lw_all := lw_g (lw_at lw_m4 59 rfl) rfl
theorem q846 : (Jvm.Cond.code ({ cls := "TreeOddsModel", name := "held", desc := "(J)I" } : Jvm.MethodName) prog_11_method_12_code (2 : Nat) (Option.some Jvm.ClassFile.FieldType.int)) ∈ lw_all := lw_g (lw_at lw_m4 60 rfl) rfl
theorem q847 : (Jvm.Cond.constantLong "TreeOddsModel" (79 : Nat) (65535 : Int64)) ∈ lw_all := lw_g (lw_at lw_m4 61 rfl) rfl
theorem q848 : (Jvm.Cond.constant "TreeOddsModel" (81 : Nat) (65535 : Int32)) ∈ lw_all := lw_g (lw_at lw_m4 62 rfl) rfl
theorem q849 : (Jvm.Cond.methodLink "TreeOddsModel" (97 : Nat) ({ cls := "TreeOddsModel", name := "odds", desc := "(II)I" } : Jvm.MethodName)) ∈ lw_all := lw_g (lw_at lw_m4 63 rfl) rfl
theorem q850 : (Jvm.Cond.static ({ cls := "TreeOddsModel", name := "odds", desc := "(II)I" } : Jvm.MethodName)) ∈ lw_all := lw_g (lw_at lw_m4 64 rfl) rfl
theorem q851 : (Jvm.Cond.code ({ cls := "TreeOddsModel", name := "odds", desc := "(II)I" } : Jvm.MethodName) prog_11_method_16_code (2 : Nat) (Option.some Jvm.ClassFile.FieldType.int)) ∈ lw_all := lw_g (lw_at lw_m4 65 rfl) rfl
theorem q852 : (Jvm.Cond.constant "TreeOddsModel" (96 : Nat) (65536 : Int32)) ∈ lw_all := lw_g (lw_at lw_m4 66 rfl) rfl
theorem q853 : (Jvm.Cond.methodLink "TreeOddsModel" (105 : Nat) ({ cls := "TreeOddsModel", name := "bitsOf", desc := "(I)I" } : Jvm.MethodName)) ∈ lw_all := lw_g (lw_at lw_m4 67 rfl) rfl
theorem q854 : (Jvm.Cond.static ({ cls := "TreeOddsModel", name := "bitsOf", desc := "(I)I" } : Jvm.MethodName)) ∈ lw_all := lw_g (lw_at lw_m4 68 rfl) rfl
theorem q855 : (Jvm.Cond.code ({ cls := "TreeOddsModel", name := "bitsOf", desc := "(I)I" } : Jvm.MethodName) prog_11_method_17_code (4 : Nat) (Option.some Jvm.ClassFile.FieldType.int)) ∈ lw_all := lw_g (lw_at lw_m4 69 rfl) rfl
theorem q856 : (Jvm.Cond.methodLink "TreeOddsModel" (119 : Nat) ({ cls := "TreeOddsModel", name := "comes", desc := "(I)V" } : Jvm.MethodName)) ∈ lw_all := lw_g (lw_at lw_m4 70 rfl) rfl
theorem q857 : (Jvm.Cond.privateMethod ({ cls := "TreeOddsModel", name := "comes", desc := "(I)V" } : Jvm.MethodName)) ∈ lw_tbl := lw_at lw_m4 71 rfl
theorem q858 : (Jvm.Cond.instanceMethod ({ cls := "TreeOddsModel", name := "comes", desc := "(I)V" } : Jvm.MethodName)) ∈ lw_all := lw_g (lw_at lw_m4 72 rfl) rfl
theorem q859 : (Jvm.Cond.code ({ cls := "TreeOddsModel", name := "comes", desc := "(I)V" } : Jvm.MethodName) prog_11_method_18_code (11 : Nat) (Option.none : Option Jvm.ClassFile.FieldType)) ∈ lw_all := lw_g (lw_at lw_m4 73 rfl) rfl
theorem q860 : (Jvm.Cond.constantLong "TreeOddsModel" (100 : Nat) (64 : Int64)) ∈ lw_all := lw_g (lw_at lw_m4 74 rfl) rfl
theorem q861 : (Jvm.Cond.constantLong "TreeOddsModel" (102 : Nat) (65472 : Int64)) ∈ lw_all := lw_g (lw_at lw_m4 75 rfl) rfl
theorem q862 : (Jvm.Cond.constant "TreeOddsModel" (104 : Nat) (65472 : Int32)) ∈ lw_all := lw_g (lw_at lw_m4 76 rfl) rfl
theorem q863 : (Jvm.Cond.methodLink "TreeOddsModel" (135 : Nat) ({ cls := "TreeOddsModel", name := "costAt", desc := "(I)I" } : Jvm.MethodName)) ∈ lw_all := lw_g (lw_at lw_m4 77 rfl) rfl
theorem q864 : (Jvm.Cond.privateMethod ({ cls := "TreeOddsModel", name := "costAt", desc := "(I)I" } : Jvm.MethodName)) ∈ lw_tbl := lw_at lw_m4 78 rfl
theorem q865 : (Jvm.Cond.instanceMethod ({ cls := "TreeOddsModel", name := "costAt", desc := "(I)I" } : Jvm.MethodName)) ∈ lw_all := lw_g (lw_at lw_m4 79 rfl) rfl
theorem q866 : (Jvm.Cond.code ({ cls := "TreeOddsModel", name := "costAt", desc := "(I)I" } : Jvm.MethodName) prog_11_method_21_code (2 : Nat) (Option.some Jvm.ClassFile.FieldType.int)) ∈ lw_all := lw_g (lw_at lw_m4 80 rfl) rfl
theorem q868 : (Jvm.Cond.instanceMethod ({ cls := "TreeOddsModel", name := "signs", desc := "(JI)I" } : Jvm.MethodName)) ∈ lw_all := lw_g (lw_at lw_m4 82 rfl) rfl
theorem q869 : (Jvm.Cond.selects "TreeOddsModel" ({ cls := "TreeOddsModel", name := "signs", desc := "(JI)I" } : Jvm.MethodName) ({ cls := "TreeOddsModel", name := "signs", desc := "(JI)I" } : Jvm.MethodName)) ∈ lw_all := lw_g (lw_at lw_m4 83 rfl) rfl
theorem q870 : (Jvm.Cond.code ({ cls := "TreeOddsModel", name := "signs", desc := "(JI)I" } : Jvm.MethodName) prog_11_method_25_code (6 : Nat) (Option.some Jvm.ClassFile.FieldType.int)) ∈ lw_all := lw_g (lw_at lw_m4 84 rfl) rfl
theorem q872 : (Jvm.Cond.instanceMethod ({ cls := "TreeOddsModel", name := "draw", desc := "(III)I" } : Jvm.MethodName)) ∈ lw_all := lw_g (lw_at lw_m4 86 rfl) rfl
theorem q873 : (Jvm.Cond.selects "TreeOddsModel" ({ cls := "TreeOddsModel", name := "draw", desc := "(III)I" } : Jvm.MethodName) ({ cls := "TreeOddsModel", name := "draw", desc := "(III)I" } : Jvm.MethodName)) ∈ lw_all := lw_g (lw_at lw_m4 87 rfl) rfl
theorem q874 : (Jvm.Cond.code ({ cls := "TreeOddsModel", name := "draw", desc := "(III)I" } : Jvm.MethodName) prog_11_method_26_code (9 : Nat) (Option.some Jvm.ClassFile.FieldType.int)) ∈ lw_all := lw_g (lw_at lw_m4 88 rfl) rfl
theorem q875 : (Jvm.Cond.constantLong "TreeOddsModel" (157 : Nat) (999999 : Int64)) ∈ lw_all := lw_g (lw_at lw_m4 89 rfl) rfl
theorem q876 : (Jvm.Cond.constantLong "TreeOddsModel" (159 : Nat) (100 : Int64)) ∈ lw_all := lw_g (lw_at lw_m4 90 rfl) rfl
theorem q877 : (Jvm.Cond.constantLong "TreeOddsModel" (161 : Nat) (1103515245 : Int64)) ∈ lw_all := lw_g (lw_at lw_m4 91 rfl) rfl
theorem q878 : (Jvm.Cond.constantLong "TreeOddsModel" (163 : Nat) (12345 : Int64)) ∈ lw_all := lw_g (lw_at lw_m4 92 rfl) rfl
theorem q879 : (Jvm.Cond.constantLong "TreeOddsModel" (165 : Nat) (2147483648 : Int64)) ∈ lw_all := lw_g (lw_at lw_m4 93 rfl) rfl
theorem q881 : (Jvm.Cond.instanceMethod ({ cls := "TreeOddsModel", name := "sets", desc := "(II)I" } : Jvm.MethodName)) ∈ lw_all := lw_g (lw_at lw_m4 95 rfl) rfl
theorem q882 : (Jvm.Cond.selects "TreeOddsModel" ({ cls := "TreeOddsModel", name := "sets", desc := "(II)I" } : Jvm.MethodName) ({ cls := "TreeOddsModel", name := "sets", desc := "(II)I" } : Jvm.MethodName)) ∈ lw_all := lw_g (lw_at lw_m4 96 rfl) rfl
theorem q883 : (Jvm.Cond.code ({ cls := "TreeOddsModel", name := "sets", desc := "(II)I" } : Jvm.MethodName) prog_11_method_27_code (4 : Nat) (Option.some Jvm.ClassFile.FieldType.int)) ∈ lw_all := lw_g (lw_at lw_m4 97 rfl) rfl
theorem q884 : (Jvm.Cond.constantLong "TreeOddsModel" (167 : Nat) (6 : Int64)) ∈ lw_all := lw_g (lw_at lw_m4 98 rfl) rfl
theorem q885 : (Jvm.Cond.constantLong "TreeOddsModel" (169 : Nat) (3 : Int64)) ∈ lw_all := lw_g (lw_at lw_m4 99 rfl) rfl
theorem q887 : (Jvm.Cond.instanceMethod ({ cls := "TreeOddsModel", name := "empties", desc := "()I" } : Jvm.MethodName)) ∈ lw_all := lw_g (lw_at lw_m4 101 rfl) rfl
theorem q888 : (Jvm.Cond.selects "TreeOddsModel" ({ cls := "TreeOddsModel", name := "empties", desc := "()I" } : Jvm.MethodName) ({ cls := "TreeOddsModel", name := "empties", desc := "()I" } : Jvm.MethodName)) ∈ lw_all := lw_g (lw_at lw_m4 102 rfl) rfl
theorem q889 : (Jvm.Cond.code ({ cls := "TreeOddsModel", name := "empties", desc := "()I" } : Jvm.MethodName) prog_11_method_28_code (2 : Nat) (Option.some Jvm.ClassFile.FieldType.int)) ∈ lw_all := lw_g (lw_at lw_m4 103 rfl) rfl
theorem q891 : (Jvm.Cond.instanceMethod ({ cls := "TreeOddsModel", name := "drop", desc := "()I" } : Jvm.MethodName)) ∈ lw_all := lw_g (lw_at lw_m4 105 rfl) rfl
theorem q892 : (Jvm.Cond.selects "TreeOddsModel" ({ cls := "TreeOddsModel", name := "drop", desc := "()I" } : Jvm.MethodName) ({ cls := "TreeOddsModel", name := "drop", desc := "()I" } : Jvm.MethodName)) ∈ lw_all := lw_g (lw_at lw_m4 106 rfl) rfl
theorem q893 : (Jvm.Cond.code ({ cls := "TreeOddsModel", name := "drop", desc := "()I" } : Jvm.MethodName) prog_11_method_29_code (1 : Nat) (Option.some Jvm.ClassFile.FieldType.int)) ∈ lw_all := lw_g (lw_at lw_m4 107 rfl) rfl
theorem q894 : (Jvm.Cond.methodLink "TreeOddsModel" (171 : Nat) ({ cls := "TreeOddsModel", name := "no", desc := "()I" } : Jvm.MethodName)) ∈ lw_all := lw_g (lw_at lw_m4 108 rfl) rfl
theorem q895 : (Jvm.Cond.privateMethod ({ cls := "TreeOddsModel", name := "no", desc := "()I" } : Jvm.MethodName)) ∈ lw_tbl := lw_at lw_m4 109 rfl
theorem q896 : (Jvm.Cond.instanceMethod ({ cls := "TreeOddsModel", name := "no", desc := "()I" } : Jvm.MethodName)) ∈ lw_all := lw_g (lw_at lw_m4 110 rfl) rfl
theorem q897 : (Jvm.Cond.code ({ cls := "TreeOddsModel", name := "no", desc := "()I" } : Jvm.MethodName) prog_11_method_5_code (1 : Nat) (Option.some Jvm.ClassFile.FieldType.int)) ∈ lw_all := lw_g (lw_at lw_m4 111 rfl) rfl
theorem q899 : (Jvm.Cond.instanceMethod ({ cls := "TreeOddsModel", name := "at", desc := "(I)I" } : Jvm.MethodName)) ∈ lw_all := lw_g (lw_at lw_m4 113 rfl) rfl
theorem q900 : (Jvm.Cond.selects "TreeOddsModel" ({ cls := "TreeOddsModel", name := "at", desc := "(I)I" } : Jvm.MethodName) ({ cls := "TreeOddsModel", name := "at", desc := "(I)I" } : Jvm.MethodName)) ∈ lw_all := lw_g (lw_at lw_m4 114 rfl) rfl
theorem q901 : (Jvm.Cond.code ({ cls := "TreeOddsModel", name := "at", desc := "(I)I" } : Jvm.MethodName) prog_11_method_30_code (2 : Nat) (Option.some Jvm.ClassFile.FieldType.int)) ∈ lw_all := lw_g (lw_at lw_m4 115 rfl) rfl
theorem q903 : (Jvm.Cond.instanceMethod ({ cls := "TreeOddsModel", name := "guess", desc := "()I" } : Jvm.MethodName)) ∈ lw_all := lw_g (lw_at lw_m4 117 rfl) rfl
theorem q904 : (Jvm.Cond.selects "TreeOddsModel" ({ cls := "TreeOddsModel", name := "guess", desc := "()I" } : Jvm.MethodName) ({ cls := "TreeOddsModel", name := "guess", desc := "()I" } : Jvm.MethodName)) ∈ lw_all := lw_g (lw_at lw_m4 118 rfl) rfl
theorem q905 : (Jvm.Cond.code ({ cls := "TreeOddsModel", name := "guess", desc := "()I" } : Jvm.MethodName) prog_11_method_32_code (1 : Nat) (Option.some Jvm.ClassFile.FieldType.int)) ∈ lw_all := lw_g (lw_at lw_m4 119 rfl) rfl
theorem q906 : (Jvm.Cond.methodLink "TreeOddsModel" (174 : Nat) ({ cls := "TreeOddsModel", name := "guessNow", desc := "()I" } : Jvm.MethodName)) ∈ lw_all := lw_g (lw_at lw_m4 120 rfl) rfl
theorem q907 : (Jvm.Cond.privateMethod ({ cls := "TreeOddsModel", name := "guessNow", desc := "()I" } : Jvm.MethodName)) ∈ lw_tbl := lw_at lw_m4 121 rfl
theorem q908 : (Jvm.Cond.instanceMethod ({ cls := "TreeOddsModel", name := "guessNow", desc := "()I" } : Jvm.MethodName)) ∈ lw_all := lw_g (lw_at lw_m4 122 rfl) rfl
theorem q909 : (Jvm.Cond.code ({ cls := "TreeOddsModel", name := "guessNow", desc := "()I" } : Jvm.MethodName) prog_11_method_31_code (2 : Nat) (Option.some Jvm.ClassFile.FieldType.int)) ∈ lw_all := lw_g (lw_at lw_m4 123 rfl) rfl
theorem q911 : (Jvm.Cond.instanceMethod ({ cls := "TreeOddsModel", name := "was", desc := "(II)I" } : Jvm.MethodName)) ∈ lw_all := lw_g (lw_at lw_m4 125 rfl) rfl
theorem q912 : (Jvm.Cond.selects "TreeOddsModel" ({ cls := "TreeOddsModel", name := "was", desc := "(II)I" } : Jvm.MethodName) ({ cls := "TreeOddsModel", name := "was", desc := "(II)I" } : Jvm.MethodName)) ∈ lw_all := lw_g (lw_at lw_m4 126 rfl) rfl
theorem q913 : (Jvm.Cond.code ({ cls := "TreeOddsModel", name := "was", desc := "(II)I" } : Jvm.MethodName) prog_11_method_33_code (4 : Nat) (Option.some Jvm.ClassFile.FieldType.int)) ∈ lw_all := lw_g (lw_at lw_m4 127 rfl) rfl
theorem q915 : (Jvm.Cond.instanceMethod ({ cls := "TreeOddsModel", name := "node", desc := "(III)I" } : Jvm.MethodName)) ∈ lw_all := lw_g (lw_at lw_m4 129 rfl) rfl
theorem q916 : (Jvm.Cond.selects "TreeOddsModel" ({ cls := "TreeOddsModel", name := "node", desc := "(III)I" } : Jvm.MethodName) ({ cls := "TreeOddsModel", name := "node", desc := "(III)I" } : Jvm.MethodName)) ∈ lw_all := lw_g (lw_at lw_m4 130 rfl) rfl
theorem q917 : (Jvm.Cond.code ({ cls := "TreeOddsModel", name := "node", desc := "(III)I" } : Jvm.MethodName) prog_11_method_35_code (6 : Nat) (Option.some Jvm.ClassFile.FieldType.int)) ∈ lw_all := lw_g (lw_at lw_m4 131 rfl) rfl
theorem q918 : (Jvm.Cond.methodLink "TreeOddsModel" (177 : Nat) ({ cls := "TreeOddsModel", name := "isNode", desc := "(II)Z" } : Jvm.MethodName)) ∈ lw_all := lw_g (lw_at lw_m4 132 rfl) rfl
theorem q919 : (Jvm.Cond.privateMethod ({ cls := "TreeOddsModel", name := "isNode", desc := "(II)Z" } : Jvm.MethodName)) ∈ lw_tbl := lw_at lw_m4 133 rfl
theorem q920 : (Jvm.Cond.instanceMethod ({ cls := "TreeOddsModel", name := "isNode", desc := "(II)Z" } : Jvm.MethodName)) ∈ lw_all := lw_g (lw_at lw_m4 134 rfl) rfl
theorem q921 : (Jvm.Cond.code ({ cls := "TreeOddsModel", name := "isNode", desc := "(II)Z" } : Jvm.MethodName) prog_11_method_34_code (3 : Nat) (Option.some Jvm.ClassFile.FieldType.boolean)) ∈ lw_all := lw_g (lw_at lw_m4 135 rfl) rfl
theorem q923 : (Jvm.Cond.instanceMethod ({ cls := "TreeOddsModel", name := "cost", desc := "()I" } : Jvm.MethodName)) ∈ lw_all := lw_g (lw_at lw_m4 137 rfl) rfl
theorem q924 : (Jvm.Cond.selects "TreeOddsModel" ({ cls := "TreeOddsModel", name := "cost", desc := "()I" } : Jvm.MethodName) ({ cls := "TreeOddsModel", name := "cost", desc := "()I" } : Jvm.MethodName)) ∈ lw_all := lw_g (lw_at lw_m4 138 rfl) rfl
theorem q925 : (Jvm.Cond.code ({ cls := "TreeOddsModel", name := "cost", desc := "()I" } : Jvm.MethodName) prog_11_method_36_code (1 : Nat) (Option.some Jvm.ClassFile.FieldType.int)) ∈ lw_all := lw_g (lw_at lw_m4 139 rfl) rfl
theorem q927 : (Jvm.Cond.instanceMethod ({ cls := "TreeOddsModel", name := "costBy", desc := "(II)I" } : Jvm.MethodName)) ∈ lw_all := lw_g (lw_at lw_m4 141 rfl) rfl
theorem q928 : (Jvm.Cond.selects "TreeOddsModel" ({ cls := "TreeOddsModel", name := "costBy", desc := "(II)I" } : Jvm.MethodName) ({ cls := "TreeOddsModel", name := "costBy", desc := "(II)I" } : Jvm.MethodName)) ∈ lw_all := lw_g (lw_at lw_m4 142 rfl) rfl
theorem q929 : (Jvm.Cond.code ({ cls := "TreeOddsModel", name := "costBy", desc := "(II)I" } : Jvm.MethodName) prog_11_method_37_code (3 : Nat) (Option.some Jvm.ClassFile.FieldType.int)) ∈ lw_all := lw_g (lw_at lw_m4 143 rfl) rfl
theorem q931 : (Jvm.Cond.instanceMethod ({ cls := "TreeOddsModel", name := "best", desc := "(I)I" } : Jvm.MethodName)) ∈ lw_all := lw_g (lw_at lw_m4 145 rfl) rfl
theorem q932 : (Jvm.Cond.selects "TreeOddsModel" ({ cls := "TreeOddsModel", name := "best", desc := "(I)I" } : Jvm.MethodName) ({ cls := "TreeOddsModel", name := "best", desc := "(I)I" } : Jvm.MethodName)) ∈ lw_all := lw_g (lw_at lw_m4 146 rfl) rfl
theorem q933 : (Jvm.Cond.code ({ cls := "TreeOddsModel", name := "best", desc := "(I)I" } : Jvm.MethodName) prog_11_method_38_code (6 : Nat) (Option.some Jvm.ClassFile.FieldType.int)) ∈ lw_all := lw_g (lw_at lw_m4 147 rfl) rfl
theorem q934 : (Jvm.Cond.constantLong "TreeOddsModel" (181 : Nat) (2 : Int64)) ∈ lw_all := lw_g (lw_at lw_m4 148 rfl) rfl
theorem q936 : (Jvm.Cond.instanceMethod ({ cls := "TreeOddsModel", name := "follows", desc := "(I)I" } : Jvm.MethodName)) ∈ lw_all := lw_g (lw_at lw_m4 150 rfl) rfl
theorem q937 : (Jvm.Cond.selects "TreeOddsModel" ({ cls := "TreeOddsModel", name := "follows", desc := "(I)I" } : Jvm.MethodName) ({ cls := "TreeOddsModel", name := "follows", desc := "(I)I" } : Jvm.MethodName)) ∈ lw_all := lw_g (lw_at lw_m4 151 rfl) rfl
theorem q938 : (Jvm.Cond.code ({ cls := "TreeOddsModel", name := "follows", desc := "(I)I" } : Jvm.MethodName) prog_11_method_39_code (6 : Nat) (Option.some Jvm.ClassFile.FieldType.int)) ∈ lw_all := lw_g (lw_at lw_m4 152 rfl) rfl
theorem q939 : (Jvm.Cond.constantLong "TreeOddsModel" (183 : Nat) (16 : Int64)) ∈ lw_all := lw_g (lw_at lw_m4 153 rfl) rfl
theorem q941 : (Jvm.Cond.instanceMethod ({ cls := "TreeOddsModel", name := "tree", desc := "(I)I" } : Jvm.MethodName)) ∈ lw_all := lw_g (lw_at lw_m4 155 rfl) rfl
theorem q942 : (Jvm.Cond.selects "TreeOddsModel" ({ cls := "TreeOddsModel", name := "tree", desc := "(I)I" } : Jvm.MethodName) ({ cls := "TreeOddsModel", name := "tree", desc := "(I)I" } : Jvm.MethodName)) ∈ lw_all := lw_g (lw_at lw_m4 156 rfl) rfl
theorem q943 : (Jvm.Cond.code ({ cls := "TreeOddsModel", name := "tree", desc := "(I)I" } : Jvm.MethodName) prog_11_method_43_code (2 : Nat) (Option.some Jvm.ClassFile.FieldType.int)) ∈ lw_all := lw_g (lw_at lw_m4 157 rfl) rfl
theorem q944 : (Jvm.Cond.methodLink "TreeOddsModel" (192 : Nat) ({ cls := "TreeOddsModel", name := "treeOf", desc := "(I)I" } : Jvm.MethodName)) ∈ lw_all := lw_g (lw_at lw_m4 158 rfl) rfl
theorem q945 : (Jvm.Cond.privateMethod ({ cls := "TreeOddsModel", name := "treeOf", desc := "(I)I" } : Jvm.MethodName)) ∈ lw_tbl := lw_at lw_m4 159 rfl
theorem q946 : (Jvm.Cond.instanceMethod ({ cls := "TreeOddsModel", name := "treeOf", desc := "(I)I" } : Jvm.MethodName)) ∈ lw_all := lw_g (lw_at lw_m4 160 rfl) rfl
theorem q947 : (Jvm.Cond.code ({ cls := "TreeOddsModel", name := "treeOf", desc := "(I)I" } : Jvm.MethodName) prog_11_method_42_code (2 : Nat) (Option.some Jvm.ClassFile.FieldType.int)) ∈ lw_all := lw_g (lw_at lw_m4 161 rfl) rfl
theorem q948 : (Jvm.Cond.methodLink "TreeOddsModel" (185 : Nat) ({ cls := "TreeOddsModel", name := "plants", desc := "()V" } : Jvm.MethodName)) ∈ lw_all := lw_g (lw_at lw_m4 162 rfl) rfl
theorem q949 : (Jvm.Cond.privateMethod ({ cls := "TreeOddsModel", name := "plants", desc := "()V" } : Jvm.MethodName)) ∈ lw_tbl := lw_at lw_m4 163 rfl
theorem q950 : (Jvm.Cond.instanceMethod ({ cls := "TreeOddsModel", name := "plants", desc := "()V" } : Jvm.MethodName)) ∈ lw_all := lw_g (lw_at lw_m4 164 rfl) rfl
theorem q951 : (Jvm.Cond.code ({ cls := "TreeOddsModel", name := "plants", desc := "()V" } : Jvm.MethodName) prog_11_method_40_code (7 : Nat) (Option.none : Option Jvm.ClassFile.FieldType)) ∈ lw_all := lw_g (lw_at lw_m4 165 rfl) rfl
theorem q952 : (Jvm.Cond.methodLink "TreeOddsModel" (188 : Nat) ({ cls := "TreeOddsModel", name := "leaves", desc := "(Z)I" } : Jvm.MethodName)) ∈ lw_all := lw_g (lw_at lw_m4 166 rfl) rfl
theorem q953 : (Jvm.Cond.privateMethod ({ cls := "TreeOddsModel", name := "leaves", desc := "(Z)I" } : Jvm.MethodName)) ∈ lw_tbl := lw_at lw_m4 167 rfl
theorem q954 : (Jvm.Cond.instanceMethod ({ cls := "TreeOddsModel", name := "leaves", desc := "(Z)I" } : Jvm.MethodName)) ∈ lw_all := lw_g (lw_at lw_m4 168 rfl) rfl
theorem q955 : (Jvm.Cond.code ({ cls := "TreeOddsModel", name := "leaves", desc := "(Z)I" } : Jvm.MethodName) prog_11_method_41_code (7 : Nat) (Option.some Jvm.ClassFile.FieldType.int)) ∈ lw_all := lw_g (lw_at lw_m4 169 rfl) rfl
theorem q957 : (Jvm.Cond.instanceMethod ({ cls := "TreeOddsModel", name := "leaf", desc := "(II)I" } : Jvm.MethodName)) ∈ lw_all := lw_g (lw_at lw_m4 171 rfl) rfl
theorem q958 : (Jvm.Cond.selects "TreeOddsModel" ({ cls := "TreeOddsModel", name := "leaf", desc := "(II)I" } : Jvm.MethodName) ({ cls := "TreeOddsModel", name := "leaf", desc := "(II)I" } : Jvm.MethodName)) ∈ lw_all := lw_g (lw_at lw_m4 172 rfl) rfl
theorem q959 : (Jvm.Cond.code ({ cls := "TreeOddsModel", name := "leaf", desc := "(II)I" } : Jvm.MethodName) prog_11_method_44_code (3 : Nat) (Option.some Jvm.ClassFile.FieldType.int)) ∈ lw_all := lw_g (lw_at lw_m4 173 rfl) rfl
theorem q961 : (Jvm.Cond.instanceMethod ({ cls := "TreeOddsModel", name := "written", desc := "(I)I" } : Jvm.MethodName)) ∈ lw_all := lw_g (lw_at lw_m4 175 rfl) rfl
theorem q962 : (Jvm.Cond.selects "TreeOddsModel" ({ cls := "TreeOddsModel", name := "written", desc := "(I)I" } : Jvm.MethodName) ({ cls := "TreeOddsModel", name := "written", desc := "(I)I" } : Jvm.MethodName)) ∈ lw_all := lw_g (lw_at lw_m4 176 rfl) rfl
theorem q963 : (Jvm.Cond.code ({ cls := "TreeOddsModel", name := "written", desc := "(I)I" } : Jvm.MethodName) prog_11_method_47_code (2 : Nat) (Option.some Jvm.ClassFile.FieldType.int)) ∈ lw_all := lw_g (lw_at lw_m4 177 rfl) rfl
theorem q964 : (Jvm.Cond.methodLink "TreeOddsModel" (213 : Nat) ({ cls := "TreeOddsModel", name := "writes", desc := "()V" } : Jvm.MethodName)) ∈ lw_all := lw_g (lw_at lw_m4 178 rfl) rfl
theorem q965 : (Jvm.Cond.privateMethod ({ cls := "TreeOddsModel", name := "writes", desc := "()V" } : Jvm.MethodName)) ∈ lw_tbl := lw_at lw_m4 179 rfl
theorem q966 : (Jvm.Cond.instanceMethod ({ cls := "TreeOddsModel", name := "writes", desc := "()V" } : Jvm.MethodName)) ∈ lw_all := lw_g (lw_at lw_m4 180 rfl) rfl
theorem q967 : (Jvm.Cond.code ({ cls := "TreeOddsModel", name := "writes", desc := "()V" } : Jvm.MethodName) prog_11_method_46_code (7 : Nat) (Option.none : Option Jvm.ClassFile.FieldType)) ∈ lw_all := lw_g (lw_at lw_m4 181 rfl) rfl
theorem q968 : (Jvm.Cond.constantLong "TreeOddsModel" (208 : Nat) (4294967296 : Int64)) ∈ lw_all := lw_g (lw_at lw_m4 182 rfl) rfl
theorem q969 : (Jvm.Cond.constantLong "TreeOddsModel" (199 : Nat) (16777216 : Int64)) ∈ lw_all := lw_g (lw_at lw_m4 183 rfl) rfl
theorem q970 : (Jvm.Cond.methodLink "TreeOddsModel" (210 : Nat) ({ cls := "TreeOddsModel", name := "goesOut", desc := "()V" } : Jvm.MethodName)) ∈ lw_all := lw_g (lw_at lw_m4 184 rfl) rfl
theorem q971 : (Jvm.Cond.privateMethod ({ cls := "TreeOddsModel", name := "goesOut", desc := "()V" } : Jvm.MethodName)) ∈ lw_tbl := lw_at lw_m4 185 rfl
theorem q972 : (Jvm.Cond.instanceMethod ({ cls := "TreeOddsModel", name := "goesOut", desc := "()V" } : Jvm.MethodName)) ∈ lw_all := lw_g (lw_at lw_m4 186 rfl) rfl
theorem q973 : (Jvm.Cond.code ({ cls := "TreeOddsModel", name := "goesOut", desc := "()V" } : Jvm.MethodName) prog_11_method_45_code (4 : Nat) (Option.none : Option Jvm.ClassFile.FieldType)) ∈ lw_all := lw_g (lw_at lw_m4 187 rfl) rfl
theorem q974 : (Jvm.Cond.constantLong "TreeOddsModel" (201 : Nat) (255 : Int64)) ∈ lw_all := lw_g (lw_at lw_m4 188 rfl) rfl
theorem q975 : (Jvm.Cond.constantLong "TreeOddsModel" (206 : Nat) (256 : Int64)) ∈ lw_all := lw_g (lw_at lw_m4 189 rfl) rfl
theorem q977 : (Jvm.Cond.instanceMethod ({ cls := "TreeOddsModel", name := "reads", desc := "(II)I" } : Jvm.MethodName)) ∈ lw_all := lw_g (lw_at lw_m4 191 rfl) rfl
theorem q978 : (Jvm.Cond.selects "TreeOddsModel" ({ cls := "TreeOddsModel", name := "reads", desc := "(II)I" } : Jvm.MethodName) ({ cls := "TreeOddsModel", name := "reads", desc := "(II)I" } : Jvm.MethodName)) ∈ lw_all := lw_g (lw_at lw_m4 192 rfl) rfl
theorem q979 : (Jvm.Cond.code ({ cls := "TreeOddsModel", name := "reads", desc := "(II)I" } : Jvm.MethodName) prog_11_method_49_code (13 : Nat) (Option.some Jvm.ClassFile.FieldType.int)) ∈ lw_all := lw_g (lw_at lw_m4 193 rfl) rfl
theorem q980 : (Jvm.Cond.constantLong "TreeOddsModel" (216 : Nat) (-1 : Int64)) ∈ lw_all := lw_g (lw_at lw_m4 194 rfl) rfl
theorem q981 : (Jvm.Cond.methodLink "TreeOddsModel" (218 : Nat) ({ cls := "TreeOddsModel", name := "byteAt", desc := "(I)I" } : Jvm.MethodName)) ∈ lw_all := lw_g (lw_at lw_m4 195 rfl) rfl
theorem q982 : (Jvm.Cond.privateMethod ({ cls := "TreeOddsModel", name := "byteAt", desc := "(I)I" } : Jvm.MethodName)) ∈ lw_tbl := lw_at lw_m4 196 rfl
theorem q983 : (Jvm.Cond.instanceMethod ({ cls := "TreeOddsModel", name := "byteAt", desc := "(I)I" } : Jvm.MethodName)) ∈ lw_all := lw_g (lw_at lw_m4 197 rfl) rfl
theorem q984 : (Jvm.Cond.code ({ cls := "TreeOddsModel", name := "byteAt", desc := "(I)I" } : Jvm.MethodName) prog_11_method_48_code (2 : Nat) (Option.some Jvm.ClassFile.FieldType.int)) ∈ lw_all := lw_g (lw_at lw_m4 198 rfl) rfl
theorem q986 : (Jvm.Cond.instanceMethod ({ cls := "TreeOddsModel", name := "type", desc := "(I)I" } : Jvm.MethodName)) ∈ lw_all := lw_g (lw_at lw_m4 200 rfl) rfl
theorem q987 : (Jvm.Cond.selects "TreeOddsModel" ({ cls := "TreeOddsModel", name := "type", desc := "(I)I" } : Jvm.MethodName) ({ cls := "TreeOddsModel", name := "type", desc := "(I)I" } : Jvm.MethodName)) ∈ lw_all := lw_g (lw_at lw_m4 201 rfl) rfl
theorem q988 : (Jvm.Cond.code ({ cls := "TreeOddsModel", name := "type", desc := "(I)I" } : Jvm.MethodName) prog_11_method_50_code (2 : Nat) (Option.some Jvm.ClassFile.FieldType.int)) ∈ lw_all := lw_g (lw_at lw_m4 202 rfl) rfl
theorem q989 : (Jvm.Cond.constantLong "TreeOddsModel" (221 : Nat) (127 : Int64)) ∈ lw_all := lw_g (lw_at lw_m4 203 rfl) rfl
theorem q991 : (Jvm.Cond.instanceMethod ({ cls := "TreeOddsModel", name := "clear", desc := "()I" } : Jvm.MethodName)) ∈ lw_all := lw_g (lw_at lw_m4 205 rfl) rfl
theorem q992 : (Jvm.Cond.selects "TreeOddsModel" ({ cls := "TreeOddsModel", name := "clear", desc := "()I" } : Jvm.MethodName) ({ cls := "TreeOddsModel", name := "clear", desc := "()I" } : Jvm.MethodName)) ∈ lw_all := lw_g (lw_at lw_m4 206 rfl) rfl
theorem q993 : (Jvm.Cond.code ({ cls := "TreeOddsModel", name := "clear", desc := "()I" } : Jvm.MethodName) prog_11_method_51_code (2 : Nat) (Option.some Jvm.ClassFile.FieldType.int)) ∈ lw_all := lw_g (lw_at lw_m4 207 rfl) rfl
theorem q995 : (Jvm.Cond.instanceMethod ({ cls := "TreeOddsModel", name := "told", desc := "()I" } : Jvm.MethodName)) ∈ lw_all := lw_g (lw_at lw_m4 209 rfl) rfl
theorem q996 : (Jvm.Cond.selects "TreeOddsModel" ({ cls := "TreeOddsModel", name := "told", desc := "()I" } : Jvm.MethodName) ({ cls := "TreeOddsModel", name := "told", desc := "()I" } : Jvm.MethodName)) ∈ lw_all := lw_g (lw_at lw_m4 210 rfl) rfl
theorem q997 : (Jvm.Cond.code ({ cls := "TreeOddsModel", name := "told", desc := "()I" } : Jvm.MethodName) prog_11_method_57_code (3 : Nat) (Option.some Jvm.ClassFile.FieldType.int)) ∈ lw_all := lw_g (lw_at lw_m4 211 rfl) rfl
theorem q998 : (Jvm.Cond.methodLink "TreeOddsModel" (233 : Nat) ({ cls := "TreeOddsModel", name := "here", desc := "()I" } : Jvm.MethodName)) ∈ lw_all := lw_g (lw_at lw_m4 212 rfl) rfl
theorem q999 : (Jvm.Cond.privateMethod ({ cls := "TreeOddsModel", name := "here", desc := "()I" } : Jvm.MethodName)) ∈ lw_tbl := lw_at lw_m4 213 rfl
theorem q1000 : (Jvm.Cond.instanceMethod ({ cls := "TreeOddsModel", name := "here", desc := "()I" } : Jvm.MethodName)) ∈ lw_all := lw_g (lw_at lw_m4 214 rfl) rfl
theorem q1001 : (Jvm.Cond.code ({ cls := "TreeOddsModel", name := "here", desc := "()I" } : Jvm.MethodName) prog_11_method_52_code (1 : Nat) (Option.some Jvm.ClassFile.FieldType.int)) ∈ lw_all := lw_g (lw_at lw_m4 215 rfl) rfl
theorem q1002 : (Jvm.Cond.methodLink "TreeOddsModel" (250 : Nat) ({ cls := "TreeOddsModel", name := "readsMany", desc := "()Z" } : Jvm.MethodName)) ∈ lw_all := lw_g (lw_at lw_m4 216 rfl) rfl
theorem q1003 : (Jvm.Cond.privateMethod ({ cls := "TreeOddsModel", name := "readsMany", desc := "()Z" } : Jvm.MethodName)) ∈ lw_tbl := lw_at lw_m4 217 rfl
theorem q1004 : (Jvm.Cond.instanceMethod ({ cls := "TreeOddsModel", name := "readsMany", desc := "()Z" } : Jvm.MethodName)) ∈ lw_all := lw_g (lw_at lw_m4 218 rfl) rfl
theorem q1005 : (Jvm.Cond.code ({ cls := "TreeOddsModel", name := "readsMany", desc := "()Z" } : Jvm.MethodName) prog_11_method_56_code (6 : Nat) (Option.some Jvm.ClassFile.FieldType.boolean)) ∈ lw_all := lw_g (lw_at lw_m4 219 rfl) rfl
theorem q1006 : (Jvm.Cond.methodLink "TreeOddsModel" (246 : Nat) ({ cls := "TreeOddsModel", name := "readsSign", desc := "()Z" } : Jvm.MethodName)) ∈ lw_all := lw_g (lw_at lw_m4 220 rfl) rfl
theorem q1007 : (Jvm.Cond.privateMethod ({ cls := "TreeOddsModel", name := "readsSign", desc := "()Z" } : Jvm.MethodName)) ∈ lw_tbl := lw_at lw_m4 221 rfl
theorem q1008 : (Jvm.Cond.instanceMethod ({ cls := "TreeOddsModel", name := "readsSign", desc := "()Z" } : Jvm.MethodName)) ∈ lw_all := lw_g (lw_at lw_m4 222 rfl) rfl
theorem q1009 : (Jvm.Cond.code ({ cls := "TreeOddsModel", name := "readsSign", desc := "()Z" } : Jvm.MethodName) prog_11_method_55_code (5 : Nat) (Option.some Jvm.ClassFile.FieldType.boolean)) ∈ lw_all := lw_g (lw_at lw_m4 223 rfl) rfl
theorem q1010 : (Jvm.Cond.methodLink "TreeOddsModel" (243 : Nat) ({ cls := "TreeOddsModel", name := "times", desc := "()I" } : Jvm.MethodName)) ∈ lw_all := lw_g (lw_at lw_m4 224 rfl) rfl
theorem q1011 : (Jvm.Cond.privateMethod ({ cls := "TreeOddsModel", name := "times", desc := "()I" } : Jvm.MethodName)) ∈ lw_tbl := lw_at lw_m4 225 rfl
theorem q1012 : (Jvm.Cond.instanceMethod ({ cls := "TreeOddsModel", name := "times", desc := "()I" } : Jvm.MethodName)) ∈ lw_all := lw_g (lw_at lw_m4 226 rfl) rfl
theorem q1013 : (Jvm.Cond.code ({ cls := "TreeOddsModel", name := "times", desc := "()I" } : Jvm.MethodName) prog_11_method_54_code (5 : Nat) (Option.some Jvm.ClassFile.FieldType.int)) ∈ lw_all := lw_g (lw_at lw_m4 227 rfl) rfl
theorem q1014 : (Jvm.Cond.methodLink "TreeOddsModel" (236 : Nat) ({ cls := "TreeOddsModel", name := "isFigure", desc := "(I)Z" } : Jvm.MethodName)) ∈ lw_all := lw_g (lw_at lw_m4 228 rfl) rfl
theorem q1015 : (Jvm.Cond.privateMethod ({ cls := "TreeOddsModel", name := "isFigure", desc := "(I)Z" } : Jvm.MethodName)) ∈ lw_tbl := lw_at lw_m4 229 rfl
theorem q1016 : (Jvm.Cond.instanceMethod ({ cls := "TreeOddsModel", name := "isFigure", desc := "(I)Z" } : Jvm.MethodName)) ∈ lw_all := lw_g (lw_at lw_m4 230 rfl) rfl
theorem q1017 : (Jvm.Cond.code ({ cls := "TreeOddsModel", name := "isFigure", desc := "(I)Z" } : Jvm.MethodName) prog_11_method_53_code (2 : Nat) (Option.some Jvm.ClassFile.FieldType.boolean)) ∈ lw_all := lw_g (lw_at lw_m4 231 rfl) rfl
theorem q1018 : (Jvm.Cond.constantLong "TreeOddsModel" (229 : Nat) (48 : Int64)) ∈ lw_all := lw_g (lw_at lw_m4 232 rfl) rfl
theorem q1019 : (Jvm.Cond.constantLong "TreeOddsModel" (231 : Nat) (57 : Int64)) ∈ lw_all := lw_g (lw_at lw_m4 233 rfl) rfl
theorem q1021 : (Jvm.Cond.instanceMethod ({ cls := "TreeOddsModel", name := "back", desc := "()I" } : Jvm.MethodName)) ∈ lw_all := lw_g (lw_at lw_m4 235 rfl) rfl
theorem q1022 : (Jvm.Cond.selects "TreeOddsModel" ({ cls := "TreeOddsModel", name := "back", desc := "()I" } : Jvm.MethodName) ({ cls := "TreeOddsModel", name := "back", desc := "()I" } : Jvm.MethodName)) ∈ lw_all := lw_g (lw_at lw_m4 236 rfl) rfl
theorem q1023 : (Jvm.Cond.code ({ cls := "TreeOddsModel", name := "back", desc := "()I" } : Jvm.MethodName) prog_11_method_58_code (2 : Nat) (Option.some Jvm.ClassFile.FieldType.int)) ∈ lw_all := lw_g (lw_at lw_m4 237 rfl) rfl
theorem q1025 : (Jvm.Cond.instanceMethod ({ cls := "TreeOddsModel", name := "count", desc := "(I)I" } : Jvm.MethodName)) ∈ lw_all := lw_g (lw_at lw_m4 239 rfl) rfl
theorem q1026 : (Jvm.Cond.selects "TreeOddsModel" ({ cls := "TreeOddsModel", name := "count", desc := "(I)I" } : Jvm.MethodName) ({ cls := "TreeOddsModel", name := "count", desc := "(I)I" } : Jvm.MethodName)) ∈ lw_all := lw_g (lw_at lw_m5 0 rfl) rfl
theorem q1027 : (Jvm.Cond.code ({ cls := "TreeOddsModel", name := "count", desc := "(I)I" } : Jvm.MethodName) prog_11_method_60_code (2 : Nat) (Option.some Jvm.ClassFile.FieldType.int)) ∈ lw_all := lw_g (lw_at lw_m5 1 rfl) rfl
theorem q1028 : (Jvm.Cond.constantLong "TreeOddsModel" (253 : Nat) (7 : Int64)) ∈ lw_all := lw_g (lw_at lw_m5 2 rfl) rfl
theorem q1029 : (Jvm.Cond.methodLink "TreeOddsModel" (255 : Nat) ({ cls := "TreeOddsModel", name := "counted", desc := "(I)I" } : Jvm.MethodName)) ∈ lw_all := lw_g (lw_at lw_m5 3 rfl) rfl
theorem q1030 : (Jvm.Cond.privateMethod ({ cls := "TreeOddsModel", name := "counted", desc := "(I)I" } : Jvm.MethodName)) ∈ lw_tbl := lw_at lw_m5 4 rfl
theorem q1031 : (Jvm.Cond.instanceMethod ({ cls := "TreeOddsModel", name := "counted", desc := "(I)I" } : Jvm.MethodName)) ∈ lw_all := lw_g (lw_at lw_m5 5 rfl) rfl
theorem q1032 : (Jvm.Cond.code ({ cls := "TreeOddsModel", name := "counted", desc := "(I)I" } : Jvm.MethodName) prog_11_method_59_code (2 : Nat) (Option.some Jvm.ClassFile.FieldType.int)) ∈ lw_all := lw_g (lw_at lw_m5 6 rfl) rfl
theorem q1034 : (Jvm.Cond.instanceMethod ({ cls := "TreeOddsModel", name := "digest", desc := "()J" } : Jvm.MethodName)) ∈ lw_all := lw_g (lw_at lw_m5 8 rfl) rfl
theorem q1035 : (Jvm.Cond.selects "TreeOddsModel" ({ cls := "TreeOddsModel", name := "digest", desc := "()J" } : Jvm.MethodName) ({ cls := "TreeOddsModel", name := "digest", desc := "()J" } : Jvm.MethodName)) ∈ lw_all := lw_g (lw_at lw_m5 9 rfl) rfl
theorem q1036 : (Jvm.Cond.code ({ cls := "TreeOddsModel", name := "digest", desc := "()J" } : Jvm.MethodName) prog_11_method_61_code (4 : Nat) (Option.some Jvm.ClassFile.FieldType.long)) ∈ lw_all := lw_g (lw_at lw_m5 10 rfl) rfl
theorem q1037 : (Jvm.Cond.constantLong "TreeOddsModel" (258 : Nat) (2113 : Int64)) ∈ lw_all := lw_g (lw_at lw_m5 11 rfl) rfl
theorem q1038 : (Jvm.Cond.constantLong "TreeOddsModel" (260 : Nat) (31 : Int64)) ∈ lw_all := lw_g (lw_at lw_m5 12 rfl) rfl
theorem in_X5 : ∀ w ∈ wsX50, w ∈ lw_all := lw_in wsX50 [725, 727, 729, 731, 733, 735, 737, 739, 741, 743, 745, 747, 749, 751, 753, 755, 757, 759, 761, 763, 765, 767, 769, 771, 773, 775, 777] (by decide +kernel) (by decide +kernel)
