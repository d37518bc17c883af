/-! TreeOdds$Writing -/
set_option maxRecDepth 100000
def RX2 : String := "TreeOdds$Writing"
def TX2 : u_T := fun k => match k with
  | 0 => ("TreeOdds$Writing", "bytes", "[I", true)
  | 1 => ("TreeOdds$Writing", "made", "I", false)
  | 2 => ("TreeOdds$Writing", "low", "J", false)
  | 3 => ("TreeOdds$Writing", "range", "J", false)
  | 4 => ("TreeOdds$Writing", "code", "J", false)
  | _ => ("TreeOdds$Writing", "this$0", "LTreeOdds;", true)
def tyX2 : Nat → FieldType := fun k => match k with
  | 0 => .array .int
  | 1 => .int
  | 2 => .long
  | 3 => .long
  | 4 => .long
  | _ => .object "TreeOdds"
abbrev wsX20 : List Cond := u_ws RX2 TX2 6
theorem nmX2 : ∀ a, a < 6 → ∀ b, b < 6 → a ≠ b → (TX2 a).2.1 ≠ (TX2 b).2.1 := by decide +kernel
theorem tyX2_ok : ∀ k, k < 6 → parseFieldDescriptor (TX2 k).2.2.1 = some (tyX2 k) := by decide +kernel
abbrev cX2_init : ByteArray := prog_9_method_1_code
def yX2_init : MethodName := ⟨RX2, "<init>", "(LTreeOdds;)V"⟩
def dkwX2_init_0 : List UInt8 := [42, 43, 181, 0, 3, 42, 183, 0, 9, 42, 17, 1, 0, 188, 10, 181, 0, 15, 177]
abbrev dktX2_init_0 : List UInt8 := dkwX2_init_0 ++ []
theorem dksX2_init_0 : cX2_init.data.toList.drop 0 = dktX2_init_0 := by decide +kernel
theorem dX2_init_0 : decode cX2_init 0 = .ok (.aload_n 0, 1) := dk_42 (dk_at dksX2_init_0 0 rfl rfl)
theorem dX2_init_1 : decode cX2_init 1 = .ok (.aload_n 1, 1) := dk_43 (dk_at dksX2_init_0 1 rfl rfl)
theorem dX2_init_2 : decode cX2_init 2 = .ok (.putfield 3, 3) := dk_181 0 3 (dk_at dksX2_init_0 2 rfl rfl)
theorem dX2_init_5 : decode cX2_init 5 = .ok (.aload_n 0, 1) := dk_42 (dk_at dksX2_init_0 5 rfl rfl)
theorem dX2_init_6 : decode cX2_init 6 = .ok (.invokespecial 9, 3) := dk_183 0 9 (dk_at dksX2_init_0 6 rfl rfl)
theorem dX2_init_9 : decode cX2_init 9 = .ok (.aload_n 0, 1) := dk_42 (dk_at dksX2_init_0 9 rfl rfl)
theorem dX2_init_10 : decode cX2_init 10 = .ok (.sipush 256, 3) := dk_17 1 0 (dk_at dksX2_init_0 10 rfl rfl)
theorem dX2_init_13 : decode cX2_init 13 = .ok (.newarray .int, 2) := dk_188_10 (dk_at dksX2_init_0 13 rfl rfl)
theorem dX2_init_15 : decode cX2_init 15 = .ok (.putfield 15, 3) := dk_181 0 15 (dk_at dksX2_init_0 15 rfl rfl)
theorem dX2_init_18 : decode cX2_init 18 = .ok (.return_, 1) := dk_177 (dk_at dksX2_init_0 18 rfl rfl)
abbrev cX2_writes : ByteArray := prog_9_method_5_code
def yX2_writes : MethodName := ⟨RX2, "writes", "()V"⟩
def dkwX2_writes_4 : List UInt8 := [182, 0, 40, 132, 1, 1, 167, 255, 244, 177]
abbrev dktX2_writes_4 : List UInt8 := dkwX2_writes_4 ++ []
def dkwX2_writes_3 : List UInt8 := [186, 0, 71, 0, 0, 42, 186, 0, 75, 0, 0, 182, 0, 79, 3, 60, 27, 7, 162, 0, 13, 42]
abbrev dktX2_writes_3 : List UInt8 := dkwX2_writes_3 ++ dktX2_writes_4
def dkwX2_writes_2 : List UInt8 := [42, 180, 0, 3, 3, 181, 0, 65, 42, 180, 0, 3, 180, 0, 45, 42, 180, 0, 3, 180, 0, 68, 42]
abbrev dktX2_writes_2 : List UInt8 := dkwX2_writes_2 ++ dktX2_writes_3
def dkwX2_writes_1 : List UInt8 := [42, 180, 0, 3, 180, 0, 49, 42, 180, 0, 3, 42, 180, 0, 3, 180, 0, 52, 182, 0, 55, 182, 0, 59]
abbrev dktX2_writes_1 : List UInt8 := dkwX2_writes_1 ++ dktX2_writes_2
def dkwX2_writes_0 : List UInt8 := [42, 3, 181, 0, 28, 42, 9, 181, 0, 25, 42, 20, 0, 43, 181, 0, 19, 42, 180, 0, 3, 180, 0, 45]
abbrev dktX2_writes_0 : List UInt8 := dkwX2_writes_0 ++ dktX2_writes_1
theorem dksX2_writes_0 : cX2_writes.data.toList.drop 0 = dktX2_writes_0 := by decide +kernel
theorem dksX2_writes_1 : cX2_writes.data.toList.drop 24 = dktX2_writes_1 := dk_seg dksX2_writes_0 24 rfl rfl
theorem dksX2_writes_2 : cX2_writes.data.toList.drop 48 = dktX2_writes_2 := dk_seg dksX2_writes_1 24 rfl rfl
theorem dksX2_writes_3 : cX2_writes.data.toList.drop 71 = dktX2_writes_3 := dk_seg dksX2_writes_2 23 rfl rfl
theorem dksX2_writes_4 : cX2_writes.data.toList.drop 93 = dktX2_writes_4 := dk_seg dksX2_writes_3 22 rfl rfl
theorem dX2_writes_0 : decode cX2_writes 0 = .ok (.aload_n 0, 1) := dk_42 (dk_at dksX2_writes_0 0 rfl rfl)
theorem dX2_writes_1 : decode cX2_writes 1 = .ok (.iconst 0, 1) := dk_3 (dk_at dksX2_writes_0 1 rfl rfl)
theorem dX2_writes_2 : decode cX2_writes 2 = .ok (.putfield 28, 3) := dk_181 0 28 (dk_at dksX2_writes_0 2 rfl rfl)
theorem dX2_writes_5 : decode cX2_writes 5 = .ok (.aload_n 0, 1) := dk_42 (dk_at dksX2_writes_0 5 rfl rfl)
theorem dX2_writes_6 : decode cX2_writes 6 = .ok (.lconst 0, 1) := dk_9 (dk_at dksX2_writes_0 6 rfl rfl)
theorem dX2_writes_7 : decode cX2_writes 7 = .ok (.putfield 25, 3) := dk_181 0 25 (dk_at dksX2_writes_0 7 rfl rfl)
theorem dX2_writes_10 : decode cX2_writes 10 = .ok (.aload_n 0, 1) := dk_42 (dk_at dksX2_writes_0 10 rfl rfl)
theorem dX2_writes_11 : decode cX2_writes 11 = .ok (.ldc2_w 43, 3) := dk_20 0 43 (dk_at dksX2_writes_0 11 rfl rfl)
theorem dX2_writes_14 : decode cX2_writes 14 = .ok (.putfield 19, 3) := dk_181 0 19 (dk_at dksX2_writes_0 14 rfl rfl)
theorem dX2_writes_17 : decode cX2_writes 17 = .ok (.aload_n 0, 1) := dk_42 (dk_at dksX2_writes_0 17 rfl rfl)
theorem dX2_writes_18 : decode cX2_writes 18 = .ok (.getfield 3, 3) := dk_180 0 3 (dk_at dksX2_writes_0 18 rfl rfl)
theorem dX2_writes_21 : decode cX2_writes 21 = .ok (.getfield 45, 3) := dk_180 0 45 (dk_at dksX2_writes_0 21 rfl rfl)
theorem dX2_writes_24 : decode cX2_writes 24 = .ok (.aload_n 0, 1) := dk_42 (dk_at dksX2_writes_1 0 rfl rfl)
theorem dX2_writes_25 : decode cX2_writes 25 = .ok (.getfield 3, 3) := dk_180 0 3 (dk_at dksX2_writes_1 1 rfl rfl)
theorem dX2_writes_28 : decode cX2_writes 28 = .ok (.getfield 49, 3) := dk_180 0 49 (dk_at dksX2_writes_1 4 rfl rfl)
theorem dX2_writes_31 : decode cX2_writes 31 = .ok (.aload_n 0, 1) := dk_42 (dk_at dksX2_writes_1 7 rfl rfl)
theorem dX2_writes_32 : decode cX2_writes 32 = .ok (.getfield 3, 3) := dk_180 0 3 (dk_at dksX2_writes_1 8 rfl rfl)
theorem dX2_writes_35 : decode cX2_writes 35 = .ok (.aload_n 0, 1) := dk_42 (dk_at dksX2_writes_1 11 rfl rfl)
theorem dX2_writes_36 : decode cX2_writes 36 = .ok (.getfield 3, 3) := dk_180 0 3 (dk_at dksX2_writes_1 12 rfl rfl)
theorem dX2_writes_39 : decode cX2_writes 39 = .ok (.getfield 52, 3) := dk_180 0 52 (dk_at dksX2_writes_1 15 rfl rfl)
theorem dX2_writes_42 : decode cX2_writes 42 = .ok (.invokevirtual 55, 3) := dk_182 0 55 (dk_at dksX2_writes_1 18 rfl rfl)
theorem dX2_writes_45 : decode cX2_writes 45 = .ok (.invokevirtual 59, 3) := dk_182 0 59 (dk_at dksX2_writes_1 21 rfl rfl)
theorem dX2_writes_48 : decode cX2_writes 48 = .ok (.aload_n 0, 1) := dk_42 (dk_at dksX2_writes_2 0 rfl rfl)
theorem dX2_writes_49 : decode cX2_writes 49 = .ok (.getfield 3, 3) := dk_180 0 3 (dk_at dksX2_writes_2 1 rfl rfl)
theorem dX2_writes_52 : decode cX2_writes 52 = .ok (.iconst 0, 1) := dk_3 (dk_at dksX2_writes_2 4 rfl rfl)
theorem dX2_writes_53 : decode cX2_writes 53 = .ok (.putfield 65, 3) := dk_181 0 65 (dk_at dksX2_writes_2 5 rfl rfl)
theorem dX2_writes_56 : decode cX2_writes 56 = .ok (.aload_n 0, 1) := dk_42 (dk_at dksX2_writes_2 8 rfl rfl)
theorem dX2_writes_57 : decode cX2_writes 57 = .ok (.getfield 3, 3) := dk_180 0 3 (dk_at dksX2_writes_2 9 rfl rfl)
theorem dX2_writes_60 : decode cX2_writes 60 = .ok (.getfield 45, 3) := dk_180 0 45 (dk_at dksX2_writes_2 12 rfl rfl)
theorem dX2_writes_63 : decode cX2_writes 63 = .ok (.aload_n 0, 1) := dk_42 (dk_at dksX2_writes_2 15 rfl rfl)
theorem dX2_writes_64 : decode cX2_writes 64 = .ok (.getfield 3, 3) := dk_180 0 3 (dk_at dksX2_writes_2 16 rfl rfl)
theorem dX2_writes_67 : decode cX2_writes 67 = .ok (.getfield 68, 3) := dk_180 0 68 (dk_at dksX2_writes_2 19 rfl rfl)
theorem dX2_writes_70 : decode cX2_writes 70 = .ok (.aload_n 0, 1) := dk_42 (dk_at dksX2_writes_2 22 rfl rfl)
theorem dX2_writes_71 : decode cX2_writes 71 = .ok (.invokedynamic 71, 5) := by decide +kernel
theorem dX2_writes_76 : decode cX2_writes 76 = .ok (.aload_n 0, 1) := dk_42 (dk_at dksX2_writes_3 5 rfl rfl)
theorem dX2_writes_77 : decode cX2_writes 77 = .ok (.invokedynamic 75, 5) := by decide +kernel
theorem dX2_writes_82 : decode cX2_writes 82 = .ok (.invokevirtual 79, 3) := dk_182 0 79 (dk_at dksX2_writes_3 11 rfl rfl)
theorem dX2_writes_85 : decode cX2_writes 85 = .ok (.iconst 0, 1) := dk_3 (dk_at dksX2_writes_3 14 rfl rfl)
theorem dX2_writes_86 : decode cX2_writes 86 = .ok (.istore_n 1, 1) := dk_60 (dk_at dksX2_writes_3 15 rfl rfl)
theorem dX2_writes_87 : decode cX2_writes 87 = .ok (.iload_n 1, 1) := dk_27 (dk_at dksX2_writes_3 16 rfl rfl)
theorem dX2_writes_88 : decode cX2_writes 88 = .ok (.iconst 4, 1) := dk_7 (dk_at dksX2_writes_3 17 rfl rfl)
theorem dX2_writes_89 : decode cX2_writes 89 = .ok (.if_icmp .ge 13, 3) := dk_162 0 13 (dk_at dksX2_writes_3 18 rfl rfl)
theorem dX2_writes_92 : decode cX2_writes 92 = .ok (.aload_n 0, 1) := dk_42 (dk_at dksX2_writes_3 21 rfl rfl)
theorem dX2_writes_93 : decode cX2_writes 93 = .ok (.invokevirtual 40, 3) := dk_182 0 40 (dk_at dksX2_writes_4 0 rfl rfl)
theorem dX2_writes_96 : decode cX2_writes 96 = .ok (.iinc 1 1, 3) := dk_132 1 1 (dk_at dksX2_writes_4 3 rfl rfl)
theorem dX2_writes_99 : decode cX2_writes 99 = .ok (.goto (-12), 3) := dk_167 255 244 (dk_at dksX2_writes_4 6 rfl rfl)
theorem dX2_writes_102 : decode cX2_writes 102 = .ok (.return_, 1) := dk_177 (dk_at dksX2_writes_4 9 rfl rfl)
abbrev cX2_lambda_writes_0 : ByteArray := prog_9_method_11_code
def yX2_lambda_writes_0 : MethodName := ⟨RX2, "lambda$writes$0", "(I)I"⟩
def dkwX2_lambda_writes_0_0 : List UInt8 := [42, 180, 0, 3, 180, 0, 97, 42, 180, 0, 3, 89, 180, 0, 65, 90, 4, 96, 181, 0, 65, 46, 172]
abbrev dktX2_lambda_writes_0_0 : List UInt8 := dkwX2_lambda_writes_0_0 ++ []
theorem dksX2_lambda_writes_0_0 : cX2_lambda_writes_0.data.toList.drop 0 = dktX2_lambda_writes_0_0 := by decide +kernel
theorem dX2_lambda_writes_0_0 : decode cX2_lambda_writes_0 0 = .ok (.aload_n 0, 1) := dk_42 (dk_at dksX2_lambda_writes_0_0 0 rfl rfl)
theorem dX2_lambda_writes_0_1 : decode cX2_lambda_writes_0 1 = .ok (.getfield 3, 3) := dk_180 0 3 (dk_at dksX2_lambda_writes_0_0 1 rfl rfl)
theorem dX2_lambda_writes_0_4 : decode cX2_lambda_writes_0 4 = .ok (.getfield 97, 3) := dk_180 0 97 (dk_at dksX2_lambda_writes_0_0 4 rfl rfl)
theorem dX2_lambda_writes_0_7 : decode cX2_lambda_writes_0 7 = .ok (.aload_n 0, 1) := dk_42 (dk_at dksX2_lambda_writes_0_0 7 rfl rfl)
theorem dX2_lambda_writes_0_8 : decode cX2_lambda_writes_0 8 = .ok (.getfield 3, 3) := dk_180 0 3 (dk_at dksX2_lambda_writes_0_0 8 rfl rfl)
theorem dX2_lambda_writes_0_11 : decode cX2_lambda_writes_0 11 = .ok (.dup, 1) := dk_89 (dk_at dksX2_lambda_writes_0_0 11 rfl rfl)
theorem dX2_lambda_writes_0_12 : decode cX2_lambda_writes_0 12 = .ok (.getfield 65, 3) := dk_180 0 65 (dk_at dksX2_lambda_writes_0_0 12 rfl rfl)
theorem dX2_lambda_writes_0_15 : decode cX2_lambda_writes_0 15 = .ok (.dup_x1, 1) := dk_90 (dk_at dksX2_lambda_writes_0_0 15 rfl rfl)
theorem dX2_lambda_writes_0_16 : decode cX2_lambda_writes_0 16 = .ok (.iconst 1, 1) := dk_4 (dk_at dksX2_lambda_writes_0_0 16 rfl rfl)
theorem dX2_lambda_writes_0_17 : decode cX2_lambda_writes_0 17 = .ok (.iadd, 1) := dk_96 (dk_at dksX2_lambda_writes_0_0 17 rfl rfl)
theorem dX2_lambda_writes_0_18 : decode cX2_lambda_writes_0 18 = .ok (.putfield 65, 3) := dk_181 0 65 (dk_at dksX2_lambda_writes_0_0 18 rfl rfl)
theorem dX2_lambda_writes_0_21 : decode cX2_lambda_writes_0 21 = .ok (.iaload, 1) := dk_46 (dk_at dksX2_lambda_writes_0_0 21 rfl rfl)
theorem dX2_lambda_writes_0_22 : decode cX2_lambda_writes_0 22 = .ok (.ireturn, 1) := dk_172 (dk_at dksX2_lambda_writes_0_0 22 rfl rfl)
abbrev cX2_signs : ByteArray := prog_9_method_4_code
def yX2_signs : MethodName := ⟨RX2, "signs", "(II)V"⟩
def dkwX2_signs_3 : List UInt8 := [181, 0, 19, 167, 255, 230, 177]
abbrev dktX2_signs_3 : List UInt8 := dkwX2_signs_3 ++ []
def dkwX2_signs_2 : List UInt8 := [180, 0, 19, 20, 0, 38, 148, 156, 0, 21, 42, 182, 0, 40, 42, 89, 180, 0, 19, 16, 8, 121]
abbrev dktX2_signs_2 : List UInt8 := dkwX2_signs_2 ++ dktX2_signs_3
def dkwX2_signs_1 : List UInt8 := [181, 0, 25, 42, 27, 4, 160, 0, 7, 33, 167, 0, 9, 42, 180, 0, 19, 33, 101, 181, 0, 19, 42]
abbrev dktX2_signs_1 : List UInt8 := dkwX2_signs_1 ++ dktX2_signs_2
def dkwX2_signs_0 : List UInt8 := [42, 28, 182, 0, 34, 66, 42, 89, 180, 0, 25, 27, 4, 160, 0, 7, 9, 167, 0, 4, 33, 97]
abbrev dktX2_signs_0 : List UInt8 := dkwX2_signs_0 ++ dktX2_signs_1
theorem dksX2_signs_0 : cX2_signs.data.toList.drop 0 = dktX2_signs_0 := by decide +kernel
theorem dksX2_signs_1 : cX2_signs.data.toList.drop 22 = dktX2_signs_1 := dk_seg dksX2_signs_0 22 rfl rfl
theorem dksX2_signs_2 : cX2_signs.data.toList.drop 45 = dktX2_signs_2 := dk_seg dksX2_signs_1 23 rfl rfl
theorem dksX2_signs_3 : cX2_signs.data.toList.drop 67 = dktX2_signs_3 := dk_seg dksX2_signs_2 22 rfl rfl
theorem dX2_signs_0 : decode cX2_signs 0 = .ok (.aload_n 0, 1) := dk_42 (dk_at dksX2_signs_0 0 rfl rfl)
theorem dX2_signs_1 : decode cX2_signs 1 = .ok (.iload_n 2, 1) := dk_28 (dk_at dksX2_signs_0 1 rfl rfl)
theorem dX2_signs_2 : decode cX2_signs 2 = .ok (.invokevirtual 34, 3) := dk_182 0 34 (dk_at dksX2_signs_0 2 rfl rfl)
theorem dX2_signs_5 : decode cX2_signs 5 = .ok (.lstore_n 3, 1) := dk_66 (dk_at dksX2_signs_0 5 rfl rfl)
theorem dX2_signs_6 : decode cX2_signs 6 = .ok (.aload_n 0, 1) := dk_42 (dk_at dksX2_signs_0 6 rfl rfl)
theorem dX2_signs_7 : decode cX2_signs 7 = .ok (.dup, 1) := dk_89 (dk_at dksX2_signs_0 7 rfl rfl)
theorem dX2_signs_8 : decode cX2_signs 8 = .ok (.getfield 25, 3) := dk_180 0 25 (dk_at dksX2_signs_0 8 rfl rfl)
theorem dX2_signs_11 : decode cX2_signs 11 = .ok (.iload_n 1, 1) := dk_27 (dk_at dksX2_signs_0 11 rfl rfl)
theorem dX2_signs_12 : decode cX2_signs 12 = .ok (.iconst 1, 1) := dk_4 (dk_at dksX2_signs_0 12 rfl rfl)
theorem dX2_signs_13 : decode cX2_signs 13 = .ok (.if_icmp .ne 7, 3) := dk_160 0 7 (dk_at dksX2_signs_0 13 rfl rfl)
theorem dX2_signs_16 : decode cX2_signs 16 = .ok (.lconst 0, 1) := dk_9 (dk_at dksX2_signs_0 16 rfl rfl)
theorem dX2_signs_17 : decode cX2_signs 17 = .ok (.goto 4, 3) := dk_167 0 4 (dk_at dksX2_signs_0 17 rfl rfl)
theorem dX2_signs_20 : decode cX2_signs 20 = .ok (.lload_n 3, 1) := dk_33 (dk_at dksX2_signs_0 20 rfl rfl)
theorem dX2_signs_21 : decode cX2_signs 21 = .ok (.ladd, 1) := dk_97 (dk_at dksX2_signs_0 21 rfl rfl)
theorem dX2_signs_22 : decode cX2_signs 22 = .ok (.putfield 25, 3) := dk_181 0 25 (dk_at dksX2_signs_1 0 rfl rfl)
theorem dX2_signs_25 : decode cX2_signs 25 = .ok (.aload_n 0, 1) := dk_42 (dk_at dksX2_signs_1 3 rfl rfl)
theorem dX2_signs_26 : decode cX2_signs 26 = .ok (.iload_n 1, 1) := dk_27 (dk_at dksX2_signs_1 4 rfl rfl)
theorem dX2_signs_27 : decode cX2_signs 27 = .ok (.iconst 1, 1) := dk_4 (dk_at dksX2_signs_1 5 rfl rfl)
theorem dX2_signs_28 : decode cX2_signs 28 = .ok (.if_icmp .ne 7, 3) := dk_160 0 7 (dk_at dksX2_signs_1 6 rfl rfl)
theorem dX2_signs_31 : decode cX2_signs 31 = .ok (.lload_n 3, 1) := dk_33 (dk_at dksX2_signs_1 9 rfl rfl)
theorem dX2_signs_32 : decode cX2_signs 32 = .ok (.goto 9, 3) := dk_167 0 9 (dk_at dksX2_signs_1 10 rfl rfl)
theorem dX2_signs_35 : decode cX2_signs 35 = .ok (.aload_n 0, 1) := dk_42 (dk_at dksX2_signs_1 13 rfl rfl)
theorem dX2_signs_36 : decode cX2_signs 36 = .ok (.getfield 19, 3) := dk_180 0 19 (dk_at dksX2_signs_1 14 rfl rfl)
theorem dX2_signs_39 : decode cX2_signs 39 = .ok (.lload_n 3, 1) := dk_33 (dk_at dksX2_signs_1 17 rfl rfl)
theorem dX2_signs_40 : decode cX2_signs 40 = .ok (.lsub, 1) := dk_101 (dk_at dksX2_signs_1 18 rfl rfl)
theorem dX2_signs_41 : decode cX2_signs 41 = .ok (.putfield 19, 3) := dk_181 0 19 (dk_at dksX2_signs_1 19 rfl rfl)
theorem dX2_signs_44 : decode cX2_signs 44 = .ok (.aload_n 0, 1) := dk_42 (dk_at dksX2_signs_1 22 rfl rfl)
theorem dX2_signs_45 : decode cX2_signs 45 = .ok (.getfield 19, 3) := dk_180 0 19 (dk_at dksX2_signs_2 0 rfl rfl)
theorem dX2_signs_48 : decode cX2_signs 48 = .ok (.ldc2_w 38, 3) := dk_20 0 38 (dk_at dksX2_signs_2 3 rfl rfl)
theorem dX2_signs_51 : decode cX2_signs 51 = .ok (.lcmp, 1) := dk_148 (dk_at dksX2_signs_2 6 rfl rfl)
theorem dX2_signs_52 : decode cX2_signs 52 = .ok (.ifCond .ge 21, 3) := dk_156 0 21 (dk_at dksX2_signs_2 7 rfl rfl)
theorem dX2_signs_55 : decode cX2_signs 55 = .ok (.aload_n 0, 1) := dk_42 (dk_at dksX2_signs_2 10 rfl rfl)
theorem dX2_signs_56 : decode cX2_signs 56 = .ok (.invokevirtual 40, 3) := dk_182 0 40 (dk_at dksX2_signs_2 11 rfl rfl)
theorem dX2_signs_59 : decode cX2_signs 59 = .ok (.aload_n 0, 1) := dk_42 (dk_at dksX2_signs_2 14 rfl rfl)
theorem dX2_signs_60 : decode cX2_signs 60 = .ok (.dup, 1) := dk_89 (dk_at dksX2_signs_2 15 rfl rfl)
theorem dX2_signs_61 : decode cX2_signs 61 = .ok (.getfield 19, 3) := dk_180 0 19 (dk_at dksX2_signs_2 16 rfl rfl)
theorem dX2_signs_64 : decode cX2_signs 64 = .ok (.bipush 8, 2) := dk_16 8 (dk_at dksX2_signs_2 19 rfl rfl)
theorem dX2_signs_66 : decode cX2_signs 66 = .ok (.lshl, 1) := dk_121 (dk_at dksX2_signs_2 21 rfl rfl)
theorem dX2_signs_67 : decode cX2_signs 67 = .ok (.putfield 19, 3) := dk_181 0 19 (dk_at dksX2_signs_3 0 rfl rfl)
theorem dX2_signs_70 : decode cX2_signs 70 = .ok (.goto (-26), 3) := dk_167 255 230 (dk_at dksX2_signs_3 3 rfl rfl)
theorem dX2_signs_73 : decode cX2_signs 73 = .ok (.return_, 1) := dk_177 (dk_at dksX2_signs_3 6 rfl rfl)
abbrev cX2_part : ByteArray := prog_9_method_2_code
def yX2_part : MethodName := ⟨RX2, "part", "(I)J"⟩
def dkwX2_part_0 : List UInt8 := [42, 180, 0, 19, 20, 0, 23, 109, 27, 133, 105, 173]
abbrev dktX2_part_0 : List UInt8 := dkwX2_part_0 ++ []
theorem dksX2_part_0 : cX2_part.data.toList.drop 0 = dktX2_part_0 := by decide +kernel
theorem dX2_part_0 : decode cX2_part 0 = .ok (.aload_n 0, 1) := dk_42 (dk_at dksX2_part_0 0 rfl rfl)
theorem dX2_part_1 : decode cX2_part 1 = .ok (.getfield 19, 3) := dk_180 0 19 (dk_at dksX2_part_0 1 rfl rfl)
theorem dX2_part_4 : decode cX2_part 4 = .ok (.ldc2_w 23, 3) := dk_20 0 23 (dk_at dksX2_part_0 4 rfl rfl)
theorem dX2_part_7 : decode cX2_part 7 = .ok (.ldiv, 1) := dk_109 (dk_at dksX2_part_0 7 rfl rfl)
theorem dX2_part_8 : decode cX2_part 8 = .ok (.iload_n 1, 1) := dk_27 (dk_at dksX2_part_0 8 rfl rfl)
theorem dX2_part_9 : decode cX2_part 9 = .ok (.i2l, 1) := dk_133 (dk_at dksX2_part_0 9 rfl rfl)
theorem dX2_part_10 : decode cX2_part 10 = .ok (.lmul, 1) := dk_105 (dk_at dksX2_part_0 10 rfl rfl)
theorem dX2_part_11 : decode cX2_part 11 = .ok (.lreturn, 1) := dk_173 (dk_at dksX2_part_0 11 rfl rfl)
abbrev cX2_out : ByteArray := prog_9_method_3_code
def yX2_out : MethodName := ⟨RX2, "out", "()V"⟩
def dkwX2_out_4 : List UInt8 := [20, 0, 32, 127, 16, 8, 121, 181, 0, 25, 177]
abbrev dktX2_out_4 : List UInt8 := dkwX2_out_4 ++ []
def dkwX2_out_3 : List UInt8 := [180, 0, 28, 27, 17, 0, 255, 126, 79, 42, 89, 180, 0, 28, 4, 96, 181, 0, 28, 42, 42, 180, 0, 25]
abbrev dktX2_out_3 : List UInt8 := dkwX2_out_3 ++ dktX2_out_4
def dkwX2_out_2 : List UInt8 := [154, 0, 7, 27, 167, 0, 8, 27, 17, 1, 0, 100, 60, 132, 2, 255, 167, 255, 209, 42, 180, 0, 15, 42]
abbrev dktX2_out_2 : List UInt8 := dkwX2_out_2 ++ dktX2_out_3
def dkwX2_out_1 : List UInt8 := [180, 0, 15, 28, 42, 180, 0, 15, 28, 46, 4, 96, 17, 0, 255, 126, 79, 42, 180, 0, 15, 28, 46]
abbrev dktX2_out_1 : List UInt8 := dkwX2_out_1 ++ dktX2_out_2
def dkwX2_out_0 : List UInt8 := [42, 180, 0, 25, 16, 24, 125, 136, 60, 42, 180, 0, 28, 4, 100, 61, 27, 17, 0, 255, 164, 0, 46, 42]
abbrev dktX2_out_0 : List UInt8 := dkwX2_out_0 ++ dktX2_out_1
theorem dksX2_out_0 : cX2_out.data.toList.drop 0 = dktX2_out_0 := by decide +kernel
theorem dksX2_out_1 : cX2_out.data.toList.drop 24 = dktX2_out_1 := dk_seg dksX2_out_0 24 rfl rfl
theorem dksX2_out_2 : cX2_out.data.toList.drop 47 = dktX2_out_2 := dk_seg dksX2_out_1 23 rfl rfl
theorem dksX2_out_3 : cX2_out.data.toList.drop 71 = dktX2_out_3 := dk_seg dksX2_out_2 24 rfl rfl
theorem dksX2_out_4 : cX2_out.data.toList.drop 95 = dktX2_out_4 := dk_seg dksX2_out_3 24 rfl rfl
theorem dX2_out_0 : decode cX2_out 0 = .ok (.aload_n 0, 1) := dk_42 (dk_at dksX2_out_0 0 rfl rfl)
theorem dX2_out_1 : decode cX2_out 1 = .ok (.getfield 25, 3) := dk_180 0 25 (dk_at dksX2_out_0 1 rfl rfl)
theorem dX2_out_4 : decode cX2_out 4 = .ok (.bipush 24, 2) := dk_16 24 (dk_at dksX2_out_0 4 rfl rfl)
theorem dX2_out_6 : decode cX2_out 6 = .ok (.lushr, 1) := dk_125 (dk_at dksX2_out_0 6 rfl rfl)
theorem dX2_out_7 : decode cX2_out 7 = .ok (.l2i, 1) := dk_136 (dk_at dksX2_out_0 7 rfl rfl)
theorem dX2_out_8 : decode cX2_out 8 = .ok (.istore_n 1, 1) := dk_60 (dk_at dksX2_out_0 8 rfl rfl)
theorem dX2_out_9 : decode cX2_out 9 = .ok (.aload_n 0, 1) := dk_42 (dk_at dksX2_out_0 9 rfl rfl)
theorem dX2_out_10 : decode cX2_out 10 = .ok (.getfield 28, 3) := dk_180 0 28 (dk_at dksX2_out_0 10 rfl rfl)
theorem dX2_out_13 : decode cX2_out 13 = .ok (.iconst 1, 1) := dk_4 (dk_at dksX2_out_0 13 rfl rfl)
theorem dX2_out_14 : decode cX2_out 14 = .ok (.isub, 1) := dk_100 (dk_at dksX2_out_0 14 rfl rfl)
theorem dX2_out_15 : decode cX2_out 15 = .ok (.istore_n 2, 1) := dk_61 (dk_at dksX2_out_0 15 rfl rfl)
theorem dX2_out_16 : decode cX2_out 16 = .ok (.iload_n 1, 1) := dk_27 (dk_at dksX2_out_0 16 rfl rfl)
theorem dX2_out_17 : decode cX2_out 17 = .ok (.sipush 255, 3) := dk_17 0 255 (dk_at dksX2_out_0 17 rfl rfl)
theorem dX2_out_20 : decode cX2_out 20 = .ok (.if_icmp .le 46, 3) := dk_164 0 46 (dk_at dksX2_out_0 20 rfl rfl)
theorem dX2_out_23 : decode cX2_out 23 = .ok (.aload_n 0, 1) := dk_42 (dk_at dksX2_out_0 23 rfl rfl)
theorem dX2_out_24 : decode cX2_out 24 = .ok (.getfield 15, 3) := dk_180 0 15 (dk_at dksX2_out_1 0 rfl rfl)
theorem dX2_out_27 : decode cX2_out 27 = .ok (.iload_n 2, 1) := dk_28 (dk_at dksX2_out_1 3 rfl rfl)
theorem dX2_out_28 : decode cX2_out 28 = .ok (.aload_n 0, 1) := dk_42 (dk_at dksX2_out_1 4 rfl rfl)
theorem dX2_out_29 : decode cX2_out 29 = .ok (.getfield 15, 3) := dk_180 0 15 (dk_at dksX2_out_1 5 rfl rfl)
theorem dX2_out_32 : decode cX2_out 32 = .ok (.iload_n 2, 1) := dk_28 (dk_at dksX2_out_1 8 rfl rfl)
theorem dX2_out_33 : decode cX2_out 33 = .ok (.iaload, 1) := dk_46 (dk_at dksX2_out_1 9 rfl rfl)
theorem dX2_out_34 : decode cX2_out 34 = .ok (.iconst 1, 1) := dk_4 (dk_at dksX2_out_1 10 rfl rfl)
theorem dX2_out_35 : decode cX2_out 35 = .ok (.iadd, 1) := dk_96 (dk_at dksX2_out_1 11 rfl rfl)
theorem dX2_out_36 : decode cX2_out 36 = .ok (.sipush 255, 3) := dk_17 0 255 (dk_at dksX2_out_1 12 rfl rfl)
theorem dX2_out_39 : decode cX2_out 39 = .ok (.iand, 1) := dk_126 (dk_at dksX2_out_1 15 rfl rfl)
theorem dX2_out_40 : decode cX2_out 40 = .ok (.iastore, 1) := dk_79 (dk_at dksX2_out_1 16 rfl rfl)
theorem dX2_out_41 : decode cX2_out 41 = .ok (.aload_n 0, 1) := dk_42 (dk_at dksX2_out_1 17 rfl rfl)
theorem dX2_out_42 : decode cX2_out 42 = .ok (.getfield 15, 3) := dk_180 0 15 (dk_at dksX2_out_1 18 rfl rfl)
theorem dX2_out_45 : decode cX2_out 45 = .ok (.iload_n 2, 1) := dk_28 (dk_at dksX2_out_1 21 rfl rfl)
theorem dX2_out_46 : decode cX2_out 46 = .ok (.iaload, 1) := dk_46 (dk_at dksX2_out_1 22 rfl rfl)
theorem dX2_out_47 : decode cX2_out 47 = .ok (.ifCond .ne 7, 3) := dk_154 0 7 (dk_at dksX2_out_2 0 rfl rfl)
theorem dX2_out_50 : decode cX2_out 50 = .ok (.iload_n 1, 1) := dk_27 (dk_at dksX2_out_2 3 rfl rfl)
theorem dX2_out_51 : decode cX2_out 51 = .ok (.goto 8, 3) := dk_167 0 8 (dk_at dksX2_out_2 4 rfl rfl)
theorem dX2_out_54 : decode cX2_out 54 = .ok (.iload_n 1, 1) := dk_27 (dk_at dksX2_out_2 7 rfl rfl)
theorem dX2_out_55 : decode cX2_out 55 = .ok (.sipush 256, 3) := dk_17 1 0 (dk_at dksX2_out_2 8 rfl rfl)
theorem dX2_out_58 : decode cX2_out 58 = .ok (.isub, 1) := dk_100 (dk_at dksX2_out_2 11 rfl rfl)
theorem dX2_out_59 : decode cX2_out 59 = .ok (.istore_n 1, 1) := dk_60 (dk_at dksX2_out_2 12 rfl rfl)
theorem dX2_out_60 : decode cX2_out 60 = .ok (.iinc 2 (-1), 3) := dk_132 2 255 (dk_at dksX2_out_2 13 rfl rfl)
theorem dX2_out_63 : decode cX2_out 63 = .ok (.goto (-47), 3) := dk_167 255 209 (dk_at dksX2_out_2 16 rfl rfl)
theorem dX2_out_66 : decode cX2_out 66 = .ok (.aload_n 0, 1) := dk_42 (dk_at dksX2_out_2 19 rfl rfl)
theorem dX2_out_67 : decode cX2_out 67 = .ok (.getfield 15, 3) := dk_180 0 15 (dk_at dksX2_out_2 20 rfl rfl)
theorem dX2_out_70 : decode cX2_out 70 = .ok (.aload_n 0, 1) := dk_42 (dk_at dksX2_out_2 23 rfl rfl)
theorem dX2_out_71 : decode cX2_out 71 = .ok (.getfield 28, 3) := dk_180 0 28 (dk_at dksX2_out_3 0 rfl rfl)
theorem dX2_out_74 : decode cX2_out 74 = .ok (.iload_n 1, 1) := dk_27 (dk_at dksX2_out_3 3 rfl rfl)
theorem dX2_out_75 : decode cX2_out 75 = .ok (.sipush 255, 3) := dk_17 0 255 (dk_at dksX2_out_3 4 rfl rfl)
theorem dX2_out_78 : decode cX2_out 78 = .ok (.iand, 1) := dk_126 (dk_at dksX2_out_3 7 rfl rfl)
theorem dX2_out_79 : decode cX2_out 79 = .ok (.iastore, 1) := dk_79 (dk_at dksX2_out_3 8 rfl rfl)
theorem dX2_out_80 : decode cX2_out 80 = .ok (.aload_n 0, 1) := dk_42 (dk_at dksX2_out_3 9 rfl rfl)
theorem dX2_out_81 : decode cX2_out 81 = .ok (.dup, 1) := dk_89 (dk_at dksX2_out_3 10 rfl rfl)
theorem dX2_out_82 : decode cX2_out 82 = .ok (.getfield 28, 3) := dk_180 0 28 (dk_at dksX2_out_3 11 rfl rfl)
theorem dX2_out_85 : decode cX2_out 85 = .ok (.iconst 1, 1) := dk_4 (dk_at dksX2_out_3 14 rfl rfl)
theorem dX2_out_86 : decode cX2_out 86 = .ok (.iadd, 1) := dk_96 (dk_at dksX2_out_3 15 rfl rfl)
theorem dX2_out_87 : decode cX2_out 87 = .ok (.putfield 28, 3) := dk_181 0 28 (dk_at dksX2_out_3 16 rfl rfl)
theorem dX2_out_90 : decode cX2_out 90 = .ok (.aload_n 0, 1) := dk_42 (dk_at dksX2_out_3 19 rfl rfl)
theorem dX2_out_91 : decode cX2_out 91 = .ok (.aload_n 0, 1) := dk_42 (dk_at dksX2_out_3 20 rfl rfl)
theorem dX2_out_92 : decode cX2_out 92 = .ok (.getfield 25, 3) := dk_180 0 25 (dk_at dksX2_out_3 21 rfl rfl)
theorem dX2_out_95 : decode cX2_out 95 = .ok (.ldc2_w 32, 3) := dk_20 0 32 (dk_at dksX2_out_4 0 rfl rfl)
theorem dX2_out_98 : decode cX2_out 98 = .ok (.land, 1) := dk_127 (dk_at dksX2_out_4 3 rfl rfl)
theorem dX2_out_99 : decode cX2_out 99 = .ok (.bipush 8, 2) := dk_16 8 (dk_at dksX2_out_4 4 rfl rfl)
theorem dX2_out_101 : decode cX2_out 101 = .ok (.lshl, 1) := dk_121 (dk_at dksX2_out_4 6 rfl rfl)
theorem dX2_out_102 : decode cX2_out 102 = .ok (.putfield 25, 3) := dk_181 0 25 (dk_at dksX2_out_4 7 rfl rfl)
theorem dX2_out_105 : decode cX2_out 105 = .ok (.return_, 1) := dk_177 (dk_at dksX2_out_4 10 rfl rfl)
abbrev cX2_reads : ByteArray := prog_9_method_8_code
def yX2_reads : MethodName := ⟨RX2, "reads", "()I"⟩
def dkwX2_reads_5 : List UInt8 := [180, 0, 92, 172]
abbrev dktX2_reads_5 : List UInt8 := dkwX2_reads_5 ++ []
def dkwX2_reads_4 : List UInt8 := [180, 0, 68, 42, 186, 0, 95, 0, 0, 42, 186, 0, 96, 0, 0, 182, 0, 79, 42, 180, 0, 3]
abbrev dktX2_reads_4 : List UInt8 := dkwX2_reads_4 ++ dktX2_reads_5
def dkwX2_reads_3 : List UInt8 := [3, 181, 0, 89, 42, 180, 0, 3, 3, 181, 0, 92, 42, 180, 0, 3, 180, 0, 45, 42, 180, 0, 3]
abbrev dktX2_reads_3 : List UInt8 := dkwX2_reads_3 ++ dktX2_reads_4
def dkwX2_reads_2 : List UInt8 := [180, 0, 49, 42, 180, 0, 3, 42, 180, 0, 3, 180, 0, 52, 182, 0, 55, 182, 0, 59, 42, 180, 0, 3]
abbrev dktX2_reads_2 : List UInt8 := dkwX2_reads_2 ++ dktX2_reads_3
def dkwX2_reads_1 : List UInt8 := [162, 0, 13, 42, 182, 0, 86, 132, 1, 1, 167, 255, 244, 42, 180, 0, 3, 180, 0, 45, 42, 180, 0, 3]
abbrev dktX2_reads_1 : List UInt8 := dkwX2_reads_1 ++ dktX2_reads_2
def dkwX2_reads_0 : List UInt8 := [42, 20, 0, 43, 181, 0, 19, 42, 9, 181, 0, 83, 42, 180, 0, 3, 3, 181, 0, 65, 3, 60, 27, 7]
abbrev dktX2_reads_0 : List UInt8 := dkwX2_reads_0 ++ dktX2_reads_1
theorem dksX2_reads_0 : cX2_reads.data.toList.drop 0 = dktX2_reads_0 := by decide +kernel
theorem dksX2_reads_1 : cX2_reads.data.toList.drop 24 = dktX2_reads_1 := dk_seg dksX2_reads_0 24 rfl rfl
theorem dksX2_reads_2 : cX2_reads.data.toList.drop 48 = dktX2_reads_2 := dk_seg dksX2_reads_1 24 rfl rfl
theorem dksX2_reads_3 : cX2_reads.data.toList.drop 72 = dktX2_reads_3 := dk_seg dksX2_reads_2 24 rfl rfl
theorem dksX2_reads_4 : cX2_reads.data.toList.drop 95 = dktX2_reads_4 := dk_seg dksX2_reads_3 23 rfl rfl
theorem dksX2_reads_5 : cX2_reads.data.toList.drop 117 = dktX2_reads_5 := dk_seg dksX2_reads_4 22 rfl rfl
theorem dX2_reads_0 : decode cX2_reads 0 = .ok (.aload_n 0, 1) := dk_42 (dk_at dksX2_reads_0 0 rfl rfl)
theorem dX2_reads_1 : decode cX2_reads 1 = .ok (.ldc2_w 43, 3) := dk_20 0 43 (dk_at dksX2_reads_0 1 rfl rfl)
theorem dX2_reads_4 : decode cX2_reads 4 = .ok (.putfield 19, 3) := dk_181 0 19 (dk_at dksX2_reads_0 4 rfl rfl)
theorem dX2_reads_7 : decode cX2_reads 7 = .ok (.aload_n 0, 1) := dk_42 (dk_at dksX2_reads_0 7 rfl rfl)
theorem dX2_reads_8 : decode cX2_reads 8 = .ok (.lconst 0, 1) := dk_9 (dk_at dksX2_reads_0 8 rfl rfl)
theorem dX2_reads_9 : decode cX2_reads 9 = .ok (.putfield 83, 3) := dk_181 0 83 (dk_at dksX2_reads_0 9 rfl rfl)
theorem dX2_reads_12 : decode cX2_reads 12 = .ok (.aload_n 0, 1) := dk_42 (dk_at dksX2_reads_0 12 rfl rfl)
theorem dX2_reads_13 : decode cX2_reads 13 = .ok (.getfield 3, 3) := dk_180 0 3 (dk_at dksX2_reads_0 13 rfl rfl)
theorem dX2_reads_16 : decode cX2_reads 16 = .ok (.iconst 0, 1) := dk_3 (dk_at dksX2_reads_0 16 rfl rfl)
theorem dX2_reads_17 : decode cX2_reads 17 = .ok (.putfield 65, 3) := dk_181 0 65 (dk_at dksX2_reads_0 17 rfl rfl)
theorem dX2_reads_20 : decode cX2_reads 20 = .ok (.iconst 0, 1) := dk_3 (dk_at dksX2_reads_0 20 rfl rfl)
theorem dX2_reads_21 : decode cX2_reads 21 = .ok (.istore_n 1, 1) := dk_60 (dk_at dksX2_reads_0 21 rfl rfl)
theorem dX2_reads_22 : decode cX2_reads 22 = .ok (.iload_n 1, 1) := dk_27 (dk_at dksX2_reads_0 22 rfl rfl)
theorem dX2_reads_23 : decode cX2_reads 23 = .ok (.iconst 4, 1) := dk_7 (dk_at dksX2_reads_0 23 rfl rfl)
theorem dX2_reads_24 : decode cX2_reads 24 = .ok (.if_icmp .ge 13, 3) := dk_162 0 13 (dk_at dksX2_reads_1 0 rfl rfl)
theorem dX2_reads_27 : decode cX2_reads 27 = .ok (.aload_n 0, 1) := dk_42 (dk_at dksX2_reads_1 3 rfl rfl)
theorem dX2_reads_28 : decode cX2_reads 28 = .ok (.invokevirtual 86, 3) := dk_182 0 86 (dk_at dksX2_reads_1 4 rfl rfl)
theorem dX2_reads_31 : decode cX2_reads 31 = .ok (.iinc 1 1, 3) := dk_132 1 1 (dk_at dksX2_reads_1 7 rfl rfl)
theorem dX2_reads_34 : decode cX2_reads 34 = .ok (.goto (-12), 3) := dk_167 255 244 (dk_at dksX2_reads_1 10 rfl rfl)
theorem dX2_reads_37 : decode cX2_reads 37 = .ok (.aload_n 0, 1) := dk_42 (dk_at dksX2_reads_1 13 rfl rfl)
theorem dX2_reads_38 : decode cX2_reads 38 = .ok (.getfield 3, 3) := dk_180 0 3 (dk_at dksX2_reads_1 14 rfl rfl)
theorem dX2_reads_41 : decode cX2_reads 41 = .ok (.getfield 45, 3) := dk_180 0 45 (dk_at dksX2_reads_1 17 rfl rfl)
theorem dX2_reads_44 : decode cX2_reads 44 = .ok (.aload_n 0, 1) := dk_42 (dk_at dksX2_reads_1 20 rfl rfl)
theorem dX2_reads_45 : decode cX2_reads 45 = .ok (.getfield 3, 3) := dk_180 0 3 (dk_at dksX2_reads_1 21 rfl rfl)
theorem dX2_reads_48 : decode cX2_reads 48 = .ok (.getfield 49, 3) := dk_180 0 49 (dk_at dksX2_reads_2 0 rfl rfl)
theorem dX2_reads_51 : decode cX2_reads 51 = .ok (.aload_n 0, 1) := dk_42 (dk_at dksX2_reads_2 3 rfl rfl)
theorem dX2_reads_52 : decode cX2_reads 52 = .ok (.getfield 3, 3) := dk_180 0 3 (dk_at dksX2_reads_2 4 rfl rfl)
theorem dX2_reads_55 : decode cX2_reads 55 = .ok (.aload_n 0, 1) := dk_42 (dk_at dksX2_reads_2 7 rfl rfl)
theorem dX2_reads_56 : decode cX2_reads 56 = .ok (.getfield 3, 3) := dk_180 0 3 (dk_at dksX2_reads_2 8 rfl rfl)
theorem dX2_reads_59 : decode cX2_reads 59 = .ok (.getfield 52, 3) := dk_180 0 52 (dk_at dksX2_reads_2 11 rfl rfl)
theorem dX2_reads_62 : decode cX2_reads 62 = .ok (.invokevirtual 55, 3) := dk_182 0 55 (dk_at dksX2_reads_2 14 rfl rfl)
theorem dX2_reads_65 : decode cX2_reads 65 = .ok (.invokevirtual 59, 3) := dk_182 0 59 (dk_at dksX2_reads_2 17 rfl rfl)
theorem dX2_reads_68 : decode cX2_reads 68 = .ok (.aload_n 0, 1) := dk_42 (dk_at dksX2_reads_2 20 rfl rfl)
theorem dX2_reads_69 : decode cX2_reads 69 = .ok (.getfield 3, 3) := dk_180 0 3 (dk_at dksX2_reads_2 21 rfl rfl)
theorem dX2_reads_72 : decode cX2_reads 72 = .ok (.iconst 0, 1) := dk_3 (dk_at dksX2_reads_3 0 rfl rfl)
theorem dX2_reads_73 : decode cX2_reads 73 = .ok (.putfield 89, 3) := dk_181 0 89 (dk_at dksX2_reads_3 1 rfl rfl)
theorem dX2_reads_76 : decode cX2_reads 76 = .ok (.aload_n 0, 1) := dk_42 (dk_at dksX2_reads_3 4 rfl rfl)
theorem dX2_reads_77 : decode cX2_reads 77 = .ok (.getfield 3, 3) := dk_180 0 3 (dk_at dksX2_reads_3 5 rfl rfl)
theorem dX2_reads_80 : decode cX2_reads 80 = .ok (.iconst 0, 1) := dk_3 (dk_at dksX2_reads_3 8 rfl rfl)
theorem dX2_reads_81 : decode cX2_reads 81 = .ok (.putfield 92, 3) := dk_181 0 92 (dk_at dksX2_reads_3 9 rfl rfl)
theorem dX2_reads_84 : decode cX2_reads 84 = .ok (.aload_n 0, 1) := dk_42 (dk_at dksX2_reads_3 12 rfl rfl)
theorem dX2_reads_85 : decode cX2_reads 85 = .ok (.getfield 3, 3) := dk_180 0 3 (dk_at dksX2_reads_3 13 rfl rfl)
theorem dX2_reads_88 : decode cX2_reads 88 = .ok (.getfield 45, 3) := dk_180 0 45 (dk_at dksX2_reads_3 16 rfl rfl)
theorem dX2_reads_91 : decode cX2_reads 91 = .ok (.aload_n 0, 1) := dk_42 (dk_at dksX2_reads_3 19 rfl rfl)
theorem dX2_reads_92 : decode cX2_reads 92 = .ok (.getfield 3, 3) := dk_180 0 3 (dk_at dksX2_reads_3 20 rfl rfl)
theorem dX2_reads_95 : decode cX2_reads 95 = .ok (.getfield 68, 3) := dk_180 0 68 (dk_at dksX2_reads_4 0 rfl rfl)
theorem dX2_reads_98 : decode cX2_reads 98 = .ok (.aload_n 0, 1) := dk_42 (dk_at dksX2_reads_4 3 rfl rfl)
theorem dX2_reads_99 : decode cX2_reads 99 = .ok (.invokedynamic 95, 5) := by decide +kernel
theorem dX2_reads_104 : decode cX2_reads 104 = .ok (.aload_n 0, 1) := dk_42 (dk_at dksX2_reads_4 9 rfl rfl)
theorem dX2_reads_105 : decode cX2_reads 105 = .ok (.invokedynamic 96, 5) := by decide +kernel
theorem dX2_reads_110 : decode cX2_reads 110 = .ok (.invokevirtual 79, 3) := dk_182 0 79 (dk_at dksX2_reads_4 15 rfl rfl)
theorem dX2_reads_113 : decode cX2_reads 113 = .ok (.aload_n 0, 1) := dk_42 (dk_at dksX2_reads_4 18 rfl rfl)
theorem dX2_reads_114 : decode cX2_reads 114 = .ok (.getfield 3, 3) := dk_180 0 3 (dk_at dksX2_reads_4 19 rfl rfl)
theorem dX2_reads_117 : decode cX2_reads 117 = .ok (.getfield 92, 3) := dk_180 0 92 (dk_at dksX2_reads_5 0 rfl rfl)
theorem dX2_reads_120 : decode cX2_reads 120 = .ok (.ireturn, 1) := dk_172 (dk_at dksX2_reads_5 3 rfl rfl)
abbrev cX2_takes : ByteArray := prog_9_method_6_code
def yX2_takes : MethodName := ⟨RX2, "takes", "()V"⟩
def dkwX2_takes_2 : List UInt8 := [89, 180, 0, 65, 4, 96, 181, 0, 65, 177]
abbrev dktX2_takes_2 : List UInt8 := dkwX2_takes_2 ++ []
def dkwX2_takes_1 : List UInt8 := [180, 0, 15, 42, 180, 0, 3, 180, 0, 65, 46, 167, 0, 4, 3, 133, 129, 181, 0, 83, 42, 180, 0, 3]
abbrev dktX2_takes_1 : List UInt8 := dkwX2_takes_1 ++ dktX2_takes_2
def dkwX2_takes_0 : List UInt8 := [42, 42, 180, 0, 83, 16, 8, 121, 42, 180, 0, 3, 180, 0, 65, 42, 180, 0, 28, 162, 0, 18, 42]
abbrev dktX2_takes_0 : List UInt8 := dkwX2_takes_0 ++ dktX2_takes_1
theorem dksX2_takes_0 : cX2_takes.data.toList.drop 0 = dktX2_takes_0 := by decide +kernel
theorem dksX2_takes_1 : cX2_takes.data.toList.drop 23 = dktX2_takes_1 := dk_seg dksX2_takes_0 23 rfl rfl
theorem dksX2_takes_2 : cX2_takes.data.toList.drop 47 = dktX2_takes_2 := dk_seg dksX2_takes_1 24 rfl rfl
theorem dX2_takes_0 : decode cX2_takes 0 = .ok (.aload_n 0, 1) := dk_42 (dk_at dksX2_takes_0 0 rfl rfl)
theorem dX2_takes_1 : decode cX2_takes 1 = .ok (.aload_n 0, 1) := dk_42 (dk_at dksX2_takes_0 1 rfl rfl)
theorem dX2_takes_2 : decode cX2_takes 2 = .ok (.getfield 83, 3) := dk_180 0 83 (dk_at dksX2_takes_0 2 rfl rfl)
theorem dX2_takes_5 : decode cX2_takes 5 = .ok (.bipush 8, 2) := dk_16 8 (dk_at dksX2_takes_0 5 rfl rfl)
theorem dX2_takes_7 : decode cX2_takes 7 = .ok (.lshl, 1) := dk_121 (dk_at dksX2_takes_0 7 rfl rfl)
theorem dX2_takes_8 : decode cX2_takes 8 = .ok (.aload_n 0, 1) := dk_42 (dk_at dksX2_takes_0 8 rfl rfl)
theorem dX2_takes_9 : decode cX2_takes 9 = .ok (.getfield 3, 3) := dk_180 0 3 (dk_at dksX2_takes_0 9 rfl rfl)
theorem dX2_takes_12 : decode cX2_takes 12 = .ok (.getfield 65, 3) := dk_180 0 65 (dk_at dksX2_takes_0 12 rfl rfl)
theorem dX2_takes_15 : decode cX2_takes 15 = .ok (.aload_n 0, 1) := dk_42 (dk_at dksX2_takes_0 15 rfl rfl)
theorem dX2_takes_16 : decode cX2_takes 16 = .ok (.getfield 28, 3) := dk_180 0 28 (dk_at dksX2_takes_0 16 rfl rfl)
theorem dX2_takes_19 : decode cX2_takes 19 = .ok (.if_icmp .ge 18, 3) := dk_162 0 18 (dk_at dksX2_takes_0 19 rfl rfl)
theorem dX2_takes_22 : decode cX2_takes 22 = .ok (.aload_n 0, 1) := dk_42 (dk_at dksX2_takes_0 22 rfl rfl)
theorem dX2_takes_23 : decode cX2_takes 23 = .ok (.getfield 15, 3) := dk_180 0 15 (dk_at dksX2_takes_1 0 rfl rfl)
theorem dX2_takes_26 : decode cX2_takes 26 = .ok (.aload_n 0, 1) := dk_42 (dk_at dksX2_takes_1 3 rfl rfl)
theorem dX2_takes_27 : decode cX2_takes 27 = .ok (.getfield 3, 3) := dk_180 0 3 (dk_at dksX2_takes_1 4 rfl rfl)
theorem dX2_takes_30 : decode cX2_takes 30 = .ok (.getfield 65, 3) := dk_180 0 65 (dk_at dksX2_takes_1 7 rfl rfl)
theorem dX2_takes_33 : decode cX2_takes 33 = .ok (.iaload, 1) := dk_46 (dk_at dksX2_takes_1 10 rfl rfl)
theorem dX2_takes_34 : decode cX2_takes 34 = .ok (.goto 4, 3) := dk_167 0 4 (dk_at dksX2_takes_1 11 rfl rfl)
theorem dX2_takes_37 : decode cX2_takes 37 = .ok (.iconst 0, 1) := dk_3 (dk_at dksX2_takes_1 14 rfl rfl)
theorem dX2_takes_38 : decode cX2_takes 38 = .ok (.i2l, 1) := dk_133 (dk_at dksX2_takes_1 15 rfl rfl)
theorem dX2_takes_39 : decode cX2_takes 39 = .ok (.lor, 1) := dk_129 (dk_at dksX2_takes_1 16 rfl rfl)
theorem dX2_takes_40 : decode cX2_takes 40 = .ok (.putfield 83, 3) := dk_181 0 83 (dk_at dksX2_takes_1 17 rfl rfl)
theorem dX2_takes_43 : decode cX2_takes 43 = .ok (.aload_n 0, 1) := dk_42 (dk_at dksX2_takes_1 20 rfl rfl)
theorem dX2_takes_44 : decode cX2_takes 44 = .ok (.getfield 3, 3) := dk_180 0 3 (dk_at dksX2_takes_1 21 rfl rfl)
theorem dX2_takes_47 : decode cX2_takes 47 = .ok (.dup, 1) := dk_89 (dk_at dksX2_takes_2 0 rfl rfl)
theorem dX2_takes_48 : decode cX2_takes 48 = .ok (.getfield 65, 3) := dk_180 0 65 (dk_at dksX2_takes_2 1 rfl rfl)
theorem dX2_takes_51 : decode cX2_takes 51 = .ok (.iconst 1, 1) := dk_4 (dk_at dksX2_takes_2 4 rfl rfl)
theorem dX2_takes_52 : decode cX2_takes 52 = .ok (.iadd, 1) := dk_96 (dk_at dksX2_takes_2 5 rfl rfl)
theorem dX2_takes_53 : decode cX2_takes 53 = .ok (.putfield 65, 3) := dk_181 0 65 (dk_at dksX2_takes_2 6 rfl rfl)
theorem dX2_takes_56 : decode cX2_takes 56 = .ok (.return_, 1) := dk_177 (dk_at dksX2_takes_2 9 rfl rfl)
abbrev cX2_lambda_reads_1 : ByteArray := prog_9_method_10_code
def yX2_lambda_reads_1 : MethodName := ⟨RX2, "lambda$reads$1", "(I)I"⟩
def dkwX2_lambda_reads_1_0 : List UInt8 := [42, 27, 182, 0, 100, 172]
abbrev dktX2_lambda_reads_1_0 : List UInt8 := dkwX2_lambda_reads_1_0 ++ []
theorem dksX2_lambda_reads_1_0 : cX2_lambda_reads_1.data.toList.drop 0 = dktX2_lambda_reads_1_0 := by decide +kernel
theorem dX2_lambda_reads_1_0 : decode cX2_lambda_reads_1 0 = .ok (.aload_n 0, 1) := dk_42 (dk_at dksX2_lambda_reads_1_0 0 rfl rfl)
theorem dX2_lambda_reads_1_1 : decode cX2_lambda_reads_1 1 = .ok (.iload_n 1, 1) := dk_27 (dk_at dksX2_lambda_reads_1_0 1 rfl rfl)
theorem dX2_lambda_reads_1_2 : decode cX2_lambda_reads_1 2 = .ok (.invokevirtual 100, 3) := dk_182 0 100 (dk_at dksX2_lambda_reads_1_0 2 rfl rfl)
theorem dX2_lambda_reads_1_5 : decode cX2_lambda_reads_1 5 = .ok (.ireturn, 1) := dk_172 (dk_at dksX2_lambda_reads_1_0 5 rfl rfl)
abbrev cX2_reads_2 : ByteArray := prog_9_method_7_code
def yX2_reads_2 : MethodName := ⟨RX2, "reads", "(I)I"⟩
def dkwX2_reads_2_3 : List UInt8 := [156, 0, 21, 42, 182, 0, 86, 42, 89, 180, 0, 19, 16, 8, 121, 181, 0, 19, 167, 255, 230, 21, 4, 172]
abbrev dktX2_reads_2_3 : List UInt8 := dkwX2_reads_2_3 ++ []
def dkwX2_reads_2_2 : List UInt8 := [160, 0, 7, 32, 167, 0, 9, 42, 180, 0, 19, 32, 101, 181, 0, 19, 42, 180, 0, 19, 20, 0, 38, 148]
abbrev dktX2_reads_2_2 : List UInt8 := dkwX2_reads_2_2 ++ dktX2_reads_2_3
def dkwX2_reads_2_1 : List UInt8 := [180, 0, 83, 21, 4, 4, 160, 0, 7, 9, 167, 0, 4, 32, 101, 181, 0, 83, 42, 21, 4, 4]
abbrev dktX2_reads_2_1 : List UInt8 := dkwX2_reads_2_1 ++ dktX2_reads_2_2
def dkwX2_reads_2_0 : List UInt8 := [42, 27, 182, 0, 34, 65, 42, 180, 0, 83, 32, 148, 156, 0, 7, 4, 167, 0, 4, 3, 54, 4, 42, 89]
abbrev dktX2_reads_2_0 : List UInt8 := dkwX2_reads_2_0 ++ dktX2_reads_2_1
theorem dksX2_reads_2_0 : cX2_reads_2.data.toList.drop 0 = dktX2_reads_2_0 := by decide +kernel
theorem dksX2_reads_2_1 : cX2_reads_2.data.toList.drop 24 = dktX2_reads_2_1 := dk_seg dksX2_reads_2_0 24 rfl rfl
theorem dksX2_reads_2_2 : cX2_reads_2.data.toList.drop 46 = dktX2_reads_2_2 := dk_seg dksX2_reads_2_1 22 rfl rfl
theorem dksX2_reads_2_3 : cX2_reads_2.data.toList.drop 70 = dktX2_reads_2_3 := dk_seg dksX2_reads_2_2 24 rfl rfl
theorem dX2_reads_2_0 : decode cX2_reads_2 0 = .ok (.aload_n 0, 1) := dk_42 (dk_at dksX2_reads_2_0 0 rfl rfl)
theorem dX2_reads_2_1 : decode cX2_reads_2 1 = .ok (.iload_n 1, 1) := dk_27 (dk_at dksX2_reads_2_0 1 rfl rfl)
theorem dX2_reads_2_2 : decode cX2_reads_2 2 = .ok (.invokevirtual 34, 3) := dk_182 0 34 (dk_at dksX2_reads_2_0 2 rfl rfl)
theorem dX2_reads_2_5 : decode cX2_reads_2 5 = .ok (.lstore_n 2, 1) := dk_65 (dk_at dksX2_reads_2_0 5 rfl rfl)
theorem dX2_reads_2_6 : decode cX2_reads_2 6 = .ok (.aload_n 0, 1) := dk_42 (dk_at dksX2_reads_2_0 6 rfl rfl)
theorem dX2_reads_2_7 : decode cX2_reads_2 7 = .ok (.getfield 83, 3) := dk_180 0 83 (dk_at dksX2_reads_2_0 7 rfl rfl)
theorem dX2_reads_2_10 : decode cX2_reads_2 10 = .ok (.lload_n 2, 1) := dk_32 (dk_at dksX2_reads_2_0 10 rfl rfl)
theorem dX2_reads_2_11 : decode cX2_reads_2 11 = .ok (.lcmp, 1) := dk_148 (dk_at dksX2_reads_2_0 11 rfl rfl)
theorem dX2_reads_2_12 : decode cX2_reads_2 12 = .ok (.ifCond .ge 7, 3) := dk_156 0 7 (dk_at dksX2_reads_2_0 12 rfl rfl)
theorem dX2_reads_2_15 : decode cX2_reads_2 15 = .ok (.iconst 1, 1) := dk_4 (dk_at dksX2_reads_2_0 15 rfl rfl)
theorem dX2_reads_2_16 : decode cX2_reads_2 16 = .ok (.goto 4, 3) := dk_167 0 4 (dk_at dksX2_reads_2_0 16 rfl rfl)
theorem dX2_reads_2_19 : decode cX2_reads_2 19 = .ok (.iconst 0, 1) := dk_3 (dk_at dksX2_reads_2_0 19 rfl rfl)
theorem dX2_reads_2_20 : decode cX2_reads_2 20 = .ok (.istore 4, 2) := dk_54 4 (dk_at dksX2_reads_2_0 20 rfl rfl)
theorem dX2_reads_2_22 : decode cX2_reads_2 22 = .ok (.aload_n 0, 1) := dk_42 (dk_at dksX2_reads_2_0 22 rfl rfl)
theorem dX2_reads_2_23 : decode cX2_reads_2 23 = .ok (.dup, 1) := dk_89 (dk_at dksX2_reads_2_0 23 rfl rfl)
theorem dX2_reads_2_24 : decode cX2_reads_2 24 = .ok (.getfield 83, 3) := dk_180 0 83 (dk_at dksX2_reads_2_1 0 rfl rfl)
theorem dX2_reads_2_27 : decode cX2_reads_2 27 = .ok (.iload 4, 2) := dk_21 4 (dk_at dksX2_reads_2_1 3 rfl rfl)
theorem dX2_reads_2_29 : decode cX2_reads_2 29 = .ok (.iconst 1, 1) := dk_4 (dk_at dksX2_reads_2_1 5 rfl rfl)
theorem dX2_reads_2_30 : decode cX2_reads_2 30 = .ok (.if_icmp .ne 7, 3) := dk_160 0 7 (dk_at dksX2_reads_2_1 6 rfl rfl)
theorem dX2_reads_2_33 : decode cX2_reads_2 33 = .ok (.lconst 0, 1) := dk_9 (dk_at dksX2_reads_2_1 9 rfl rfl)
theorem dX2_reads_2_34 : decode cX2_reads_2 34 = .ok (.goto 4, 3) := dk_167 0 4 (dk_at dksX2_reads_2_1 10 rfl rfl)
theorem dX2_reads_2_37 : decode cX2_reads_2 37 = .ok (.lload_n 2, 1) := dk_32 (dk_at dksX2_reads_2_1 13 rfl rfl)
theorem dX2_reads_2_38 : decode cX2_reads_2 38 = .ok (.lsub, 1) := dk_101 (dk_at dksX2_reads_2_1 14 rfl rfl)
theorem dX2_reads_2_39 : decode cX2_reads_2 39 = .ok (.putfield 83, 3) := dk_181 0 83 (dk_at dksX2_reads_2_1 15 rfl rfl)
theorem dX2_reads_2_42 : decode cX2_reads_2 42 = .ok (.aload_n 0, 1) := dk_42 (dk_at dksX2_reads_2_1 18 rfl rfl)
theorem dX2_reads_2_43 : decode cX2_reads_2 43 = .ok (.iload 4, 2) := dk_21 4 (dk_at dksX2_reads_2_1 19 rfl rfl)
theorem dX2_reads_2_45 : decode cX2_reads_2 45 = .ok (.iconst 1, 1) := dk_4 (dk_at dksX2_reads_2_1 21 rfl rfl)
theorem dX2_reads_2_46 : decode cX2_reads_2 46 = .ok (.if_icmp .ne 7, 3) := dk_160 0 7 (dk_at dksX2_reads_2_2 0 rfl rfl)
theorem dX2_reads_2_49 : decode cX2_reads_2 49 = .ok (.lload_n 2, 1) := dk_32 (dk_at dksX2_reads_2_2 3 rfl rfl)
theorem dX2_reads_2_50 : decode cX2_reads_2 50 = .ok (.goto 9, 3) := dk_167 0 9 (dk_at dksX2_reads_2_2 4 rfl rfl)
theorem dX2_reads_2_53 : decode cX2_reads_2 53 = .ok (.aload_n 0, 1) := dk_42 (dk_at dksX2_reads_2_2 7 rfl rfl)
theorem dX2_reads_2_54 : decode cX2_reads_2 54 = .ok (.getfield 19, 3) := dk_180 0 19 (dk_at dksX2_reads_2_2 8 rfl rfl)
theorem dX2_reads_2_57 : decode cX2_reads_2 57 = .ok (.lload_n 2, 1) := dk_32 (dk_at dksX2_reads_2_2 11 rfl rfl)
theorem dX2_reads_2_58 : decode cX2_reads_2 58 = .ok (.lsub, 1) := dk_101 (dk_at dksX2_reads_2_2 12 rfl rfl)
theorem dX2_reads_2_59 : decode cX2_reads_2 59 = .ok (.putfield 19, 3) := dk_181 0 19 (dk_at dksX2_reads_2_2 13 rfl rfl)
theorem dX2_reads_2_62 : decode cX2_reads_2 62 = .ok (.aload_n 0, 1) := dk_42 (dk_at dksX2_reads_2_2 16 rfl rfl)
theorem dX2_reads_2_63 : decode cX2_reads_2 63 = .ok (.getfield 19, 3) := dk_180 0 19 (dk_at dksX2_reads_2_2 17 rfl rfl)
theorem dX2_reads_2_66 : decode cX2_reads_2 66 = .ok (.ldc2_w 38, 3) := dk_20 0 38 (dk_at dksX2_reads_2_2 20 rfl rfl)
theorem dX2_reads_2_69 : decode cX2_reads_2 69 = .ok (.lcmp, 1) := dk_148 (dk_at dksX2_reads_2_2 23 rfl rfl)
theorem dX2_reads_2_70 : decode cX2_reads_2 70 = .ok (.ifCond .ge 21, 3) := dk_156 0 21 (dk_at dksX2_reads_2_3 0 rfl rfl)
theorem dX2_reads_2_73 : decode cX2_reads_2 73 = .ok (.aload_n 0, 1) := dk_42 (dk_at dksX2_reads_2_3 3 rfl rfl)
theorem dX2_reads_2_74 : decode cX2_reads_2 74 = .ok (.invokevirtual 86, 3) := dk_182 0 86 (dk_at dksX2_reads_2_3 4 rfl rfl)
theorem dX2_reads_2_77 : decode cX2_reads_2 77 = .ok (.aload_n 0, 1) := dk_42 (dk_at dksX2_reads_2_3 7 rfl rfl)
theorem dX2_reads_2_78 : decode cX2_reads_2 78 = .ok (.dup, 1) := dk_89 (dk_at dksX2_reads_2_3 8 rfl rfl)
theorem dX2_reads_2_79 : decode cX2_reads_2 79 = .ok (.getfield 19, 3) := dk_180 0 19 (dk_at dksX2_reads_2_3 9 rfl rfl)
theorem dX2_reads_2_82 : decode cX2_reads_2 82 = .ok (.bipush 8, 2) := dk_16 8 (dk_at dksX2_reads_2_3 12 rfl rfl)
theorem dX2_reads_2_84 : decode cX2_reads_2 84 = .ok (.lshl, 1) := dk_121 (dk_at dksX2_reads_2_3 14 rfl rfl)
theorem dX2_reads_2_85 : decode cX2_reads_2 85 = .ok (.putfield 19, 3) := dk_181 0 19 (dk_at dksX2_reads_2_3 15 rfl rfl)
theorem dX2_reads_2_88 : decode cX2_reads_2 88 = .ok (.goto (-26), 3) := dk_167 255 230 (dk_at dksX2_reads_2_3 18 rfl rfl)
theorem dX2_reads_2_91 : decode cX2_reads_2 91 = .ok (.iload 4, 2) := dk_21 4 (dk_at dksX2_reads_2_3 21 rfl rfl)
theorem dX2_reads_2_93 : decode cX2_reads_2 93 = .ok (.ireturn, 1) := dk_172 (dk_at dksX2_reads_2_3 23 rfl rfl)
abbrev cX2_lambda_reads_2 : ByteArray := prog_9_method_9_code
def yX2_lambda_reads_2 : MethodName := ⟨RX2, "lambda$reads$2", "(II)V"⟩
def dkwX2_lambda_reads_2_1 : List UInt8 := [90, 4, 96, 181, 0, 89, 46, 160, 0, 7, 4, 167, 0, 4, 3, 96, 181, 0, 92, 177]
abbrev dktX2_lambda_reads_2_1 : List UInt8 := dkwX2_lambda_reads_2_1 ++ []
def dkwX2_lambda_reads_2_0 : List UInt8 := [42, 180, 0, 3, 89, 180, 0, 92, 27, 42, 180, 0, 3, 180, 0, 97, 42, 180, 0, 3, 89, 180, 0, 89]
abbrev dktX2_lambda_reads_2_0 : List UInt8 := dkwX2_lambda_reads_2_0 ++ dktX2_lambda_reads_2_1
theorem dksX2_lambda_reads_2_0 : cX2_lambda_reads_2.data.toList.drop 0 = dktX2_lambda_reads_2_0 := by decide +kernel
theorem dksX2_lambda_reads_2_1 : cX2_lambda_reads_2.data.toList.drop 24 = dktX2_lambda_reads_2_1 := dk_seg dksX2_lambda_reads_2_0 24 rfl rfl
theorem dX2_lambda_reads_2_0 : decode cX2_lambda_reads_2 0 = .ok (.aload_n 0, 1) := dk_42 (dk_at dksX2_lambda_reads_2_0 0 rfl rfl)
theorem dX2_lambda_reads_2_1 : decode cX2_lambda_reads_2 1 = .ok (.getfield 3, 3) := dk_180 0 3 (dk_at dksX2_lambda_reads_2_0 1 rfl rfl)
theorem dX2_lambda_reads_2_4 : decode cX2_lambda_reads_2 4 = .ok (.dup, 1) := dk_89 (dk_at dksX2_lambda_reads_2_0 4 rfl rfl)
theorem dX2_lambda_reads_2_5 : decode cX2_lambda_reads_2 5 = .ok (.getfield 92, 3) := dk_180 0 92 (dk_at dksX2_lambda_reads_2_0 5 rfl rfl)
theorem dX2_lambda_reads_2_8 : decode cX2_lambda_reads_2 8 = .ok (.iload_n 1, 1) := dk_27 (dk_at dksX2_lambda_reads_2_0 8 rfl rfl)
theorem dX2_lambda_reads_2_9 : decode cX2_lambda_reads_2 9 = .ok (.aload_n 0, 1) := dk_42 (dk_at dksX2_lambda_reads_2_0 9 rfl rfl)
theorem dX2_lambda_reads_2_10 : decode cX2_lambda_reads_2 10 = .ok (.getfield 3, 3) := dk_180 0 3 (dk_at dksX2_lambda_reads_2_0 10 rfl rfl)
theorem dX2_lambda_reads_2_13 : decode cX2_lambda_reads_2 13 = .ok (.getfield 97, 3) := dk_180 0 97 (dk_at dksX2_lambda_reads_2_0 13 rfl rfl)
theorem dX2_lambda_reads_2_16 : decode cX2_lambda_reads_2 16 = .ok (.aload_n 0, 1) := dk_42 (dk_at dksX2_lambda_reads_2_0 16 rfl rfl)
theorem dX2_lambda_reads_2_17 : decode cX2_lambda_reads_2 17 = .ok (.getfield 3, 3) := dk_180 0 3 (dk_at dksX2_lambda_reads_2_0 17 rfl rfl)
theorem dX2_lambda_reads_2_20 : decode cX2_lambda_reads_2 20 = .ok (.dup, 1) := dk_89 (dk_at dksX2_lambda_reads_2_0 20 rfl rfl)
theorem dX2_lambda_reads_2_21 : decode cX2_lambda_reads_2 21 = .ok (.getfield 89, 3) := dk_180 0 89 (dk_at dksX2_lambda_reads_2_0 21 rfl rfl)
theorem dX2_lambda_reads_2_24 : decode cX2_lambda_reads_2 24 = .ok (.dup_x1, 1) := dk_90 (dk_at dksX2_lambda_reads_2_1 0 rfl rfl)
theorem dX2_lambda_reads_2_25 : decode cX2_lambda_reads_2 25 = .ok (.iconst 1, 1) := dk_4 (dk_at dksX2_lambda_reads_2_1 1 rfl rfl)
theorem dX2_lambda_reads_2_26 : decode cX2_lambda_reads_2 26 = .ok (.iadd, 1) := dk_96 (dk_at dksX2_lambda_reads_2_1 2 rfl rfl)
theorem dX2_lambda_reads_2_27 : decode cX2_lambda_reads_2 27 = .ok (.putfield 89, 3) := dk_181 0 89 (dk_at dksX2_lambda_reads_2_1 3 rfl rfl)
theorem dX2_lambda_reads_2_30 : decode cX2_lambda_reads_2 30 = .ok (.iaload, 1) := dk_46 (dk_at dksX2_lambda_reads_2_1 6 rfl rfl)
theorem dX2_lambda_reads_2_31 : decode cX2_lambda_reads_2 31 = .ok (.if_icmp .ne 7, 3) := dk_160 0 7 (dk_at dksX2_lambda_reads_2_1 7 rfl rfl)
theorem dX2_lambda_reads_2_34 : decode cX2_lambda_reads_2 34 = .ok (.iconst 1, 1) := dk_4 (dk_at dksX2_lambda_reads_2_1 10 rfl rfl)
theorem dX2_lambda_reads_2_35 : decode cX2_lambda_reads_2 35 = .ok (.goto 4, 3) := dk_167 0 4 (dk_at dksX2_lambda_reads_2_1 11 rfl rfl)
theorem dX2_lambda_reads_2_38 : decode cX2_lambda_reads_2 38 = .ok (.iconst 0, 1) := dk_3 (dk_at dksX2_lambda_reads_2_1 14 rfl rfl)
theorem dX2_lambda_reads_2_39 : decode cX2_lambda_reads_2 39 = .ok (.iadd, 1) := dk_96 (dk_at dksX2_lambda_reads_2_1 15 rfl rfl)
theorem dX2_lambda_reads_2_40 : decode cX2_lambda_reads_2 40 = .ok (.putfield 92, 3) := dk_181 0 92 (dk_at dksX2_lambda_reads_2_1 16 rfl rfl)
theorem dX2_lambda_reads_2_43 : decode cX2_lambda_reads_2 43 = .ok (.return_, 1) := dk_177 (dk_at dksX2_lambda_reads_2_1 19 rfl rfl)
theorem q69 : (Jvm.Cond.initialized "TreeOdds$Writing") ∈ lw_all := lw_g (lw_at lw_m1 3 rfl) rfl
theorem q125 : (Jvm.Cond.instantiable "TreeOdds$Writing" (6 : Nat)) ∈ lw_all := lw_g (lw_at lw_m1 59 rfl) rfl
theorem q127 : (Jvm.Cond.instanceMethod ({ cls := "TreeOdds$Writing", name := "<init>", desc := "(LTreeOdds;)V" } : Jvm.MethodName)) ∈ lw_all := lw_g (lw_at lw_m1 61 rfl) rfl
theorem q128 : (Jvm.Cond.code ({ cls := "TreeOdds$Writing", name := "<init>", desc := "(LTreeOdds;)V" } : Jvm.MethodName) prog_9_method_1_code (2 : Nat) (Option.none : Option Jvm.ClassFile.FieldType)) ∈ lw_all := lw_g (lw_at lw_m1 62 rfl) rfl
theorem q129 : (Jvm.Cond.methodLink "TreeOdds$Writing" (9 : Nat) ({ cls := "java/lang/Object", name := "<init>", desc := "()V" } : Jvm.MethodName)) ∈ lw_all := lw_g (lw_at lw_m1 63 rfl) rfl
theorem q130 : (Jvm.Cond.fieldLink "TreeOdds$Writing" (15 : Nat) "TreeOdds$Writing" "bytes" "[I") ∈ lw_all := lw_g (lw_at lw_m1 64 rfl) rfl
theorem q132 : (Jvm.Cond.fieldLink "TreeOdds$Writing" (28 : Nat) "TreeOdds$Writing" "made" "I") ∈ lw_all := lw_g (lw_at lw_m1 66 rfl) rfl
theorem q134 : (Jvm.Cond.fieldLink "TreeOdds$Writing" (25 : Nat) "TreeOdds$Writing" "low" "J") ∈ lw_all := lw_g (lw_at lw_m1 68 rfl) rfl
theorem q135 : (Jvm.Cond.fieldLink "TreeOdds$Writing" (19 : Nat) "TreeOdds$Writing" "range" "J") ∈ lw_all := lw_g (lw_at lw_m1 69 rfl) rfl
theorem q136 : (Jvm.Cond.fieldLink "TreeOdds$Writing" (83 : Nat) "TreeOdds$Writing" "code" "J") ∈ lw_all := lw_g (lw_at lw_m1 70 rfl) rfl
theorem q137 : (Jvm.Cond.fieldLink "TreeOdds$Writing" (3 : Nat) "TreeOdds$Writing" "this$0" "LTreeOdds;") ∈ lw_all := lw_g (lw_at lw_m1 71 rfl) rfl
theorem q138 : (Jvm.Cond.laysFinal "TreeOdds$Writing" "TreeOdds$Writing" "bytes" "[I") ∈ lw_all := lw_g (lw_at lw_m1 72 rfl) rfl
theorem q139 : (Jvm.Cond.soleField "TreeOdds$Writing" "bytes") ∈ lw_all := lw_g (lw_at lw_m1 73 rfl) rfl
theorem q140 : (Jvm.Cond.lays "TreeOdds$Writing" "TreeOdds$Writing" "made" "I") ∈ lw_all := lw_g (lw_at lw_m1 74 rfl) rfl
theorem q141 : (Jvm.Cond.soleField "TreeOdds$Writing" "made") ∈ lw_all := lw_g (lw_at lw_m1 75 rfl) rfl
theorem q142 : (Jvm.Cond.lays "TreeOdds$Writing" "TreeOdds$Writing" "low" "J") ∈ lw_all := lw_g (lw_at lw_m1 76 rfl) rfl
theorem q143 : (Jvm.Cond.soleField "TreeOdds$Writing" "low") ∈ lw_all := lw_g (lw_at lw_m1 77 rfl) rfl
theorem q144 : (Jvm.Cond.lays "TreeOdds$Writing" "TreeOdds$Writing" "range" "J") ∈ lw_all := lw_g (lw_at lw_m1 78 rfl) rfl
theorem q145 : (Jvm.Cond.soleField "TreeOdds$Writing" "range") ∈ lw_all := lw_g (lw_at lw_m1 79 rfl) rfl
theorem q146 : (Jvm.Cond.lays "TreeOdds$Writing" "TreeOdds$Writing" "code" "J") ∈ lw_all := lw_g (lw_at lw_m1 80 rfl) rfl
theorem q147 : (Jvm.Cond.soleField "TreeOdds$Writing" "code") ∈ lw_all := lw_g (lw_at lw_m1 81 rfl) rfl
theorem q148 : (Jvm.Cond.laysFinal "TreeOdds$Writing" "TreeOdds$Writing" "this$0" "LTreeOdds;") ∈ lw_all := lw_g (lw_at lw_m1 82 rfl) rfl
theorem q149 : (Jvm.Cond.soleField "TreeOdds$Writing" "this$0") ∈ lw_all := lw_g (lw_at lw_m1 83 rfl) rfl
theorem q150 : (Jvm.Cond.superclass "TreeOdds$Writing" "java/lang/Object") ∈ lw_all := lw_g (lw_at lw_m1 84 rfl) rfl
theorem q207 : (Jvm.Cond.fieldLinkNest "TreeOdds$Writing" (97 : Nat) "TreeOdds" "row" "[I" "TreeOdds") ∈ lw_tbl := lw_at lw_m1 141 rfl
theorem q208 : (Jvm.Cond.fieldLinkNest "TreeOdds$Writing" (68 : Nat) "TreeOdds" "many" "I" "TreeOdds") ∈ lw_tbl := lw_at lw_m1 142 rfl
theorem q211 : (Jvm.Cond.fieldLinkNest "TreeOdds$Writing" (49 : Nat) "TreeOdds" "depth" "I" "TreeOdds") ∈ lw_tbl := lw_at lw_m1 145 rfl
theorem q213 : (Jvm.Cond.fieldLinkNest "TreeOdds$Writing" (52 : Nat) "TreeOdds" "kind" "I" "TreeOdds") ∈ lw_tbl := lw_at lw_m1 147 rfl
theorem q217 : (Jvm.Cond.fieldLinkNest "TreeOdds$Writing" (45 : Nat) "TreeOdds" "trial" "LTreeOdds$Tree;" "TreeOdds") ∈ lw_tbl := lw_at lw_m1 151 rfl
theorem q231 : (Jvm.Cond.fieldLinkNest "TreeOdds$Writing" (89 : Nat) "TreeOdds" "sum" "I" "TreeOdds") ∈ lw_tbl := lw_at lw_m1 165 rfl
theorem q233 : (Jvm.Cond.fieldLinkNest "TreeOdds$Writing" (65 : Nat) "TreeOdds" "at" "I" "TreeOdds") ∈ lw_tbl := lw_at lw_m1 167 rfl
theorem q237 : (Jvm.Cond.fieldLinkNest "TreeOdds$Writing" (92 : Nat) "TreeOdds" "good" "I" "TreeOdds") ∈ lw_tbl := lw_at lw_m1 171 rfl
theorem q517 : (Jvm.Cond.instanceMethod ({ cls := "TreeOdds$Writing", name := "writes", desc := "()V" } : Jvm.MethodName)) ∈ lw_all := lw_g (lw_at lw_m2 211 rfl) rfl
theorem q518 : (Jvm.Cond.selects "TreeOdds$Writing" ({ cls := "TreeOdds$Writing", name := "writes", desc := "()V" } : Jvm.MethodName) ({ cls := "TreeOdds$Writing", name := "writes", desc := "()V" } : Jvm.MethodName)) ∈ lw_all := lw_g (lw_at lw_m2 212 rfl) rfl
theorem q519 : (Jvm.Cond.code ({ cls := "TreeOdds$Writing", name := "writes", desc := "()V" } : Jvm.MethodName) prog_9_method_5_code (2 : Nat) (Option.none : Option Jvm.ClassFile.FieldType)) ∈ lw_all := lw_g (lw_at lw_m2 213 rfl) rfl
theorem q520 : (Jvm.Cond.constantLong "TreeOdds$Writing" (43 : Nat) (4294967296 : Int64)) ∈ lw_all := lw_g (lw_at lw_m2 214 rfl) rfl
theorem q521 : (Jvm.Cond.methodLinkNest "TreeOdds$Writing" (55 : Nat) ({ cls := "TreeOdds", name := "guess", desc := "(I)LTreeOdds$Guess;" } : Jvm.MethodName) "TreeOdds") ∈ lw_tbl := lw_at lw_m2 215 rfl
theorem q522 : (Jvm.Cond.methodLink "TreeOdds$Writing" (59 : Nat) ({ cls := "TreeOdds$Tree", name := "begins", desc := "(ILTreeOdds$Guess;)V" } : Jvm.MethodName)) ∈ lw_all := lw_g (lw_at lw_m2 216 rfl) rfl
theorem q523 : (Jvm.Cond.privateMethod ({ cls := "TreeOdds$Writing", name := "lambda$writes$0", desc := "(I)I" } : Jvm.MethodName)) ∈ lw_tbl := lw_at lw_m2 217 rfl
theorem q524 : (Jvm.Cond.instanceMethod ({ cls := "TreeOdds$Writing", name := "lambda$writes$0", desc := "(I)I" } : Jvm.MethodName)) ∈ lw_all := lw_g (lw_at lw_m2 218 rfl) rfl
theorem q525 : (Jvm.Cond.code ({ cls := "TreeOdds$Writing", name := "lambda$writes$0", desc := "(I)I" } : Jvm.MethodName) prog_9_method_11_code (2 : Nat) (Option.some Jvm.ClassFile.FieldType.int)) ∈ lw_all := lw_g (lw_at lw_m2 219 rfl) rfl
theorem q526 : (Jvm.Cond.privateMethod ({ cls := "TreeOdds$Writing", name := "signs", desc := "(II)V" } : Jvm.MethodName)) ∈ lw_tbl := lw_at lw_m2 220 rfl
theorem q527 : (Jvm.Cond.instanceMethod ({ cls := "TreeOdds$Writing", name := "signs", desc := "(II)V" } : Jvm.MethodName)) ∈ lw_all := lw_g (lw_at lw_m2 221 rfl) rfl
theorem q528 : (Jvm.Cond.code ({ cls := "TreeOdds$Writing", name := "signs", desc := "(II)V" } : Jvm.MethodName) prog_9_method_4_code (5 : Nat) (Option.none : Option Jvm.ClassFile.FieldType)) ∈ lw_all := lw_g (lw_at lw_m2 222 rfl) rfl
theorem q529 : (Jvm.Cond.methodLink "TreeOdds$Writing" (34 : Nat) ({ cls := "TreeOdds$Writing", name := "part", desc := "(I)J" } : Jvm.MethodName)) ∈ lw_all := lw_g (lw_at lw_m2 223 rfl) rfl
theorem q530 : (Jvm.Cond.privateMethod ({ cls := "TreeOdds$Writing", name := "part", desc := "(I)J" } : Jvm.MethodName)) ∈ lw_tbl := lw_at lw_m2 224 rfl
theorem q531 : (Jvm.Cond.instanceMethod ({ cls := "TreeOdds$Writing", name := "part", desc := "(I)J" } : Jvm.MethodName)) ∈ lw_all := lw_g (lw_at lw_m2 225 rfl) rfl
theorem q532 : (Jvm.Cond.code ({ cls := "TreeOdds$Writing", name := "part", desc := "(I)J" } : Jvm.MethodName) prog_9_method_2_code (2 : Nat) (Option.some Jvm.ClassFile.FieldType.long)) ∈ lw_all := lw_g (lw_at lw_m2 226 rfl) rfl
theorem q533 : (Jvm.Cond.constantLong "TreeOdds$Writing" (23 : Nat) (65536 : Int64)) ∈ lw_all := lw_g (lw_at lw_m2 227 rfl) rfl
theorem q534 : (Jvm.Cond.constantLong "TreeOdds$Writing" (38 : Nat) (16777216 : Int64)) ∈ lw_all := lw_g (lw_at lw_m2 228 rfl) rfl
theorem q535 : (Jvm.Cond.methodLink "TreeOdds$Writing" (40 : Nat) ({ cls := "TreeOdds$Writing", name := "out", desc := "()V" } : Jvm.MethodName)) ∈ lw_all := lw_g (lw_at lw_m2 229 rfl) rfl
theorem q536 : (Jvm.Cond.privateMethod ({ cls := "TreeOdds$Writing", name := "out", desc := "()V" } : Jvm.MethodName)) ∈ lw_tbl := lw_at lw_m2 230 rfl
theorem q537 : (Jvm.Cond.instanceMethod ({ cls := "TreeOdds$Writing", name := "out", desc := "()V" } : Jvm.MethodName)) ∈ lw_all := lw_g (lw_at lw_m2 231 rfl) rfl
theorem q538 : (Jvm.Cond.code ({ cls := "TreeOdds$Writing", name := "out", desc := "()V" } : Jvm.MethodName) prog_9_method_3_code (3 : Nat) (Option.none : Option Jvm.ClassFile.FieldType)) ∈ lw_all := lw_g (lw_at lw_m2 232 rfl) rfl
theorem q539 : (Jvm.Cond.constantLong "TreeOdds$Writing" (32 : Nat) (16777215 : Int64)) ∈ lw_all := lw_g (lw_at lw_m2 233 rfl) rfl
theorem q540 : (Jvm.Cond.methodLink "TreeOdds$Writing" (79 : Nat) ({ cls := "TreeOdds$Tree", name := "runs", desc := "(ILTreeOdds$Source;LTreeOdds$Seen;)V" } : Jvm.MethodName)) ∈ lw_all := lw_g (lw_at lw_m2 234 rfl) rfl
theorem q547 : (Jvm.Cond.instanceMethod ({ cls := "TreeOdds$Writing", name := "reads", desc := "()I" } : Jvm.MethodName)) ∈ lw_all := lw_g (lw_at lw_m3 1 rfl) rfl
theorem q548 : (Jvm.Cond.selects "TreeOdds$Writing" ({ cls := "TreeOdds$Writing", name := "reads", desc := "()I" } : Jvm.MethodName) ({ cls := "TreeOdds$Writing", name := "reads", desc := "()I" } : Jvm.MethodName)) ∈ lw_all := lw_g (lw_at lw_m3 2 rfl) rfl
theorem q549 : (Jvm.Cond.code ({ cls := "TreeOdds$Writing", name := "reads", desc := "()I" } : Jvm.MethodName) prog_9_method_8_code (2 : Nat) (Option.some Jvm.ClassFile.FieldType.int)) ∈ lw_all := lw_g (lw_at lw_m3 3 rfl) rfl
theorem q550 : (Jvm.Cond.methodLink "TreeOdds$Writing" (86 : Nat) ({ cls := "TreeOdds$Writing", name := "takes", desc := "()V" } : Jvm.MethodName)) ∈ lw_all := lw_g (lw_at lw_m3 4 rfl) rfl
theorem q551 : (Jvm.Cond.privateMethod ({ cls := "TreeOdds$Writing", name := "takes", desc := "()V" } : Jvm.MethodName)) ∈ lw_tbl := lw_at lw_m3 5 rfl
theorem q552 : (Jvm.Cond.instanceMethod ({ cls := "TreeOdds$Writing", name := "takes", desc := "()V" } : Jvm.MethodName)) ∈ lw_all := lw_g (lw_at lw_m3 6 rfl) rfl
theorem q553 : (Jvm.Cond.code ({ cls := "TreeOdds$Writing", name := "takes", desc := "()V" } : Jvm.MethodName) prog_9_method_6_code (1 : Nat) (Option.none : Option Jvm.ClassFile.FieldType)) ∈ lw_all := lw_g (lw_at lw_m3 7 rfl) rfl
theorem q554 : (Jvm.Cond.privateMethod ({ cls := "TreeOdds$Writing", name := "lambda$reads$1", desc := "(I)I" } : Jvm.MethodName)) ∈ lw_tbl := lw_at lw_m3 8 rfl
theorem q555 : (Jvm.Cond.instanceMethod ({ cls := "TreeOdds$Writing", name := "lambda$reads$1", desc := "(I)I" } : Jvm.MethodName)) ∈ lw_all := lw_g (lw_at lw_m3 9 rfl) rfl
theorem q556 : (Jvm.Cond.code ({ cls := "TreeOdds$Writing", name := "lambda$reads$1", desc := "(I)I" } : Jvm.MethodName) prog_9_method_10_code (2 : Nat) (Option.some Jvm.ClassFile.FieldType.int)) ∈ lw_all := lw_g (lw_at lw_m3 10 rfl) rfl
theorem q557 : (Jvm.Cond.methodLink "TreeOdds$Writing" (100 : Nat) ({ cls := "TreeOdds$Writing", name := "reads", desc := "(I)I" } : Jvm.MethodName)) ∈ lw_all := lw_g (lw_at lw_m3 11 rfl) rfl
theorem q558 : (Jvm.Cond.privateMethod ({ cls := "TreeOdds$Writing", name := "reads", desc := "(I)I" } : Jvm.MethodName)) ∈ lw_tbl := lw_at lw_m3 12 rfl
theorem q559 : (Jvm.Cond.instanceMethod ({ cls := "TreeOdds$Writing", name := "reads", desc := "(I)I" } : Jvm.MethodName)) ∈ lw_all := lw_g (lw_at lw_m3 13 rfl) rfl
theorem q560 : (Jvm.Cond.code ({ cls := "TreeOdds$Writing", name := "reads", desc := "(I)I" } : Jvm.MethodName) prog_9_method_7_code (5 : Nat) (Option.some Jvm.ClassFile.FieldType.int)) ∈ lw_all := lw_g (lw_at lw_m3 14 rfl) rfl
theorem q561 : (Jvm.Cond.privateMethod ({ cls := "TreeOdds$Writing", name := "lambda$reads$2", desc := "(II)V" } : Jvm.MethodName)) ∈ lw_tbl := lw_at lw_m3 15 rfl
theorem q562 : (Jvm.Cond.instanceMethod ({ cls := "TreeOdds$Writing", name := "lambda$reads$2", desc := "(II)V" } : Jvm.MethodName)) ∈ lw_all := lw_g (lw_at lw_m3 16 rfl) rfl
theorem q563 : (Jvm.Cond.code ({ cls := "TreeOdds$Writing", name := "lambda$reads$2", desc := "(II)V" } : Jvm.MethodName) prog_9_method_9_code (3 : Nat) (Option.none : Option Jvm.ClassFile.FieldType)) ∈ lw_all := lw_g (lw_at lw_m3 17 rfl) rfl
theorem in_X2 : ∀ w ∈ wsX20, w ∈ lw_all := lw_in wsX20 [138, 140, 142, 144, 146, 148] (by decide +kernel) (by decide +kernel)

/-! TreeOdds$Reader -/
set_option maxRecDepth 100000
def RX3 : String := "TreeOdds$Reader"
def TX3 : u_T := fun k => match k with
  | 0 => ("TreeOdds$Reader", "at", "I", false)
  | 1 => ("TreeOdds$Reader", "told", "[I", true)
  | 2 => ("TreeOdds$Reader", "lined", "I", false)
  | _ => ("TreeOdds$Reader", "this$0", "LTreeOdds;", true)
def tyX3 : Nat → FieldType := fun k => match k with
  | 0 => .int
  | 1 => .array .int
  | 2 => .int
  | _ => .object "TreeOdds"
abbrev wsX30 : List Cond := u_ws RX3 TX3 4
theorem nmX3 : ∀ a, a < 4 → ∀ b, b < 4 → a ≠ b → (TX3 a).2.1 ≠ (TX3 b).2.1 := by decide +kernel
theorem tyX3_ok : ∀ k, k < 4 → parseFieldDescriptor (TX3 k).2.2.1 = some (tyX3 k) := by decide +kernel
abbrev cX3_init : ByteArray := prog_5_method_1_code
def yX3_init : MethodName := ⟨RX3, "<init>", "(LTreeOdds;)V"⟩
def dkwX3_init_0 : List UInt8 := [42, 43, 181, 0, 3, 42, 183, 0, 9, 42, 16, 100, 188, 10, 181, 0, 15, 177]
abbrev dktX3_init_0 : List UInt8 := dkwX3_init_0 ++ []
theorem dksX3_init_0 : cX3_init.data.toList.drop 0 = dktX3_init_0 := by decide +kernel
theorem dX3_init_0 : decode cX3_init 0 = .ok (.aload_n 0, 1) := dk_42 (dk_at dksX3_init_0 0 rfl rfl)
theorem dX3_init_1 : decode cX3_init 1 = .ok (.aload_n 1, 1) := dk_43 (dk_at dksX3_init_0 1 rfl rfl)
theorem dX3_init_2 : decode cX3_init 2 = .ok (.putfield 3, 3) := dk_181 0 3 (dk_at dksX3_init_0 2 rfl rfl)
theorem dX3_init_5 : decode cX3_init 5 = .ok (.aload_n 0, 1) := dk_42 (dk_at dksX3_init_0 5 rfl rfl)
theorem dX3_init_6 : decode cX3_init 6 = .ok (.invokespecial 9, 3) := dk_183 0 9 (dk_at dksX3_init_0 6 rfl rfl)
theorem dX3_init_9 : decode cX3_init 9 = .ok (.aload_n 0, 1) := dk_42 (dk_at dksX3_init_0 9 rfl rfl)
theorem dX3_init_10 : decode cX3_init 10 = .ok (.bipush 100, 2) := dk_16 100 (dk_at dksX3_init_0 10 rfl rfl)
theorem dX3_init_12 : decode cX3_init 12 = .ok (.newarray .int, 2) := dk_188_10 (dk_at dksX3_init_0 12 rfl rfl)
theorem dX3_init_14 : decode cX3_init 14 = .ok (.putfield 15, 3) := dk_181 0 15 (dk_at dksX3_init_0 14 rfl rfl)
theorem dX3_init_17 : decode cX3_init 17 = .ok (.return_, 1) := dk_177 (dk_at dksX3_init_0 17 rfl rfl)
abbrev cX3_reads : ByteArray := prog_5_method_9_code
def yX3_reads : MethodName := ⟨RX3, "reads", "()V"⟩
def dkwX3_reads_2 : List UInt8 := [42, 182, 0, 60, 167, 255, 220, 177]
abbrev dktX3_reads_2 : List UInt8 := dkwX3_reads_2 ++ []
def dkwX3_reads_1 : List UInt8 := [180, 0, 23, 162, 0, 28, 42, 16, 40, 16, 40, 182, 0, 30, 153, 0, 10, 42, 182, 0, 63, 167, 255, 227]
abbrev dktX3_reads_1 : List UInt8 := dkwX3_reads_1 ++ dktX3_reads_2
def dkwX3_reads_0 : List UInt8 := [42, 2, 181, 0, 19, 42, 3, 181, 0, 46, 42, 182, 0, 43, 42, 180, 0, 19, 42, 180, 0, 3]
abbrev dktX3_reads_0 : List UInt8 := dkwX3_reads_0 ++ dktX3_reads_1
theorem dksX3_reads_0 : cX3_reads.data.toList.drop 0 = dktX3_reads_0 := by decide +kernel
theorem dksX3_reads_1 : cX3_reads.data.toList.drop 22 = dktX3_reads_1 := dk_seg dksX3_reads_0 22 rfl rfl
theorem dksX3_reads_2 : cX3_reads.data.toList.drop 46 = dktX3_reads_2 := dk_seg dksX3_reads_1 24 rfl rfl
theorem dX3_reads_0 : decode cX3_reads 0 = .ok (.aload_n 0, 1) := dk_42 (dk_at dksX3_reads_0 0 rfl rfl)
theorem dX3_reads_1 : decode cX3_reads 1 = .ok (.iconst (-1), 1) := dk_2 (dk_at dksX3_reads_0 1 rfl rfl)
theorem dX3_reads_2 : decode cX3_reads 2 = .ok (.putfield 19, 3) := dk_181 0 19 (dk_at dksX3_reads_0 2 rfl rfl)
theorem dX3_reads_5 : decode cX3_reads 5 = .ok (.aload_n 0, 1) := dk_42 (dk_at dksX3_reads_0 5 rfl rfl)
theorem dX3_reads_6 : decode cX3_reads 6 = .ok (.iconst 0, 1) := dk_3 (dk_at dksX3_reads_0 6 rfl rfl)
theorem dX3_reads_7 : decode cX3_reads 7 = .ok (.putfield 46, 3) := dk_181 0 46 (dk_at dksX3_reads_0 7 rfl rfl)
theorem dX3_reads_10 : decode cX3_reads 10 = .ok (.aload_n 0, 1) := dk_42 (dk_at dksX3_reads_0 10 rfl rfl)
theorem dX3_reads_11 : decode cX3_reads 11 = .ok (.invokevirtual 43, 3) := dk_182 0 43 (dk_at dksX3_reads_0 11 rfl rfl)
theorem dX3_reads_14 : decode cX3_reads 14 = .ok (.aload_n 0, 1) := dk_42 (dk_at dksX3_reads_0 14 rfl rfl)
theorem dX3_reads_15 : decode cX3_reads 15 = .ok (.getfield 19, 3) := dk_180 0 19 (dk_at dksX3_reads_0 15 rfl rfl)
theorem dX3_reads_18 : decode cX3_reads 18 = .ok (.aload_n 0, 1) := dk_42 (dk_at dksX3_reads_0 18 rfl rfl)
theorem dX3_reads_19 : decode cX3_reads 19 = .ok (.getfield 3, 3) := dk_180 0 3 (dk_at dksX3_reads_0 19 rfl rfl)
theorem dX3_reads_22 : decode cX3_reads 22 = .ok (.getfield 23, 3) := dk_180 0 23 (dk_at dksX3_reads_1 0 rfl rfl)
theorem dX3_reads_25 : decode cX3_reads 25 = .ok (.if_icmp .ge 28, 3) := dk_162 0 28 (dk_at dksX3_reads_1 3 rfl rfl)
theorem dX3_reads_28 : decode cX3_reads 28 = .ok (.aload_n 0, 1) := dk_42 (dk_at dksX3_reads_1 6 rfl rfl)
theorem dX3_reads_29 : decode cX3_reads 29 = .ok (.bipush 40, 2) := dk_16 40 (dk_at dksX3_reads_1 7 rfl rfl)
theorem dX3_reads_31 : decode cX3_reads 31 = .ok (.bipush 40, 2) := dk_16 40 (dk_at dksX3_reads_1 9 rfl rfl)
theorem dX3_reads_33 : decode cX3_reads 33 = .ok (.invokevirtual 30, 3) := dk_182 0 30 (dk_at dksX3_reads_1 11 rfl rfl)
theorem dX3_reads_36 : decode cX3_reads 36 = .ok (.ifCond .eq 10, 3) := dk_153 0 10 (dk_at dksX3_reads_1 14 rfl rfl)
theorem dX3_reads_39 : decode cX3_reads 39 = .ok (.aload_n 0, 1) := dk_42 (dk_at dksX3_reads_1 17 rfl rfl)
theorem dX3_reads_40 : decode cX3_reads 40 = .ok (.invokevirtual 63, 3) := dk_182 0 63 (dk_at dksX3_reads_1 18 rfl rfl)
theorem dX3_reads_43 : decode cX3_reads 43 = .ok (.goto (-29), 3) := dk_167 255 227 (dk_at dksX3_reads_1 21 rfl rfl)
theorem dX3_reads_46 : decode cX3_reads 46 = .ok (.aload_n 0, 1) := dk_42 (dk_at dksX3_reads_2 0 rfl rfl)
theorem dX3_reads_47 : decode cX3_reads 47 = .ok (.invokevirtual 60, 3) := dk_182 0 60 (dk_at dksX3_reads_2 1 rfl rfl)
theorem dX3_reads_50 : decode cX3_reads 50 = .ok (.goto (-36), 3) := dk_167 255 220 (dk_at dksX3_reads_2 4 rfl rfl)
theorem dX3_reads_53 : decode cX3_reads 53 = .ok (.return_, 1) := dk_177 (dk_at dksX3_reads_2 7 rfl rfl)
abbrev cX3_goesOn : ByteArray := prog_5_method_3_code
def yX3_goesOn : MethodName := ⟨RX3, "goesOn", "()V"⟩
def dkwX3_goesOn_1 : List UInt8 := [180, 0, 19, 4, 96, 181, 0, 19, 167, 255, 235, 177]
abbrev dktX3_goesOn_1 : List UInt8 := dkwX3_goesOn_1 ++ []
def dkwX3_goesOn_0 : List UInt8 := [42, 89, 180, 0, 19, 4, 96, 181, 0, 19, 42, 16, 32, 16, 32, 182, 0, 30, 153, 0, 16, 42, 89]
abbrev dktX3_goesOn_0 : List UInt8 := dkwX3_goesOn_0 ++ dktX3_goesOn_1
theorem dksX3_goesOn_0 : cX3_goesOn.data.toList.drop 0 = dktX3_goesOn_0 := by decide +kernel
theorem dksX3_goesOn_1 : cX3_goesOn.data.toList.drop 23 = dktX3_goesOn_1 := dk_seg dksX3_goesOn_0 23 rfl rfl
theorem dX3_goesOn_0 : decode cX3_goesOn 0 = .ok (.aload_n 0, 1) := dk_42 (dk_at dksX3_goesOn_0 0 rfl rfl)
theorem dX3_goesOn_1 : decode cX3_goesOn 1 = .ok (.dup, 1) := dk_89 (dk_at dksX3_goesOn_0 1 rfl rfl)
theorem dX3_goesOn_2 : decode cX3_goesOn 2 = .ok (.getfield 19, 3) := dk_180 0 19 (dk_at dksX3_goesOn_0 2 rfl rfl)
theorem dX3_goesOn_5 : decode cX3_goesOn 5 = .ok (.iconst 1, 1) := dk_4 (dk_at dksX3_goesOn_0 5 rfl rfl)
theorem dX3_goesOn_6 : decode cX3_goesOn 6 = .ok (.iadd, 1) := dk_96 (dk_at dksX3_goesOn_0 6 rfl rfl)
theorem dX3_goesOn_7 : decode cX3_goesOn 7 = .ok (.putfield 19, 3) := dk_181 0 19 (dk_at dksX3_goesOn_0 7 rfl rfl)
theorem dX3_goesOn_10 : decode cX3_goesOn 10 = .ok (.aload_n 0, 1) := dk_42 (dk_at dksX3_goesOn_0 10 rfl rfl)
theorem dX3_goesOn_11 : decode cX3_goesOn 11 = .ok (.bipush 32, 2) := dk_16 32 (dk_at dksX3_goesOn_0 11 rfl rfl)
theorem dX3_goesOn_13 : decode cX3_goesOn 13 = .ok (.bipush 32, 2) := dk_16 32 (dk_at dksX3_goesOn_0 13 rfl rfl)
theorem dX3_goesOn_15 : decode cX3_goesOn 15 = .ok (.invokevirtual 30, 3) := dk_182 0 30 (dk_at dksX3_goesOn_0 15 rfl rfl)
theorem dX3_goesOn_18 : decode cX3_goesOn 18 = .ok (.ifCond .eq 16, 3) := dk_153 0 16 (dk_at dksX3_goesOn_0 18 rfl rfl)
theorem dX3_goesOn_21 : decode cX3_goesOn 21 = .ok (.aload_n 0, 1) := dk_42 (dk_at dksX3_goesOn_0 21 rfl rfl)
theorem dX3_goesOn_22 : decode cX3_goesOn 22 = .ok (.dup, 1) := dk_89 (dk_at dksX3_goesOn_0 22 rfl rfl)
theorem dX3_goesOn_23 : decode cX3_goesOn 23 = .ok (.getfield 19, 3) := dk_180 0 19 (dk_at dksX3_goesOn_1 0 rfl rfl)
theorem dX3_goesOn_26 : decode cX3_goesOn 26 = .ok (.iconst 1, 1) := dk_4 (dk_at dksX3_goesOn_1 3 rfl rfl)
theorem dX3_goesOn_27 : decode cX3_goesOn 27 = .ok (.iadd, 1) := dk_96 (dk_at dksX3_goesOn_1 4 rfl rfl)
theorem dX3_goesOn_28 : decode cX3_goesOn 28 = .ok (.putfield 19, 3) := dk_181 0 19 (dk_at dksX3_goesOn_1 5 rfl rfl)
theorem dX3_goesOn_31 : decode cX3_goesOn 31 = .ok (.goto (-21), 3) := dk_167 255 235 (dk_at dksX3_goesOn_1 8 rfl rfl)
theorem dX3_goesOn_34 : decode cX3_goesOn 34 = .ok (.return_, 1) := dk_177 (dk_at dksX3_goesOn_1 11 rfl rfl)
abbrev cX3_isAt : ByteArray := prog_5_method_2_code
def yX3_isAt : MethodName := ⟨RX3, "isAt", "(CC)Z"⟩
def dkwX3_isAt_2 : List UInt8 := [4, 167, 0, 4, 3, 172]
abbrev dktX3_isAt_2 : List UInt8 := dkwX3_isAt_2 ++ []
def dkwX3_isAt_1 : List UInt8 := [180, 0, 19, 51, 27, 161, 0, 23, 42, 180, 0, 3, 180, 0, 26, 42, 180, 0, 19, 51, 28, 163, 0, 7]
abbrev dktX3_isAt_1 : List UInt8 := dkwX3_isAt_1 ++ dktX3_isAt_2
def dkwX3_isAt_0 : List UInt8 := [42, 180, 0, 19, 42, 180, 0, 3, 180, 0, 23, 162, 0, 39, 42, 180, 0, 3, 180, 0, 26, 42]
abbrev dktX3_isAt_0 : List UInt8 := dkwX3_isAt_0 ++ dktX3_isAt_1
theorem dksX3_isAt_0 : cX3_isAt.data.toList.drop 0 = dktX3_isAt_0 := by decide +kernel
theorem dksX3_isAt_1 : cX3_isAt.data.toList.drop 22 = dktX3_isAt_1 := dk_seg dksX3_isAt_0 22 rfl rfl
theorem dksX3_isAt_2 : cX3_isAt.data.toList.drop 46 = dktX3_isAt_2 := dk_seg dksX3_isAt_1 24 rfl rfl
theorem dX3_isAt_0 : decode cX3_isAt 0 = .ok (.aload_n 0, 1) := dk_42 (dk_at dksX3_isAt_0 0 rfl rfl)
theorem dX3_isAt_1 : decode cX3_isAt 1 = .ok (.getfield 19, 3) := dk_180 0 19 (dk_at dksX3_isAt_0 1 rfl rfl)
theorem dX3_isAt_4 : decode cX3_isAt 4 = .ok (.aload_n 0, 1) := dk_42 (dk_at dksX3_isAt_0 4 rfl rfl)
theorem dX3_isAt_5 : decode cX3_isAt 5 = .ok (.getfield 3, 3) := dk_180 0 3 (dk_at dksX3_isAt_0 5 rfl rfl)
theorem dX3_isAt_8 : decode cX3_isAt 8 = .ok (.getfield 23, 3) := dk_180 0 23 (dk_at dksX3_isAt_0 8 rfl rfl)
theorem dX3_isAt_11 : decode cX3_isAt 11 = .ok (.if_icmp .ge 39, 3) := dk_162 0 39 (dk_at dksX3_isAt_0 11 rfl rfl)
theorem dX3_isAt_14 : decode cX3_isAt 14 = .ok (.aload_n 0, 1) := dk_42 (dk_at dksX3_isAt_0 14 rfl rfl)
theorem dX3_isAt_15 : decode cX3_isAt 15 = .ok (.getfield 3, 3) := dk_180 0 3 (dk_at dksX3_isAt_0 15 rfl rfl)
theorem dX3_isAt_18 : decode cX3_isAt 18 = .ok (.getfield 26, 3) := dk_180 0 26 (dk_at dksX3_isAt_0 18 rfl rfl)
theorem dX3_isAt_21 : decode cX3_isAt 21 = .ok (.aload_n 0, 1) := dk_42 (dk_at dksX3_isAt_0 21 rfl rfl)
theorem dX3_isAt_22 : decode cX3_isAt 22 = .ok (.getfield 19, 3) := dk_180 0 19 (dk_at dksX3_isAt_1 0 rfl rfl)
theorem dX3_isAt_25 : decode cX3_isAt 25 = .ok (.baload, 1) := dk_51 (dk_at dksX3_isAt_1 3 rfl rfl)
theorem dX3_isAt_26 : decode cX3_isAt 26 = .ok (.iload_n 1, 1) := dk_27 (dk_at dksX3_isAt_1 4 rfl rfl)
theorem dX3_isAt_27 : decode cX3_isAt 27 = .ok (.if_icmp .lt 23, 3) := dk_161 0 23 (dk_at dksX3_isAt_1 5 rfl rfl)
theorem dX3_isAt_30 : decode cX3_isAt 30 = .ok (.aload_n 0, 1) := dk_42 (dk_at dksX3_isAt_1 8 rfl rfl)
theorem dX3_isAt_31 : decode cX3_isAt 31 = .ok (.getfield 3, 3) := dk_180 0 3 (dk_at dksX3_isAt_1 9 rfl rfl)
theorem dX3_isAt_34 : decode cX3_isAt 34 = .ok (.getfield 26, 3) := dk_180 0 26 (dk_at dksX3_isAt_1 12 rfl rfl)
theorem dX3_isAt_37 : decode cX3_isAt 37 = .ok (.aload_n 0, 1) := dk_42 (dk_at dksX3_isAt_1 15 rfl rfl)
theorem dX3_isAt_38 : decode cX3_isAt 38 = .ok (.getfield 19, 3) := dk_180 0 19 (dk_at dksX3_isAt_1 16 rfl rfl)
theorem dX3_isAt_41 : decode cX3_isAt 41 = .ok (.baload, 1) := dk_51 (dk_at dksX3_isAt_1 19 rfl rfl)
theorem dX3_isAt_42 : decode cX3_isAt 42 = .ok (.iload_n 2, 1) := dk_28 (dk_at dksX3_isAt_1 20 rfl rfl)
theorem dX3_isAt_43 : decode cX3_isAt 43 = .ok (.if_icmp .gt 7, 3) := dk_163 0 7 (dk_at dksX3_isAt_1 21 rfl rfl)
theorem dX3_isAt_46 : decode cX3_isAt 46 = .ok (.iconst 1, 1) := dk_4 (dk_at dksX3_isAt_2 0 rfl rfl)
theorem dX3_isAt_47 : decode cX3_isAt 47 = .ok (.goto 4, 3) := dk_167 0 4 (dk_at dksX3_isAt_2 1 rfl rfl)
theorem dX3_isAt_50 : decode cX3_isAt 50 = .ok (.iconst 0, 1) := dk_3 (dk_at dksX3_isAt_2 4 rfl rfl)
theorem dX3_isAt_51 : decode cX3_isAt 51 = .ok (.ireturn, 1) := dk_172 (dk_at dksX3_isAt_2 5 rfl rfl)
abbrev cX3_group : ByteArray := prog_5_method_8_code
def yX3_group : MethodName := ⟨RX3, "group", "()V"⟩
def dkwX3_group_1 : List UInt8 := [42, 180, 0, 19, 61, 42, 182, 0, 43, 42, 27, 42, 182, 0, 52, 28, 182, 0, 56, 177]
abbrev dktX3_group_1 : List UInt8 := dkwX3_group_1 ++ []
def dkwX3_group_0 : List UInt8 := [42, 182, 0, 43, 42, 180, 0, 46, 60, 42, 182, 0, 60, 42, 16, 41, 16, 41, 182, 0, 30, 153, 255, 244]
abbrev dktX3_group_0 : List UInt8 := dkwX3_group_0 ++ dktX3_group_1
theorem dksX3_group_0 : cX3_group.data.toList.drop 0 = dktX3_group_0 := by decide +kernel
theorem dksX3_group_1 : cX3_group.data.toList.drop 24 = dktX3_group_1 := dk_seg dksX3_group_0 24 rfl rfl
theorem dX3_group_0 : decode cX3_group 0 = .ok (.aload_n 0, 1) := dk_42 (dk_at dksX3_group_0 0 rfl rfl)
theorem dX3_group_1 : decode cX3_group 1 = .ok (.invokevirtual 43, 3) := dk_182 0 43 (dk_at dksX3_group_0 1 rfl rfl)
theorem dX3_group_4 : decode cX3_group 4 = .ok (.aload_n 0, 1) := dk_42 (dk_at dksX3_group_0 4 rfl rfl)
theorem dX3_group_5 : decode cX3_group 5 = .ok (.getfield 46, 3) := dk_180 0 46 (dk_at dksX3_group_0 5 rfl rfl)
theorem dX3_group_8 : decode cX3_group 8 = .ok (.istore_n 1, 1) := dk_60 (dk_at dksX3_group_0 8 rfl rfl)
theorem dX3_group_9 : decode cX3_group 9 = .ok (.aload_n 0, 1) := dk_42 (dk_at dksX3_group_0 9 rfl rfl)
theorem dX3_group_10 : decode cX3_group 10 = .ok (.invokevirtual 60, 3) := dk_182 0 60 (dk_at dksX3_group_0 10 rfl rfl)
theorem dX3_group_13 : decode cX3_group 13 = .ok (.aload_n 0, 1) := dk_42 (dk_at dksX3_group_0 13 rfl rfl)
theorem dX3_group_14 : decode cX3_group 14 = .ok (.bipush 41, 2) := dk_16 41 (dk_at dksX3_group_0 14 rfl rfl)
theorem dX3_group_16 : decode cX3_group 16 = .ok (.bipush 41, 2) := dk_16 41 (dk_at dksX3_group_0 16 rfl rfl)
theorem dX3_group_18 : decode cX3_group 18 = .ok (.invokevirtual 30, 3) := dk_182 0 30 (dk_at dksX3_group_0 18 rfl rfl)
theorem dX3_group_21 : decode cX3_group 21 = .ok (.ifCond .eq (-12), 3) := dk_153 255 244 (dk_at dksX3_group_0 21 rfl rfl)
theorem dX3_group_24 : decode cX3_group 24 = .ok (.aload_n 0, 1) := dk_42 (dk_at dksX3_group_1 0 rfl rfl)
theorem dX3_group_25 : decode cX3_group 25 = .ok (.getfield 19, 3) := dk_180 0 19 (dk_at dksX3_group_1 1 rfl rfl)
theorem dX3_group_28 : decode cX3_group 28 = .ok (.istore_n 2, 1) := dk_61 (dk_at dksX3_group_1 4 rfl rfl)
theorem dX3_group_29 : decode cX3_group 29 = .ok (.aload_n 0, 1) := dk_42 (dk_at dksX3_group_1 5 rfl rfl)
theorem dX3_group_30 : decode cX3_group 30 = .ok (.invokevirtual 43, 3) := dk_182 0 43 (dk_at dksX3_group_1 6 rfl rfl)
theorem dX3_group_33 : decode cX3_group 33 = .ok (.aload_n 0, 1) := dk_42 (dk_at dksX3_group_1 9 rfl rfl)
theorem dX3_group_34 : decode cX3_group 34 = .ok (.iload_n 1, 1) := dk_27 (dk_at dksX3_group_1 10 rfl rfl)
theorem dX3_group_35 : decode cX3_group 35 = .ok (.aload_n 0, 1) := dk_42 (dk_at dksX3_group_1 11 rfl rfl)
theorem dX3_group_36 : decode cX3_group 36 = .ok (.invokevirtual 52, 3) := dk_182 0 52 (dk_at dksX3_group_1 12 rfl rfl)
theorem dX3_group_39 : decode cX3_group 39 = .ok (.iload_n 2, 1) := dk_28 (dk_at dksX3_group_1 15 rfl rfl)
theorem dX3_group_40 : decode cX3_group 40 = .ok (.invokevirtual 56, 3) := dk_182 0 56 (dk_at dksX3_group_1 16 rfl rfl)
theorem dX3_group_43 : decode cX3_group 43 = .ok (.return_, 1) := dk_177 (dk_at dksX3_group_1 19 rfl rfl)
abbrev cX3_sign : ByteArray := prog_5_method_7_code
def yX3_sign : MethodName := ⟨RX3, "sign", "()V"⟩
def dkwX3_sign_4 : List UInt8 := [180, 0, 46, 4, 100, 42, 182, 0, 52, 27, 182, 0, 56, 177]
abbrev dktX3_sign_4 : List UInt8 := dkwX3_sign_4 ++ []
def dkwX3_sign_3 : List UInt8 := [4, 96, 181, 0, 46, 42, 182, 0, 43, 42, 16, 120, 16, 120, 182, 0, 30, 153, 0, 18, 42, 42]
abbrev dktX3_sign_3 : List UInt8 := dkwX3_sign_3 ++ dktX3_sign_4
def dkwX3_sign_2 : List UInt8 := [180, 0, 46, 42, 180, 0, 3, 180, 0, 26, 42, 180, 0, 19, 51, 16, 48, 100, 79, 42, 89, 180, 0, 46]
abbrev dktX3_sign_2 : List UInt8 := dkwX3_sign_2 ++ dktX3_sign_3
def dkwX3_sign_1 : List UInt8 := [42, 180, 0, 46, 96, 16, 100, 160, 0, 12, 187, 0, 34, 89, 27, 183, 0, 36, 191, 42, 180, 0, 15, 42]
abbrev dktX3_sign_1 : List UInt8 := dkwX3_sign_1 ++ dktX3_sign_2
def dkwX3_sign_0 : List UInt8 := [42, 180, 0, 19, 60, 42, 42, 16, 48, 16, 49, 182, 0, 30, 182, 0, 39, 42, 180, 0, 3, 180, 0, 49]
abbrev dktX3_sign_0 : List UInt8 := dkwX3_sign_0 ++ dktX3_sign_1
theorem dksX3_sign_0 : cX3_sign.data.toList.drop 0 = dktX3_sign_0 := by decide +kernel
theorem dksX3_sign_1 : cX3_sign.data.toList.drop 24 = dktX3_sign_1 := dk_seg dksX3_sign_0 24 rfl rfl
theorem dksX3_sign_2 : cX3_sign.data.toList.drop 48 = dktX3_sign_2 := dk_seg dksX3_sign_1 24 rfl rfl
theorem dksX3_sign_3 : cX3_sign.data.toList.drop 72 = dktX3_sign_3 := dk_seg dksX3_sign_2 24 rfl rfl
theorem dksX3_sign_4 : cX3_sign.data.toList.drop 94 = dktX3_sign_4 := dk_seg dksX3_sign_3 22 rfl rfl
theorem dX3_sign_0 : decode cX3_sign 0 = .ok (.aload_n 0, 1) := dk_42 (dk_at dksX3_sign_0 0 rfl rfl)
theorem dX3_sign_1 : decode cX3_sign 1 = .ok (.getfield 19, 3) := dk_180 0 19 (dk_at dksX3_sign_0 1 rfl rfl)
theorem dX3_sign_4 : decode cX3_sign 4 = .ok (.istore_n 1, 1) := dk_60 (dk_at dksX3_sign_0 4 rfl rfl)
theorem dX3_sign_5 : decode cX3_sign 5 = .ok (.aload_n 0, 1) := dk_42 (dk_at dksX3_sign_0 5 rfl rfl)
theorem dX3_sign_6 : decode cX3_sign 6 = .ok (.aload_n 0, 1) := dk_42 (dk_at dksX3_sign_0 6 rfl rfl)
theorem dX3_sign_7 : decode cX3_sign 7 = .ok (.bipush 48, 2) := dk_16 48 (dk_at dksX3_sign_0 7 rfl rfl)
theorem dX3_sign_9 : decode cX3_sign 9 = .ok (.bipush 49, 2) := dk_16 49 (dk_at dksX3_sign_0 9 rfl rfl)
theorem dX3_sign_11 : decode cX3_sign 11 = .ok (.invokevirtual 30, 3) := dk_182 0 30 (dk_at dksX3_sign_0 11 rfl rfl)
theorem dX3_sign_14 : decode cX3_sign 14 = .ok (.invokevirtual 39, 3) := dk_182 0 39 (dk_at dksX3_sign_0 14 rfl rfl)
theorem dX3_sign_17 : decode cX3_sign 17 = .ok (.aload_n 0, 1) := dk_42 (dk_at dksX3_sign_0 17 rfl rfl)
theorem dX3_sign_18 : decode cX3_sign 18 = .ok (.getfield 3, 3) := dk_180 0 3 (dk_at dksX3_sign_0 18 rfl rfl)
theorem dX3_sign_21 : decode cX3_sign 21 = .ok (.getfield 49, 3) := dk_180 0 49 (dk_at dksX3_sign_0 21 rfl rfl)
theorem dX3_sign_24 : decode cX3_sign 24 = .ok (.aload_n 0, 1) := dk_42 (dk_at dksX3_sign_1 0 rfl rfl)
theorem dX3_sign_25 : decode cX3_sign 25 = .ok (.getfield 46, 3) := dk_180 0 46 (dk_at dksX3_sign_1 1 rfl rfl)
theorem dX3_sign_28 : decode cX3_sign 28 = .ok (.iadd, 1) := dk_96 (dk_at dksX3_sign_1 4 rfl rfl)
theorem dX3_sign_29 : decode cX3_sign 29 = .ok (.bipush 100, 2) := dk_16 100 (dk_at dksX3_sign_1 5 rfl rfl)
theorem dX3_sign_31 : decode cX3_sign 31 = .ok (.if_icmp .ne 12, 3) := dk_160 0 12 (dk_at dksX3_sign_1 7 rfl rfl)
theorem dX3_sign_34 : decode cX3_sign 34 = .ok (.new 34, 3) := dk_187 0 34 (dk_at dksX3_sign_1 10 rfl rfl)
theorem dX3_sign_37 : decode cX3_sign 37 = .ok (.dup, 1) := dk_89 (dk_at dksX3_sign_1 13 rfl rfl)
theorem dX3_sign_38 : decode cX3_sign 38 = .ok (.iload_n 1, 1) := dk_27 (dk_at dksX3_sign_1 14 rfl rfl)
theorem dX3_sign_39 : decode cX3_sign 39 = .ok (.invokespecial 36, 3) := dk_183 0 36 (dk_at dksX3_sign_1 15 rfl rfl)
theorem dX3_sign_42 : decode cX3_sign 42 = .ok (.athrow, 1) := dk_191 (dk_at dksX3_sign_1 18 rfl rfl)
theorem dX3_sign_43 : decode cX3_sign 43 = .ok (.aload_n 0, 1) := dk_42 (dk_at dksX3_sign_1 19 rfl rfl)
theorem dX3_sign_44 : decode cX3_sign 44 = .ok (.getfield 15, 3) := dk_180 0 15 (dk_at dksX3_sign_1 20 rfl rfl)
theorem dX3_sign_47 : decode cX3_sign 47 = .ok (.aload_n 0, 1) := dk_42 (dk_at dksX3_sign_1 23 rfl rfl)
theorem dX3_sign_48 : decode cX3_sign 48 = .ok (.getfield 46, 3) := dk_180 0 46 (dk_at dksX3_sign_2 0 rfl rfl)
theorem dX3_sign_51 : decode cX3_sign 51 = .ok (.aload_n 0, 1) := dk_42 (dk_at dksX3_sign_2 3 rfl rfl)
theorem dX3_sign_52 : decode cX3_sign 52 = .ok (.getfield 3, 3) := dk_180 0 3 (dk_at dksX3_sign_2 4 rfl rfl)
theorem dX3_sign_55 : decode cX3_sign 55 = .ok (.getfield 26, 3) := dk_180 0 26 (dk_at dksX3_sign_2 7 rfl rfl)
theorem dX3_sign_58 : decode cX3_sign 58 = .ok (.aload_n 0, 1) := dk_42 (dk_at dksX3_sign_2 10 rfl rfl)
theorem dX3_sign_59 : decode cX3_sign 59 = .ok (.getfield 19, 3) := dk_180 0 19 (dk_at dksX3_sign_2 11 rfl rfl)
theorem dX3_sign_62 : decode cX3_sign 62 = .ok (.baload, 1) := dk_51 (dk_at dksX3_sign_2 14 rfl rfl)
theorem dX3_sign_63 : decode cX3_sign 63 = .ok (.bipush 48, 2) := dk_16 48 (dk_at dksX3_sign_2 15 rfl rfl)
theorem dX3_sign_65 : decode cX3_sign 65 = .ok (.isub, 1) := dk_100 (dk_at dksX3_sign_2 17 rfl rfl)
theorem dX3_sign_66 : decode cX3_sign 66 = .ok (.iastore, 1) := dk_79 (dk_at dksX3_sign_2 18 rfl rfl)
theorem dX3_sign_67 : decode cX3_sign 67 = .ok (.aload_n 0, 1) := dk_42 (dk_at dksX3_sign_2 19 rfl rfl)
theorem dX3_sign_68 : decode cX3_sign 68 = .ok (.dup, 1) := dk_89 (dk_at dksX3_sign_2 20 rfl rfl)
theorem dX3_sign_69 : decode cX3_sign 69 = .ok (.getfield 46, 3) := dk_180 0 46 (dk_at dksX3_sign_2 21 rfl rfl)
theorem dX3_sign_72 : decode cX3_sign 72 = .ok (.iconst 1, 1) := dk_4 (dk_at dksX3_sign_3 0 rfl rfl)
theorem dX3_sign_73 : decode cX3_sign 73 = .ok (.iadd, 1) := dk_96 (dk_at dksX3_sign_3 1 rfl rfl)
theorem dX3_sign_74 : decode cX3_sign 74 = .ok (.putfield 46, 3) := dk_181 0 46 (dk_at dksX3_sign_3 2 rfl rfl)
theorem dX3_sign_77 : decode cX3_sign 77 = .ok (.aload_n 0, 1) := dk_42 (dk_at dksX3_sign_3 5 rfl rfl)
theorem dX3_sign_78 : decode cX3_sign 78 = .ok (.invokevirtual 43, 3) := dk_182 0 43 (dk_at dksX3_sign_3 6 rfl rfl)
theorem dX3_sign_81 : decode cX3_sign 81 = .ok (.aload_n 0, 1) := dk_42 (dk_at dksX3_sign_3 9 rfl rfl)
theorem dX3_sign_82 : decode cX3_sign 82 = .ok (.bipush 120, 2) := dk_16 120 (dk_at dksX3_sign_3 10 rfl rfl)
theorem dX3_sign_84 : decode cX3_sign 84 = .ok (.bipush 120, 2) := dk_16 120 (dk_at dksX3_sign_3 12 rfl rfl)
theorem dX3_sign_86 : decode cX3_sign 86 = .ok (.invokevirtual 30, 3) := dk_182 0 30 (dk_at dksX3_sign_3 14 rfl rfl)
theorem dX3_sign_89 : decode cX3_sign 89 = .ok (.ifCond .eq 18, 3) := dk_153 0 18 (dk_at dksX3_sign_3 17 rfl rfl)
theorem dX3_sign_92 : decode cX3_sign 92 = .ok (.aload_n 0, 1) := dk_42 (dk_at dksX3_sign_3 20 rfl rfl)
theorem dX3_sign_93 : decode cX3_sign 93 = .ok (.aload_n 0, 1) := dk_42 (dk_at dksX3_sign_3 21 rfl rfl)
theorem dX3_sign_94 : decode cX3_sign 94 = .ok (.getfield 46, 3) := dk_180 0 46 (dk_at dksX3_sign_4 0 rfl rfl)
theorem dX3_sign_97 : decode cX3_sign 97 = .ok (.iconst 1, 1) := dk_4 (dk_at dksX3_sign_4 3 rfl rfl)
theorem dX3_sign_98 : decode cX3_sign 98 = .ok (.isub, 1) := dk_100 (dk_at dksX3_sign_4 4 rfl rfl)
theorem dX3_sign_99 : decode cX3_sign 99 = .ok (.aload_n 0, 1) := dk_42 (dk_at dksX3_sign_4 5 rfl rfl)
theorem dX3_sign_100 : decode cX3_sign 100 = .ok (.invokevirtual 52, 3) := dk_182 0 52 (dk_at dksX3_sign_4 6 rfl rfl)
theorem dX3_sign_103 : decode cX3_sign 103 = .ok (.iload_n 1, 1) := dk_27 (dk_at dksX3_sign_4 9 rfl rfl)
theorem dX3_sign_104 : decode cX3_sign 104 = .ok (.invokevirtual 56, 3) := dk_182 0 56 (dk_at dksX3_sign_4 10 rfl rfl)
theorem dX3_sign_107 : decode cX3_sign 107 = .ok (.return_, 1) := dk_177 (dk_at dksX3_sign_4 13 rfl rfl)
abbrev cX3_wants : ByteArray := prog_5_method_4_code
def yX3_wants : MethodName := ⟨RX3, "wants", "(Z)V"⟩
def dkwX3_wants_0 : List UInt8 := [27, 154, 0, 15, 187, 0, 34, 89, 42, 180, 0, 19, 183, 0, 36, 191, 177]
abbrev dktX3_wants_0 : List UInt8 := dkwX3_wants_0 ++ []
theorem dksX3_wants_0 : cX3_wants.data.toList.drop 0 = dktX3_wants_0 := by decide +kernel
theorem dX3_wants_0 : decode cX3_wants 0 = .ok (.iload_n 1, 1) := dk_27 (dk_at dksX3_wants_0 0 rfl rfl)
theorem dX3_wants_1 : decode cX3_wants 1 = .ok (.ifCond .ne 15, 3) := dk_154 0 15 (dk_at dksX3_wants_0 1 rfl rfl)
theorem dX3_wants_4 : decode cX3_wants 4 = .ok (.new 34, 3) := dk_187 0 34 (dk_at dksX3_wants_0 4 rfl rfl)
theorem dX3_wants_7 : decode cX3_wants 7 = .ok (.dup, 1) := dk_89 (dk_at dksX3_wants_0 7 rfl rfl)
theorem dX3_wants_8 : decode cX3_wants 8 = .ok (.aload_n 0, 1) := dk_42 (dk_at dksX3_wants_0 8 rfl rfl)
theorem dX3_wants_9 : decode cX3_wants 9 = .ok (.getfield 19, 3) := dk_180 0 19 (dk_at dksX3_wants_0 9 rfl rfl)
theorem dX3_wants_12 : decode cX3_wants 12 = .ok (.invokespecial 36, 3) := dk_183 0 36 (dk_at dksX3_wants_0 12 rfl rfl)
theorem dX3_wants_15 : decode cX3_wants 15 = .ok (.athrow, 1) := dk_191 (dk_at dksX3_wants_0 15 rfl rfl)
theorem dX3_wants_16 : decode cX3_wants 16 = .ok (.return_, 1) := dk_177 (dk_at dksX3_wants_0 16 rfl rfl)
abbrev cX3_times : ByteArray := prog_5_method_5_code
def yX3_times : MethodName := ⟨RX3, "times", "()I"⟩
def dkwX3_times_5 : List UInt8 := [172]
abbrev dktX3_times_5 : List UInt8 := dkwX3_times_5 ++ []
def dkwX3_times_4 : List UInt8 := [187, 0, 34, 89, 27, 183, 0, 36, 191, 42, 89, 180, 0, 19, 4, 100, 181, 0, 19, 42, 182, 0, 43, 28]
abbrev dktX3_times_4 : List UInt8 := dkwX3_times_4 ++ dktX3_times_5
def dkwX3_times_3 : List UInt8 := [180, 0, 19, 4, 96, 181, 0, 19, 132, 3, 1, 167, 255, 202, 28, 153, 0, 8, 29, 5, 164, 0, 12]
abbrev dktX3_times_3 : List UInt8 := dkwX3_times_3 ++ dktX3_times_4
def dkwX3_times_2 : List UInt8 := [180, 0, 3, 180, 0, 26, 42, 180, 0, 19, 51, 96, 16, 48, 100, 167, 0, 4, 3, 61, 42, 89]
abbrev dktX3_times_2 : List UInt8 := dkwX3_times_2 ++ dktX3_times_3
def dkwX3_times_1 : List UInt8 := [62, 42, 16, 48, 16, 57, 182, 0, 30, 153, 0, 49, 29, 5, 162, 0, 26, 16, 10, 28, 104, 42]
abbrev dktX3_times_1 : List UInt8 := dkwX3_times_1 ++ dktX3_times_2
def dkwX3_times_0 : List UInt8 := [42, 42, 16, 120, 16, 120, 182, 0, 30, 182, 0, 39, 42, 182, 0, 43, 42, 180, 0, 19, 60, 3, 61, 3]
abbrev dktX3_times_0 : List UInt8 := dkwX3_times_0 ++ dktX3_times_1
theorem dksX3_times_0 : cX3_times.data.toList.drop 0 = dktX3_times_0 := by decide +kernel
theorem dksX3_times_1 : cX3_times.data.toList.drop 24 = dktX3_times_1 := dk_seg dksX3_times_0 24 rfl rfl
theorem dksX3_times_2 : cX3_times.data.toList.drop 46 = dktX3_times_2 := dk_seg dksX3_times_1 22 rfl rfl
theorem dksX3_times_3 : cX3_times.data.toList.drop 68 = dktX3_times_3 := dk_seg dksX3_times_2 22 rfl rfl
theorem dksX3_times_4 : cX3_times.data.toList.drop 91 = dktX3_times_4 := dk_seg dksX3_times_3 23 rfl rfl
theorem dksX3_times_5 : cX3_times.data.toList.drop 115 = dktX3_times_5 := dk_seg dksX3_times_4 24 rfl rfl
theorem dX3_times_0 : decode cX3_times 0 = .ok (.aload_n 0, 1) := dk_42 (dk_at dksX3_times_0 0 rfl rfl)
theorem dX3_times_1 : decode cX3_times 1 = .ok (.aload_n 0, 1) := dk_42 (dk_at dksX3_times_0 1 rfl rfl)
theorem dX3_times_2 : decode cX3_times 2 = .ok (.bipush 120, 2) := dk_16 120 (dk_at dksX3_times_0 2 rfl rfl)
theorem dX3_times_4 : decode cX3_times 4 = .ok (.bipush 120, 2) := dk_16 120 (dk_at dksX3_times_0 4 rfl rfl)
theorem dX3_times_6 : decode cX3_times 6 = .ok (.invokevirtual 30, 3) := dk_182 0 30 (dk_at dksX3_times_0 6 rfl rfl)
theorem dX3_times_9 : decode cX3_times 9 = .ok (.invokevirtual 39, 3) := dk_182 0 39 (dk_at dksX3_times_0 9 rfl rfl)
theorem dX3_times_12 : decode cX3_times 12 = .ok (.aload_n 0, 1) := dk_42 (dk_at dksX3_times_0 12 rfl rfl)
theorem dX3_times_13 : decode cX3_times 13 = .ok (.invokevirtual 43, 3) := dk_182 0 43 (dk_at dksX3_times_0 13 rfl rfl)
theorem dX3_times_16 : decode cX3_times 16 = .ok (.aload_n 0, 1) := dk_42 (dk_at dksX3_times_0 16 rfl rfl)
theorem dX3_times_17 : decode cX3_times 17 = .ok (.getfield 19, 3) := dk_180 0 19 (dk_at dksX3_times_0 17 rfl rfl)
theorem dX3_times_20 : decode cX3_times 20 = .ok (.istore_n 1, 1) := dk_60 (dk_at dksX3_times_0 20 rfl rfl)
theorem dX3_times_21 : decode cX3_times 21 = .ok (.iconst 0, 1) := dk_3 (dk_at dksX3_times_0 21 rfl rfl)
theorem dX3_times_22 : decode cX3_times 22 = .ok (.istore_n 2, 1) := dk_61 (dk_at dksX3_times_0 22 rfl rfl)
theorem dX3_times_23 : decode cX3_times 23 = .ok (.iconst 0, 1) := dk_3 (dk_at dksX3_times_0 23 rfl rfl)
theorem dX3_times_24 : decode cX3_times 24 = .ok (.istore_n 3, 1) := dk_62 (dk_at dksX3_times_1 0 rfl rfl)
theorem dX3_times_25 : decode cX3_times 25 = .ok (.aload_n 0, 1) := dk_42 (dk_at dksX3_times_1 1 rfl rfl)
theorem dX3_times_26 : decode cX3_times 26 = .ok (.bipush 48, 2) := dk_16 48 (dk_at dksX3_times_1 2 rfl rfl)
theorem dX3_times_28 : decode cX3_times 28 = .ok (.bipush 57, 2) := dk_16 57 (dk_at dksX3_times_1 4 rfl rfl)
theorem dX3_times_30 : decode cX3_times 30 = .ok (.invokevirtual 30, 3) := dk_182 0 30 (dk_at dksX3_times_1 6 rfl rfl)
theorem dX3_times_33 : decode cX3_times 33 = .ok (.ifCond .eq 49, 3) := dk_153 0 49 (dk_at dksX3_times_1 9 rfl rfl)
theorem dX3_times_36 : decode cX3_times 36 = .ok (.iload_n 3, 1) := dk_29 (dk_at dksX3_times_1 12 rfl rfl)
theorem dX3_times_37 : decode cX3_times 37 = .ok (.iconst 2, 1) := dk_5 (dk_at dksX3_times_1 13 rfl rfl)
theorem dX3_times_38 : decode cX3_times 38 = .ok (.if_icmp .ge 26, 3) := dk_162 0 26 (dk_at dksX3_times_1 14 rfl rfl)
theorem dX3_times_41 : decode cX3_times 41 = .ok (.bipush 10, 2) := dk_16 10 (dk_at dksX3_times_1 17 rfl rfl)
theorem dX3_times_43 : decode cX3_times 43 = .ok (.iload_n 2, 1) := dk_28 (dk_at dksX3_times_1 19 rfl rfl)
theorem dX3_times_44 : decode cX3_times 44 = .ok (.imul, 1) := dk_104 (dk_at dksX3_times_1 20 rfl rfl)
theorem dX3_times_45 : decode cX3_times 45 = .ok (.aload_n 0, 1) := dk_42 (dk_at dksX3_times_1 21 rfl rfl)
theorem dX3_times_46 : decode cX3_times 46 = .ok (.getfield 3, 3) := dk_180 0 3 (dk_at dksX3_times_2 0 rfl rfl)
theorem dX3_times_49 : decode cX3_times 49 = .ok (.getfield 26, 3) := dk_180 0 26 (dk_at dksX3_times_2 3 rfl rfl)
theorem dX3_times_52 : decode cX3_times 52 = .ok (.aload_n 0, 1) := dk_42 (dk_at dksX3_times_2 6 rfl rfl)
theorem dX3_times_53 : decode cX3_times 53 = .ok (.getfield 19, 3) := dk_180 0 19 (dk_at dksX3_times_2 7 rfl rfl)
theorem dX3_times_56 : decode cX3_times 56 = .ok (.baload, 1) := dk_51 (dk_at dksX3_times_2 10 rfl rfl)
theorem dX3_times_57 : decode cX3_times 57 = .ok (.iadd, 1) := dk_96 (dk_at dksX3_times_2 11 rfl rfl)
theorem dX3_times_58 : decode cX3_times 58 = .ok (.bipush 48, 2) := dk_16 48 (dk_at dksX3_times_2 12 rfl rfl)
theorem dX3_times_60 : decode cX3_times 60 = .ok (.isub, 1) := dk_100 (dk_at dksX3_times_2 14 rfl rfl)
theorem dX3_times_61 : decode cX3_times 61 = .ok (.goto 4, 3) := dk_167 0 4 (dk_at dksX3_times_2 15 rfl rfl)
theorem dX3_times_64 : decode cX3_times 64 = .ok (.iconst 0, 1) := dk_3 (dk_at dksX3_times_2 18 rfl rfl)
theorem dX3_times_65 : decode cX3_times 65 = .ok (.istore_n 2, 1) := dk_61 (dk_at dksX3_times_2 19 rfl rfl)
theorem dX3_times_66 : decode cX3_times 66 = .ok (.aload_n 0, 1) := dk_42 (dk_at dksX3_times_2 20 rfl rfl)
theorem dX3_times_67 : decode cX3_times 67 = .ok (.dup, 1) := dk_89 (dk_at dksX3_times_2 21 rfl rfl)
theorem dX3_times_68 : decode cX3_times 68 = .ok (.getfield 19, 3) := dk_180 0 19 (dk_at dksX3_times_3 0 rfl rfl)
theorem dX3_times_71 : decode cX3_times 71 = .ok (.iconst 1, 1) := dk_4 (dk_at dksX3_times_3 3 rfl rfl)
theorem dX3_times_72 : decode cX3_times 72 = .ok (.iadd, 1) := dk_96 (dk_at dksX3_times_3 4 rfl rfl)
theorem dX3_times_73 : decode cX3_times 73 = .ok (.putfield 19, 3) := dk_181 0 19 (dk_at dksX3_times_3 5 rfl rfl)
theorem dX3_times_76 : decode cX3_times 76 = .ok (.iinc 3 1, 3) := dk_132 3 1 (dk_at dksX3_times_3 8 rfl rfl)
theorem dX3_times_79 : decode cX3_times 79 = .ok (.goto (-54), 3) := dk_167 255 202 (dk_at dksX3_times_3 11 rfl rfl)
theorem dX3_times_82 : decode cX3_times 82 = .ok (.iload_n 2, 1) := dk_28 (dk_at dksX3_times_3 14 rfl rfl)
theorem dX3_times_83 : decode cX3_times 83 = .ok (.ifCond .eq 8, 3) := dk_153 0 8 (dk_at dksX3_times_3 15 rfl rfl)
theorem dX3_times_86 : decode cX3_times 86 = .ok (.iload_n 3, 1) := dk_29 (dk_at dksX3_times_3 18 rfl rfl)
theorem dX3_times_87 : decode cX3_times 87 = .ok (.iconst 2, 1) := dk_5 (dk_at dksX3_times_3 19 rfl rfl)
theorem dX3_times_88 : decode cX3_times 88 = .ok (.if_icmp .le 12, 3) := dk_164 0 12 (dk_at dksX3_times_3 20 rfl rfl)
theorem dX3_times_91 : decode cX3_times 91 = .ok (.new 34, 3) := dk_187 0 34 (dk_at dksX3_times_4 0 rfl rfl)
theorem dX3_times_94 : decode cX3_times 94 = .ok (.dup, 1) := dk_89 (dk_at dksX3_times_4 3 rfl rfl)
theorem dX3_times_95 : decode cX3_times 95 = .ok (.iload_n 1, 1) := dk_27 (dk_at dksX3_times_4 4 rfl rfl)
theorem dX3_times_96 : decode cX3_times 96 = .ok (.invokespecial 36, 3) := dk_183 0 36 (dk_at dksX3_times_4 5 rfl rfl)
theorem dX3_times_99 : decode cX3_times 99 = .ok (.athrow, 1) := dk_191 (dk_at dksX3_times_4 8 rfl rfl)
theorem dX3_times_100 : decode cX3_times 100 = .ok (.aload_n 0, 1) := dk_42 (dk_at dksX3_times_4 9 rfl rfl)
theorem dX3_times_101 : decode cX3_times 101 = .ok (.dup, 1) := dk_89 (dk_at dksX3_times_4 10 rfl rfl)
theorem dX3_times_102 : decode cX3_times 102 = .ok (.getfield 19, 3) := dk_180 0 19 (dk_at dksX3_times_4 11 rfl rfl)
theorem dX3_times_105 : decode cX3_times 105 = .ok (.iconst 1, 1) := dk_4 (dk_at dksX3_times_4 14 rfl rfl)
theorem dX3_times_106 : decode cX3_times 106 = .ok (.isub, 1) := dk_100 (dk_at dksX3_times_4 15 rfl rfl)
theorem dX3_times_107 : decode cX3_times 107 = .ok (.putfield 19, 3) := dk_181 0 19 (dk_at dksX3_times_4 16 rfl rfl)
theorem dX3_times_110 : decode cX3_times 110 = .ok (.aload_n 0, 1) := dk_42 (dk_at dksX3_times_4 19 rfl rfl)
theorem dX3_times_111 : decode cX3_times 111 = .ok (.invokevirtual 43, 3) := dk_182 0 43 (dk_at dksX3_times_4 20 rfl rfl)
theorem dX3_times_114 : decode cX3_times 114 = .ok (.iload_n 2, 1) := dk_28 (dk_at dksX3_times_4 23 rfl rfl)
theorem dX3_times_115 : decode cX3_times 115 = .ok (.ireturn, 1) := dk_172 (dk_at dksX3_times_5 0 rfl rfl)
abbrev cX3_repeats : ByteArray := prog_5_method_6_code
def yX3_repeats : MethodName := ⟨RX3, "repeats", "(III)V"⟩
def dkwX3_repeats_3 : List UInt8 := [132, 5, 1, 167, 255, 225, 42, 27, 21, 4, 28, 104, 96, 181, 0, 46, 177]
abbrev dktX3_repeats_3 : List UInt8 := dkwX3_repeats_3 ++ []
def dkwX3_repeats_2 : List UInt8 := [104, 96, 162, 0, 26, 42, 180, 0, 15, 21, 5, 42, 180, 0, 15, 21, 5, 21, 4, 100, 46, 79]
abbrev dktX3_repeats_2 : List UInt8 := dkwX3_repeats_2 ++ dktX3_repeats_3
def dkwX3_repeats_1 : List UInt8 := [164, 0, 12, 187, 0, 34, 89, 29, 183, 0, 36, 191, 42, 180, 0, 46, 54, 5, 21, 5, 27, 21, 4, 28]
abbrev dktX3_repeats_1 : List UInt8 := dkwX3_repeats_1 ++ dktX3_repeats_2
def dkwX3_repeats_0 : List UInt8 := [42, 180, 0, 46, 27, 100, 54, 4, 42, 180, 0, 3, 180, 0, 49, 27, 96, 21, 4, 28, 104, 96, 16, 100]
abbrev dktX3_repeats_0 : List UInt8 := dkwX3_repeats_0 ++ dktX3_repeats_1
theorem dksX3_repeats_0 : cX3_repeats.data.toList.drop 0 = dktX3_repeats_0 := by decide +kernel
theorem dksX3_repeats_1 : cX3_repeats.data.toList.drop 24 = dktX3_repeats_1 := dk_seg dksX3_repeats_0 24 rfl rfl
theorem dksX3_repeats_2 : cX3_repeats.data.toList.drop 48 = dktX3_repeats_2 := dk_seg dksX3_repeats_1 24 rfl rfl
theorem dksX3_repeats_3 : cX3_repeats.data.toList.drop 70 = dktX3_repeats_3 := dk_seg dksX3_repeats_2 22 rfl rfl
theorem dX3_repeats_0 : decode cX3_repeats 0 = .ok (.aload_n 0, 1) := dk_42 (dk_at dksX3_repeats_0 0 rfl rfl)
theorem dX3_repeats_1 : decode cX3_repeats 1 = .ok (.getfield 46, 3) := dk_180 0 46 (dk_at dksX3_repeats_0 1 rfl rfl)
theorem dX3_repeats_4 : decode cX3_repeats 4 = .ok (.iload_n 1, 1) := dk_27 (dk_at dksX3_repeats_0 4 rfl rfl)
theorem dX3_repeats_5 : decode cX3_repeats 5 = .ok (.isub, 1) := dk_100 (dk_at dksX3_repeats_0 5 rfl rfl)
theorem dX3_repeats_6 : decode cX3_repeats 6 = .ok (.istore 4, 2) := dk_54 4 (dk_at dksX3_repeats_0 6 rfl rfl)
theorem dX3_repeats_8 : decode cX3_repeats 8 = .ok (.aload_n 0, 1) := dk_42 (dk_at dksX3_repeats_0 8 rfl rfl)
theorem dX3_repeats_9 : decode cX3_repeats 9 = .ok (.getfield 3, 3) := dk_180 0 3 (dk_at dksX3_repeats_0 9 rfl rfl)
theorem dX3_repeats_12 : decode cX3_repeats 12 = .ok (.getfield 49, 3) := dk_180 0 49 (dk_at dksX3_repeats_0 12 rfl rfl)
theorem dX3_repeats_15 : decode cX3_repeats 15 = .ok (.iload_n 1, 1) := dk_27 (dk_at dksX3_repeats_0 15 rfl rfl)
theorem dX3_repeats_16 : decode cX3_repeats 16 = .ok (.iadd, 1) := dk_96 (dk_at dksX3_repeats_0 16 rfl rfl)
theorem dX3_repeats_17 : decode cX3_repeats 17 = .ok (.iload 4, 2) := dk_21 4 (dk_at dksX3_repeats_0 17 rfl rfl)
theorem dX3_repeats_19 : decode cX3_repeats 19 = .ok (.iload_n 2, 1) := dk_28 (dk_at dksX3_repeats_0 19 rfl rfl)
theorem dX3_repeats_20 : decode cX3_repeats 20 = .ok (.imul, 1) := dk_104 (dk_at dksX3_repeats_0 20 rfl rfl)
theorem dX3_repeats_21 : decode cX3_repeats 21 = .ok (.iadd, 1) := dk_96 (dk_at dksX3_repeats_0 21 rfl rfl)
theorem dX3_repeats_22 : decode cX3_repeats 22 = .ok (.bipush 100, 2) := dk_16 100 (dk_at dksX3_repeats_0 22 rfl rfl)
theorem dX3_repeats_24 : decode cX3_repeats 24 = .ok (.if_icmp .le 12, 3) := dk_164 0 12 (dk_at dksX3_repeats_1 0 rfl rfl)
theorem dX3_repeats_27 : decode cX3_repeats 27 = .ok (.new 34, 3) := dk_187 0 34 (dk_at dksX3_repeats_1 3 rfl rfl)
theorem dX3_repeats_30 : decode cX3_repeats 30 = .ok (.dup, 1) := dk_89 (dk_at dksX3_repeats_1 6 rfl rfl)
theorem dX3_repeats_31 : decode cX3_repeats 31 = .ok (.iload_n 3, 1) := dk_29 (dk_at dksX3_repeats_1 7 rfl rfl)
theorem dX3_repeats_32 : decode cX3_repeats 32 = .ok (.invokespecial 36, 3) := dk_183 0 36 (dk_at dksX3_repeats_1 8 rfl rfl)
theorem dX3_repeats_35 : decode cX3_repeats 35 = .ok (.athrow, 1) := dk_191 (dk_at dksX3_repeats_1 11 rfl rfl)
theorem dX3_repeats_36 : decode cX3_repeats 36 = .ok (.aload_n 0, 1) := dk_42 (dk_at dksX3_repeats_1 12 rfl rfl)
theorem dX3_repeats_37 : decode cX3_repeats 37 = .ok (.getfield 46, 3) := dk_180 0 46 (dk_at dksX3_repeats_1 13 rfl rfl)
theorem dX3_repeats_40 : decode cX3_repeats 40 = .ok (.istore 5, 2) := dk_54 5 (dk_at dksX3_repeats_1 16 rfl rfl)
theorem dX3_repeats_42 : decode cX3_repeats 42 = .ok (.iload 5, 2) := dk_21 5 (dk_at dksX3_repeats_1 18 rfl rfl)
theorem dX3_repeats_44 : decode cX3_repeats 44 = .ok (.iload_n 1, 1) := dk_27 (dk_at dksX3_repeats_1 20 rfl rfl)
theorem dX3_repeats_45 : decode cX3_repeats 45 = .ok (.iload 4, 2) := dk_21 4 (dk_at dksX3_repeats_1 21 rfl rfl)
theorem dX3_repeats_47 : decode cX3_repeats 47 = .ok (.iload_n 2, 1) := dk_28 (dk_at dksX3_repeats_1 23 rfl rfl)
theorem dX3_repeats_48 : decode cX3_repeats 48 = .ok (.imul, 1) := dk_104 (dk_at dksX3_repeats_2 0 rfl rfl)
theorem dX3_repeats_49 : decode cX3_repeats 49 = .ok (.iadd, 1) := dk_96 (dk_at dksX3_repeats_2 1 rfl rfl)
theorem dX3_repeats_50 : decode cX3_repeats 50 = .ok (.if_icmp .ge 26, 3) := dk_162 0 26 (dk_at dksX3_repeats_2 2 rfl rfl)
theorem dX3_repeats_53 : decode cX3_repeats 53 = .ok (.aload_n 0, 1) := dk_42 (dk_at dksX3_repeats_2 5 rfl rfl)
theorem dX3_repeats_54 : decode cX3_repeats 54 = .ok (.getfield 15, 3) := dk_180 0 15 (dk_at dksX3_repeats_2 6 rfl rfl)
theorem dX3_repeats_57 : decode cX3_repeats 57 = .ok (.iload 5, 2) := dk_21 5 (dk_at dksX3_repeats_2 9 rfl rfl)
theorem dX3_repeats_59 : decode cX3_repeats 59 = .ok (.aload_n 0, 1) := dk_42 (dk_at dksX3_repeats_2 11 rfl rfl)
theorem dX3_repeats_60 : decode cX3_repeats 60 = .ok (.getfield 15, 3) := dk_180 0 15 (dk_at dksX3_repeats_2 12 rfl rfl)
theorem dX3_repeats_63 : decode cX3_repeats 63 = .ok (.iload 5, 2) := dk_21 5 (dk_at dksX3_repeats_2 15 rfl rfl)
theorem dX3_repeats_65 : decode cX3_repeats 65 = .ok (.iload 4, 2) := dk_21 4 (dk_at dksX3_repeats_2 17 rfl rfl)
theorem dX3_repeats_67 : decode cX3_repeats 67 = .ok (.isub, 1) := dk_100 (dk_at dksX3_repeats_2 19 rfl rfl)
theorem dX3_repeats_68 : decode cX3_repeats 68 = .ok (.iaload, 1) := dk_46 (dk_at dksX3_repeats_2 20 rfl rfl)
theorem dX3_repeats_69 : decode cX3_repeats 69 = .ok (.iastore, 1) := dk_79 (dk_at dksX3_repeats_2 21 rfl rfl)
theorem dX3_repeats_70 : decode cX3_repeats 70 = .ok (.iinc 5 1, 3) := dk_132 5 1 (dk_at dksX3_repeats_3 0 rfl rfl)
theorem dX3_repeats_73 : decode cX3_repeats 73 = .ok (.goto (-31), 3) := dk_167 255 225 (dk_at dksX3_repeats_3 3 rfl rfl)
theorem dX3_repeats_76 : decode cX3_repeats 76 = .ok (.aload_n 0, 1) := dk_42 (dk_at dksX3_repeats_3 6 rfl rfl)
theorem dX3_repeats_77 : decode cX3_repeats 77 = .ok (.iload_n 1, 1) := dk_27 (dk_at dksX3_repeats_3 7 rfl rfl)
theorem dX3_repeats_78 : decode cX3_repeats 78 = .ok (.iload 4, 2) := dk_21 4 (dk_at dksX3_repeats_3 8 rfl rfl)
theorem dX3_repeats_80 : decode cX3_repeats 80 = .ok (.iload_n 2, 1) := dk_28 (dk_at dksX3_repeats_3 10 rfl rfl)
theorem dX3_repeats_81 : decode cX3_repeats 81 = .ok (.imul, 1) := dk_104 (dk_at dksX3_repeats_3 11 rfl rfl)
theorem dX3_repeats_82 : decode cX3_repeats 82 = .ok (.iadd, 1) := dk_96 (dk_at dksX3_repeats_3 12 rfl rfl)
theorem dX3_repeats_83 : decode cX3_repeats 83 = .ok (.putfield 46, 3) := dk_181 0 46 (dk_at dksX3_repeats_3 13 rfl rfl)
theorem dX3_repeats_86 : decode cX3_repeats 86 = .ok (.return_, 1) := dk_177 (dk_at dksX3_repeats_3 16 rfl rfl)
theorem q70 : (Jvm.Cond.initialized "TreeOdds$Reader") ∈ lw_all := lw_g (lw_at lw_m1 4 rfl) rfl
theorem q154 : (Jvm.Cond.instantiable "TreeOdds$Reader" (4 : Nat)) ∈ lw_all := lw_g (lw_at lw_m1 88 rfl) rfl
theorem q156 : (Jvm.Cond.instanceMethod ({ cls := "TreeOdds$Reader", name := "<init>", desc := "(LTreeOdds;)V" } : Jvm.MethodName)) ∈ lw_all := lw_g (lw_at lw_m1 90 rfl) rfl
theorem q157 : (Jvm.Cond.code ({ cls := "TreeOdds$Reader", name := "<init>", desc := "(LTreeOdds;)V" } : Jvm.MethodName) prog_5_method_1_code (2 : Nat) (Option.none : Option Jvm.ClassFile.FieldType)) ∈ lw_all := lw_g (lw_at lw_m1 91 rfl) rfl
theorem q158 : (Jvm.Cond.methodLink "TreeOdds$Reader" (9 : Nat) ({ cls := "java/lang/Object", name := "<init>", desc := "()V" } : Jvm.MethodName)) ∈ lw_all := lw_g (lw_at lw_m1 92 rfl) rfl
theorem q159 : (Jvm.Cond.fieldLink "TreeOdds$Reader" (19 : Nat) "TreeOdds$Reader" "at" "I") ∈ lw_all := lw_g (lw_at lw_m1 93 rfl) rfl
theorem q160 : (Jvm.Cond.fieldLink "TreeOdds$Reader" (15 : Nat) "TreeOdds$Reader" "told" "[I") ∈ lw_all := lw_g (lw_at lw_m1 94 rfl) rfl
theorem q162 : (Jvm.Cond.fieldLink "TreeOdds$Reader" (46 : Nat) "TreeOdds$Reader" "lined" "I") ∈ lw_all := lw_g (lw_at lw_m1 96 rfl) rfl
theorem q164 : (Jvm.Cond.fieldLink "TreeOdds$Reader" (3 : Nat) "TreeOdds$Reader" "this$0" "LTreeOdds;") ∈ lw_all := lw_g (lw_at lw_m1 98 rfl) rfl
theorem q165 : (Jvm.Cond.lays "TreeOdds$Reader" "TreeOdds$Reader" "at" "I") ∈ lw_all := lw_g (lw_at lw_m1 99 rfl) rfl
theorem q166 : (Jvm.Cond.soleField "TreeOdds$Reader" "at") ∈ lw_all := lw_g (lw_at lw_m1 100 rfl) rfl
theorem q167 : (Jvm.Cond.laysFinal "TreeOdds$Reader" "TreeOdds$Reader" "told" "[I") ∈ lw_all := lw_g (lw_at lw_m1 101 rfl) rfl
theorem q168 : (Jvm.Cond.soleField "TreeOdds$Reader" "told") ∈ lw_all := lw_g (lw_at lw_m1 102 rfl) rfl
theorem q169 : (Jvm.Cond.lays "TreeOdds$Reader" "TreeOdds$Reader" "lined" "I") ∈ lw_all := lw_g (lw_at lw_m1 103 rfl) rfl
theorem q170 : (Jvm.Cond.soleField "TreeOdds$Reader" "lined") ∈ lw_all := lw_g (lw_at lw_m1 104 rfl) rfl
theorem q171 : (Jvm.Cond.laysFinal "TreeOdds$Reader" "TreeOdds$Reader" "this$0" "LTreeOdds;") ∈ lw_all := lw_g (lw_at lw_m1 105 rfl) rfl
theorem q172 : (Jvm.Cond.soleField "TreeOdds$Reader" "this$0") ∈ lw_all := lw_g (lw_at lw_m1 106 rfl) rfl
theorem q173 : (Jvm.Cond.superclass "TreeOdds$Reader" "java/lang/Object") ∈ lw_all := lw_g (lw_at lw_m1 107 rfl) rfl
theorem q209 : (Jvm.Cond.fieldLinkNest "TreeOdds$Reader" (49 : Nat) "TreeOdds" "many" "I" "TreeOdds") ∈ lw_tbl := lw_at lw_m1 143 rfl
theorem q226 : (Jvm.Cond.fieldLinkNest "TreeOdds$Reader" (26 : Nat) "TreeOdds" "text" "[B" "TreeOdds") ∈ lw_tbl := lw_at lw_m1 160 rfl
theorem q228 : (Jvm.Cond.fieldLinkNest "TreeOdds$Reader" (23 : Nat) "TreeOdds" "typed" "I" "TreeOdds") ∈ lw_tbl := lw_at lw_m1 162 rfl
theorem q579 : (Jvm.Cond.instanceMethod ({ cls := "TreeOdds$Reader", name := "reads", desc := "()V" } : Jvm.MethodName)) ∈ lw_all := lw_g (lw_at lw_m3 33 rfl) rfl
theorem q580 : (Jvm.Cond.selects "TreeOdds$Reader" ({ cls := "TreeOdds$Reader", name := "reads", desc := "()V" } : Jvm.MethodName) ({ cls := "TreeOdds$Reader", name := "reads", desc := "()V" } : Jvm.MethodName)) ∈ lw_all := lw_g (lw_at lw_m3 34 rfl) rfl
theorem q581 : (Jvm.Cond.code ({ cls := "TreeOdds$Reader", name := "reads", desc := "()V" } : Jvm.MethodName) prog_5_method_9_code (1 : Nat) (Option.none : Option Jvm.ClassFile.FieldType)) ∈ lw_all := lw_g (lw_at lw_m3 35 rfl) rfl
theorem q582 : (Jvm.Cond.methodLink "TreeOdds$Reader" (43 : Nat) ({ cls := "TreeOdds$Reader", name := "goesOn", desc := "()V" } : Jvm.MethodName)) ∈ lw_all := lw_g (lw_at lw_m3 36 rfl) rfl
theorem q583 : (Jvm.Cond.privateMethod ({ cls := "TreeOdds$Reader", name := "goesOn", desc := "()V" } : Jvm.MethodName)) ∈ lw_tbl := lw_at lw_m3 37 rfl
theorem q584 : (Jvm.Cond.instanceMethod ({ cls := "TreeOdds$Reader", name := "goesOn", desc := "()V" } : Jvm.MethodName)) ∈ lw_all := lw_g (lw_at lw_m3 38 rfl) rfl
theorem q585 : (Jvm.Cond.code ({ cls := "TreeOdds$Reader", name := "goesOn", desc := "()V" } : Jvm.MethodName) prog_5_method_3_code (1 : Nat) (Option.none : Option Jvm.ClassFile.FieldType)) ∈ lw_all := lw_g (lw_at lw_m3 39 rfl) rfl
theorem q586 : (Jvm.Cond.methodLink "TreeOdds$Reader" (30 : Nat) ({ cls := "TreeOdds$Reader", name := "isAt", desc := "(CC)Z" } : Jvm.MethodName)) ∈ lw_all := lw_g (lw_at lw_m3 40 rfl) rfl
theorem q587 : (Jvm.Cond.privateMethod ({ cls := "TreeOdds$Reader", name := "isAt", desc := "(CC)Z" } : Jvm.MethodName)) ∈ lw_tbl := lw_at lw_m3 41 rfl
theorem q588 : (Jvm.Cond.instanceMethod ({ cls := "TreeOdds$Reader", name := "isAt", desc := "(CC)Z" } : Jvm.MethodName)) ∈ lw_all := lw_g (lw_at lw_m3 42 rfl) rfl
theorem q589 : (Jvm.Cond.code ({ cls := "TreeOdds$Reader", name := "isAt", desc := "(CC)Z" } : Jvm.MethodName) prog_5_method_2_code (3 : Nat) (Option.some Jvm.ClassFile.FieldType.boolean)) ∈ lw_all := lw_g (lw_at lw_m3 43 rfl) rfl
theorem q590 : (Jvm.Cond.methodLink "TreeOdds$Reader" (63 : Nat) ({ cls := "TreeOdds$Reader", name := "group", desc := "()V" } : Jvm.MethodName)) ∈ lw_all := lw_g (lw_at lw_m3 44 rfl) rfl
theorem q591 : (Jvm.Cond.privateMethod ({ cls := "TreeOdds$Reader", name := "group", desc := "()V" } : Jvm.MethodName)) ∈ lw_tbl := lw_at lw_m3 45 rfl
theorem q592 : (Jvm.Cond.instanceMethod ({ cls := "TreeOdds$Reader", name := "group", desc := "()V" } : Jvm.MethodName)) ∈ lw_all := lw_g (lw_at lw_m3 46 rfl) rfl
theorem q593 : (Jvm.Cond.code ({ cls := "TreeOdds$Reader", name := "group", desc := "()V" } : Jvm.MethodName) prog_5_method_8_code (3 : Nat) (Option.none : Option Jvm.ClassFile.FieldType)) ∈ lw_all := lw_g (lw_at lw_m3 47 rfl) rfl
theorem q594 : (Jvm.Cond.methodLink "TreeOdds$Reader" (60 : Nat) ({ cls := "TreeOdds$Reader", name := "sign", desc := "()V" } : Jvm.MethodName)) ∈ lw_all := lw_g (lw_at lw_m3 48 rfl) rfl
theorem q595 : (Jvm.Cond.privateMethod ({ cls := "TreeOdds$Reader", name := "sign", desc := "()V" } : Jvm.MethodName)) ∈ lw_tbl := lw_at lw_m3 49 rfl
theorem q596 : (Jvm.Cond.instanceMethod ({ cls := "TreeOdds$Reader", name := "sign", desc := "()V" } : Jvm.MethodName)) ∈ lw_all := lw_g (lw_at lw_m3 50 rfl) rfl
theorem q597 : (Jvm.Cond.code ({ cls := "TreeOdds$Reader", name := "sign", desc := "()V" } : Jvm.MethodName) prog_5_method_7_code (2 : Nat) (Option.none : Option Jvm.ClassFile.FieldType)) ∈ lw_all := lw_g (lw_at lw_m3 51 rfl) rfl
theorem q598 : (Jvm.Cond.methodLink "TreeOdds$Reader" (39 : Nat) ({ cls := "TreeOdds$Reader", name := "wants", desc := "(Z)V" } : Jvm.MethodName)) ∈ lw_all := lw_g (lw_at lw_m3 52 rfl) rfl
theorem q599 : (Jvm.Cond.privateMethod ({ cls := "TreeOdds$Reader", name := "wants", desc := "(Z)V" } : Jvm.MethodName)) ∈ lw_tbl := lw_at lw_m3 53 rfl
theorem q600 : (Jvm.Cond.instanceMethod ({ cls := "TreeOdds$Reader", name := "wants", desc := "(Z)V" } : Jvm.MethodName)) ∈ lw_all := lw_g (lw_at lw_m3 54 rfl) rfl
theorem q601 : (Jvm.Cond.code ({ cls := "TreeOdds$Reader", name := "wants", desc := "(Z)V" } : Jvm.MethodName) prog_5_method_4_code (2 : Nat) (Option.none : Option Jvm.ClassFile.FieldType)) ∈ lw_all := lw_g (lw_at lw_m3 55 rfl) rfl
theorem q602 : (Jvm.Cond.classLink "TreeOdds$Reader" (34 : Nat) "TreeOdds$Fault") ∈ lw_all := lw_g (lw_at lw_m3 56 rfl) rfl
theorem q639 : (Jvm.Cond.methodLink "TreeOdds$Reader" (36 : Nat) ({ cls := "TreeOdds$Fault", name := "<init>", desc := "(I)V" } : Jvm.MethodName)) ∈ lw_all := lw_g (lw_at lw_m3 93 rfl) rfl
theorem q665 : (Jvm.Cond.methodLink "TreeOdds$Reader" (52 : Nat) ({ cls := "TreeOdds$Reader", name := "times", desc := "()I" } : Jvm.MethodName)) ∈ lw_all := lw_g (lw_at lw_m3 119 rfl) rfl
theorem q666 : (Jvm.Cond.privateMethod ({ cls := "TreeOdds$Reader", name := "times", desc := "()I" } : Jvm.MethodName)) ∈ lw_tbl := lw_at lw_m3 120 rfl
theorem q667 : (Jvm.Cond.instanceMethod ({ cls := "TreeOdds$Reader", name := "times", desc := "()I" } : Jvm.MethodName)) ∈ lw_all := lw_g (lw_at lw_m3 121 rfl) rfl
theorem q668 : (Jvm.Cond.code ({ cls := "TreeOdds$Reader", name := "times", desc := "()I" } : Jvm.MethodName) prog_5_method_5_code (4 : Nat) (Option.some Jvm.ClassFile.FieldType.int)) ∈ lw_all := lw_g (lw_at lw_m3 122 rfl) rfl
theorem q669 : (Jvm.Cond.methodLink "TreeOdds$Reader" (56 : Nat) ({ cls := "TreeOdds$Reader", name := "repeats", desc := "(III)V" } : Jvm.MethodName)) ∈ lw_all := lw_g (lw_at lw_m3 123 rfl) rfl
theorem q670 : (Jvm.Cond.privateMethod ({ cls := "TreeOdds$Reader", name := "repeats", desc := "(III)V" } : Jvm.MethodName)) ∈ lw_tbl := lw_at lw_m3 124 rfl
theorem q671 : (Jvm.Cond.instanceMethod ({ cls := "TreeOdds$Reader", name := "repeats", desc := "(III)V" } : Jvm.MethodName)) ∈ lw_all := lw_g (lw_at lw_m3 125 rfl) rfl
theorem q672 : (Jvm.Cond.code ({ cls := "TreeOdds$Reader", name := "repeats", desc := "(III)V" } : Jvm.MethodName) prog_5_method_6_code (6 : Nat) (Option.none : Option Jvm.ClassFile.FieldType)) ∈ lw_all := lw_g (lw_at lw_m3 126 rfl) rfl
theorem in_X3 : ∀ w ∈ wsX30, w ∈ lw_all := lw_in wsX30 [165, 167, 169, 171] (by decide +kernel) (by decide +kernel)
