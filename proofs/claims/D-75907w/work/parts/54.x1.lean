/-! DotRuns -/
set_option maxRecDepth 100000
def RX1 : String := "DotRuns"
def TX1 : u_T := fun k => match k with
  | 0 => ("DotRuns", "now", "LDotRuns$Page;", false)
  | 1 => ("DotRuns", "past", "Ljava/util/ArrayDeque;", true)
  | 2 => ("DotRuns", "slots", "[LDotRuns$Page;", true)
  | 3 => ("DotRuns", "output", "Ljava/lang/StringBuilder;", true)
  | 4 => ("DotRuns", "text", "[B", true)
  | 5 => ("DotRuns", "textLength", "I", false)
  | 6 => ("DotRuns", "errorCode", "I", false)
  | _ => ("DotRuns", "errorPosition", "I", false)
def tyX1 : Nat → FieldType := fun k => match k with
  | 0 => .object "DotRuns$Page"
  | 1 => .object "java/util/ArrayDeque"
  | 2 => .array (.object "DotRuns$Page")
  | 3 => .object "java/lang/StringBuilder"
  | 4 => .array .byte
  | 5 => .int
  | 6 => .int
  | _ => .int
abbrev wsX10 : List Cond := u_ws RX1 TX1 8
theorem nmX1 : ∀ a, a < 8 → ∀ b, b < 8 → a ≠ b → (TX1 a).2.1 ≠ (TX1 b).2.1 := by decide +kernel
theorem tyX1_ok : ∀ k, k < 8 → parseFieldDescriptor (TX1 k).2.2.1 = some (tyX1 k) := by decide +kernel
abbrev cX1_init : ByteArray := prog_1_method_7_code
def yX1_init : MethodName := ⟨RX1, "<init>", "()V"⟩
def dkwX1_init_2 : List UInt8 := [181, 0, 49, 42, 17, 3, 132, 188, 8, 181, 0, 53, 42, 2, 181, 0, 57, 177]
abbrev dktX1_init_2 : List UInt8 := dkwX1_init_2 ++ []
def dkwX1_init_1 : List UInt8 := [183, 0, 37, 181, 0, 38, 42, 5, 189, 0, 24, 181, 0, 42, 42, 187, 0, 46, 89, 183, 0, 48]
abbrev dktX1_init_1 : List UInt8 := dkwX1_init_1 ++ dktX1_init_2
def dkwX1_init_0 : List UInt8 := [42, 183, 0, 19, 42, 187, 0, 24, 89, 16, 16, 183, 0, 26, 181, 0, 29, 42, 187, 0, 35, 89, 16, 10]
abbrev dktX1_init_0 : List UInt8 := dkwX1_init_0 ++ dktX1_init_1
theorem dksX1_init_0 : cX1_init.data.toList.drop 0 = dktX1_init_0 := by decide +kernel
theorem dksX1_init_1 : cX1_init.data.toList.drop 24 = dktX1_init_1 := dk_seg dksX1_init_0 24 rfl rfl
theorem dksX1_init_2 : cX1_init.data.toList.drop 46 = dktX1_init_2 := dk_seg dksX1_init_1 22 rfl rfl
theorem dX1_init_0 : decode cX1_init 0 = .ok (.aload_n 0, 1) := dk_42 (dk_at dksX1_init_0 0 rfl rfl)
theorem dX1_init_1 : decode cX1_init 1 = .ok (.invokespecial 19, 3) := dk_183 0 19 (dk_at dksX1_init_0 1 rfl rfl)
theorem dX1_init_4 : decode cX1_init 4 = .ok (.aload_n 0, 1) := dk_42 (dk_at dksX1_init_0 4 rfl rfl)
theorem dX1_init_5 : decode cX1_init 5 = .ok (.new 24, 3) := dk_187 0 24 (dk_at dksX1_init_0 5 rfl rfl)
theorem dX1_init_8 : decode cX1_init 8 = .ok (.dup, 1) := dk_89 (dk_at dksX1_init_0 8 rfl rfl)
theorem dX1_init_9 : decode cX1_init 9 = .ok (.bipush 16, 2) := dk_16 16 (dk_at dksX1_init_0 9 rfl rfl)
theorem dX1_init_11 : decode cX1_init 11 = .ok (.invokespecial 26, 3) := dk_183 0 26 (dk_at dksX1_init_0 11 rfl rfl)
theorem dX1_init_14 : decode cX1_init 14 = .ok (.putfield 29, 3) := dk_181 0 29 (dk_at dksX1_init_0 14 rfl rfl)
theorem dX1_init_17 : decode cX1_init 17 = .ok (.aload_n 0, 1) := dk_42 (dk_at dksX1_init_0 17 rfl rfl)
theorem dX1_init_18 : decode cX1_init 18 = .ok (.new 35, 3) := dk_187 0 35 (dk_at dksX1_init_0 18 rfl rfl)
theorem dX1_init_21 : decode cX1_init 21 = .ok (.dup, 1) := dk_89 (dk_at dksX1_init_0 21 rfl rfl)
theorem dX1_init_22 : decode cX1_init 22 = .ok (.bipush 10, 2) := dk_16 10 (dk_at dksX1_init_0 22 rfl rfl)
theorem dX1_init_24 : decode cX1_init 24 = .ok (.invokespecial 37, 3) := dk_183 0 37 (dk_at dksX1_init_1 0 rfl rfl)
theorem dX1_init_27 : decode cX1_init 27 = .ok (.putfield 38, 3) := dk_181 0 38 (dk_at dksX1_init_1 3 rfl rfl)
theorem dX1_init_30 : decode cX1_init 30 = .ok (.aload_n 0, 1) := dk_42 (dk_at dksX1_init_1 6 rfl rfl)
theorem dX1_init_31 : decode cX1_init 31 = .ok (.iconst 2, 1) := dk_5 (dk_at dksX1_init_1 7 rfl rfl)
theorem dX1_init_32 : decode cX1_init 32 = .ok (.anewarray 24, 3) := dk_189 0 24 (dk_at dksX1_init_1 8 rfl rfl)
theorem dX1_init_35 : decode cX1_init 35 = .ok (.putfield 42, 3) := dk_181 0 42 (dk_at dksX1_init_1 11 rfl rfl)
theorem dX1_init_38 : decode cX1_init 38 = .ok (.aload_n 0, 1) := dk_42 (dk_at dksX1_init_1 14 rfl rfl)
theorem dX1_init_39 : decode cX1_init 39 = .ok (.new 46, 3) := dk_187 0 46 (dk_at dksX1_init_1 15 rfl rfl)
theorem dX1_init_42 : decode cX1_init 42 = .ok (.dup, 1) := dk_89 (dk_at dksX1_init_1 18 rfl rfl)
theorem dX1_init_43 : decode cX1_init 43 = .ok (.invokespecial 48, 3) := dk_183 0 48 (dk_at dksX1_init_1 19 rfl rfl)
theorem dX1_init_46 : decode cX1_init 46 = .ok (.putfield 49, 3) := dk_181 0 49 (dk_at dksX1_init_2 0 rfl rfl)
theorem dX1_init_49 : decode cX1_init 49 = .ok (.aload_n 0, 1) := dk_42 (dk_at dksX1_init_2 3 rfl rfl)
theorem dX1_init_50 : decode cX1_init 50 = .ok (.sipush 900, 3) := dk_17 3 132 (dk_at dksX1_init_2 4 rfl rfl)
theorem dX1_init_53 : decode cX1_init 53 = .ok (.newarray .byte, 2) := dk_188_8 (dk_at dksX1_init_2 7 rfl rfl)
theorem dX1_init_55 : decode cX1_init 55 = .ok (.putfield 53, 3) := dk_181 0 53 (dk_at dksX1_init_2 9 rfl rfl)
theorem dX1_init_58 : decode cX1_init 58 = .ok (.aload_n 0, 1) := dk_42 (dk_at dksX1_init_2 12 rfl rfl)
theorem dX1_init_59 : decode cX1_init 59 = .ok (.iconst (-1), 1) := dk_2 (dk_at dksX1_init_2 13 rfl rfl)
theorem dX1_init_60 : decode cX1_init 60 = .ok (.putfield 57, 3) := dk_181 0 57 (dk_at dksX1_init_2 14 rfl rfl)
theorem dX1_init_63 : decode cX1_init 63 = .ok (.return_, 1) := dk_177 (dk_at dksX1_init_2 17 rfl rfl)
abbrev cX1_worst : ByteArray := prog_1_method_37_code
def yX1_worst : MethodName := ⟨RX1, "worst", "()I"⟩
def dkwX1_worst_2 : List UInt8 := [132, 3, 1, 167, 255, 213, 27, 172]
abbrev dktX1_worst_2 : List UInt8 := dkwX1_worst_2 ++ []
def dkwX1_worst_1 : List UInt8 := [182, 1, 67, 182, 1, 37, 54, 4, 21, 4, 28, 163, 0, 6, 167, 0, 8, 29, 60, 21, 4, 61]
abbrev dktX1_worst_1 : List UInt8 := dkwX1_worst_1 ++ dktX1_worst_2
def dkwX1_worst_0 : List UInt8 := [2, 60, 2, 61, 3, 62, 29, 42, 180, 0, 29, 180, 0, 77, 185, 0, 81, 1, 0, 162, 0, 33, 42, 29]
abbrev dktX1_worst_0 : List UInt8 := dkwX1_worst_0 ++ dktX1_worst_1
theorem dksX1_worst_0 : cX1_worst.data.toList.drop 0 = dktX1_worst_0 := by decide +kernel
theorem dksX1_worst_1 : cX1_worst.data.toList.drop 24 = dktX1_worst_1 := dk_seg dksX1_worst_0 24 rfl rfl
theorem dksX1_worst_2 : cX1_worst.data.toList.drop 46 = dktX1_worst_2 := dk_seg dksX1_worst_1 22 rfl rfl
theorem dX1_worst_0 : decode cX1_worst 0 = .ok (.iconst (-1), 1) := dk_2 (dk_at dksX1_worst_0 0 rfl rfl)
theorem dX1_worst_1 : decode cX1_worst 1 = .ok (.istore_n 1, 1) := dk_60 (dk_at dksX1_worst_0 1 rfl rfl)
theorem dX1_worst_2 : decode cX1_worst 2 = .ok (.iconst (-1), 1) := dk_2 (dk_at dksX1_worst_0 2 rfl rfl)
theorem dX1_worst_3 : decode cX1_worst 3 = .ok (.istore_n 2, 1) := dk_61 (dk_at dksX1_worst_0 3 rfl rfl)
theorem dX1_worst_4 : decode cX1_worst 4 = .ok (.iconst 0, 1) := dk_3 (dk_at dksX1_worst_0 4 rfl rfl)
theorem dX1_worst_5 : decode cX1_worst 5 = .ok (.istore_n 3, 1) := dk_62 (dk_at dksX1_worst_0 5 rfl rfl)
theorem dX1_worst_6 : decode cX1_worst 6 = .ok (.iload_n 3, 1) := dk_29 (dk_at dksX1_worst_0 6 rfl rfl)
theorem dX1_worst_7 : decode cX1_worst 7 = .ok (.aload_n 0, 1) := dk_42 (dk_at dksX1_worst_0 7 rfl rfl)
theorem dX1_worst_8 : decode cX1_worst 8 = .ok (.getfield 29, 3) := dk_180 0 29 (dk_at dksX1_worst_0 8 rfl rfl)
theorem dX1_worst_11 : decode cX1_worst 11 = .ok (.getfield 77, 3) := dk_180 0 77 (dk_at dksX1_worst_0 11 rfl rfl)
theorem dX1_worst_14 : decode cX1_worst 14 = .ok (.invokeinterface 81 1, 5) := by decide +kernel
theorem dX1_worst_19 : decode cX1_worst 19 = .ok (.if_icmp .ge 33, 3) := dk_162 0 33 (dk_at dksX1_worst_0 19 rfl rfl)
theorem dX1_worst_22 : decode cX1_worst 22 = .ok (.aload_n 0, 1) := dk_42 (dk_at dksX1_worst_0 22 rfl rfl)
theorem dX1_worst_23 : decode cX1_worst 23 = .ok (.iload_n 3, 1) := dk_29 (dk_at dksX1_worst_0 23 rfl rfl)
theorem dX1_worst_24 : decode cX1_worst 24 = .ok (.invokevirtual 323, 3) := dk_182 1 67 (dk_at dksX1_worst_1 0 rfl rfl)
theorem dX1_worst_27 : decode cX1_worst 27 = .ok (.invokevirtual 293, 3) := dk_182 1 37 (dk_at dksX1_worst_1 3 rfl rfl)
theorem dX1_worst_30 : decode cX1_worst 30 = .ok (.istore 4, 2) := dk_54 4 (dk_at dksX1_worst_1 6 rfl rfl)
theorem dX1_worst_32 : decode cX1_worst 32 = .ok (.iload 4, 2) := dk_21 4 (dk_at dksX1_worst_1 8 rfl rfl)
theorem dX1_worst_34 : decode cX1_worst 34 = .ok (.iload_n 2, 1) := dk_28 (dk_at dksX1_worst_1 10 rfl rfl)
theorem dX1_worst_35 : decode cX1_worst 35 = .ok (.if_icmp .gt 6, 3) := dk_163 0 6 (dk_at dksX1_worst_1 11 rfl rfl)
theorem dX1_worst_38 : decode cX1_worst 38 = .ok (.goto 8, 3) := dk_167 0 8 (dk_at dksX1_worst_1 14 rfl rfl)
theorem dX1_worst_41 : decode cX1_worst 41 = .ok (.iload_n 3, 1) := dk_29 (dk_at dksX1_worst_1 17 rfl rfl)
theorem dX1_worst_42 : decode cX1_worst 42 = .ok (.istore_n 1, 1) := dk_60 (dk_at dksX1_worst_1 18 rfl rfl)
theorem dX1_worst_43 : decode cX1_worst 43 = .ok (.iload 4, 2) := dk_21 4 (dk_at dksX1_worst_1 19 rfl rfl)
theorem dX1_worst_45 : decode cX1_worst 45 = .ok (.istore_n 2, 1) := dk_61 (dk_at dksX1_worst_1 21 rfl rfl)
theorem dX1_worst_46 : decode cX1_worst 46 = .ok (.iinc 3 1, 3) := dk_132 3 1 (dk_at dksX1_worst_2 0 rfl rfl)
theorem dX1_worst_49 : decode cX1_worst 49 = .ok (.goto (-43), 3) := dk_167 255 213 (dk_at dksX1_worst_2 3 rfl rfl)
theorem dX1_worst_52 : decode cX1_worst 52 = .ok (.iload_n 1, 1) := dk_27 (dk_at dksX1_worst_2 6 rfl rfl)
theorem dX1_worst_53 : decode cX1_worst 53 = .ok (.ireturn, 1) := dk_172 (dk_at dksX1_worst_2 7 rfl rfl)
abbrev cX1_without : ByteArray := prog_1_method_36_code
def yX1_without : MethodName := ⟨RX1, "without", "(I)LDotRuns$Sending;"⟩
def dkwX1_without_1 : List UInt8 := [3, 46, 3, 44, 183, 1, 64, 176]
abbrev dktX1_without_1 : List UInt8 := dkwX1_without_1 ++ []
def dkwX1_without_0 : List UInt8 := [16, 20, 188, 10, 77, 44, 27, 4, 79, 187, 1, 22, 89, 42, 180, 0, 29, 42, 180, 0, 29, 180, 0, 137]
abbrev dktX1_without_0 : List UInt8 := dkwX1_without_0 ++ dktX1_without_1
theorem dksX1_without_0 : cX1_without.data.toList.drop 0 = dktX1_without_0 := by decide +kernel
theorem dksX1_without_1 : cX1_without.data.toList.drop 24 = dktX1_without_1 := dk_seg dksX1_without_0 24 rfl rfl
theorem dX1_without_0 : decode cX1_without 0 = .ok (.bipush 20, 2) := dk_16 20 (dk_at dksX1_without_0 0 rfl rfl)
theorem dX1_without_2 : decode cX1_without 2 = .ok (.newarray .int, 2) := dk_188_10 (dk_at dksX1_without_0 2 rfl rfl)
theorem dX1_without_4 : decode cX1_without 4 = .ok (.astore_n 2, 1) := dk_77 (dk_at dksX1_without_0 4 rfl rfl)
theorem dX1_without_5 : decode cX1_without 5 = .ok (.aload_n 2, 1) := dk_44 (dk_at dksX1_without_0 5 rfl rfl)
theorem dX1_without_6 : decode cX1_without 6 = .ok (.iload_n 1, 1) := dk_27 (dk_at dksX1_without_0 6 rfl rfl)
theorem dX1_without_7 : decode cX1_without 7 = .ok (.iconst 1, 1) := dk_4 (dk_at dksX1_without_0 7 rfl rfl)
theorem dX1_without_8 : decode cX1_without 8 = .ok (.iastore, 1) := dk_79 (dk_at dksX1_without_0 8 rfl rfl)
theorem dX1_without_9 : decode cX1_without 9 = .ok (.new 278, 3) := dk_187 1 22 (dk_at dksX1_without_0 9 rfl rfl)
theorem dX1_without_12 : decode cX1_without 12 = .ok (.dup, 1) := dk_89 (dk_at dksX1_without_0 12 rfl rfl)
theorem dX1_without_13 : decode cX1_without 13 = .ok (.aload_n 0, 1) := dk_42 (dk_at dksX1_without_0 13 rfl rfl)
theorem dX1_without_14 : decode cX1_without 14 = .ok (.getfield 29, 3) := dk_180 0 29 (dk_at dksX1_without_0 14 rfl rfl)
theorem dX1_without_17 : decode cX1_without 17 = .ok (.aload_n 0, 1) := dk_42 (dk_at dksX1_without_0 17 rfl rfl)
theorem dX1_without_18 : decode cX1_without 18 = .ok (.getfield 29, 3) := dk_180 0 29 (dk_at dksX1_without_0 18 rfl rfl)
theorem dX1_without_21 : decode cX1_without 21 = .ok (.getfield 137, 3) := dk_180 0 137 (dk_at dksX1_without_0 21 rfl rfl)
theorem dX1_without_24 : decode cX1_without 24 = .ok (.iconst 0, 1) := dk_3 (dk_at dksX1_without_1 0 rfl rfl)
theorem dX1_without_25 : decode cX1_without 25 = .ok (.iaload, 1) := dk_46 (dk_at dksX1_without_1 1 rfl rfl)
theorem dX1_without_26 : decode cX1_without 26 = .ok (.iconst 0, 1) := dk_3 (dk_at dksX1_without_1 2 rfl rfl)
theorem dX1_without_27 : decode cX1_without 27 = .ok (.aload_n 2, 1) := dk_44 (dk_at dksX1_without_1 3 rfl rfl)
theorem dX1_without_28 : decode cX1_without 28 = .ok (.invokespecial 320, 3) := dk_183 1 64 (dk_at dksX1_without_1 4 rfl rfl)
theorem dX1_without_31 : decode cX1_without 31 = .ok (.areturn, 1) := dk_176 (dk_at dksX1_without_1 7 rfl rfl)
abbrev cX1_isIn : ByteArray := prog_1_method_2_code
def yX1_isIn : MethodName := ⟨RX1, "isIn", "(III)Z"⟩
def dkwX1_isIn_0 : List UInt8 := [26, 27, 161, 0, 12, 26, 28, 163, 0, 7, 4, 167, 0, 4, 3, 172]
abbrev dktX1_isIn_0 : List UInt8 := dkwX1_isIn_0 ++ []
theorem dksX1_isIn_0 : cX1_isIn.data.toList.drop 0 = dktX1_isIn_0 := by decide +kernel
theorem dX1_isIn_0 : decode cX1_isIn 0 = .ok (.iload_n 0, 1) := dk_26 (dk_at dksX1_isIn_0 0 rfl rfl)
theorem dX1_isIn_1 : decode cX1_isIn 1 = .ok (.iload_n 1, 1) := dk_27 (dk_at dksX1_isIn_0 1 rfl rfl)
theorem dX1_isIn_2 : decode cX1_isIn 2 = .ok (.if_icmp .lt 12, 3) := dk_161 0 12 (dk_at dksX1_isIn_0 2 rfl rfl)
theorem dX1_isIn_5 : decode cX1_isIn 5 = .ok (.iload_n 0, 1) := dk_26 (dk_at dksX1_isIn_0 5 rfl rfl)
theorem dX1_isIn_6 : decode cX1_isIn 6 = .ok (.iload_n 2, 1) := dk_28 (dk_at dksX1_isIn_0 6 rfl rfl)
theorem dX1_isIn_7 : decode cX1_isIn 7 = .ok (.if_icmp .gt 7, 3) := dk_163 0 7 (dk_at dksX1_isIn_0 7 rfl rfl)
theorem dX1_isIn_10 : decode cX1_isIn 10 = .ok (.iconst 1, 1) := dk_4 (dk_at dksX1_isIn_0 10 rfl rfl)
theorem dX1_isIn_11 : decode cX1_isIn 11 = .ok (.goto 4, 3) := dk_167 0 4 (dk_at dksX1_isIn_0 11 rfl rfl)
theorem dX1_isIn_14 : decode cX1_isIn 14 = .ok (.iconst 0, 1) := dk_3 (dk_at dksX1_isIn_0 14 rfl rfl)
theorem dX1_isIn_15 : decode cX1_isIn 15 = .ok (.ireturn, 1) := dk_172 (dk_at dksX1_isIn_0 15 rfl rfl)
abbrev cX1_bestEvery : ByteArray := prog_1_method_39_code
def yX1_bestEvery : MethodName := ⟨RX1, "bestEvery", "()I"⟩
def dkwX1_bestEvery_4 : List UInt8 := [180, 1, 26, 62, 132, 4, 1, 167, 255, 163, 27, 172]
abbrev dktX1_bestEvery_4 : List UInt8 := dkwX1_bestEvery_4 ++ []
def dkwX1_bestEvery_3 : List UInt8 := [160, 0, 15, 25, 5, 180, 1, 26, 29, 161, 0, 6, 167, 0, 15, 21, 4, 60, 21, 6, 61, 25, 5]
abbrev dktX1_bestEvery_3 : List UInt8 := dkwX1_bestEvery_3 ++ dktX1_bestEvery_4
def dkwX1_bestEvery_2 : List UInt8 := [58, 5, 25, 5, 182, 1, 37, 54, 6, 21, 4, 4, 164, 0, 27, 21, 6, 28, 163, 0, 33, 21, 6, 28]
abbrev dktX1_bestEvery_2 : List UInt8 := dkwX1_bestEvery_2 ++ dktX1_bestEvery_3
def dkwX1_bestEvery_1 : List UInt8 := [180, 0, 29, 21, 4, 42, 180, 0, 29, 180, 0, 137, 6, 46, 42, 180, 0, 29, 180, 0, 179, 183, 1, 64]
abbrev dktX1_bestEvery_1 : List UInt8 := dkwX1_bestEvery_1 ++ dktX1_bestEvery_2
def dkwX1_bestEvery_0 : List UInt8 := [4, 60, 3, 61, 3, 62, 4, 54, 4, 21, 4, 178, 0, 232, 3, 46, 163, 0, 89, 187, 1, 22, 89, 42]
abbrev dktX1_bestEvery_0 : List UInt8 := dkwX1_bestEvery_0 ++ dktX1_bestEvery_1
theorem dksX1_bestEvery_0 : cX1_bestEvery.data.toList.drop 0 = dktX1_bestEvery_0 := by decide +kernel
theorem dksX1_bestEvery_1 : cX1_bestEvery.data.toList.drop 24 = dktX1_bestEvery_1 := dk_seg dksX1_bestEvery_0 24 rfl rfl
theorem dksX1_bestEvery_2 : cX1_bestEvery.data.toList.drop 48 = dktX1_bestEvery_2 := dk_seg dksX1_bestEvery_1 24 rfl rfl
theorem dksX1_bestEvery_3 : cX1_bestEvery.data.toList.drop 72 = dktX1_bestEvery_3 := dk_seg dksX1_bestEvery_2 24 rfl rfl
theorem dksX1_bestEvery_4 : cX1_bestEvery.data.toList.drop 95 = dktX1_bestEvery_4 := dk_seg dksX1_bestEvery_3 23 rfl rfl
theorem dX1_bestEvery_0 : decode cX1_bestEvery 0 = .ok (.iconst 1, 1) := dk_4 (dk_at dksX1_bestEvery_0 0 rfl rfl)
theorem dX1_bestEvery_1 : decode cX1_bestEvery 1 = .ok (.istore_n 1, 1) := dk_60 (dk_at dksX1_bestEvery_0 1 rfl rfl)
theorem dX1_bestEvery_2 : decode cX1_bestEvery 2 = .ok (.iconst 0, 1) := dk_3 (dk_at dksX1_bestEvery_0 2 rfl rfl)
theorem dX1_bestEvery_3 : decode cX1_bestEvery 3 = .ok (.istore_n 2, 1) := dk_61 (dk_at dksX1_bestEvery_0 3 rfl rfl)
theorem dX1_bestEvery_4 : decode cX1_bestEvery 4 = .ok (.iconst 0, 1) := dk_3 (dk_at dksX1_bestEvery_0 4 rfl rfl)
theorem dX1_bestEvery_5 : decode cX1_bestEvery 5 = .ok (.istore_n 3, 1) := dk_62 (dk_at dksX1_bestEvery_0 5 rfl rfl)
theorem dX1_bestEvery_6 : decode cX1_bestEvery 6 = .ok (.iconst 1, 1) := dk_4 (dk_at dksX1_bestEvery_0 6 rfl rfl)
theorem dX1_bestEvery_7 : decode cX1_bestEvery 7 = .ok (.istore 4, 2) := dk_54 4 (dk_at dksX1_bestEvery_0 7 rfl rfl)
theorem dX1_bestEvery_9 : decode cX1_bestEvery 9 = .ok (.iload 4, 2) := dk_21 4 (dk_at dksX1_bestEvery_0 9 rfl rfl)
theorem dX1_bestEvery_11 : decode cX1_bestEvery 11 = .ok (.getstatic 232, 3) := dk_178 0 232 (dk_at dksX1_bestEvery_0 11 rfl rfl)
theorem dX1_bestEvery_14 : decode cX1_bestEvery 14 = .ok (.iconst 0, 1) := dk_3 (dk_at dksX1_bestEvery_0 14 rfl rfl)
theorem dX1_bestEvery_15 : decode cX1_bestEvery 15 = .ok (.iaload, 1) := dk_46 (dk_at dksX1_bestEvery_0 15 rfl rfl)
theorem dX1_bestEvery_16 : decode cX1_bestEvery 16 = .ok (.if_icmp .gt 89, 3) := dk_163 0 89 (dk_at dksX1_bestEvery_0 16 rfl rfl)
theorem dX1_bestEvery_19 : decode cX1_bestEvery 19 = .ok (.new 278, 3) := dk_187 1 22 (dk_at dksX1_bestEvery_0 19 rfl rfl)
theorem dX1_bestEvery_22 : decode cX1_bestEvery 22 = .ok (.dup, 1) := dk_89 (dk_at dksX1_bestEvery_0 22 rfl rfl)
theorem dX1_bestEvery_23 : decode cX1_bestEvery 23 = .ok (.aload_n 0, 1) := dk_42 (dk_at dksX1_bestEvery_0 23 rfl rfl)
theorem dX1_bestEvery_24 : decode cX1_bestEvery 24 = .ok (.getfield 29, 3) := dk_180 0 29 (dk_at dksX1_bestEvery_1 0 rfl rfl)
theorem dX1_bestEvery_27 : decode cX1_bestEvery 27 = .ok (.iload 4, 2) := dk_21 4 (dk_at dksX1_bestEvery_1 3 rfl rfl)
theorem dX1_bestEvery_29 : decode cX1_bestEvery 29 = .ok (.aload_n 0, 1) := dk_42 (dk_at dksX1_bestEvery_1 5 rfl rfl)
theorem dX1_bestEvery_30 : decode cX1_bestEvery 30 = .ok (.getfield 29, 3) := dk_180 0 29 (dk_at dksX1_bestEvery_1 6 rfl rfl)
theorem dX1_bestEvery_33 : decode cX1_bestEvery 33 = .ok (.getfield 137, 3) := dk_180 0 137 (dk_at dksX1_bestEvery_1 9 rfl rfl)
theorem dX1_bestEvery_36 : decode cX1_bestEvery 36 = .ok (.iconst 3, 1) := dk_6 (dk_at dksX1_bestEvery_1 12 rfl rfl)
theorem dX1_bestEvery_37 : decode cX1_bestEvery 37 = .ok (.iaload, 1) := dk_46 (dk_at dksX1_bestEvery_1 13 rfl rfl)
theorem dX1_bestEvery_38 : decode cX1_bestEvery 38 = .ok (.aload_n 0, 1) := dk_42 (dk_at dksX1_bestEvery_1 14 rfl rfl)
theorem dX1_bestEvery_39 : decode cX1_bestEvery 39 = .ok (.getfield 29, 3) := dk_180 0 29 (dk_at dksX1_bestEvery_1 15 rfl rfl)
theorem dX1_bestEvery_42 : decode cX1_bestEvery 42 = .ok (.getfield 179, 3) := dk_180 0 179 (dk_at dksX1_bestEvery_1 18 rfl rfl)
theorem dX1_bestEvery_45 : decode cX1_bestEvery 45 = .ok (.invokespecial 320, 3) := dk_183 1 64 (dk_at dksX1_bestEvery_1 21 rfl rfl)
theorem dX1_bestEvery_48 : decode cX1_bestEvery 48 = .ok (.astore 5, 2) := dk_58 5 (dk_at dksX1_bestEvery_2 0 rfl rfl)
theorem dX1_bestEvery_50 : decode cX1_bestEvery 50 = .ok (.aload 5, 2) := dk_25 5 (dk_at dksX1_bestEvery_2 2 rfl rfl)
theorem dX1_bestEvery_52 : decode cX1_bestEvery 52 = .ok (.invokevirtual 293, 3) := dk_182 1 37 (dk_at dksX1_bestEvery_2 4 rfl rfl)
theorem dX1_bestEvery_55 : decode cX1_bestEvery 55 = .ok (.istore 6, 2) := dk_54 6 (dk_at dksX1_bestEvery_2 7 rfl rfl)
theorem dX1_bestEvery_57 : decode cX1_bestEvery 57 = .ok (.iload 4, 2) := dk_21 4 (dk_at dksX1_bestEvery_2 9 rfl rfl)
theorem dX1_bestEvery_59 : decode cX1_bestEvery 59 = .ok (.iconst 1, 1) := dk_4 (dk_at dksX1_bestEvery_2 11 rfl rfl)
theorem dX1_bestEvery_60 : decode cX1_bestEvery 60 = .ok (.if_icmp .le 27, 3) := dk_164 0 27 (dk_at dksX1_bestEvery_2 12 rfl rfl)
theorem dX1_bestEvery_63 : decode cX1_bestEvery 63 = .ok (.iload 6, 2) := dk_21 6 (dk_at dksX1_bestEvery_2 15 rfl rfl)
theorem dX1_bestEvery_65 : decode cX1_bestEvery 65 = .ok (.iload_n 2, 1) := dk_28 (dk_at dksX1_bestEvery_2 17 rfl rfl)
theorem dX1_bestEvery_66 : decode cX1_bestEvery 66 = .ok (.if_icmp .gt 33, 3) := dk_163 0 33 (dk_at dksX1_bestEvery_2 18 rfl rfl)
theorem dX1_bestEvery_69 : decode cX1_bestEvery 69 = .ok (.iload 6, 2) := dk_21 6 (dk_at dksX1_bestEvery_2 21 rfl rfl)
theorem dX1_bestEvery_71 : decode cX1_bestEvery 71 = .ok (.iload_n 2, 1) := dk_28 (dk_at dksX1_bestEvery_2 23 rfl rfl)
theorem dX1_bestEvery_72 : decode cX1_bestEvery 72 = .ok (.if_icmp .ne 15, 3) := dk_160 0 15 (dk_at dksX1_bestEvery_3 0 rfl rfl)
theorem dX1_bestEvery_75 : decode cX1_bestEvery 75 = .ok (.aload 5, 2) := dk_25 5 (dk_at dksX1_bestEvery_3 3 rfl rfl)
theorem dX1_bestEvery_77 : decode cX1_bestEvery 77 = .ok (.getfield 282, 3) := dk_180 1 26 (dk_at dksX1_bestEvery_3 5 rfl rfl)
theorem dX1_bestEvery_80 : decode cX1_bestEvery 80 = .ok (.iload_n 3, 1) := dk_29 (dk_at dksX1_bestEvery_3 8 rfl rfl)
theorem dX1_bestEvery_81 : decode cX1_bestEvery 81 = .ok (.if_icmp .lt 6, 3) := dk_161 0 6 (dk_at dksX1_bestEvery_3 9 rfl rfl)
theorem dX1_bestEvery_84 : decode cX1_bestEvery 84 = .ok (.goto 15, 3) := dk_167 0 15 (dk_at dksX1_bestEvery_3 12 rfl rfl)
theorem dX1_bestEvery_87 : decode cX1_bestEvery 87 = .ok (.iload 4, 2) := dk_21 4 (dk_at dksX1_bestEvery_3 15 rfl rfl)
theorem dX1_bestEvery_89 : decode cX1_bestEvery 89 = .ok (.istore_n 1, 1) := dk_60 (dk_at dksX1_bestEvery_3 17 rfl rfl)
theorem dX1_bestEvery_90 : decode cX1_bestEvery 90 = .ok (.iload 6, 2) := dk_21 6 (dk_at dksX1_bestEvery_3 18 rfl rfl)
theorem dX1_bestEvery_92 : decode cX1_bestEvery 92 = .ok (.istore_n 2, 1) := dk_61 (dk_at dksX1_bestEvery_3 20 rfl rfl)
theorem dX1_bestEvery_93 : decode cX1_bestEvery 93 = .ok (.aload 5, 2) := dk_25 5 (dk_at dksX1_bestEvery_3 21 rfl rfl)
theorem dX1_bestEvery_95 : decode cX1_bestEvery 95 = .ok (.getfield 282, 3) := dk_180 1 26 (dk_at dksX1_bestEvery_4 0 rfl rfl)
theorem dX1_bestEvery_98 : decode cX1_bestEvery 98 = .ok (.istore_n 3, 1) := dk_62 (dk_at dksX1_bestEvery_4 3 rfl rfl)
theorem dX1_bestEvery_99 : decode cX1_bestEvery 99 = .ok (.iinc 4 1, 3) := dk_132 4 1 (dk_at dksX1_bestEvery_4 4 rfl rfl)
theorem dX1_bestEvery_102 : decode cX1_bestEvery 102 = .ok (.goto (-93), 3) := dk_167 255 163 (dk_at dksX1_bestEvery_4 7 rfl rfl)
theorem dX1_bestEvery_105 : decode cX1_bestEvery 105 = .ok (.iload_n 1, 1) := dk_27 (dk_at dksX1_bestEvery_4 10 rfl rfl)
theorem dX1_bestEvery_106 : decode cX1_bestEvery 106 = .ok (.ireturn, 1) := dk_172 (dk_at dksX1_bestEvery_4 11 rfl rfl)
abbrev cX1_needsSteps : ByteArray := prog_1_method_40_code
def yX1_needsSteps : MethodName := ⟨RX1, "needsSteps", "()I"⟩
def dkwX1_needsSteps_2 : List UInt8 := [132, 1, 1, 167, 255, 208, 2, 172]
abbrev dktX1_needsSteps_2 : List UInt8 := dkwX1_needsSteps_2 ++ []
def dkwX1_needsSteps_1 : List UInt8 := [180, 0, 137, 3, 46, 27, 42, 180, 0, 29, 180, 0, 179, 183, 1, 64, 182, 1, 37, 154, 0, 5, 27, 172]
abbrev dktX1_needsSteps_1 : List UInt8 := dkwX1_needsSteps_1 ++ dktX1_needsSteps_2
def dkwX1_needsSteps_0 : List UInt8 := [3, 60, 27, 178, 0, 232, 6, 46, 163, 0, 45, 187, 1, 22, 89, 42, 180, 0, 29, 42, 180, 0, 29]
abbrev dktX1_needsSteps_0 : List UInt8 := dkwX1_needsSteps_0 ++ dktX1_needsSteps_1
theorem dksX1_needsSteps_0 : cX1_needsSteps.data.toList.drop 0 = dktX1_needsSteps_0 := by decide +kernel
theorem dksX1_needsSteps_1 : cX1_needsSteps.data.toList.drop 23 = dktX1_needsSteps_1 := dk_seg dksX1_needsSteps_0 23 rfl rfl
theorem dksX1_needsSteps_2 : cX1_needsSteps.data.toList.drop 47 = dktX1_needsSteps_2 := dk_seg dksX1_needsSteps_1 24 rfl rfl
theorem dX1_needsSteps_0 : decode cX1_needsSteps 0 = .ok (.iconst 0, 1) := dk_3 (dk_at dksX1_needsSteps_0 0 rfl rfl)
theorem dX1_needsSteps_1 : decode cX1_needsSteps 1 = .ok (.istore_n 1, 1) := dk_60 (dk_at dksX1_needsSteps_0 1 rfl rfl)
theorem dX1_needsSteps_2 : decode cX1_needsSteps 2 = .ok (.iload_n 1, 1) := dk_27 (dk_at dksX1_needsSteps_0 2 rfl rfl)
theorem dX1_needsSteps_3 : decode cX1_needsSteps 3 = .ok (.getstatic 232, 3) := dk_178 0 232 (dk_at dksX1_needsSteps_0 3 rfl rfl)
theorem dX1_needsSteps_6 : decode cX1_needsSteps 6 = .ok (.iconst 3, 1) := dk_6 (dk_at dksX1_needsSteps_0 6 rfl rfl)
theorem dX1_needsSteps_7 : decode cX1_needsSteps 7 = .ok (.iaload, 1) := dk_46 (dk_at dksX1_needsSteps_0 7 rfl rfl)
theorem dX1_needsSteps_8 : decode cX1_needsSteps 8 = .ok (.if_icmp .gt 45, 3) := dk_163 0 45 (dk_at dksX1_needsSteps_0 8 rfl rfl)
theorem dX1_needsSteps_11 : decode cX1_needsSteps 11 = .ok (.new 278, 3) := dk_187 1 22 (dk_at dksX1_needsSteps_0 11 rfl rfl)
theorem dX1_needsSteps_14 : decode cX1_needsSteps 14 = .ok (.dup, 1) := dk_89 (dk_at dksX1_needsSteps_0 14 rfl rfl)
theorem dX1_needsSteps_15 : decode cX1_needsSteps 15 = .ok (.aload_n 0, 1) := dk_42 (dk_at dksX1_needsSteps_0 15 rfl rfl)
theorem dX1_needsSteps_16 : decode cX1_needsSteps 16 = .ok (.getfield 29, 3) := dk_180 0 29 (dk_at dksX1_needsSteps_0 16 rfl rfl)
theorem dX1_needsSteps_19 : decode cX1_needsSteps 19 = .ok (.aload_n 0, 1) := dk_42 (dk_at dksX1_needsSteps_0 19 rfl rfl)
theorem dX1_needsSteps_20 : decode cX1_needsSteps 20 = .ok (.getfield 29, 3) := dk_180 0 29 (dk_at dksX1_needsSteps_0 20 rfl rfl)
theorem dX1_needsSteps_23 : decode cX1_needsSteps 23 = .ok (.getfield 137, 3) := dk_180 0 137 (dk_at dksX1_needsSteps_1 0 rfl rfl)
theorem dX1_needsSteps_26 : decode cX1_needsSteps 26 = .ok (.iconst 0, 1) := dk_3 (dk_at dksX1_needsSteps_1 3 rfl rfl)
theorem dX1_needsSteps_27 : decode cX1_needsSteps 27 = .ok (.iaload, 1) := dk_46 (dk_at dksX1_needsSteps_1 4 rfl rfl)
theorem dX1_needsSteps_28 : decode cX1_needsSteps 28 = .ok (.iload_n 1, 1) := dk_27 (dk_at dksX1_needsSteps_1 5 rfl rfl)
theorem dX1_needsSteps_29 : decode cX1_needsSteps 29 = .ok (.aload_n 0, 1) := dk_42 (dk_at dksX1_needsSteps_1 6 rfl rfl)
theorem dX1_needsSteps_30 : decode cX1_needsSteps 30 = .ok (.getfield 29, 3) := dk_180 0 29 (dk_at dksX1_needsSteps_1 7 rfl rfl)
theorem dX1_needsSteps_33 : decode cX1_needsSteps 33 = .ok (.getfield 179, 3) := dk_180 0 179 (dk_at dksX1_needsSteps_1 10 rfl rfl)
theorem dX1_needsSteps_36 : decode cX1_needsSteps 36 = .ok (.invokespecial 320, 3) := dk_183 1 64 (dk_at dksX1_needsSteps_1 13 rfl rfl)
theorem dX1_needsSteps_39 : decode cX1_needsSteps 39 = .ok (.invokevirtual 293, 3) := dk_182 1 37 (dk_at dksX1_needsSteps_1 16 rfl rfl)
theorem dX1_needsSteps_42 : decode cX1_needsSteps 42 = .ok (.ifCond .ne 5, 3) := dk_154 0 5 (dk_at dksX1_needsSteps_1 19 rfl rfl)
theorem dX1_needsSteps_45 : decode cX1_needsSteps 45 = .ok (.iload_n 1, 1) := dk_27 (dk_at dksX1_needsSteps_1 22 rfl rfl)
theorem dX1_needsSteps_46 : decode cX1_needsSteps 46 = .ok (.ireturn, 1) := dk_172 (dk_at dksX1_needsSteps_1 23 rfl rfl)
theorem dX1_needsSteps_47 : decode cX1_needsSteps 47 = .ok (.iinc 1 1, 3) := dk_132 1 1 (dk_at dksX1_needsSteps_2 0 rfl rfl)
theorem dX1_needsSteps_50 : decode cX1_needsSteps 50 = .ok (.goto (-48), 3) := dk_167 255 208 (dk_at dksX1_needsSteps_2 3 rfl rfl)
theorem dX1_needsSteps_53 : decode cX1_needsSteps 53 = .ok (.iconst (-1), 1) := dk_2 (dk_at dksX1_needsSteps_2 6 rfl rfl)
theorem dX1_needsSteps_54 : decode cX1_needsSteps 54 = .ok (.ireturn, 1) := dk_172 (dk_at dksX1_needsSteps_2 7 rfl rfl)
abbrev cX1_perDot : ByteArray := prog_1_method_41_code
def yX1_perDot : MethodName := ⟨RX1, "perDot", "()D"⟩
def dkwX1_perDot_2 : List UInt8 := [185, 0, 81, 1, 0, 104, 135, 111, 175]
abbrev dktX1_perDot_2 : List UInt8 := dkwX1_perDot_2 ++ []
def dkwX1_perDot_1 : List UInt8 := [184, 1, 21, 180, 1, 26, 135, 42, 180, 0, 29, 180, 0, 122, 42, 180, 0, 29, 180, 0, 77]
abbrev dktX1_perDot_1 : List UInt8 := dkwX1_perDot_1 ++ dktX1_perDot_2
def dkwX1_perDot_0 : List UInt8 := [42, 180, 0, 29, 180, 0, 77, 185, 1, 71, 1, 0, 153, 0, 7, 14, 167, 0, 36, 42, 180, 0, 29]
abbrev dktX1_perDot_0 : List UInt8 := dkwX1_perDot_0 ++ dktX1_perDot_1
theorem dksX1_perDot_0 : cX1_perDot.data.toList.drop 0 = dktX1_perDot_0 := by decide +kernel
theorem dksX1_perDot_1 : cX1_perDot.data.toList.drop 23 = dktX1_perDot_1 := dk_seg dksX1_perDot_0 23 rfl rfl
theorem dksX1_perDot_2 : cX1_perDot.data.toList.drop 44 = dktX1_perDot_2 := dk_seg dksX1_perDot_1 21 rfl rfl
theorem dX1_perDot_0 : decode cX1_perDot 0 = .ok (.aload_n 0, 1) := dk_42 (dk_at dksX1_perDot_0 0 rfl rfl)
theorem dX1_perDot_1 : decode cX1_perDot 1 = .ok (.getfield 29, 3) := dk_180 0 29 (dk_at dksX1_perDot_0 1 rfl rfl)
theorem dX1_perDot_4 : decode cX1_perDot 4 = .ok (.getfield 77, 3) := dk_180 0 77 (dk_at dksX1_perDot_0 4 rfl rfl)
theorem dX1_perDot_7 : decode cX1_perDot 7 = .ok (.invokeinterface 327 1, 5) := by decide +kernel
theorem dX1_perDot_12 : decode cX1_perDot 12 = .ok (.ifCond .eq 7, 3) := dk_153 0 7 (dk_at dksX1_perDot_0 12 rfl rfl)
theorem dX1_perDot_15 : decode cX1_perDot 15 = .ok (.dconst 0, 1) := dk_14 (dk_at dksX1_perDot_0 15 rfl rfl)
theorem dX1_perDot_16 : decode cX1_perDot 16 = .ok (.goto 36, 3) := dk_167 0 36 (dk_at dksX1_perDot_0 16 rfl rfl)
theorem dX1_perDot_19 : decode cX1_perDot 19 = .ok (.aload_n 0, 1) := dk_42 (dk_at dksX1_perDot_0 19 rfl rfl)
theorem dX1_perDot_20 : decode cX1_perDot 20 = .ok (.getfield 29, 3) := dk_180 0 29 (dk_at dksX1_perDot_0 20 rfl rfl)
theorem dX1_perDot_23 : decode cX1_perDot 23 = .ok (.invokestatic 277, 3) := dk_184 1 21 (dk_at dksX1_perDot_1 0 rfl rfl)
theorem dX1_perDot_26 : decode cX1_perDot 26 = .ok (.getfield 282, 3) := dk_180 1 26 (dk_at dksX1_perDot_1 3 rfl rfl)
theorem dX1_perDot_29 : decode cX1_perDot 29 = .ok (.i2d, 1) := dk_135 (dk_at dksX1_perDot_1 6 rfl rfl)
theorem dX1_perDot_30 : decode cX1_perDot 30 = .ok (.aload_n 0, 1) := dk_42 (dk_at dksX1_perDot_1 7 rfl rfl)
theorem dX1_perDot_31 : decode cX1_perDot 31 = .ok (.getfield 29, 3) := dk_180 0 29 (dk_at dksX1_perDot_1 8 rfl rfl)
theorem dX1_perDot_34 : decode cX1_perDot 34 = .ok (.getfield 122, 3) := dk_180 0 122 (dk_at dksX1_perDot_1 11 rfl rfl)
theorem dX1_perDot_37 : decode cX1_perDot 37 = .ok (.aload_n 0, 1) := dk_42 (dk_at dksX1_perDot_1 14 rfl rfl)
theorem dX1_perDot_38 : decode cX1_perDot 38 = .ok (.getfield 29, 3) := dk_180 0 29 (dk_at dksX1_perDot_1 15 rfl rfl)
theorem dX1_perDot_41 : decode cX1_perDot 41 = .ok (.getfield 77, 3) := dk_180 0 77 (dk_at dksX1_perDot_1 18 rfl rfl)
theorem dX1_perDot_44 : decode cX1_perDot 44 = .ok (.invokeinterface 81 1, 5) := by decide +kernel
theorem dX1_perDot_49 : decode cX1_perDot 49 = .ok (.imul, 1) := dk_104 (dk_at dksX1_perDot_2 5 rfl rfl)
theorem dX1_perDot_50 : decode cX1_perDot 50 = .ok (.i2d, 1) := dk_135 (dk_at dksX1_perDot_2 6 rfl rfl)
theorem dX1_perDot_51 : decode cX1_perDot 51 = .ok (.ddiv, 1) := dk_111 (dk_at dksX1_perDot_2 7 rfl rfl)
theorem dX1_perDot_52 : decode cX1_perDot 52 = .ok (.dreturn, 1) := dk_175 (dk_at dksX1_perDot_2 8 rfl rfl)
abbrev cX1_byAbove : ByteArray := prog_1_method_42_code
def yX1_byAbove : MethodName := ⟨RX1, "byAbove", "()F"⟩
def dkwX1_byAbove_2 : List UInt8 := [185, 0, 81, 1, 0, 134, 110, 174]
abbrev dktX1_byAbove_2 : List UInt8 := dkwX1_byAbove_2 ++ []
def dkwX1_byAbove_1 : List UInt8 := [180, 0, 77, 185, 0, 81, 1, 0, 42, 182, 0, 133, 100, 134, 42, 180, 0, 29, 180, 0, 77]
abbrev dktX1_byAbove_1 : List UInt8 := dkwX1_byAbove_1 ++ dktX1_byAbove_2
def dkwX1_byAbove_0 : List UInt8 := [42, 180, 0, 29, 180, 0, 77, 185, 1, 71, 1, 0, 153, 0, 7, 11, 167, 0, 35, 42, 180, 0, 29]
abbrev dktX1_byAbove_0 : List UInt8 := dkwX1_byAbove_0 ++ dktX1_byAbove_1
theorem dksX1_byAbove_0 : cX1_byAbove.data.toList.drop 0 = dktX1_byAbove_0 := by decide +kernel
theorem dksX1_byAbove_1 : cX1_byAbove.data.toList.drop 23 = dktX1_byAbove_1 := dk_seg dksX1_byAbove_0 23 rfl rfl
theorem dksX1_byAbove_2 : cX1_byAbove.data.toList.drop 44 = dktX1_byAbove_2 := dk_seg dksX1_byAbove_1 21 rfl rfl
theorem dX1_byAbove_0 : decode cX1_byAbove 0 = .ok (.aload_n 0, 1) := dk_42 (dk_at dksX1_byAbove_0 0 rfl rfl)
theorem dX1_byAbove_1 : decode cX1_byAbove 1 = .ok (.getfield 29, 3) := dk_180 0 29 (dk_at dksX1_byAbove_0 1 rfl rfl)
theorem dX1_byAbove_4 : decode cX1_byAbove 4 = .ok (.getfield 77, 3) := dk_180 0 77 (dk_at dksX1_byAbove_0 4 rfl rfl)
theorem dX1_byAbove_7 : decode cX1_byAbove 7 = .ok (.invokeinterface 327 1, 5) := by decide +kernel
theorem dX1_byAbove_12 : decode cX1_byAbove 12 = .ok (.ifCond .eq 7, 3) := dk_153 0 7 (dk_at dksX1_byAbove_0 12 rfl rfl)
theorem dX1_byAbove_15 : decode cX1_byAbove 15 = .ok (.fconst 0, 1) := dk_11 (dk_at dksX1_byAbove_0 15 rfl rfl)
theorem dX1_byAbove_16 : decode cX1_byAbove 16 = .ok (.goto 35, 3) := dk_167 0 35 (dk_at dksX1_byAbove_0 16 rfl rfl)
theorem dX1_byAbove_19 : decode cX1_byAbove 19 = .ok (.aload_n 0, 1) := dk_42 (dk_at dksX1_byAbove_0 19 rfl rfl)
theorem dX1_byAbove_20 : decode cX1_byAbove 20 = .ok (.getfield 29, 3) := dk_180 0 29 (dk_at dksX1_byAbove_0 20 rfl rfl)
theorem dX1_byAbove_23 : decode cX1_byAbove 23 = .ok (.getfield 77, 3) := dk_180 0 77 (dk_at dksX1_byAbove_1 0 rfl rfl)
theorem dX1_byAbove_26 : decode cX1_byAbove 26 = .ok (.invokeinterface 81 1, 5) := by decide +kernel
theorem dX1_byAbove_31 : decode cX1_byAbove 31 = .ok (.aload_n 0, 1) := dk_42 (dk_at dksX1_byAbove_1 8 rfl rfl)
theorem dX1_byAbove_32 : decode cX1_byAbove 32 = .ok (.invokevirtual 133, 3) := dk_182 0 133 (dk_at dksX1_byAbove_1 9 rfl rfl)
theorem dX1_byAbove_35 : decode cX1_byAbove 35 = .ok (.isub, 1) := dk_100 (dk_at dksX1_byAbove_1 12 rfl rfl)
theorem dX1_byAbove_36 : decode cX1_byAbove 36 = .ok (.i2f, 1) := dk_134 (dk_at dksX1_byAbove_1 13 rfl rfl)
theorem dX1_byAbove_37 : decode cX1_byAbove 37 = .ok (.aload_n 0, 1) := dk_42 (dk_at dksX1_byAbove_1 14 rfl rfl)
theorem dX1_byAbove_38 : decode cX1_byAbove 38 = .ok (.getfield 29, 3) := dk_180 0 29 (dk_at dksX1_byAbove_1 15 rfl rfl)
theorem dX1_byAbove_41 : decode cX1_byAbove 41 = .ok (.getfield 77, 3) := dk_180 0 77 (dk_at dksX1_byAbove_1 18 rfl rfl)
theorem dX1_byAbove_44 : decode cX1_byAbove 44 = .ok (.invokeinterface 81 1, 5) := by decide +kernel
theorem dX1_byAbove_49 : decode cX1_byAbove 49 = .ok (.i2f, 1) := dk_134 (dk_at dksX1_byAbove_2 5 rfl rfl)
theorem dX1_byAbove_50 : decode cX1_byAbove 50 = .ok (.fdiv, 1) := dk_110 (dk_at dksX1_byAbove_2 6 rfl rfl)
theorem dX1_byAbove_51 : decode cX1_byAbove 51 = .ok (.freturn, 1) := dk_174 (dk_at dksX1_byAbove_2 7 rfl rfl)
abbrev cX1_marks : ByteArray := prog_1_method_11_code
def yX1_marks : MethodName := ⟨RX1, "marks", "()I"⟩
def dkwX1_marks_1 : List UInt8 := [180, 0, 29, 28, 182, 0, 102, 184, 0, 105, 96, 60, 132, 2, 1, 167, 255, 223, 27, 172]
abbrev dktX1_marks_1 : List UInt8 := dkwX1_marks_1 ++ []
def dkwX1_marks_0 : List UInt8 := [3, 60, 3, 61, 28, 42, 180, 0, 29, 180, 0, 77, 185, 0, 81, 1, 0, 162, 0, 23, 27, 42]
abbrev dktX1_marks_0 : List UInt8 := dkwX1_marks_0 ++ dktX1_marks_1
theorem dksX1_marks_0 : cX1_marks.data.toList.drop 0 = dktX1_marks_0 := by decide +kernel
theorem dksX1_marks_1 : cX1_marks.data.toList.drop 22 = dktX1_marks_1 := dk_seg dksX1_marks_0 22 rfl rfl
theorem dX1_marks_0 : decode cX1_marks 0 = .ok (.iconst 0, 1) := dk_3 (dk_at dksX1_marks_0 0 rfl rfl)
theorem dX1_marks_1 : decode cX1_marks 1 = .ok (.istore_n 1, 1) := dk_60 (dk_at dksX1_marks_0 1 rfl rfl)
theorem dX1_marks_2 : decode cX1_marks 2 = .ok (.iconst 0, 1) := dk_3 (dk_at dksX1_marks_0 2 rfl rfl)
theorem dX1_marks_3 : decode cX1_marks 3 = .ok (.istore_n 2, 1) := dk_61 (dk_at dksX1_marks_0 3 rfl rfl)
theorem dX1_marks_4 : decode cX1_marks 4 = .ok (.iload_n 2, 1) := dk_28 (dk_at dksX1_marks_0 4 rfl rfl)
theorem dX1_marks_5 : decode cX1_marks 5 = .ok (.aload_n 0, 1) := dk_42 (dk_at dksX1_marks_0 5 rfl rfl)
theorem dX1_marks_6 : decode cX1_marks 6 = .ok (.getfield 29, 3) := dk_180 0 29 (dk_at dksX1_marks_0 6 rfl rfl)
theorem dX1_marks_9 : decode cX1_marks 9 = .ok (.getfield 77, 3) := dk_180 0 77 (dk_at dksX1_marks_0 9 rfl rfl)
theorem dX1_marks_12 : decode cX1_marks 12 = .ok (.invokeinterface 81 1, 5) := by decide +kernel
theorem dX1_marks_17 : decode cX1_marks 17 = .ok (.if_icmp .ge 23, 3) := dk_162 0 23 (dk_at dksX1_marks_0 17 rfl rfl)
theorem dX1_marks_20 : decode cX1_marks 20 = .ok (.iload_n 1, 1) := dk_27 (dk_at dksX1_marks_0 20 rfl rfl)
theorem dX1_marks_21 : decode cX1_marks 21 = .ok (.aload_n 0, 1) := dk_42 (dk_at dksX1_marks_0 21 rfl rfl)
theorem dX1_marks_22 : decode cX1_marks 22 = .ok (.getfield 29, 3) := dk_180 0 29 (dk_at dksX1_marks_1 0 rfl rfl)
theorem dX1_marks_25 : decode cX1_marks 25 = .ok (.iload_n 2, 1) := dk_28 (dk_at dksX1_marks_1 3 rfl rfl)
theorem dX1_marks_26 : decode cX1_marks 26 = .ok (.invokevirtual 102, 3) := dk_182 0 102 (dk_at dksX1_marks_1 4 rfl rfl)
theorem dX1_marks_29 : decode cX1_marks 29 = .ok (.invokestatic 105, 3) := dk_184 0 105 (dk_at dksX1_marks_1 7 rfl rfl)
theorem dX1_marks_32 : decode cX1_marks 32 = .ok (.iadd, 1) := dk_96 (dk_at dksX1_marks_1 10 rfl rfl)
theorem dX1_marks_33 : decode cX1_marks 33 = .ok (.istore_n 1, 1) := dk_60 (dk_at dksX1_marks_1 11 rfl rfl)
theorem dX1_marks_34 : decode cX1_marks 34 = .ok (.iinc 2 1, 3) := dk_132 2 1 (dk_at dksX1_marks_1 12 rfl rfl)
theorem dX1_marks_37 : decode cX1_marks 37 = .ok (.goto (-33), 3) := dk_167 255 223 (dk_at dksX1_marks_1 15 rfl rfl)
theorem dX1_marks_40 : decode cX1_marks 40 = .ok (.iload_n 1, 1) := dk_27 (dk_at dksX1_marks_1 18 rfl rfl)
theorem dX1_marks_41 : decode cX1_marks 41 = .ok (.ireturn, 1) := dk_172 (dk_at dksX1_marks_1 19 rfl rfl)
abbrev cX1_bit : ByteArray := prog_1_method_6_code
def yX1_bit : MethodName := ⟨RX1, "bit", "(Z)I"⟩
def dkwX1_bit_0 : List UInt8 := [26, 153, 0, 7, 4, 167, 0, 4, 3, 172]
abbrev dktX1_bit_0 : List UInt8 := dkwX1_bit_0 ++ []
theorem dksX1_bit_0 : cX1_bit.data.toList.drop 0 = dktX1_bit_0 := by decide +kernel
theorem dX1_bit_0 : decode cX1_bit 0 = .ok (.iload_n 0, 1) := dk_26 (dk_at dksX1_bit_0 0 rfl rfl)
theorem dX1_bit_1 : decode cX1_bit 1 = .ok (.ifCond .eq 7, 3) := dk_153 0 7 (dk_at dksX1_bit_0 1 rfl rfl)
theorem dX1_bit_4 : decode cX1_bit 4 = .ok (.iconst 1, 1) := dk_4 (dk_at dksX1_bit_0 4 rfl rfl)
theorem dX1_bit_5 : decode cX1_bit 5 = .ok (.goto 4, 3) := dk_167 0 4 (dk_at dksX1_bit_0 5 rfl rfl)
theorem dX1_bit_8 : decode cX1_bit 8 = .ok (.iconst 0, 1) := dk_3 (dk_at dksX1_bit_0 8 rfl rfl)
theorem dX1_bit_9 : decode cX1_bit 9 = .ok (.ireturn, 1) := dk_172 (dk_at dksX1_bit_0 9 rfl rfl)
abbrev cX1_output : ByteArray := prog_1_method_47_code
def yX1_output : MethodName := ⟨RX1, "output", "(I)I"⟩
def dkwX1_output_1 : List UInt8 := [182, 1, 124, 167, 0, 4, 2, 172]
abbrev dktX1_output_1 : List UInt8 := dkwX1_output_1 ++ []
def dkwX1_output_0 : List UInt8 := [27, 3, 42, 180, 0, 49, 182, 1, 110, 4, 100, 184, 0, 84, 153, 0, 14, 42, 180, 0, 49, 27]
abbrev dktX1_output_0 : List UInt8 := dkwX1_output_0 ++ dktX1_output_1
theorem dksX1_output_0 : cX1_output.data.toList.drop 0 = dktX1_output_0 := by decide +kernel
theorem dksX1_output_1 : cX1_output.data.toList.drop 22 = dktX1_output_1 := dk_seg dksX1_output_0 22 rfl rfl
theorem dX1_output_0 : decode cX1_output 0 = .ok (.iload_n 1, 1) := dk_27 (dk_at dksX1_output_0 0 rfl rfl)
theorem dX1_output_1 : decode cX1_output 1 = .ok (.iconst 0, 1) := dk_3 (dk_at dksX1_output_0 1 rfl rfl)
theorem dX1_output_2 : decode cX1_output 2 = .ok (.aload_n 0, 1) := dk_42 (dk_at dksX1_output_0 2 rfl rfl)
theorem dX1_output_3 : decode cX1_output 3 = .ok (.getfield 49, 3) := dk_180 0 49 (dk_at dksX1_output_0 3 rfl rfl)
theorem dX1_output_6 : decode cX1_output 6 = .ok (.invokevirtual 366, 3) := dk_182 1 110 (dk_at dksX1_output_0 6 rfl rfl)
theorem dX1_output_9 : decode cX1_output 9 = .ok (.iconst 1, 1) := dk_4 (dk_at dksX1_output_0 9 rfl rfl)
theorem dX1_output_10 : decode cX1_output 10 = .ok (.isub, 1) := dk_100 (dk_at dksX1_output_0 10 rfl rfl)
theorem dX1_output_11 : decode cX1_output 11 = .ok (.invokestatic 84, 3) := dk_184 0 84 (dk_at dksX1_output_0 11 rfl rfl)
theorem dX1_output_14 : decode cX1_output 14 = .ok (.ifCond .eq 14, 3) := dk_153 0 14 (dk_at dksX1_output_0 14 rfl rfl)
theorem dX1_output_17 : decode cX1_output 17 = .ok (.aload_n 0, 1) := dk_42 (dk_at dksX1_output_0 17 rfl rfl)
theorem dX1_output_18 : decode cX1_output 18 = .ok (.getfield 49, 3) := dk_180 0 49 (dk_at dksX1_output_0 18 rfl rfl)
theorem dX1_output_21 : decode cX1_output 21 = .ok (.iload_n 1, 1) := dk_27 (dk_at dksX1_output_0 21 rfl rfl)
theorem dX1_output_22 : decode cX1_output 22 = .ok (.invokevirtual 380, 3) := dk_182 1 124 (dk_at dksX1_output_1 0 rfl rfl)
theorem dX1_output_25 : decode cX1_output 25 = .ok (.goto 4, 3) := dk_167 0 4 (dk_at dksX1_output_1 3 rfl rfl)
theorem dX1_output_28 : decode cX1_output 28 = .ok (.iconst (-1), 1) := dk_2 (dk_at dksX1_output_1 6 rfl rfl)
theorem dX1_output_29 : decode cX1_output 29 = .ok (.ireturn, 1) := dk_172 (dk_at dksX1_output_1 7 rfl rfl)
abbrev cX1_load : ByteArray := prog_1_method_50_code
def yX1_load : MethodName := ⟨RX1, "load", "()I"⟩
def dkwX1_load_3 : List UInt8 := [61, 42, 3, 181, 1, 125, 28, 172, 78, 42, 3, 181, 1, 125, 45, 191]
abbrev dktX1_load_3 : List UInt8 := dkwX1_load_3 ++ []
def dkwX1_load_2 : List UInt8 := [3, 181, 1, 125, 27, 172, 76, 42, 43, 180, 1, 144, 181, 1, 128, 42, 43, 180, 1, 146, 181, 0, 57, 2]
abbrev dktX1_load_2 : List UInt8 := dkwX1_load_2 ++ dktX1_load_3
def dkwX1_load_1 : List UInt8 := [181, 0, 29, 42, 180, 0, 38, 182, 1, 139, 42, 180, 0, 29, 180, 0, 77, 185, 0, 81, 1, 0, 60, 42]
abbrev dktX1_load_1 : List UInt8 := dkwX1_load_1 ++ dktX1_load_2
def dkwX1_load_0 : List UInt8 := [42, 3, 181, 1, 128, 42, 2, 181, 0, 57, 42, 187, 1, 131, 89, 42, 183, 1, 133, 182, 1, 136]
abbrev dktX1_load_0 : List UInt8 := dkwX1_load_0 ++ dktX1_load_1
theorem dksX1_load_0 : cX1_load.data.toList.drop 0 = dktX1_load_0 := by decide +kernel
theorem dksX1_load_1 : cX1_load.data.toList.drop 22 = dktX1_load_1 := dk_seg dksX1_load_0 22 rfl rfl
theorem dksX1_load_2 : cX1_load.data.toList.drop 46 = dktX1_load_2 := dk_seg dksX1_load_1 24 rfl rfl
theorem dksX1_load_3 : cX1_load.data.toList.drop 70 = dktX1_load_3 := dk_seg dksX1_load_2 24 rfl rfl
theorem dX1_load_0 : decode cX1_load 0 = .ok (.aload_n 0, 1) := dk_42 (dk_at dksX1_load_0 0 rfl rfl)
theorem dX1_load_1 : decode cX1_load 1 = .ok (.iconst 0, 1) := dk_3 (dk_at dksX1_load_0 1 rfl rfl)
theorem dX1_load_2 : decode cX1_load 2 = .ok (.putfield 384, 3) := dk_181 1 128 (dk_at dksX1_load_0 2 rfl rfl)
theorem dX1_load_5 : decode cX1_load 5 = .ok (.aload_n 0, 1) := dk_42 (dk_at dksX1_load_0 5 rfl rfl)
theorem dX1_load_6 : decode cX1_load 6 = .ok (.iconst (-1), 1) := dk_2 (dk_at dksX1_load_0 6 rfl rfl)
theorem dX1_load_7 : decode cX1_load 7 = .ok (.putfield 57, 3) := dk_181 0 57 (dk_at dksX1_load_0 7 rfl rfl)
theorem dX1_load_10 : decode cX1_load 10 = .ok (.aload_n 0, 1) := dk_42 (dk_at dksX1_load_0 10 rfl rfl)
theorem dX1_load_11 : decode cX1_load 11 = .ok (.new 387, 3) := dk_187 1 131 (dk_at dksX1_load_0 11 rfl rfl)
theorem dX1_load_14 : decode cX1_load 14 = .ok (.dup, 1) := dk_89 (dk_at dksX1_load_0 14 rfl rfl)
theorem dX1_load_15 : decode cX1_load 15 = .ok (.aload_n 0, 1) := dk_42 (dk_at dksX1_load_0 15 rfl rfl)
theorem dX1_load_16 : decode cX1_load 16 = .ok (.invokespecial 389, 3) := dk_183 1 133 (dk_at dksX1_load_0 16 rfl rfl)
theorem dX1_load_19 : decode cX1_load 19 = .ok (.invokevirtual 392, 3) := dk_182 1 136 (dk_at dksX1_load_0 19 rfl rfl)
theorem dX1_load_22 : decode cX1_load 22 = .ok (.putfield 29, 3) := dk_181 0 29 (dk_at dksX1_load_1 0 rfl rfl)
theorem dX1_load_25 : decode cX1_load 25 = .ok (.aload_n 0, 1) := dk_42 (dk_at dksX1_load_1 3 rfl rfl)
theorem dX1_load_26 : decode cX1_load 26 = .ok (.getfield 38, 3) := dk_180 0 38 (dk_at dksX1_load_1 4 rfl rfl)
theorem dX1_load_29 : decode cX1_load 29 = .ok (.invokevirtual 395, 3) := dk_182 1 139 (dk_at dksX1_load_1 7 rfl rfl)
theorem dX1_load_32 : decode cX1_load 32 = .ok (.aload_n 0, 1) := dk_42 (dk_at dksX1_load_1 10 rfl rfl)
theorem dX1_load_33 : decode cX1_load 33 = .ok (.getfield 29, 3) := dk_180 0 29 (dk_at dksX1_load_1 11 rfl rfl)
theorem dX1_load_36 : decode cX1_load 36 = .ok (.getfield 77, 3) := dk_180 0 77 (dk_at dksX1_load_1 14 rfl rfl)
theorem dX1_load_39 : decode cX1_load 39 = .ok (.invokeinterface 81 1, 5) := by decide +kernel
theorem dX1_load_44 : decode cX1_load 44 = .ok (.istore_n 1, 1) := dk_60 (dk_at dksX1_load_1 22 rfl rfl)
theorem dX1_load_45 : decode cX1_load 45 = .ok (.aload_n 0, 1) := dk_42 (dk_at dksX1_load_1 23 rfl rfl)
theorem dX1_load_46 : decode cX1_load 46 = .ok (.iconst 0, 1) := dk_3 (dk_at dksX1_load_2 0 rfl rfl)
theorem dX1_load_47 : decode cX1_load 47 = .ok (.putfield 381, 3) := dk_181 1 125 (dk_at dksX1_load_2 1 rfl rfl)
theorem dX1_load_50 : decode cX1_load 50 = .ok (.iload_n 1, 1) := dk_27 (dk_at dksX1_load_2 4 rfl rfl)
theorem dX1_load_51 : decode cX1_load 51 = .ok (.ireturn, 1) := dk_172 (dk_at dksX1_load_2 5 rfl rfl)
theorem dX1_load_52 : decode cX1_load 52 = .ok (.astore_n 1, 1) := dk_76 (dk_at dksX1_load_2 6 rfl rfl)
theorem dX1_load_53 : decode cX1_load 53 = .ok (.aload_n 0, 1) := dk_42 (dk_at dksX1_load_2 7 rfl rfl)
theorem dX1_load_54 : decode cX1_load 54 = .ok (.aload_n 1, 1) := dk_43 (dk_at dksX1_load_2 8 rfl rfl)
theorem dX1_load_55 : decode cX1_load 55 = .ok (.getfield 400, 3) := dk_180 1 144 (dk_at dksX1_load_2 9 rfl rfl)
theorem dX1_load_58 : decode cX1_load 58 = .ok (.putfield 384, 3) := dk_181 1 128 (dk_at dksX1_load_2 12 rfl rfl)
theorem dX1_load_61 : decode cX1_load 61 = .ok (.aload_n 0, 1) := dk_42 (dk_at dksX1_load_2 15 rfl rfl)
theorem dX1_load_62 : decode cX1_load 62 = .ok (.aload_n 1, 1) := dk_43 (dk_at dksX1_load_2 16 rfl rfl)
theorem dX1_load_63 : decode cX1_load 63 = .ok (.getfield 402, 3) := dk_180 1 146 (dk_at dksX1_load_2 17 rfl rfl)
theorem dX1_load_66 : decode cX1_load 66 = .ok (.putfield 57, 3) := dk_181 0 57 (dk_at dksX1_load_2 20 rfl rfl)
theorem dX1_load_69 : decode cX1_load 69 = .ok (.iconst (-1), 1) := dk_2 (dk_at dksX1_load_2 23 rfl rfl)
theorem dX1_load_70 : decode cX1_load 70 = .ok (.istore_n 2, 1) := dk_61 (dk_at dksX1_load_3 0 rfl rfl)
theorem dX1_load_71 : decode cX1_load 71 = .ok (.aload_n 0, 1) := dk_42 (dk_at dksX1_load_3 1 rfl rfl)
theorem dX1_load_72 : decode cX1_load 72 = .ok (.iconst 0, 1) := dk_3 (dk_at dksX1_load_3 2 rfl rfl)
theorem dX1_load_73 : decode cX1_load 73 = .ok (.putfield 381, 3) := dk_181 1 125 (dk_at dksX1_load_3 3 rfl rfl)
theorem dX1_load_76 : decode cX1_load 76 = .ok (.iload_n 2, 1) := dk_28 (dk_at dksX1_load_3 6 rfl rfl)
theorem dX1_load_77 : decode cX1_load 77 = .ok (.ireturn, 1) := dk_172 (dk_at dksX1_load_3 7 rfl rfl)
theorem dX1_load_78 : decode cX1_load 78 = .ok (.astore_n 3, 1) := dk_78 (dk_at dksX1_load_3 8 rfl rfl)
theorem dX1_load_79 : decode cX1_load 79 = .ok (.aload_n 0, 1) := dk_42 (dk_at dksX1_load_3 9 rfl rfl)
theorem dX1_load_80 : decode cX1_load 80 = .ok (.iconst 0, 1) := dk_3 (dk_at dksX1_load_3 10 rfl rfl)
theorem dX1_load_81 : decode cX1_load 81 = .ok (.putfield 381, 3) := dk_181 1 125 (dk_at dksX1_load_3 11 rfl rfl)
theorem dX1_load_84 : decode cX1_load 84 = .ok (.aload_n 3, 1) := dk_45 (dk_at dksX1_load_3 14 rfl rfl)
theorem dX1_load_85 : decode cX1_load 85 = .ok (.athrow, 1) := dk_191 (dk_at dksX1_load_3 15 rfl rfl)
abbrev cX1_errorCode : ByteArray := prog_1_method_51_code
def yX1_errorCode : MethodName := ⟨RX1, "errorCode", "()I"⟩
theorem dX1_errorCode_0 : decode cX1_errorCode 0 = .ok (.aload_n 0, 1) := by decide +kernel
theorem dX1_errorCode_1 : decode cX1_errorCode 1 = .ok (.getfield 384, 3) := by decide +kernel
theorem dX1_errorCode_4 : decode cX1_errorCode 4 = .ok (.ireturn, 1) := by decide +kernel
abbrev cX1_errorPosition : ByteArray := prog_1_method_52_code
def yX1_errorPosition : MethodName := ⟨RX1, "errorPosition", "()I"⟩
theorem dX1_errorPosition_0 : decode cX1_errorPosition 0 = .ok (.aload_n 0, 1) := by decide +kernel
theorem dX1_errorPosition_1 : decode cX1_errorPosition 1 = .ok (.getfield 57, 3) := by decide +kernel
theorem dX1_errorPosition_4 : decode cX1_errorPosition 4 = .ok (.ireturn, 1) := by decide +kernel
abbrev cX1_undo : ByteArray := prog_1_method_53_code
def yX1_undo : MethodName := ⟨RX1, "undo", "()I"⟩
def dkwX1_undo_1 : List UInt8 := [181, 0, 29, 42, 180, 0, 38, 182, 0, 61, 172]
abbrev dktX1_undo_1 : List UInt8 := dkwX1_undo_1 ++ []
def dkwX1_undo_0 : List UInt8 := [42, 180, 0, 38, 182, 1, 149, 153, 0, 5, 2, 172, 42, 42, 180, 0, 38, 182, 1, 150, 192, 0, 24]
abbrev dktX1_undo_0 : List UInt8 := dkwX1_undo_0 ++ dktX1_undo_1
theorem dksX1_undo_0 : cX1_undo.data.toList.drop 0 = dktX1_undo_0 := by decide +kernel
theorem dksX1_undo_1 : cX1_undo.data.toList.drop 23 = dktX1_undo_1 := dk_seg dksX1_undo_0 23 rfl rfl
theorem dX1_undo_0 : decode cX1_undo 0 = .ok (.aload_n 0, 1) := dk_42 (dk_at dksX1_undo_0 0 rfl rfl)
theorem dX1_undo_1 : decode cX1_undo 1 = .ok (.getfield 38, 3) := dk_180 0 38 (dk_at dksX1_undo_0 1 rfl rfl)
theorem dX1_undo_4 : decode cX1_undo 4 = .ok (.invokevirtual 405, 3) := dk_182 1 149 (dk_at dksX1_undo_0 4 rfl rfl)
theorem dX1_undo_7 : decode cX1_undo 7 = .ok (.ifCond .eq 5, 3) := dk_153 0 5 (dk_at dksX1_undo_0 7 rfl rfl)
theorem dX1_undo_10 : decode cX1_undo 10 = .ok (.iconst (-1), 1) := dk_2 (dk_at dksX1_undo_0 10 rfl rfl)
theorem dX1_undo_11 : decode cX1_undo 11 = .ok (.ireturn, 1) := dk_172 (dk_at dksX1_undo_0 11 rfl rfl)
theorem dX1_undo_12 : decode cX1_undo 12 = .ok (.aload_n 0, 1) := dk_42 (dk_at dksX1_undo_0 12 rfl rfl)
theorem dX1_undo_13 : decode cX1_undo 13 = .ok (.aload_n 0, 1) := dk_42 (dk_at dksX1_undo_0 13 rfl rfl)
theorem dX1_undo_14 : decode cX1_undo 14 = .ok (.getfield 38, 3) := dk_180 0 38 (dk_at dksX1_undo_0 14 rfl rfl)
theorem dX1_undo_17 : decode cX1_undo 17 = .ok (.invokevirtual 406, 3) := dk_182 1 150 (dk_at dksX1_undo_0 17 rfl rfl)
theorem dX1_undo_20 : decode cX1_undo 20 = .ok (.checkcast 24, 3) := dk_192 0 24 (dk_at dksX1_undo_0 20 rfl rfl)
theorem dX1_undo_23 : decode cX1_undo 23 = .ok (.putfield 29, 3) := dk_181 0 29 (dk_at dksX1_undo_1 0 rfl rfl)
theorem dX1_undo_26 : decode cX1_undo 26 = .ok (.aload_n 0, 1) := dk_42 (dk_at dksX1_undo_1 3 rfl rfl)
theorem dX1_undo_27 : decode cX1_undo 27 = .ok (.getfield 38, 3) := dk_180 0 38 (dk_at dksX1_undo_1 4 rfl rfl)
theorem dX1_undo_30 : decode cX1_undo 30 = .ok (.invokevirtual 61, 3) := dk_182 0 61 (dk_at dksX1_undo_1 7 rfl rfl)
theorem dX1_undo_33 : decode cX1_undo 33 = .ok (.ireturn, 1) := dk_172 (dk_at dksX1_undo_1 10 rfl rfl)
abbrev cX1_appendText : ByteArray := prog_1_method_48_code
def yX1_appendText : MethodName := ⟨RX1, "appendText", "(I)I"⟩
def dkwX1_appendText_2 : List UInt8 := [181, 1, 125, 132, 2, 248, 167, 255, 226, 42, 180, 1, 125, 172]
abbrev dktX1_appendText_2 : List UInt8 := dkwX1_appendText_2 ++ []
def dkwX1_appendText_1 : List UInt8 := [155, 0, 32, 42, 180, 0, 53, 42, 180, 1, 125, 27, 28, 122, 145, 84, 42, 89, 180, 1, 125, 4, 96]
abbrev dktX1_appendText_1 : List UInt8 := dkwX1_appendText_1 ++ dktX1_appendText_2
def dkwX1_appendText_0 : List UInt8 := [42, 180, 1, 125, 7, 96, 17, 3, 132, 163, 0, 7, 4, 167, 0, 4, 3, 184, 0, 242, 16, 24, 61, 28]
abbrev dktX1_appendText_0 : List UInt8 := dkwX1_appendText_0 ++ dktX1_appendText_1
theorem dksX1_appendText_0 : cX1_appendText.data.toList.drop 0 = dktX1_appendText_0 := by decide +kernel
theorem dksX1_appendText_1 : cX1_appendText.data.toList.drop 24 = dktX1_appendText_1 := dk_seg dksX1_appendText_0 24 rfl rfl
theorem dksX1_appendText_2 : cX1_appendText.data.toList.drop 47 = dktX1_appendText_2 := dk_seg dksX1_appendText_1 23 rfl rfl
theorem dX1_appendText_0 : decode cX1_appendText 0 = .ok (.aload_n 0, 1) := dk_42 (dk_at dksX1_appendText_0 0 rfl rfl)
theorem dX1_appendText_1 : decode cX1_appendText 1 = .ok (.getfield 381, 3) := dk_180 1 125 (dk_at dksX1_appendText_0 1 rfl rfl)
theorem dX1_appendText_4 : decode cX1_appendText 4 = .ok (.iconst 4, 1) := dk_7 (dk_at dksX1_appendText_0 4 rfl rfl)
theorem dX1_appendText_5 : decode cX1_appendText 5 = .ok (.iadd, 1) := dk_96 (dk_at dksX1_appendText_0 5 rfl rfl)
theorem dX1_appendText_6 : decode cX1_appendText 6 = .ok (.sipush 900, 3) := dk_17 3 132 (dk_at dksX1_appendText_0 6 rfl rfl)
theorem dX1_appendText_9 : decode cX1_appendText 9 = .ok (.if_icmp .gt 7, 3) := dk_163 0 7 (dk_at dksX1_appendText_0 9 rfl rfl)
theorem dX1_appendText_12 : decode cX1_appendText 12 = .ok (.iconst 1, 1) := dk_4 (dk_at dksX1_appendText_0 12 rfl rfl)
theorem dX1_appendText_13 : decode cX1_appendText 13 = .ok (.goto 4, 3) := dk_167 0 4 (dk_at dksX1_appendText_0 13 rfl rfl)
theorem dX1_appendText_16 : decode cX1_appendText 16 = .ok (.iconst 0, 1) := dk_3 (dk_at dksX1_appendText_0 16 rfl rfl)
theorem dX1_appendText_17 : decode cX1_appendText 17 = .ok (.invokestatic 242, 3) := dk_184 0 242 (dk_at dksX1_appendText_0 17 rfl rfl)
theorem dX1_appendText_20 : decode cX1_appendText 20 = .ok (.bipush 24, 2) := dk_16 24 (dk_at dksX1_appendText_0 20 rfl rfl)
theorem dX1_appendText_22 : decode cX1_appendText 22 = .ok (.istore_n 2, 1) := dk_61 (dk_at dksX1_appendText_0 22 rfl rfl)
theorem dX1_appendText_23 : decode cX1_appendText 23 = .ok (.iload_n 2, 1) := dk_28 (dk_at dksX1_appendText_0 23 rfl rfl)
theorem dX1_appendText_24 : decode cX1_appendText 24 = .ok (.ifCond .lt 32, 3) := dk_155 0 32 (dk_at dksX1_appendText_1 0 rfl rfl)
theorem dX1_appendText_27 : decode cX1_appendText 27 = .ok (.aload_n 0, 1) := dk_42 (dk_at dksX1_appendText_1 3 rfl rfl)
theorem dX1_appendText_28 : decode cX1_appendText 28 = .ok (.getfield 53, 3) := dk_180 0 53 (dk_at dksX1_appendText_1 4 rfl rfl)
theorem dX1_appendText_31 : decode cX1_appendText 31 = .ok (.aload_n 0, 1) := dk_42 (dk_at dksX1_appendText_1 7 rfl rfl)
theorem dX1_appendText_32 : decode cX1_appendText 32 = .ok (.getfield 381, 3) := dk_180 1 125 (dk_at dksX1_appendText_1 8 rfl rfl)
theorem dX1_appendText_35 : decode cX1_appendText 35 = .ok (.iload_n 1, 1) := dk_27 (dk_at dksX1_appendText_1 11 rfl rfl)
theorem dX1_appendText_36 : decode cX1_appendText 36 = .ok (.iload_n 2, 1) := dk_28 (dk_at dksX1_appendText_1 12 rfl rfl)
theorem dX1_appendText_37 : decode cX1_appendText 37 = .ok (.ishr, 1) := dk_122 (dk_at dksX1_appendText_1 13 rfl rfl)
theorem dX1_appendText_38 : decode cX1_appendText 38 = .ok (.i2b, 1) := dk_145 (dk_at dksX1_appendText_1 14 rfl rfl)
theorem dX1_appendText_39 : decode cX1_appendText 39 = .ok (.bastore, 1) := dk_84 (dk_at dksX1_appendText_1 15 rfl rfl)
theorem dX1_appendText_40 : decode cX1_appendText 40 = .ok (.aload_n 0, 1) := dk_42 (dk_at dksX1_appendText_1 16 rfl rfl)
theorem dX1_appendText_41 : decode cX1_appendText 41 = .ok (.dup, 1) := dk_89 (dk_at dksX1_appendText_1 17 rfl rfl)
theorem dX1_appendText_42 : decode cX1_appendText 42 = .ok (.getfield 381, 3) := dk_180 1 125 (dk_at dksX1_appendText_1 18 rfl rfl)
theorem dX1_appendText_45 : decode cX1_appendText 45 = .ok (.iconst 1, 1) := dk_4 (dk_at dksX1_appendText_1 21 rfl rfl)
theorem dX1_appendText_46 : decode cX1_appendText 46 = .ok (.iadd, 1) := dk_96 (dk_at dksX1_appendText_1 22 rfl rfl)
theorem dX1_appendText_47 : decode cX1_appendText 47 = .ok (.putfield 381, 3) := dk_181 1 125 (dk_at dksX1_appendText_2 0 rfl rfl)
theorem dX1_appendText_50 : decode cX1_appendText 50 = .ok (.iinc 2 (-8), 3) := dk_132 2 248 (dk_at dksX1_appendText_2 3 rfl rfl)
theorem dX1_appendText_53 : decode cX1_appendText 53 = .ok (.goto (-30), 3) := dk_167 255 226 (dk_at dksX1_appendText_2 6 rfl rfl)
theorem dX1_appendText_56 : decode cX1_appendText 56 = .ok (.aload_n 0, 1) := dk_42 (dk_at dksX1_appendText_2 9 rfl rfl)
theorem dX1_appendText_57 : decode cX1_appendText 57 = .ok (.getfield 381, 3) := dk_180 1 125 (dk_at dksX1_appendText_2 10 rfl rfl)
theorem dX1_appendText_60 : decode cX1_appendText 60 = .ok (.ireturn, 1) := dk_172 (dk_at dksX1_appendText_2 13 rfl rfl)
abbrev cX1_possible : ByteArray := prog_1_method_5_code
def yX1_possible : MethodName := ⟨RX1, "possible", "(Z)V"⟩
def dkwX1_possible_0 : List UInt8 := [26, 154, 0, 13, 187, 0, 14, 89, 18, 16, 183, 0, 18, 191, 177]
abbrev dktX1_possible_0 : List UInt8 := dkwX1_possible_0 ++ []
theorem dksX1_possible_0 : cX1_possible.data.toList.drop 0 = dktX1_possible_0 := by decide +kernel
theorem dX1_possible_0 : decode cX1_possible 0 = .ok (.iload_n 0, 1) := dk_26 (dk_at dksX1_possible_0 0 rfl rfl)
theorem dX1_possible_1 : decode cX1_possible 1 = .ok (.ifCond .ne 13, 3) := dk_154 0 13 (dk_at dksX1_possible_0 1 rfl rfl)
theorem dX1_possible_4 : decode cX1_possible 4 = .ok (.new 14, 3) := dk_187 0 14 (dk_at dksX1_possible_0 4 rfl rfl)
theorem dX1_possible_7 : decode cX1_possible 7 = .ok (.dup, 1) := dk_89 (dk_at dksX1_possible_0 7 rfl rfl)
theorem dX1_possible_8 : decode cX1_possible 8 = .ok (.ldc 16, 2) := dk_18 16 (dk_at dksX1_possible_0 8 rfl rfl)
theorem dX1_possible_10 : decode cX1_possible 10 = .ok (.invokespecial 18, 3) := dk_183 0 18 (dk_at dksX1_possible_0 10 rfl rfl)
theorem dX1_possible_13 : decode cX1_possible 13 = .ok (.athrow, 1) := dk_191 (dk_at dksX1_possible_0 13 rfl rfl)
theorem dX1_possible_14 : decode cX1_possible 14 = .ok (.return_, 1) := dk_177 (dk_at dksX1_possible_0 14 rfl rfl)
abbrev cX1_truncateText : ByteArray := prog_1_method_49_code
def yX1_truncateText : MethodName := ⟨RX1, "truncateText", "(I)I"⟩
def dkwX1_truncateText_0 : List UInt8 := [27, 3, 42, 180, 1, 125, 184, 0, 84, 184, 0, 119, 42, 27, 181, 1, 125, 42, 180, 1, 125, 172]
abbrev dktX1_truncateText_0 : List UInt8 := dkwX1_truncateText_0 ++ []
theorem dksX1_truncateText_0 : cX1_truncateText.data.toList.drop 0 = dktX1_truncateText_0 := by decide +kernel
theorem dX1_truncateText_0 : decode cX1_truncateText 0 = .ok (.iload_n 1, 1) := dk_27 (dk_at dksX1_truncateText_0 0 rfl rfl)
theorem dX1_truncateText_1 : decode cX1_truncateText 1 = .ok (.iconst 0, 1) := dk_3 (dk_at dksX1_truncateText_0 1 rfl rfl)
theorem dX1_truncateText_2 : decode cX1_truncateText 2 = .ok (.aload_n 0, 1) := dk_42 (dk_at dksX1_truncateText_0 2 rfl rfl)
theorem dX1_truncateText_3 : decode cX1_truncateText 3 = .ok (.getfield 381, 3) := dk_180 1 125 (dk_at dksX1_truncateText_0 3 rfl rfl)
theorem dX1_truncateText_6 : decode cX1_truncateText 6 = .ok (.invokestatic 84, 3) := dk_184 0 84 (dk_at dksX1_truncateText_0 6 rfl rfl)
theorem dX1_truncateText_9 : decode cX1_truncateText 9 = .ok (.invokestatic 119, 3) := dk_184 0 119 (dk_at dksX1_truncateText_0 9 rfl rfl)
theorem dX1_truncateText_12 : decode cX1_truncateText 12 = .ok (.aload_n 0, 1) := dk_42 (dk_at dksX1_truncateText_0 12 rfl rfl)
theorem dX1_truncateText_13 : decode cX1_truncateText 13 = .ok (.iload_n 1, 1) := dk_27 (dk_at dksX1_truncateText_0 13 rfl rfl)
theorem dX1_truncateText_14 : decode cX1_truncateText 14 = .ok (.putfield 381, 3) := dk_181 1 125 (dk_at dksX1_truncateText_0 14 rfl rfl)
theorem dX1_truncateText_17 : decode cX1_truncateText 17 = .ok (.aload_n 0, 1) := dk_42 (dk_at dksX1_truncateText_0 17 rfl rfl)
theorem dX1_truncateText_18 : decode cX1_truncateText 18 = .ok (.getfield 381, 3) := dk_180 1 125 (dk_at dksX1_truncateText_0 18 rfl rfl)
theorem dX1_truncateText_21 : decode cX1_truncateText 21 = .ok (.ireturn, 1) := dk_172 (dk_at dksX1_truncateText_0 21 rfl rfl)
abbrev cX1_argument : ByteArray := prog_1_method_4_code
def yX1_argument : MethodName := ⟨RX1, "argument", "(Z)V"⟩
def dkwX1_argument_0 : List UInt8 := [26, 154, 0, 13, 187, 0, 9, 89, 18, 11, 183, 0, 13, 191, 177]
abbrev dktX1_argument_0 : List UInt8 := dkwX1_argument_0 ++ []
theorem dksX1_argument_0 : cX1_argument.data.toList.drop 0 = dktX1_argument_0 := by decide +kernel
theorem dX1_argument_0 : decode cX1_argument 0 = .ok (.iload_n 0, 1) := dk_26 (dk_at dksX1_argument_0 0 rfl rfl)
theorem dX1_argument_1 : decode cX1_argument 1 = .ok (.ifCond .ne 13, 3) := dk_154 0 13 (dk_at dksX1_argument_0 1 rfl rfl)
theorem dX1_argument_4 : decode cX1_argument 4 = .ok (.new 9, 3) := dk_187 0 9 (dk_at dksX1_argument_0 4 rfl rfl)
theorem dX1_argument_7 : decode cX1_argument 7 = .ok (.dup, 1) := dk_89 (dk_at dksX1_argument_0 7 rfl rfl)
theorem dX1_argument_8 : decode cX1_argument 8 = .ok (.ldc 11, 2) := dk_18 11 (dk_at dksX1_argument_0 8 rfl rfl)
theorem dX1_argument_10 : decode cX1_argument 10 = .ok (.invokespecial 13, 3) := dk_183 0 13 (dk_at dksX1_argument_0 10 rfl rfl)
theorem dX1_argument_13 : decode cX1_argument 13 = .ok (.athrow, 1) := dk_191 (dk_at dksX1_argument_0 13 rfl rfl)
theorem dX1_argument_14 : decode cX1_argument 14 = .ok (.return_, 1) := dk_177 (dk_at dksX1_argument_0 14 rfl rfl)
abbrev cX1_count : ByteArray := prog_1_method_13_code
def yX1_count : MethodName := ⟨RX1, "count", "(I)I"⟩
def dkwX1_count_5 : List UInt8 := [186, 0, 136, 0, 0, 182, 0, 128, 167, 0, 12, 42, 180, 0, 29, 180, 0, 137, 27, 46, 172]
abbrev dktX1_count_5 : List UInt8 := dkwX1_count_5 ++ []
def dkwX1_count_4 : List UInt8 := [167, 0, 41, 42, 182, 0, 133, 167, 0, 34, 42, 180, 0, 38, 182, 0, 61, 167, 0, 24, 42]
abbrev dktX1_count_4 : List UInt8 := dkwX1_count_4 ++ dktX1_count_5
def dkwX1_count_3 : List UInt8 := [167, 0, 65, 42, 186, 0, 125, 0, 0, 182, 0, 128, 167, 0, 53, 42, 186, 0, 132, 0, 0, 182, 0, 128]
abbrev dktX1_count_3 : List UInt8 := dkwX1_count_3 ++ dktX1_count_4
def dkwX1_count_2 : List UInt8 := [42, 180, 0, 29, 180, 0, 122, 167, 0, 80, 42, 180, 0, 29, 180, 0, 77, 185, 0, 81, 1, 0]
abbrev dktX1_count_2 : List UInt8 := dkwX1_count_2 ++ dktX1_count_3
def dkwX1_count_1 : List UInt8 := [170, 0, 0, 0, 119, 0, 0, 0, 6, 0, 0, 0, 12, 0, 0, 0, 41, 0, 0, 0, 51, 0, 0, 0, 66, 0, 0, 0, 78, 0, 0, 0, 90, 0, 0, 0, 97, 0, 0, 0, 107]
abbrev dktX1_count_1 : List UInt8 := dkwX1_count_1 ++ dktX1_count_2
def dkwX1_count_0 : List UInt8 := [27, 3, 16, 12, 184, 0, 84, 184, 0, 119, 27]
abbrev dktX1_count_0 : List UInt8 := dkwX1_count_0 ++ dktX1_count_1
theorem dksX1_count_0 : cX1_count.data.toList.drop 0 = dktX1_count_0 := by decide +kernel
theorem dksX1_count_1 : cX1_count.data.toList.drop 11 = dktX1_count_1 := dk_seg dksX1_count_0 11 rfl rfl
theorem dksX1_count_2 : cX1_count.data.toList.drop 52 = dktX1_count_2 := dk_seg dksX1_count_1 41 rfl rfl
theorem dksX1_count_3 : cX1_count.data.toList.drop 74 = dktX1_count_3 := dk_seg dksX1_count_2 22 rfl rfl
theorem dksX1_count_4 : cX1_count.data.toList.drop 98 = dktX1_count_4 := dk_seg dksX1_count_3 24 rfl rfl
theorem dksX1_count_5 : cX1_count.data.toList.drop 119 = dktX1_count_5 := dk_seg dksX1_count_4 21 rfl rfl
theorem dX1_count_0 : decode cX1_count 0 = .ok (.iload_n 1, 1) := dk_27 (dk_at dksX1_count_0 0 rfl rfl)
theorem dX1_count_1 : decode cX1_count 1 = .ok (.iconst 0, 1) := dk_3 (dk_at dksX1_count_0 1 rfl rfl)
theorem dX1_count_2 : decode cX1_count 2 = .ok (.bipush 12, 2) := dk_16 12 (dk_at dksX1_count_0 2 rfl rfl)
theorem dX1_count_4 : decode cX1_count 4 = .ok (.invokestatic 84, 3) := dk_184 0 84 (dk_at dksX1_count_0 4 rfl rfl)
theorem dX1_count_7 : decode cX1_count 7 = .ok (.invokestatic 119, 3) := dk_184 0 119 (dk_at dksX1_count_0 7 rfl rfl)
theorem dX1_count_10 : decode cX1_count 10 = .ok (.iload_n 1, 1) := dk_27 (dk_at dksX1_count_0 10 rfl rfl)
theorem dX1_count_11 : decode cX1_count 11 = .ok (.tableswitch 119 6 12 #[41, 51, 66, 78, 90, 97, 107], 41) := by decide +kernel
theorem dX1_count_52 : decode cX1_count 52 = .ok (.aload_n 0, 1) := dk_42 (dk_at dksX1_count_2 0 rfl rfl)
theorem dX1_count_53 : decode cX1_count 53 = .ok (.getfield 29, 3) := dk_180 0 29 (dk_at dksX1_count_2 1 rfl rfl)
theorem dX1_count_56 : decode cX1_count 56 = .ok (.getfield 122, 3) := dk_180 0 122 (dk_at dksX1_count_2 4 rfl rfl)
theorem dX1_count_59 : decode cX1_count 59 = .ok (.goto 80, 3) := dk_167 0 80 (dk_at dksX1_count_2 7 rfl rfl)
theorem dX1_count_62 : decode cX1_count 62 = .ok (.aload_n 0, 1) := dk_42 (dk_at dksX1_count_2 10 rfl rfl)
theorem dX1_count_63 : decode cX1_count 63 = .ok (.getfield 29, 3) := dk_180 0 29 (dk_at dksX1_count_2 11 rfl rfl)
theorem dX1_count_66 : decode cX1_count 66 = .ok (.getfield 77, 3) := dk_180 0 77 (dk_at dksX1_count_2 14 rfl rfl)
theorem dX1_count_69 : decode cX1_count 69 = .ok (.invokeinterface 81 1, 5) := by decide +kernel
theorem dX1_count_74 : decode cX1_count 74 = .ok (.goto 65, 3) := dk_167 0 65 (dk_at dksX1_count_3 0 rfl rfl)
theorem dX1_count_77 : decode cX1_count 77 = .ok (.aload_n 0, 1) := dk_42 (dk_at dksX1_count_3 3 rfl rfl)
theorem dX1_count_78 : decode cX1_count 78 = .ok (.invokedynamic 125, 5) := by decide +kernel
theorem dX1_count_83 : decode cX1_count 83 = .ok (.invokevirtual 128, 3) := dk_182 0 128 (dk_at dksX1_count_3 9 rfl rfl)
theorem dX1_count_86 : decode cX1_count 86 = .ok (.goto 53, 3) := dk_167 0 53 (dk_at dksX1_count_3 12 rfl rfl)
theorem dX1_count_89 : decode cX1_count 89 = .ok (.aload_n 0, 1) := dk_42 (dk_at dksX1_count_3 15 rfl rfl)
theorem dX1_count_90 : decode cX1_count 90 = .ok (.invokedynamic 132, 5) := by decide +kernel
theorem dX1_count_95 : decode cX1_count 95 = .ok (.invokevirtual 128, 3) := dk_182 0 128 (dk_at dksX1_count_3 21 rfl rfl)
theorem dX1_count_98 : decode cX1_count 98 = .ok (.goto 41, 3) := dk_167 0 41 (dk_at dksX1_count_4 0 rfl rfl)
theorem dX1_count_101 : decode cX1_count 101 = .ok (.aload_n 0, 1) := dk_42 (dk_at dksX1_count_4 3 rfl rfl)
theorem dX1_count_102 : decode cX1_count 102 = .ok (.invokevirtual 133, 3) := dk_182 0 133 (dk_at dksX1_count_4 4 rfl rfl)
theorem dX1_count_105 : decode cX1_count 105 = .ok (.goto 34, 3) := dk_167 0 34 (dk_at dksX1_count_4 7 rfl rfl)
theorem dX1_count_108 : decode cX1_count 108 = .ok (.aload_n 0, 1) := dk_42 (dk_at dksX1_count_4 10 rfl rfl)
theorem dX1_count_109 : decode cX1_count 109 = .ok (.getfield 38, 3) := dk_180 0 38 (dk_at dksX1_count_4 11 rfl rfl)
theorem dX1_count_112 : decode cX1_count 112 = .ok (.invokevirtual 61, 3) := dk_182 0 61 (dk_at dksX1_count_4 14 rfl rfl)
theorem dX1_count_115 : decode cX1_count 115 = .ok (.goto 24, 3) := dk_167 0 24 (dk_at dksX1_count_4 17 rfl rfl)
theorem dX1_count_118 : decode cX1_count 118 = .ok (.aload_n 0, 1) := dk_42 (dk_at dksX1_count_4 20 rfl rfl)
theorem dX1_count_119 : decode cX1_count 119 = .ok (.invokedynamic 136, 5) := by decide +kernel
theorem dX1_count_124 : decode cX1_count 124 = .ok (.invokevirtual 128, 3) := dk_182 0 128 (dk_at dksX1_count_5 5 rfl rfl)
theorem dX1_count_127 : decode cX1_count 127 = .ok (.goto 12, 3) := dk_167 0 12 (dk_at dksX1_count_5 8 rfl rfl)
theorem dX1_count_130 : decode cX1_count 130 = .ok (.aload_n 0, 1) := dk_42 (dk_at dksX1_count_5 11 rfl rfl)
theorem dX1_count_131 : decode cX1_count 131 = .ok (.getfield 29, 3) := dk_180 0 29 (dk_at dksX1_count_5 12 rfl rfl)
theorem dX1_count_134 : decode cX1_count 134 = .ok (.getfield 137, 3) := dk_180 0 137 (dk_at dksX1_count_5 15 rfl rfl)
theorem dX1_count_137 : decode cX1_count 137 = .ok (.iload_n 1, 1) := dk_27 (dk_at dksX1_count_5 18 rfl rfl)
theorem dX1_count_138 : decode cX1_count 138 = .ok (.iaload, 1) := dk_46 (dk_at dksX1_count_5 19 rfl rfl)
theorem dX1_count_139 : decode cX1_count 139 = .ok (.ireturn, 1) := dk_172 (dk_at dksX1_count_5 20 rfl rfl)
abbrev cX1_lambda_count_0 : ByteArray := prog_1_method_60_code
def yX1_lambda_count_0 : MethodName := ⟨RX1, "lambda$count$0", "(LDotRuns$Line;LDotRuns$Line;)I"⟩
theorem dX1_lambda_count_0_0 : decode cX1_lambda_count_0 0 = .ok (.aload_n 0, 1) := by decide +kernel
theorem dX1_lambda_count_0_1 : decode cX1_lambda_count_0 1 = .ok (.invokevirtual 182, 3) := by decide +kernel
theorem dX1_lambda_count_0_4 : decode cX1_lambda_count_0 4 = .ok (.ireturn, 1) := by decide +kernel
abbrev cX1_sum : ByteArray := prog_1_method_12_code
def yX1_sum : MethodName := ⟨RX1, "sum", "(LDotRuns$Asked;)I"⟩
def dkwX1_sum_2 : List UInt8 := [185, 0, 113, 3, 0, 96, 61, 132, 3, 1, 167, 255, 204, 28, 172]
abbrev dktX1_sum_2 : List UInt8 := dkwX1_sum_2 ++ []
def dkwX1_sum_1 : List UInt8 := [180, 0, 29, 180, 0, 77, 29, 185, 0, 96, 2, 0, 192, 0, 100, 42, 180, 0, 29, 29, 182, 0, 109]
abbrev dktX1_sum_1 : List UInt8 := dkwX1_sum_1 ++ dktX1_sum_2
def dkwX1_sum_0 : List UInt8 := [3, 61, 3, 62, 29, 42, 180, 0, 29, 180, 0, 77, 185, 0, 81, 1, 0, 162, 0, 42, 28, 43, 42]
abbrev dktX1_sum_0 : List UInt8 := dkwX1_sum_0 ++ dktX1_sum_1
theorem dksX1_sum_0 : cX1_sum.data.toList.drop 0 = dktX1_sum_0 := by decide +kernel
theorem dksX1_sum_1 : cX1_sum.data.toList.drop 23 = dktX1_sum_1 := dk_seg dksX1_sum_0 23 rfl rfl
theorem dksX1_sum_2 : cX1_sum.data.toList.drop 46 = dktX1_sum_2 := dk_seg dksX1_sum_1 23 rfl rfl
theorem dX1_sum_0 : decode cX1_sum 0 = .ok (.iconst 0, 1) := dk_3 (dk_at dksX1_sum_0 0 rfl rfl)
theorem dX1_sum_1 : decode cX1_sum 1 = .ok (.istore_n 2, 1) := dk_61 (dk_at dksX1_sum_0 1 rfl rfl)
theorem dX1_sum_2 : decode cX1_sum 2 = .ok (.iconst 0, 1) := dk_3 (dk_at dksX1_sum_0 2 rfl rfl)
theorem dX1_sum_3 : decode cX1_sum 3 = .ok (.istore_n 3, 1) := dk_62 (dk_at dksX1_sum_0 3 rfl rfl)
theorem dX1_sum_4 : decode cX1_sum 4 = .ok (.iload_n 3, 1) := dk_29 (dk_at dksX1_sum_0 4 rfl rfl)
theorem dX1_sum_5 : decode cX1_sum 5 = .ok (.aload_n 0, 1) := dk_42 (dk_at dksX1_sum_0 5 rfl rfl)
theorem dX1_sum_6 : decode cX1_sum 6 = .ok (.getfield 29, 3) := dk_180 0 29 (dk_at dksX1_sum_0 6 rfl rfl)
theorem dX1_sum_9 : decode cX1_sum 9 = .ok (.getfield 77, 3) := dk_180 0 77 (dk_at dksX1_sum_0 9 rfl rfl)
theorem dX1_sum_12 : decode cX1_sum 12 = .ok (.invokeinterface 81 1, 5) := by decide +kernel
theorem dX1_sum_17 : decode cX1_sum 17 = .ok (.if_icmp .ge 42, 3) := dk_162 0 42 (dk_at dksX1_sum_0 17 rfl rfl)
theorem dX1_sum_20 : decode cX1_sum 20 = .ok (.iload_n 2, 1) := dk_28 (dk_at dksX1_sum_0 20 rfl rfl)
theorem dX1_sum_21 : decode cX1_sum 21 = .ok (.aload_n 1, 1) := dk_43 (dk_at dksX1_sum_0 21 rfl rfl)
theorem dX1_sum_22 : decode cX1_sum 22 = .ok (.aload_n 0, 1) := dk_42 (dk_at dksX1_sum_0 22 rfl rfl)
theorem dX1_sum_23 : decode cX1_sum 23 = .ok (.getfield 29, 3) := dk_180 0 29 (dk_at dksX1_sum_1 0 rfl rfl)
theorem dX1_sum_26 : decode cX1_sum 26 = .ok (.getfield 77, 3) := dk_180 0 77 (dk_at dksX1_sum_1 3 rfl rfl)
theorem dX1_sum_29 : decode cX1_sum 29 = .ok (.iload_n 3, 1) := dk_29 (dk_at dksX1_sum_1 6 rfl rfl)
theorem dX1_sum_30 : decode cX1_sum 30 = .ok (.invokeinterface 96 2, 5) := by decide +kernel
theorem dX1_sum_35 : decode cX1_sum 35 = .ok (.checkcast 100, 3) := dk_192 0 100 (dk_at dksX1_sum_1 12 rfl rfl)
theorem dX1_sum_38 : decode cX1_sum 38 = .ok (.aload_n 0, 1) := dk_42 (dk_at dksX1_sum_1 15 rfl rfl)
theorem dX1_sum_39 : decode cX1_sum 39 = .ok (.getfield 29, 3) := dk_180 0 29 (dk_at dksX1_sum_1 16 rfl rfl)
theorem dX1_sum_42 : decode cX1_sum 42 = .ok (.iload_n 3, 1) := dk_29 (dk_at dksX1_sum_1 19 rfl rfl)
theorem dX1_sum_43 : decode cX1_sum 43 = .ok (.invokevirtual 109, 3) := dk_182 0 109 (dk_at dksX1_sum_1 20 rfl rfl)
theorem dX1_sum_46 : decode cX1_sum 46 = .ok (.invokeinterface 113 3, 5) := by decide +kernel
theorem dX1_sum_51 : decode cX1_sum 51 = .ok (.iadd, 1) := dk_96 (dk_at dksX1_sum_2 5 rfl rfl)
theorem dX1_sum_52 : decode cX1_sum 52 = .ok (.istore_n 2, 1) := dk_61 (dk_at dksX1_sum_2 6 rfl rfl)
theorem dX1_sum_53 : decode cX1_sum 53 = .ok (.iinc 3 1, 3) := dk_132 3 1 (dk_at dksX1_sum_2 7 rfl rfl)
theorem dX1_sum_56 : decode cX1_sum 56 = .ok (.goto (-52), 3) := dk_167 255 204 (dk_at dksX1_sum_2 10 rfl rfl)
theorem dX1_sum_59 : decode cX1_sum 59 = .ok (.iload_n 2, 1) := dk_28 (dk_at dksX1_sum_2 13 rfl rfl)
theorem dX1_sum_60 : decode cX1_sum 60 = .ok (.ireturn, 1) := dk_172 (dk_at dksX1_sum_2 14 rfl rfl)
abbrev cX1_lambda_count_1 : ByteArray := prog_1_method_59_code
def yX1_lambda_count_1 : MethodName := ⟨RX1, "lambda$count$1", "(LDotRuns$Line;LDotRuns$Line;)I"⟩
theorem dX1_lambda_count_1_0 : decode cX1_lambda_count_1 0 = .ok (.aload_n 0, 1) := by decide +kernel
theorem dX1_lambda_count_1_1 : decode cX1_lambda_count_1 1 = .ok (.invokevirtual 418, 3) := by decide +kernel
theorem dX1_lambda_count_1_4 : decode cX1_lambda_count_1 4 = .ok (.ireturn, 1) := by decide +kernel
abbrev cX1_lambda_count_2 : ByteArray := prog_1_method_58_code
def yX1_lambda_count_2 : MethodName := ⟨RX1, "lambda$count$2", "(LDotRuns$Line;LDotRuns$Line;)I"⟩
def dkwX1_lambda_count_2_0 : List UInt8 := [42, 43, 182, 1, 158, 184, 0, 105, 172]
abbrev dktX1_lambda_count_2_0 : List UInt8 := dkwX1_lambda_count_2_0 ++ []
theorem dksX1_lambda_count_2_0 : cX1_lambda_count_2.data.toList.drop 0 = dktX1_lambda_count_2_0 := by decide +kernel
theorem dX1_lambda_count_2_0 : decode cX1_lambda_count_2 0 = .ok (.aload_n 0, 1) := dk_42 (dk_at dksX1_lambda_count_2_0 0 rfl rfl)
theorem dX1_lambda_count_2_1 : decode cX1_lambda_count_2 1 = .ok (.aload_n 1, 1) := dk_43 (dk_at dksX1_lambda_count_2_0 1 rfl rfl)
theorem dX1_lambda_count_2_2 : decode cX1_lambda_count_2 2 = .ok (.invokevirtual 414, 3) := dk_182 1 158 (dk_at dksX1_lambda_count_2_0 2 rfl rfl)
theorem dX1_lambda_count_2_5 : decode cX1_lambda_count_2 5 = .ok (.invokestatic 105, 3) := dk_184 0 105 (dk_at dksX1_lambda_count_2_0 5 rfl rfl)
theorem dX1_lambda_count_2_8 : decode cX1_lambda_count_2 8 = .ok (.ireturn, 1) := dk_172 (dk_at dksX1_lambda_count_2_0 8 rfl rfl)
abbrev cX1_dot : ByteArray := prog_1_method_14_code
def yX1_dot : MethodName := ⟨RX1, "dot", "(II)I"⟩
def dkwX1_dot_2 : List UInt8 := [192, 0, 100, 28, 182, 0, 141, 172]
abbrev dktX1_dot_2 : List UInt8 := dkwX1_dot_2 ++ []
def dkwX1_dot_1 : List UInt8 := [153, 0, 7, 4, 167, 0, 4, 3, 184, 0, 92, 42, 180, 0, 29, 180, 0, 77, 27, 185, 0, 96, 2, 0]
abbrev dktX1_dot_1 : List UInt8 := dkwX1_dot_1 ++ dktX1_dot_2
def dkwX1_dot_0 : List UInt8 := [42, 27, 182, 0, 88, 153, 0, 24, 28, 3, 42, 180, 0, 29, 180, 0, 122, 4, 100, 184, 0, 84]
abbrev dktX1_dot_0 : List UInt8 := dkwX1_dot_0 ++ dktX1_dot_1
theorem dksX1_dot_0 : cX1_dot.data.toList.drop 0 = dktX1_dot_0 := by decide +kernel
theorem dksX1_dot_1 : cX1_dot.data.toList.drop 22 = dktX1_dot_1 := dk_seg dksX1_dot_0 22 rfl rfl
theorem dksX1_dot_2 : cX1_dot.data.toList.drop 46 = dktX1_dot_2 := dk_seg dksX1_dot_1 24 rfl rfl
theorem dX1_dot_0 : decode cX1_dot 0 = .ok (.aload_n 0, 1) := dk_42 (dk_at dksX1_dot_0 0 rfl rfl)
theorem dX1_dot_1 : decode cX1_dot 1 = .ok (.iload_n 1, 1) := dk_27 (dk_at dksX1_dot_0 1 rfl rfl)
theorem dX1_dot_2 : decode cX1_dot 2 = .ok (.invokevirtual 88, 3) := dk_182 0 88 (dk_at dksX1_dot_0 2 rfl rfl)
theorem dX1_dot_5 : decode cX1_dot 5 = .ok (.ifCond .eq 24, 3) := dk_153 0 24 (dk_at dksX1_dot_0 5 rfl rfl)
theorem dX1_dot_8 : decode cX1_dot 8 = .ok (.iload_n 2, 1) := dk_28 (dk_at dksX1_dot_0 8 rfl rfl)
theorem dX1_dot_9 : decode cX1_dot 9 = .ok (.iconst 0, 1) := dk_3 (dk_at dksX1_dot_0 9 rfl rfl)
theorem dX1_dot_10 : decode cX1_dot 10 = .ok (.aload_n 0, 1) := dk_42 (dk_at dksX1_dot_0 10 rfl rfl)
theorem dX1_dot_11 : decode cX1_dot 11 = .ok (.getfield 29, 3) := dk_180 0 29 (dk_at dksX1_dot_0 11 rfl rfl)
theorem dX1_dot_14 : decode cX1_dot 14 = .ok (.getfield 122, 3) := dk_180 0 122 (dk_at dksX1_dot_0 14 rfl rfl)
theorem dX1_dot_17 : decode cX1_dot 17 = .ok (.iconst 1, 1) := dk_4 (dk_at dksX1_dot_0 17 rfl rfl)
theorem dX1_dot_18 : decode cX1_dot 18 = .ok (.isub, 1) := dk_100 (dk_at dksX1_dot_0 18 rfl rfl)
theorem dX1_dot_19 : decode cX1_dot 19 = .ok (.invokestatic 84, 3) := dk_184 0 84 (dk_at dksX1_dot_0 19 rfl rfl)
theorem dX1_dot_22 : decode cX1_dot 22 = .ok (.ifCond .eq 7, 3) := dk_153 0 7 (dk_at dksX1_dot_1 0 rfl rfl)
theorem dX1_dot_25 : decode cX1_dot 25 = .ok (.iconst 1, 1) := dk_4 (dk_at dksX1_dot_1 3 rfl rfl)
theorem dX1_dot_26 : decode cX1_dot 26 = .ok (.goto 4, 3) := dk_167 0 4 (dk_at dksX1_dot_1 4 rfl rfl)
theorem dX1_dot_29 : decode cX1_dot 29 = .ok (.iconst 0, 1) := dk_3 (dk_at dksX1_dot_1 7 rfl rfl)
theorem dX1_dot_30 : decode cX1_dot 30 = .ok (.invokestatic 92, 3) := dk_184 0 92 (dk_at dksX1_dot_1 8 rfl rfl)
theorem dX1_dot_33 : decode cX1_dot 33 = .ok (.aload_n 0, 1) := dk_42 (dk_at dksX1_dot_1 11 rfl rfl)
theorem dX1_dot_34 : decode cX1_dot 34 = .ok (.getfield 29, 3) := dk_180 0 29 (dk_at dksX1_dot_1 12 rfl rfl)
theorem dX1_dot_37 : decode cX1_dot 37 = .ok (.getfield 77, 3) := dk_180 0 77 (dk_at dksX1_dot_1 15 rfl rfl)
theorem dX1_dot_40 : decode cX1_dot 40 = .ok (.iload_n 1, 1) := dk_27 (dk_at dksX1_dot_1 18 rfl rfl)
theorem dX1_dot_41 : decode cX1_dot 41 = .ok (.invokeinterface 96 2, 5) := by decide +kernel
theorem dX1_dot_46 : decode cX1_dot 46 = .ok (.checkcast 100, 3) := dk_192 0 100 (dk_at dksX1_dot_2 0 rfl rfl)
theorem dX1_dot_49 : decode cX1_dot 49 = .ok (.iload_n 2, 1) := dk_28 (dk_at dksX1_dot_2 3 rfl rfl)
theorem dX1_dot_50 : decode cX1_dot 50 = .ok (.invokevirtual 141, 3) := dk_182 0 141 (dk_at dksX1_dot_2 4 rfl rfl)
theorem dX1_dot_53 : decode cX1_dot 53 = .ok (.ireturn, 1) := dk_172 (dk_at dksX1_dot_2 7 rfl rfl)
abbrev cX1_isLine : ByteArray := prog_1_method_9_code
def yX1_isLine : MethodName := ⟨RX1, "isLine", "(I)Z"⟩
def dkwX1_isLine_0 : List UInt8 := [27, 3, 42, 180, 0, 29, 180, 0, 77, 185, 0, 81, 1, 0, 4, 100, 184, 0, 84, 172]
abbrev dktX1_isLine_0 : List UInt8 := dkwX1_isLine_0 ++ []
theorem dksX1_isLine_0 : cX1_isLine.data.toList.drop 0 = dktX1_isLine_0 := by decide +kernel
theorem dX1_isLine_0 : decode cX1_isLine 0 = .ok (.iload_n 1, 1) := dk_27 (dk_at dksX1_isLine_0 0 rfl rfl)
theorem dX1_isLine_1 : decode cX1_isLine 1 = .ok (.iconst 0, 1) := dk_3 (dk_at dksX1_isLine_0 1 rfl rfl)
theorem dX1_isLine_2 : decode cX1_isLine 2 = .ok (.aload_n 0, 1) := dk_42 (dk_at dksX1_isLine_0 2 rfl rfl)
theorem dX1_isLine_3 : decode cX1_isLine 3 = .ok (.getfield 29, 3) := dk_180 0 29 (dk_at dksX1_isLine_0 3 rfl rfl)
theorem dX1_isLine_6 : decode cX1_isLine 6 = .ok (.getfield 77, 3) := dk_180 0 77 (dk_at dksX1_isLine_0 6 rfl rfl)
theorem dX1_isLine_9 : decode cX1_isLine 9 = .ok (.invokeinterface 81 1, 5) := by decide +kernel
theorem dX1_isLine_14 : decode cX1_isLine 14 = .ok (.iconst 1, 1) := dk_4 (dk_at dksX1_isLine_0 14 rfl rfl)
theorem dX1_isLine_15 : decode cX1_isLine 15 = .ok (.isub, 1) := dk_100 (dk_at dksX1_isLine_0 15 rfl rfl)
theorem dX1_isLine_16 : decode cX1_isLine 16 = .ok (.invokestatic 84, 3) := dk_184 0 84 (dk_at dksX1_isLine_0 16 rfl rfl)
theorem dX1_isLine_19 : decode cX1_isLine 19 = .ok (.ireturn, 1) := dk_172 (dk_at dksX1_isLine_0 19 rfl rfl)
abbrev cX1_index : ByteArray := prog_1_method_3_code
def yX1_index : MethodName := ⟨RX1, "index", "(Z)V"⟩
def dkwX1_index_0 : List UInt8 := [26, 154, 0, 13, 187, 0, 1, 89, 18, 3, 183, 0, 5, 191, 177]
abbrev dktX1_index_0 : List UInt8 := dkwX1_index_0 ++ []
theorem dksX1_index_0 : cX1_index.data.toList.drop 0 = dktX1_index_0 := by decide +kernel
theorem dX1_index_0 : decode cX1_index 0 = .ok (.iload_n 0, 1) := dk_26 (dk_at dksX1_index_0 0 rfl rfl)
theorem dX1_index_1 : decode cX1_index 1 = .ok (.ifCond .ne 13, 3) := dk_154 0 13 (dk_at dksX1_index_0 1 rfl rfl)
theorem dX1_index_4 : decode cX1_index 4 = .ok (.new 1, 3) := dk_187 0 1 (dk_at dksX1_index_0 4 rfl rfl)
theorem dX1_index_7 : decode cX1_index 7 = .ok (.dup, 1) := dk_89 (dk_at dksX1_index_0 7 rfl rfl)
theorem dX1_index_8 : decode cX1_index 8 = .ok (.ldc 3, 2) := dk_18 3 (dk_at dksX1_index_0 8 rfl rfl)
theorem dX1_index_10 : decode cX1_index 10 = .ok (.invokespecial 5, 3) := dk_183 0 5 (dk_at dksX1_index_0 10 rfl rfl)
theorem dX1_index_13 : decode cX1_index 13 = .ok (.athrow, 1) := dk_191 (dk_at dksX1_index_0 13 rfl rfl)
theorem dX1_index_14 : decode cX1_index 14 = .ok (.return_, 1) := dk_177 (dk_at dksX1_index_0 14 rfl rfl)
abbrev cX1_line : ByteArray := prog_1_method_15_code
def yX1_line : MethodName := ⟨RX1, "line", "(II)I"⟩
def dkwX1_line_8 : List UInt8 := [46, 182, 0, 185, 172]
abbrev dktX1_line_8 : List UInt8 := dkwX1_line_8 ++ []
def dkwX1_line_7 : List UInt8 := [46, 167, 0, 27, 45, 182, 0, 182, 167, 0, 20, 42, 180, 0, 29, 27, 42, 180, 0, 29, 180, 0, 137, 3]
abbrev dktX1_line_7 : List UInt8 := dkwX1_line_7 ++ dktX1_line_8
def dkwX1_line_6 : List UInt8 := [167, 0, 52, 25, 4, 180, 0, 176, 28, 16, 6, 100, 46, 167, 0, 39, 42, 180, 0, 29, 180, 0, 179, 27]
abbrev dktX1_line_6 : List UInt8 := dkwX1_line_6 ++ dktX1_line_7
def dkwX1_line_5 : List UInt8 := [167, 0, 76, 25, 4, 180, 0, 164, 182, 0, 168, 167, 0, 65, 25, 4, 180, 0, 173, 185, 0, 81, 1, 0]
abbrev dktX1_line_5 : List UInt8 := dkwX1_line_5 ++ dktX1_line_6
def dkwX1_line_4 : List UInt8 := [180, 0, 157, 167, 0, 96, 42, 180, 0, 29, 27, 42, 180, 0, 29, 180, 0, 137, 3, 46, 182, 0, 160]
abbrev dktX1_line_4 : List UInt8 := dkwX1_line_4 ++ dktX1_line_5
def dkwX1_line_3 : List UInt8 := [42, 180, 0, 29, 27, 182, 0, 102, 184, 0, 105, 167, 0, 112, 25, 4, 180, 0, 152, 167, 0, 104, 25, 4]
abbrev dktX1_line_3 : List UInt8 := dkwX1_line_3 ++ dktX1_line_4
def dkwX1_line_2 : List UInt8 := [170, 0, 0, 0, 163, 0, 0, 0, 0, 0, 0, 0, 10, 0, 0, 0, 57, 0, 0, 0, 71, 0, 0, 0, 79, 0, 0, 0, 87, 0, 0, 0, 107, 0, 0, 0, 118, 0, 0, 0, 131, 0, 0, 0, 131, 0, 0, 0, 131, 0, 0, 0, 144, 0, 0, 0, 156]
abbrev dktX1_line_2 : List UInt8 := dkwX1_line_2 ++ dktX1_line_3
def dkwX1_line_1 : List UInt8 := [58, 4, 28]
abbrev dktX1_line_1 : List UInt8 := dkwX1_line_1 ++ dktX1_line_2
def dkwX1_line_0 : List UInt8 := [42, 27, 182, 0, 145, 78, 28, 3, 16, 11, 184, 0, 84, 184, 0, 119, 42, 180, 0, 29, 27, 182, 0, 148]
abbrev dktX1_line_0 : List UInt8 := dkwX1_line_0 ++ dktX1_line_1
theorem dksX1_line_0 : cX1_line.data.toList.drop 0 = dktX1_line_0 := by decide +kernel
theorem dksX1_line_1 : cX1_line.data.toList.drop 24 = dktX1_line_1 := dk_seg dksX1_line_0 24 rfl rfl
theorem dksX1_line_2 : cX1_line.data.toList.drop 27 = dktX1_line_2 := dk_seg dksX1_line_1 3 rfl rfl
theorem dksX1_line_3 : cX1_line.data.toList.drop 84 = dktX1_line_3 := dk_seg dksX1_line_2 57 rfl rfl
theorem dksX1_line_4 : cX1_line.data.toList.drop 108 = dktX1_line_4 := dk_seg dksX1_line_3 24 rfl rfl
theorem dksX1_line_5 : cX1_line.data.toList.drop 131 = dktX1_line_5 := dk_seg dksX1_line_4 23 rfl rfl
theorem dksX1_line_6 : cX1_line.data.toList.drop 155 = dktX1_line_6 := dk_seg dksX1_line_5 24 rfl rfl
theorem dksX1_line_7 : cX1_line.data.toList.drop 179 = dktX1_line_7 := dk_seg dksX1_line_6 24 rfl rfl
theorem dksX1_line_8 : cX1_line.data.toList.drop 203 = dktX1_line_8 := dk_seg dksX1_line_7 24 rfl rfl
theorem dX1_line_0 : decode cX1_line 0 = .ok (.aload_n 0, 1) := dk_42 (dk_at dksX1_line_0 0 rfl rfl)
theorem dX1_line_1 : decode cX1_line 1 = .ok (.iload_n 1, 1) := dk_27 (dk_at dksX1_line_0 1 rfl rfl)
theorem dX1_line_2 : decode cX1_line 2 = .ok (.invokevirtual 145, 3) := dk_182 0 145 (dk_at dksX1_line_0 2 rfl rfl)
theorem dX1_line_5 : decode cX1_line 5 = .ok (.astore_n 3, 1) := dk_78 (dk_at dksX1_line_0 5 rfl rfl)
theorem dX1_line_6 : decode cX1_line 6 = .ok (.iload_n 2, 1) := dk_28 (dk_at dksX1_line_0 6 rfl rfl)
theorem dX1_line_7 : decode cX1_line 7 = .ok (.iconst 0, 1) := dk_3 (dk_at dksX1_line_0 7 rfl rfl)
theorem dX1_line_8 : decode cX1_line 8 = .ok (.bipush 11, 2) := dk_16 11 (dk_at dksX1_line_0 8 rfl rfl)
theorem dX1_line_10 : decode cX1_line 10 = .ok (.invokestatic 84, 3) := dk_184 0 84 (dk_at dksX1_line_0 10 rfl rfl)
theorem dX1_line_13 : decode cX1_line 13 = .ok (.invokestatic 119, 3) := dk_184 0 119 (dk_at dksX1_line_0 13 rfl rfl)
theorem dX1_line_16 : decode cX1_line 16 = .ok (.aload_n 0, 1) := dk_42 (dk_at dksX1_line_0 16 rfl rfl)
theorem dX1_line_17 : decode cX1_line 17 = .ok (.getfield 29, 3) := dk_180 0 29 (dk_at dksX1_line_0 17 rfl rfl)
theorem dX1_line_20 : decode cX1_line 20 = .ok (.iload_n 1, 1) := dk_27 (dk_at dksX1_line_0 20 rfl rfl)
theorem dX1_line_21 : decode cX1_line 21 = .ok (.invokevirtual 148, 3) := dk_182 0 148 (dk_at dksX1_line_0 21 rfl rfl)
theorem dX1_line_24 : decode cX1_line 24 = .ok (.astore 4, 2) := dk_58 4 (dk_at dksX1_line_1 0 rfl rfl)
theorem dX1_line_26 : decode cX1_line 26 = .ok (.iload_n 2, 1) := dk_28 (dk_at dksX1_line_1 2 rfl rfl)
theorem dX1_line_27 : decode cX1_line 27 = .ok (.tableswitch 163 0 10 #[57, 71, 79, 87, 107, 118, 131, 131, 131, 144, 156], 57) := by decide +kernel
theorem dX1_line_84 : decode cX1_line 84 = .ok (.aload_n 0, 1) := dk_42 (dk_at dksX1_line_3 0 rfl rfl)
theorem dX1_line_85 : decode cX1_line 85 = .ok (.getfield 29, 3) := dk_180 0 29 (dk_at dksX1_line_3 1 rfl rfl)
theorem dX1_line_88 : decode cX1_line 88 = .ok (.iload_n 1, 1) := dk_27 (dk_at dksX1_line_3 4 rfl rfl)
theorem dX1_line_89 : decode cX1_line 89 = .ok (.invokevirtual 102, 3) := dk_182 0 102 (dk_at dksX1_line_3 5 rfl rfl)
theorem dX1_line_92 : decode cX1_line 92 = .ok (.invokestatic 105, 3) := dk_184 0 105 (dk_at dksX1_line_3 8 rfl rfl)
theorem dX1_line_95 : decode cX1_line 95 = .ok (.goto 112, 3) := dk_167 0 112 (dk_at dksX1_line_3 11 rfl rfl)
theorem dX1_line_98 : decode cX1_line 98 = .ok (.aload 4, 2) := dk_25 4 (dk_at dksX1_line_3 14 rfl rfl)
theorem dX1_line_100 : decode cX1_line 100 = .ok (.getfield 152, 3) := dk_180 0 152 (dk_at dksX1_line_3 16 rfl rfl)
theorem dX1_line_103 : decode cX1_line 103 = .ok (.goto 104, 3) := dk_167 0 104 (dk_at dksX1_line_3 19 rfl rfl)
theorem dX1_line_106 : decode cX1_line 106 = .ok (.aload 4, 2) := dk_25 4 (dk_at dksX1_line_3 22 rfl rfl)
theorem dX1_line_108 : decode cX1_line 108 = .ok (.getfield 157, 3) := dk_180 0 157 (dk_at dksX1_line_4 0 rfl rfl)
theorem dX1_line_111 : decode cX1_line 111 = .ok (.goto 96, 3) := dk_167 0 96 (dk_at dksX1_line_4 3 rfl rfl)
theorem dX1_line_114 : decode cX1_line 114 = .ok (.aload_n 0, 1) := dk_42 (dk_at dksX1_line_4 6 rfl rfl)
theorem dX1_line_115 : decode cX1_line 115 = .ok (.getfield 29, 3) := dk_180 0 29 (dk_at dksX1_line_4 7 rfl rfl)
theorem dX1_line_118 : decode cX1_line 118 = .ok (.iload_n 1, 1) := dk_27 (dk_at dksX1_line_4 10 rfl rfl)
theorem dX1_line_119 : decode cX1_line 119 = .ok (.aload_n 0, 1) := dk_42 (dk_at dksX1_line_4 11 rfl rfl)
theorem dX1_line_120 : decode cX1_line 120 = .ok (.getfield 29, 3) := dk_180 0 29 (dk_at dksX1_line_4 12 rfl rfl)
theorem dX1_line_123 : decode cX1_line 123 = .ok (.getfield 137, 3) := dk_180 0 137 (dk_at dksX1_line_4 15 rfl rfl)
theorem dX1_line_126 : decode cX1_line 126 = .ok (.iconst 0, 1) := dk_3 (dk_at dksX1_line_4 18 rfl rfl)
theorem dX1_line_127 : decode cX1_line 127 = .ok (.iaload, 1) := dk_46 (dk_at dksX1_line_4 19 rfl rfl)
theorem dX1_line_128 : decode cX1_line 128 = .ok (.invokevirtual 160, 3) := dk_182 0 160 (dk_at dksX1_line_4 20 rfl rfl)
theorem dX1_line_131 : decode cX1_line 131 = .ok (.goto 76, 3) := dk_167 0 76 (dk_at dksX1_line_5 0 rfl rfl)
theorem dX1_line_134 : decode cX1_line 134 = .ok (.aload 4, 2) := dk_25 4 (dk_at dksX1_line_5 3 rfl rfl)
theorem dX1_line_136 : decode cX1_line 136 = .ok (.getfield 164, 3) := dk_180 0 164 (dk_at dksX1_line_5 5 rfl rfl)
theorem dX1_line_139 : decode cX1_line 139 = .ok (.invokevirtual 168, 3) := dk_182 0 168 (dk_at dksX1_line_5 8 rfl rfl)
theorem dX1_line_142 : decode cX1_line 142 = .ok (.goto 65, 3) := dk_167 0 65 (dk_at dksX1_line_5 11 rfl rfl)
theorem dX1_line_145 : decode cX1_line 145 = .ok (.aload 4, 2) := dk_25 4 (dk_at dksX1_line_5 14 rfl rfl)
theorem dX1_line_147 : decode cX1_line 147 = .ok (.getfield 173, 3) := dk_180 0 173 (dk_at dksX1_line_5 16 rfl rfl)
theorem dX1_line_150 : decode cX1_line 150 = .ok (.invokeinterface 81 1, 5) := by decide +kernel
theorem dX1_line_155 : decode cX1_line 155 = .ok (.goto 52, 3) := dk_167 0 52 (dk_at dksX1_line_6 0 rfl rfl)
theorem dX1_line_158 : decode cX1_line 158 = .ok (.aload 4, 2) := dk_25 4 (dk_at dksX1_line_6 3 rfl rfl)
theorem dX1_line_160 : decode cX1_line 160 = .ok (.getfield 176, 3) := dk_180 0 176 (dk_at dksX1_line_6 5 rfl rfl)
theorem dX1_line_163 : decode cX1_line 163 = .ok (.iload_n 2, 1) := dk_28 (dk_at dksX1_line_6 8 rfl rfl)
theorem dX1_line_164 : decode cX1_line 164 = .ok (.bipush 6, 2) := dk_16 6 (dk_at dksX1_line_6 9 rfl rfl)
theorem dX1_line_166 : decode cX1_line 166 = .ok (.isub, 1) := dk_100 (dk_at dksX1_line_6 11 rfl rfl)
theorem dX1_line_167 : decode cX1_line 167 = .ok (.iaload, 1) := dk_46 (dk_at dksX1_line_6 12 rfl rfl)
theorem dX1_line_168 : decode cX1_line 168 = .ok (.goto 39, 3) := dk_167 0 39 (dk_at dksX1_line_6 13 rfl rfl)
theorem dX1_line_171 : decode cX1_line 171 = .ok (.aload_n 0, 1) := dk_42 (dk_at dksX1_line_6 16 rfl rfl)
theorem dX1_line_172 : decode cX1_line 172 = .ok (.getfield 29, 3) := dk_180 0 29 (dk_at dksX1_line_6 17 rfl rfl)
theorem dX1_line_175 : decode cX1_line 175 = .ok (.getfield 179, 3) := dk_180 0 179 (dk_at dksX1_line_6 20 rfl rfl)
theorem dX1_line_178 : decode cX1_line 178 = .ok (.iload_n 1, 1) := dk_27 (dk_at dksX1_line_6 23 rfl rfl)
theorem dX1_line_179 : decode cX1_line 179 = .ok (.iaload, 1) := dk_46 (dk_at dksX1_line_7 0 rfl rfl)
theorem dX1_line_180 : decode cX1_line 180 = .ok (.goto 27, 3) := dk_167 0 27 (dk_at dksX1_line_7 1 rfl rfl)
theorem dX1_line_183 : decode cX1_line 183 = .ok (.aload_n 3, 1) := dk_45 (dk_at dksX1_line_7 4 rfl rfl)
theorem dX1_line_184 : decode cX1_line 184 = .ok (.invokevirtual 182, 3) := dk_182 0 182 (dk_at dksX1_line_7 5 rfl rfl)
theorem dX1_line_187 : decode cX1_line 187 = .ok (.goto 20, 3) := dk_167 0 20 (dk_at dksX1_line_7 8 rfl rfl)
theorem dX1_line_190 : decode cX1_line 190 = .ok (.aload_n 0, 1) := dk_42 (dk_at dksX1_line_7 11 rfl rfl)
theorem dX1_line_191 : decode cX1_line 191 = .ok (.getfield 29, 3) := dk_180 0 29 (dk_at dksX1_line_7 12 rfl rfl)
theorem dX1_line_194 : decode cX1_line 194 = .ok (.iload_n 1, 1) := dk_27 (dk_at dksX1_line_7 15 rfl rfl)
theorem dX1_line_195 : decode cX1_line 195 = .ok (.aload_n 0, 1) := dk_42 (dk_at dksX1_line_7 16 rfl rfl)
theorem dX1_line_196 : decode cX1_line 196 = .ok (.getfield 29, 3) := dk_180 0 29 (dk_at dksX1_line_7 17 rfl rfl)
theorem dX1_line_199 : decode cX1_line 199 = .ok (.getfield 137, 3) := dk_180 0 137 (dk_at dksX1_line_7 20 rfl rfl)
theorem dX1_line_202 : decode cX1_line 202 = .ok (.iconst 0, 1) := dk_3 (dk_at dksX1_line_7 23 rfl rfl)
theorem dX1_line_203 : decode cX1_line 203 = .ok (.iaload, 1) := dk_46 (dk_at dksX1_line_8 0 rfl rfl)
theorem dX1_line_204 : decode cX1_line 204 = .ok (.invokevirtual 185, 3) := dk_182 0 185 (dk_at dksX1_line_8 1 rfl rfl)
theorem dX1_line_207 : decode cX1_line 207 = .ok (.ireturn, 1) := dk_172 (dk_at dksX1_line_8 4 rfl rfl)
abbrev cX1_lineAt : ByteArray := prog_1_method_10_code
def yX1_lineAt : MethodName := ⟨RX1, "lineAt", "(I)LDotRuns$Line;"⟩
def dkwX1_lineAt_1 : List UInt8 := [176]
abbrev dktX1_lineAt_1 : List UInt8 := dkwX1_lineAt_1 ++ []
def dkwX1_lineAt_0 : List UInt8 := [42, 27, 182, 0, 88, 184, 0, 92, 42, 180, 0, 29, 180, 0, 77, 27, 185, 0, 96, 2, 0, 192, 0, 100]
abbrev dktX1_lineAt_0 : List UInt8 := dkwX1_lineAt_0 ++ dktX1_lineAt_1
theorem dksX1_lineAt_0 : cX1_lineAt.data.toList.drop 0 = dktX1_lineAt_0 := by decide +kernel
theorem dksX1_lineAt_1 : cX1_lineAt.data.toList.drop 24 = dktX1_lineAt_1 := dk_seg dksX1_lineAt_0 24 rfl rfl
theorem dX1_lineAt_0 : decode cX1_lineAt 0 = .ok (.aload_n 0, 1) := dk_42 (dk_at dksX1_lineAt_0 0 rfl rfl)
theorem dX1_lineAt_1 : decode cX1_lineAt 1 = .ok (.iload_n 1, 1) := dk_27 (dk_at dksX1_lineAt_0 1 rfl rfl)
theorem dX1_lineAt_2 : decode cX1_lineAt 2 = .ok (.invokevirtual 88, 3) := dk_182 0 88 (dk_at dksX1_lineAt_0 2 rfl rfl)
theorem dX1_lineAt_5 : decode cX1_lineAt 5 = .ok (.invokestatic 92, 3) := dk_184 0 92 (dk_at dksX1_lineAt_0 5 rfl rfl)
theorem dX1_lineAt_8 : decode cX1_lineAt 8 = .ok (.aload_n 0, 1) := dk_42 (dk_at dksX1_lineAt_0 8 rfl rfl)
theorem dX1_lineAt_9 : decode cX1_lineAt 9 = .ok (.getfield 29, 3) := dk_180 0 29 (dk_at dksX1_lineAt_0 9 rfl rfl)
theorem dX1_lineAt_12 : decode cX1_lineAt 12 = .ok (.getfield 77, 3) := dk_180 0 77 (dk_at dksX1_lineAt_0 12 rfl rfl)
theorem dX1_lineAt_15 : decode cX1_lineAt 15 = .ok (.iload_n 1, 1) := dk_27 (dk_at dksX1_lineAt_0 15 rfl rfl)
theorem dX1_lineAt_16 : decode cX1_lineAt 16 = .ok (.invokeinterface 96 2, 5) := by decide +kernel
theorem dX1_lineAt_21 : decode cX1_lineAt 21 = .ok (.checkcast 100, 3) := dk_192 0 100 (dk_at dksX1_lineAt_0 21 rfl rfl)
theorem dX1_lineAt_24 : decode cX1_lineAt 24 = .ok (.areturn, 1) := dk_176 (dk_at dksX1_lineAt_1 0 rfl rfl)
abbrev cX1_run : ByteArray := prog_1_method_16_code
def yX1_run : MethodName := ⟨RX1, "run", "(II)I"⟩
def dkwX1_run_2 : List UInt8 := [2, 172]
abbrev dktX1_run_2 : List UInt8 := dkwX1_run_2 ++ []
def dkwX1_run_1 : List UInt8 := [27, 182, 0, 148, 180, 0, 164, 78, 28, 45, 182, 0, 168, 162, 0, 11, 45, 28, 182, 0, 188, 167, 0, 4]
abbrev dktX1_run_1 : List UInt8 := dkwX1_run_1 ++ dktX1_run_2
def dkwX1_run_0 : List UInt8 := [42, 27, 182, 0, 88, 153, 0, 11, 28, 155, 0, 7, 4, 167, 0, 4, 3, 184, 0, 92, 42, 180, 0, 29]
abbrev dktX1_run_0 : List UInt8 := dkwX1_run_0 ++ dktX1_run_1
theorem dksX1_run_0 : cX1_run.data.toList.drop 0 = dktX1_run_0 := by decide +kernel
theorem dksX1_run_1 : cX1_run.data.toList.drop 24 = dktX1_run_1 := dk_seg dksX1_run_0 24 rfl rfl
theorem dksX1_run_2 : cX1_run.data.toList.drop 48 = dktX1_run_2 := dk_seg dksX1_run_1 24 rfl rfl
theorem dX1_run_0 : decode cX1_run 0 = .ok (.aload_n 0, 1) := dk_42 (dk_at dksX1_run_0 0 rfl rfl)
theorem dX1_run_1 : decode cX1_run 1 = .ok (.iload_n 1, 1) := dk_27 (dk_at dksX1_run_0 1 rfl rfl)
theorem dX1_run_2 : decode cX1_run 2 = .ok (.invokevirtual 88, 3) := dk_182 0 88 (dk_at dksX1_run_0 2 rfl rfl)
theorem dX1_run_5 : decode cX1_run 5 = .ok (.ifCond .eq 11, 3) := dk_153 0 11 (dk_at dksX1_run_0 5 rfl rfl)
theorem dX1_run_8 : decode cX1_run 8 = .ok (.iload_n 2, 1) := dk_28 (dk_at dksX1_run_0 8 rfl rfl)
theorem dX1_run_9 : decode cX1_run 9 = .ok (.ifCond .lt 7, 3) := dk_155 0 7 (dk_at dksX1_run_0 9 rfl rfl)
theorem dX1_run_12 : decode cX1_run 12 = .ok (.iconst 1, 1) := dk_4 (dk_at dksX1_run_0 12 rfl rfl)
theorem dX1_run_13 : decode cX1_run 13 = .ok (.goto 4, 3) := dk_167 0 4 (dk_at dksX1_run_0 13 rfl rfl)
theorem dX1_run_16 : decode cX1_run 16 = .ok (.iconst 0, 1) := dk_3 (dk_at dksX1_run_0 16 rfl rfl)
theorem dX1_run_17 : decode cX1_run 17 = .ok (.invokestatic 92, 3) := dk_184 0 92 (dk_at dksX1_run_0 17 rfl rfl)
theorem dX1_run_20 : decode cX1_run 20 = .ok (.aload_n 0, 1) := dk_42 (dk_at dksX1_run_0 20 rfl rfl)
theorem dX1_run_21 : decode cX1_run 21 = .ok (.getfield 29, 3) := dk_180 0 29 (dk_at dksX1_run_0 21 rfl rfl)
theorem dX1_run_24 : decode cX1_run 24 = .ok (.iload_n 1, 1) := dk_27 (dk_at dksX1_run_1 0 rfl rfl)
theorem dX1_run_25 : decode cX1_run 25 = .ok (.invokevirtual 148, 3) := dk_182 0 148 (dk_at dksX1_run_1 1 rfl rfl)
theorem dX1_run_28 : decode cX1_run 28 = .ok (.getfield 164, 3) := dk_180 0 164 (dk_at dksX1_run_1 4 rfl rfl)
theorem dX1_run_31 : decode cX1_run 31 = .ok (.astore_n 3, 1) := dk_78 (dk_at dksX1_run_1 7 rfl rfl)
theorem dX1_run_32 : decode cX1_run 32 = .ok (.iload_n 2, 1) := dk_28 (dk_at dksX1_run_1 8 rfl rfl)
theorem dX1_run_33 : decode cX1_run 33 = .ok (.aload_n 3, 1) := dk_45 (dk_at dksX1_run_1 9 rfl rfl)
theorem dX1_run_34 : decode cX1_run 34 = .ok (.invokevirtual 168, 3) := dk_182 0 168 (dk_at dksX1_run_1 10 rfl rfl)
theorem dX1_run_37 : decode cX1_run 37 = .ok (.if_icmp .ge 11, 3) := dk_162 0 11 (dk_at dksX1_run_1 13 rfl rfl)
theorem dX1_run_40 : decode cX1_run 40 = .ok (.aload_n 3, 1) := dk_45 (dk_at dksX1_run_1 16 rfl rfl)
theorem dX1_run_41 : decode cX1_run 41 = .ok (.iload_n 2, 1) := dk_28 (dk_at dksX1_run_1 17 rfl rfl)
theorem dX1_run_42 : decode cX1_run 42 = .ok (.invokevirtual 188, 3) := dk_182 0 188 (dk_at dksX1_run_1 18 rfl rfl)
theorem dX1_run_45 : decode cX1_run 45 = .ok (.goto 4, 3) := dk_167 0 4 (dk_at dksX1_run_1 21 rfl rfl)
theorem dX1_run_48 : decode cX1_run 48 = .ok (.iconst (-1), 1) := dk_2 (dk_at dksX1_run_2 0 rfl rfl)
theorem dX1_run_49 : decode cX1_run 49 = .ok (.ireturn, 1) := dk_172 (dk_at dksX1_run_2 1 rfl rfl)
abbrev cX1_mode : ByteArray := prog_1_method_17_code
def yX1_mode : MethodName := ⟨RX1, "mode", "(III)I"⟩
def dkwX1_mode_5 : List UInt8 := [25, 5, 29, 4, 100, 185, 0, 200, 2, 0, 167, 0, 4, 3, 172]
abbrev dktX1_mode_5 : List UInt8 := dkwX1_mode_5 ++ []
def dkwX1_mode_4 : List UInt8 := [25, 4, 180, 0, 196, 28, 46, 167, 0, 30, 29, 4, 100, 25, 5, 185, 0, 199, 1, 0, 162, 0, 16]
abbrev dktX1_mode_4 : List UInt8 := dkwX1_mode_4 ++ dktX1_mode_5
def dkwX1_mode_3 : List UInt8 := [192, 0, 191, 58, 5, 29, 154, 0, 13, 25, 5, 185, 0, 193, 1, 0, 167, 0, 45, 29, 6, 160, 0, 13]
abbrev dktX1_mode_3 : List UInt8 := dkwX1_mode_3 ++ dktX1_mode_4
def dkwX1_mode_2 : List UInt8 := [185, 0, 81, 1, 0, 161, 0, 6, 16, 247, 172, 25, 4, 180, 0, 173, 28, 185, 0, 96, 2, 0]
abbrev dktX1_mode_2 : List UInt8 := dkwX1_mode_2 ++ dktX1_mode_3
def dkwX1_mode_1 : List UInt8 := [184, 0, 84, 184, 0, 119, 42, 180, 0, 29, 27, 182, 0, 148, 58, 4, 28, 25, 4, 180, 0, 173]
abbrev dktX1_mode_1 : List UInt8 := dkwX1_mode_1 ++ dktX1_mode_2
def dkwX1_mode_0 : List UInt8 := [42, 27, 182, 0, 88, 153, 0, 11, 28, 155, 0, 7, 4, 167, 0, 4, 3, 184, 0, 92, 29, 3, 6]
abbrev dktX1_mode_0 : List UInt8 := dkwX1_mode_0 ++ dktX1_mode_1
theorem dksX1_mode_0 : cX1_mode.data.toList.drop 0 = dktX1_mode_0 := by decide +kernel
theorem dksX1_mode_1 : cX1_mode.data.toList.drop 23 = dktX1_mode_1 := dk_seg dksX1_mode_0 23 rfl rfl
theorem dksX1_mode_2 : cX1_mode.data.toList.drop 45 = dktX1_mode_2 := dk_seg dksX1_mode_1 22 rfl rfl
theorem dksX1_mode_3 : cX1_mode.data.toList.drop 67 = dktX1_mode_3 := dk_seg dksX1_mode_2 22 rfl rfl
theorem dksX1_mode_4 : cX1_mode.data.toList.drop 91 = dktX1_mode_4 := dk_seg dksX1_mode_3 24 rfl rfl
theorem dksX1_mode_5 : cX1_mode.data.toList.drop 114 = dktX1_mode_5 := dk_seg dksX1_mode_4 23 rfl rfl
theorem dX1_mode_0 : decode cX1_mode 0 = .ok (.aload_n 0, 1) := dk_42 (dk_at dksX1_mode_0 0 rfl rfl)
theorem dX1_mode_1 : decode cX1_mode 1 = .ok (.iload_n 1, 1) := dk_27 (dk_at dksX1_mode_0 1 rfl rfl)
theorem dX1_mode_2 : decode cX1_mode 2 = .ok (.invokevirtual 88, 3) := dk_182 0 88 (dk_at dksX1_mode_0 2 rfl rfl)
theorem dX1_mode_5 : decode cX1_mode 5 = .ok (.ifCond .eq 11, 3) := dk_153 0 11 (dk_at dksX1_mode_0 5 rfl rfl)
theorem dX1_mode_8 : decode cX1_mode 8 = .ok (.iload_n 2, 1) := dk_28 (dk_at dksX1_mode_0 8 rfl rfl)
theorem dX1_mode_9 : decode cX1_mode 9 = .ok (.ifCond .lt 7, 3) := dk_155 0 7 (dk_at dksX1_mode_0 9 rfl rfl)
theorem dX1_mode_12 : decode cX1_mode 12 = .ok (.iconst 1, 1) := dk_4 (dk_at dksX1_mode_0 12 rfl rfl)
theorem dX1_mode_13 : decode cX1_mode 13 = .ok (.goto 4, 3) := dk_167 0 4 (dk_at dksX1_mode_0 13 rfl rfl)
theorem dX1_mode_16 : decode cX1_mode 16 = .ok (.iconst 0, 1) := dk_3 (dk_at dksX1_mode_0 16 rfl rfl)
theorem dX1_mode_17 : decode cX1_mode 17 = .ok (.invokestatic 92, 3) := dk_184 0 92 (dk_at dksX1_mode_0 17 rfl rfl)
theorem dX1_mode_20 : decode cX1_mode 20 = .ok (.iload_n 3, 1) := dk_29 (dk_at dksX1_mode_0 20 rfl rfl)
theorem dX1_mode_21 : decode cX1_mode 21 = .ok (.iconst 0, 1) := dk_3 (dk_at dksX1_mode_0 21 rfl rfl)
theorem dX1_mode_22 : decode cX1_mode 22 = .ok (.iconst 3, 1) := dk_6 (dk_at dksX1_mode_0 22 rfl rfl)
theorem dX1_mode_23 : decode cX1_mode 23 = .ok (.invokestatic 84, 3) := dk_184 0 84 (dk_at dksX1_mode_1 0 rfl rfl)
theorem dX1_mode_26 : decode cX1_mode 26 = .ok (.invokestatic 119, 3) := dk_184 0 119 (dk_at dksX1_mode_1 3 rfl rfl)
theorem dX1_mode_29 : decode cX1_mode 29 = .ok (.aload_n 0, 1) := dk_42 (dk_at dksX1_mode_1 6 rfl rfl)
theorem dX1_mode_30 : decode cX1_mode 30 = .ok (.getfield 29, 3) := dk_180 0 29 (dk_at dksX1_mode_1 7 rfl rfl)
theorem dX1_mode_33 : decode cX1_mode 33 = .ok (.iload_n 1, 1) := dk_27 (dk_at dksX1_mode_1 10 rfl rfl)
theorem dX1_mode_34 : decode cX1_mode 34 = .ok (.invokevirtual 148, 3) := dk_182 0 148 (dk_at dksX1_mode_1 11 rfl rfl)
theorem dX1_mode_37 : decode cX1_mode 37 = .ok (.astore 4, 2) := dk_58 4 (dk_at dksX1_mode_1 14 rfl rfl)
theorem dX1_mode_39 : decode cX1_mode 39 = .ok (.iload_n 2, 1) := dk_28 (dk_at dksX1_mode_1 16 rfl rfl)
theorem dX1_mode_40 : decode cX1_mode 40 = .ok (.aload 4, 2) := dk_25 4 (dk_at dksX1_mode_1 17 rfl rfl)
theorem dX1_mode_42 : decode cX1_mode 42 = .ok (.getfield 173, 3) := dk_180 0 173 (dk_at dksX1_mode_1 19 rfl rfl)
theorem dX1_mode_45 : decode cX1_mode 45 = .ok (.invokeinterface 81 1, 5) := by decide +kernel
theorem dX1_mode_50 : decode cX1_mode 50 = .ok (.if_icmp .lt 6, 3) := dk_161 0 6 (dk_at dksX1_mode_2 5 rfl rfl)
theorem dX1_mode_53 : decode cX1_mode 53 = .ok (.bipush (-9), 2) := dk_16 247 (dk_at dksX1_mode_2 8 rfl rfl)
theorem dX1_mode_55 : decode cX1_mode 55 = .ok (.ireturn, 1) := dk_172 (dk_at dksX1_mode_2 10 rfl rfl)
theorem dX1_mode_56 : decode cX1_mode 56 = .ok (.aload 4, 2) := dk_25 4 (dk_at dksX1_mode_2 11 rfl rfl)
theorem dX1_mode_58 : decode cX1_mode 58 = .ok (.getfield 173, 3) := dk_180 0 173 (dk_at dksX1_mode_2 13 rfl rfl)
theorem dX1_mode_61 : decode cX1_mode 61 = .ok (.iload_n 2, 1) := dk_28 (dk_at dksX1_mode_2 16 rfl rfl)
theorem dX1_mode_62 : decode cX1_mode 62 = .ok (.invokeinterface 96 2, 5) := by decide +kernel
theorem dX1_mode_67 : decode cX1_mode 67 = .ok (.checkcast 191, 3) := dk_192 0 191 (dk_at dksX1_mode_3 0 rfl rfl)
theorem dX1_mode_70 : decode cX1_mode 70 = .ok (.astore 5, 2) := dk_58 5 (dk_at dksX1_mode_3 3 rfl rfl)
theorem dX1_mode_72 : decode cX1_mode 72 = .ok (.iload_n 3, 1) := dk_29 (dk_at dksX1_mode_3 5 rfl rfl)
theorem dX1_mode_73 : decode cX1_mode 73 = .ok (.ifCond .ne 13, 3) := dk_154 0 13 (dk_at dksX1_mode_3 6 rfl rfl)
theorem dX1_mode_76 : decode cX1_mode 76 = .ok (.aload 5, 2) := dk_25 5 (dk_at dksX1_mode_3 9 rfl rfl)
theorem dX1_mode_78 : decode cX1_mode 78 = .ok (.invokeinterface 193 1, 5) := by decide +kernel
theorem dX1_mode_83 : decode cX1_mode 83 = .ok (.goto 45, 3) := dk_167 0 45 (dk_at dksX1_mode_3 16 rfl rfl)
theorem dX1_mode_86 : decode cX1_mode 86 = .ok (.iload_n 3, 1) := dk_29 (dk_at dksX1_mode_3 19 rfl rfl)
theorem dX1_mode_87 : decode cX1_mode 87 = .ok (.iconst 3, 1) := dk_6 (dk_at dksX1_mode_3 20 rfl rfl)
theorem dX1_mode_88 : decode cX1_mode 88 = .ok (.if_icmp .ne 13, 3) := dk_160 0 13 (dk_at dksX1_mode_3 21 rfl rfl)
theorem dX1_mode_91 : decode cX1_mode 91 = .ok (.aload 4, 2) := dk_25 4 (dk_at dksX1_mode_4 0 rfl rfl)
theorem dX1_mode_93 : decode cX1_mode 93 = .ok (.getfield 196, 3) := dk_180 0 196 (dk_at dksX1_mode_4 2 rfl rfl)
theorem dX1_mode_96 : decode cX1_mode 96 = .ok (.iload_n 2, 1) := dk_28 (dk_at dksX1_mode_4 5 rfl rfl)
theorem dX1_mode_97 : decode cX1_mode 97 = .ok (.iaload, 1) := dk_46 (dk_at dksX1_mode_4 6 rfl rfl)
theorem dX1_mode_98 : decode cX1_mode 98 = .ok (.goto 30, 3) := dk_167 0 30 (dk_at dksX1_mode_4 7 rfl rfl)
theorem dX1_mode_101 : decode cX1_mode 101 = .ok (.iload_n 3, 1) := dk_29 (dk_at dksX1_mode_4 10 rfl rfl)
theorem dX1_mode_102 : decode cX1_mode 102 = .ok (.iconst 1, 1) := dk_4 (dk_at dksX1_mode_4 11 rfl rfl)
theorem dX1_mode_103 : decode cX1_mode 103 = .ok (.isub, 1) := dk_100 (dk_at dksX1_mode_4 12 rfl rfl)
theorem dX1_mode_104 : decode cX1_mode 104 = .ok (.aload 5, 2) := dk_25 5 (dk_at dksX1_mode_4 13 rfl rfl)
theorem dX1_mode_106 : decode cX1_mode 106 = .ok (.invokeinterface 199 1, 5) := by decide +kernel
theorem dX1_mode_111 : decode cX1_mode 111 = .ok (.if_icmp .ge 16, 3) := dk_162 0 16 (dk_at dksX1_mode_4 20 rfl rfl)
theorem dX1_mode_114 : decode cX1_mode 114 = .ok (.aload 5, 2) := dk_25 5 (dk_at dksX1_mode_5 0 rfl rfl)
theorem dX1_mode_116 : decode cX1_mode 116 = .ok (.iload_n 3, 1) := dk_29 (dk_at dksX1_mode_5 2 rfl rfl)
theorem dX1_mode_117 : decode cX1_mode 117 = .ok (.iconst 1, 1) := dk_4 (dk_at dksX1_mode_5 3 rfl rfl)
theorem dX1_mode_118 : decode cX1_mode 118 = .ok (.isub, 1) := dk_100 (dk_at dksX1_mode_5 4 rfl rfl)
theorem dX1_mode_119 : decode cX1_mode 119 = .ok (.invokeinterface 200 2, 5) := by decide +kernel
theorem dX1_mode_124 : decode cX1_mode 124 = .ok (.goto 4, 3) := dk_167 0 4 (dk_at dksX1_mode_5 10 rfl rfl)
theorem dX1_mode_127 : decode cX1_mode 127 = .ok (.iconst 0, 1) := dk_3 (dk_at dksX1_mode_5 13 rfl rfl)
theorem dX1_mode_128 : decode cX1_mode 128 = .ok (.ireturn, 1) := dk_172 (dk_at dksX1_mode_5 14 rfl rfl)
abbrev cX1_change : ByteArray := prog_1_method_18_code
def yX1_change : MethodName := ⟨RX1, "change", "(II)I"⟩
def dkwX1_change_3 : List UInt8 := [54, 4, 132, 5, 1, 167, 255, 227, 21, 4, 45, 180, 0, 204, 162, 0, 8, 21, 4, 167, 0, 4, 2, 172]
abbrev dktX1_change_3 : List UInt8 := dkwX1_change_3 ++ []
def dkwX1_change_2 : List UInt8 := [21, 5, 28, 162, 0, 29, 21, 4, 45, 180, 0, 204, 162, 0, 20, 45, 21, 4, 4, 96, 2, 182, 0, 201]
abbrev dktX1_change_2 : List UInt8 := dkwX1_change_2 ++ dktX1_change_3
def dkwX1_change_1 : List UInt8 := [180, 0, 77, 27, 185, 0, 96, 2, 0, 192, 0, 100, 78, 45, 3, 2, 182, 0, 201, 54, 4, 3, 54, 5]
abbrev dktX1_change_1 : List UInt8 := dkwX1_change_1 ++ dktX1_change_2
def dkwX1_change_0 : List UInt8 := [42, 27, 182, 0, 88, 153, 0, 11, 28, 155, 0, 7, 4, 167, 0, 4, 3, 184, 0, 92, 42, 180, 0, 29]
abbrev dktX1_change_0 : List UInt8 := dkwX1_change_0 ++ dktX1_change_1
theorem dksX1_change_0 : cX1_change.data.toList.drop 0 = dktX1_change_0 := by decide +kernel
theorem dksX1_change_1 : cX1_change.data.toList.drop 24 = dktX1_change_1 := dk_seg dksX1_change_0 24 rfl rfl
theorem dksX1_change_2 : cX1_change.data.toList.drop 48 = dktX1_change_2 := dk_seg dksX1_change_1 24 rfl rfl
theorem dksX1_change_3 : cX1_change.data.toList.drop 72 = dktX1_change_3 := dk_seg dksX1_change_2 24 rfl rfl
theorem dX1_change_0 : decode cX1_change 0 = .ok (.aload_n 0, 1) := dk_42 (dk_at dksX1_change_0 0 rfl rfl)
theorem dX1_change_1 : decode cX1_change 1 = .ok (.iload_n 1, 1) := dk_27 (dk_at dksX1_change_0 1 rfl rfl)
theorem dX1_change_2 : decode cX1_change 2 = .ok (.invokevirtual 88, 3) := dk_182 0 88 (dk_at dksX1_change_0 2 rfl rfl)
theorem dX1_change_5 : decode cX1_change 5 = .ok (.ifCond .eq 11, 3) := dk_153 0 11 (dk_at dksX1_change_0 5 rfl rfl)
theorem dX1_change_8 : decode cX1_change 8 = .ok (.iload_n 2, 1) := dk_28 (dk_at dksX1_change_0 8 rfl rfl)
theorem dX1_change_9 : decode cX1_change 9 = .ok (.ifCond .lt 7, 3) := dk_155 0 7 (dk_at dksX1_change_0 9 rfl rfl)
theorem dX1_change_12 : decode cX1_change 12 = .ok (.iconst 1, 1) := dk_4 (dk_at dksX1_change_0 12 rfl rfl)
theorem dX1_change_13 : decode cX1_change 13 = .ok (.goto 4, 3) := dk_167 0 4 (dk_at dksX1_change_0 13 rfl rfl)
theorem dX1_change_16 : decode cX1_change 16 = .ok (.iconst 0, 1) := dk_3 (dk_at dksX1_change_0 16 rfl rfl)
theorem dX1_change_17 : decode cX1_change 17 = .ok (.invokestatic 92, 3) := dk_184 0 92 (dk_at dksX1_change_0 17 rfl rfl)
theorem dX1_change_20 : decode cX1_change 20 = .ok (.aload_n 0, 1) := dk_42 (dk_at dksX1_change_0 20 rfl rfl)
theorem dX1_change_21 : decode cX1_change 21 = .ok (.getfield 29, 3) := dk_180 0 29 (dk_at dksX1_change_0 21 rfl rfl)
theorem dX1_change_24 : decode cX1_change 24 = .ok (.getfield 77, 3) := dk_180 0 77 (dk_at dksX1_change_1 0 rfl rfl)
theorem dX1_change_27 : decode cX1_change 27 = .ok (.iload_n 1, 1) := dk_27 (dk_at dksX1_change_1 3 rfl rfl)
theorem dX1_change_28 : decode cX1_change 28 = .ok (.invokeinterface 96 2, 5) := by decide +kernel
theorem dX1_change_33 : decode cX1_change 33 = .ok (.checkcast 100, 3) := dk_192 0 100 (dk_at dksX1_change_1 9 rfl rfl)
theorem dX1_change_36 : decode cX1_change 36 = .ok (.astore_n 3, 1) := dk_78 (dk_at dksX1_change_1 12 rfl rfl)
theorem dX1_change_37 : decode cX1_change 37 = .ok (.aload_n 3, 1) := dk_45 (dk_at dksX1_change_1 13 rfl rfl)
theorem dX1_change_38 : decode cX1_change 38 = .ok (.iconst 0, 1) := dk_3 (dk_at dksX1_change_1 14 rfl rfl)
theorem dX1_change_39 : decode cX1_change 39 = .ok (.iconst (-1), 1) := dk_2 (dk_at dksX1_change_1 15 rfl rfl)
theorem dX1_change_40 : decode cX1_change 40 = .ok (.invokevirtual 201, 3) := dk_182 0 201 (dk_at dksX1_change_1 16 rfl rfl)
theorem dX1_change_43 : decode cX1_change 43 = .ok (.istore 4, 2) := dk_54 4 (dk_at dksX1_change_1 19 rfl rfl)
theorem dX1_change_45 : decode cX1_change 45 = .ok (.iconst 0, 1) := dk_3 (dk_at dksX1_change_1 21 rfl rfl)
theorem dX1_change_46 : decode cX1_change 46 = .ok (.istore 5, 2) := dk_54 5 (dk_at dksX1_change_1 22 rfl rfl)
theorem dX1_change_48 : decode cX1_change 48 = .ok (.iload 5, 2) := dk_21 5 (dk_at dksX1_change_2 0 rfl rfl)
theorem dX1_change_50 : decode cX1_change 50 = .ok (.iload_n 2, 1) := dk_28 (dk_at dksX1_change_2 2 rfl rfl)
theorem dX1_change_51 : decode cX1_change 51 = .ok (.if_icmp .ge 29, 3) := dk_162 0 29 (dk_at dksX1_change_2 3 rfl rfl)
theorem dX1_change_54 : decode cX1_change 54 = .ok (.iload 4, 2) := dk_21 4 (dk_at dksX1_change_2 6 rfl rfl)
theorem dX1_change_56 : decode cX1_change 56 = .ok (.aload_n 3, 1) := dk_45 (dk_at dksX1_change_2 8 rfl rfl)
theorem dX1_change_57 : decode cX1_change 57 = .ok (.getfield 204, 3) := dk_180 0 204 (dk_at dksX1_change_2 9 rfl rfl)
theorem dX1_change_60 : decode cX1_change 60 = .ok (.if_icmp .ge 20, 3) := dk_162 0 20 (dk_at dksX1_change_2 12 rfl rfl)
theorem dX1_change_63 : decode cX1_change 63 = .ok (.aload_n 3, 1) := dk_45 (dk_at dksX1_change_2 15 rfl rfl)
theorem dX1_change_64 : decode cX1_change 64 = .ok (.iload 4, 2) := dk_21 4 (dk_at dksX1_change_2 16 rfl rfl)
theorem dX1_change_66 : decode cX1_change 66 = .ok (.iconst 1, 1) := dk_4 (dk_at dksX1_change_2 18 rfl rfl)
theorem dX1_change_67 : decode cX1_change 67 = .ok (.iadd, 1) := dk_96 (dk_at dksX1_change_2 19 rfl rfl)
theorem dX1_change_68 : decode cX1_change 68 = .ok (.iconst (-1), 1) := dk_2 (dk_at dksX1_change_2 20 rfl rfl)
theorem dX1_change_69 : decode cX1_change 69 = .ok (.invokevirtual 201, 3) := dk_182 0 201 (dk_at dksX1_change_2 21 rfl rfl)
theorem dX1_change_72 : decode cX1_change 72 = .ok (.istore 4, 2) := dk_54 4 (dk_at dksX1_change_3 0 rfl rfl)
theorem dX1_change_74 : decode cX1_change 74 = .ok (.iinc 5 1, 3) := dk_132 5 1 (dk_at dksX1_change_3 2 rfl rfl)
theorem dX1_change_77 : decode cX1_change 77 = .ok (.goto (-29), 3) := dk_167 255 227 (dk_at dksX1_change_3 5 rfl rfl)
theorem dX1_change_80 : decode cX1_change 80 = .ok (.iload 4, 2) := dk_21 4 (dk_at dksX1_change_3 8 rfl rfl)
theorem dX1_change_82 : decode cX1_change 82 = .ok (.aload_n 3, 1) := dk_45 (dk_at dksX1_change_3 10 rfl rfl)
theorem dX1_change_83 : decode cX1_change 83 = .ok (.getfield 204, 3) := dk_180 0 204 (dk_at dksX1_change_3 11 rfl rfl)
theorem dX1_change_86 : decode cX1_change 86 = .ok (.if_icmp .ge 8, 3) := dk_162 0 8 (dk_at dksX1_change_3 14 rfl rfl)
theorem dX1_change_89 : decode cX1_change 89 = .ok (.iload 4, 2) := dk_21 4 (dk_at dksX1_change_3 17 rfl rfl)
theorem dX1_change_91 : decode cX1_change 91 = .ok (.goto 4, 3) := dk_167 0 4 (dk_at dksX1_change_3 19 rfl rfl)
theorem dX1_change_94 : decode cX1_change 94 = .ok (.iconst (-1), 1) := dk_2 (dk_at dksX1_change_3 22 rfl rfl)
theorem dX1_change_95 : decode cX1_change 95 = .ok (.ireturn, 1) := dk_172 (dk_at dksX1_change_3 23 rfl rfl)
abbrev cX1_longest : ByteArray := prog_1_method_20_code
def yX1_longest : MethodName := ⟨RX1, "longest", "(I)I"⟩
def dkwX1_longest_0 : List UInt8 := [27, 3, 4, 184, 0, 84, 184, 0, 119, 42, 27, 186, 0, 210, 0, 0, 182, 0, 213, 172]
abbrev dktX1_longest_0 : List UInt8 := dkwX1_longest_0 ++ []
theorem dksX1_longest_0 : cX1_longest.data.toList.drop 0 = dktX1_longest_0 := by decide +kernel
theorem dX1_longest_0 : decode cX1_longest 0 = .ok (.iload_n 1, 1) := dk_27 (dk_at dksX1_longest_0 0 rfl rfl)
theorem dX1_longest_1 : decode cX1_longest 1 = .ok (.iconst 0, 1) := dk_3 (dk_at dksX1_longest_0 1 rfl rfl)
theorem dX1_longest_2 : decode cX1_longest 2 = .ok (.iconst 1, 1) := dk_4 (dk_at dksX1_longest_0 2 rfl rfl)
theorem dX1_longest_3 : decode cX1_longest 3 = .ok (.invokestatic 84, 3) := dk_184 0 84 (dk_at dksX1_longest_0 3 rfl rfl)
theorem dX1_longest_6 : decode cX1_longest 6 = .ok (.invokestatic 119, 3) := dk_184 0 119 (dk_at dksX1_longest_0 6 rfl rfl)
theorem dX1_longest_9 : decode cX1_longest 9 = .ok (.aload_n 0, 1) := dk_42 (dk_at dksX1_longest_0 9 rfl rfl)
theorem dX1_longest_10 : decode cX1_longest 10 = .ok (.iload_n 1, 1) := dk_27 (dk_at dksX1_longest_0 10 rfl rfl)
theorem dX1_longest_11 : decode cX1_longest 11 = .ok (.invokedynamic 210, 5) := by decide +kernel
theorem dX1_longest_16 : decode cX1_longest 16 = .ok (.invokevirtual 213, 3) := dk_182 0 213 (dk_at dksX1_longest_0 16 rfl rfl)
theorem dX1_longest_19 : decode cX1_longest 19 = .ok (.ireturn, 1) := dk_172 (dk_at dksX1_longest_0 19 rfl rfl)
abbrev cX1_lambda_longest_3 : ByteArray := prog_1_method_57_code
def yX1_lambda_longest_3 : MethodName := ⟨RX1, "lambda$longest$3", "(II)I"⟩
def dkwX1_lambda_longest_3_0 : List UInt8 := [26, 27, 184, 1, 153, 172]
abbrev dktX1_lambda_longest_3_0 : List UInt8 := dkwX1_lambda_longest_3_0 ++ []
theorem dksX1_lambda_longest_3_0 : cX1_lambda_longest_3.data.toList.drop 0 = dktX1_lambda_longest_3_0 := by decide +kernel
theorem dX1_lambda_longest_3_0 : decode cX1_lambda_longest_3 0 = .ok (.iload_n 0, 1) := dk_26 (dk_at dksX1_lambda_longest_3_0 0 rfl rfl)
theorem dX1_lambda_longest_3_1 : decode cX1_lambda_longest_3 1 = .ok (.iload_n 1, 1) := dk_27 (dk_at dksX1_lambda_longest_3_0 1 rfl rfl)
theorem dX1_lambda_longest_3_2 : decode cX1_lambda_longest_3 2 = .ok (.invokestatic 409, 3) := dk_184 1 153 (dk_at dksX1_lambda_longest_3_0 2 rfl rfl)
theorem dX1_lambda_longest_3_5 : decode cX1_lambda_longest_3 5 = .ok (.ireturn, 1) := dk_172 (dk_at dksX1_lambda_longest_3_0 5 rfl rfl)
abbrev cX1_overRuns : ByteArray := prog_1_method_19_code
def yX1_overRuns : MethodName := ⟨RX1, "overRuns", "(ILDotRuns$Taking;)I"⟩
def dkwX1_overRuns_3 : List UInt8 := [132, 4, 1, 167, 255, 188, 29, 172]
abbrev dktX1_overRuns_3 : List UInt8 := dkwX1_overRuns_3 ++ []
def dkwX1_overRuns_2 : List UInt8 := [162, 0, 24, 44, 29, 25, 5, 21, 6, 182, 0, 188, 185, 0, 205, 3, 0, 62, 132, 6, 2, 167, 255, 228]
abbrev dktX1_overRuns_2 : List UInt8 := dkwX1_overRuns_2 ++ dktX1_overRuns_3
def dkwX1_overRuns_1 : List UInt8 := [180, 0, 29, 21, 4, 182, 0, 148, 180, 0, 164, 58, 5, 27, 54, 6, 21, 6, 25, 5, 182, 0, 168]
abbrev dktX1_overRuns_1 : List UInt8 := dkwX1_overRuns_1 ++ dktX1_overRuns_2
def dkwX1_overRuns_0 : List UInt8 := [3, 62, 3, 54, 4, 21, 4, 42, 180, 0, 29, 180, 0, 77, 185, 0, 81, 1, 0, 162, 0, 57, 42]
abbrev dktX1_overRuns_0 : List UInt8 := dkwX1_overRuns_0 ++ dktX1_overRuns_1
theorem dksX1_overRuns_0 : cX1_overRuns.data.toList.drop 0 = dktX1_overRuns_0 := by decide +kernel
theorem dksX1_overRuns_1 : cX1_overRuns.data.toList.drop 23 = dktX1_overRuns_1 := dk_seg dksX1_overRuns_0 23 rfl rfl
theorem dksX1_overRuns_2 : cX1_overRuns.data.toList.drop 46 = dktX1_overRuns_2 := dk_seg dksX1_overRuns_1 23 rfl rfl
theorem dksX1_overRuns_3 : cX1_overRuns.data.toList.drop 70 = dktX1_overRuns_3 := dk_seg dksX1_overRuns_2 24 rfl rfl
theorem dX1_overRuns_0 : decode cX1_overRuns 0 = .ok (.iconst 0, 1) := dk_3 (dk_at dksX1_overRuns_0 0 rfl rfl)
theorem dX1_overRuns_1 : decode cX1_overRuns 1 = .ok (.istore_n 3, 1) := dk_62 (dk_at dksX1_overRuns_0 1 rfl rfl)
theorem dX1_overRuns_2 : decode cX1_overRuns 2 = .ok (.iconst 0, 1) := dk_3 (dk_at dksX1_overRuns_0 2 rfl rfl)
theorem dX1_overRuns_3 : decode cX1_overRuns 3 = .ok (.istore 4, 2) := dk_54 4 (dk_at dksX1_overRuns_0 3 rfl rfl)
theorem dX1_overRuns_5 : decode cX1_overRuns 5 = .ok (.iload 4, 2) := dk_21 4 (dk_at dksX1_overRuns_0 5 rfl rfl)
theorem dX1_overRuns_7 : decode cX1_overRuns 7 = .ok (.aload_n 0, 1) := dk_42 (dk_at dksX1_overRuns_0 7 rfl rfl)
theorem dX1_overRuns_8 : decode cX1_overRuns 8 = .ok (.getfield 29, 3) := dk_180 0 29 (dk_at dksX1_overRuns_0 8 rfl rfl)
theorem dX1_overRuns_11 : decode cX1_overRuns 11 = .ok (.getfield 77, 3) := dk_180 0 77 (dk_at dksX1_overRuns_0 11 rfl rfl)
theorem dX1_overRuns_14 : decode cX1_overRuns 14 = .ok (.invokeinterface 81 1, 5) := by decide +kernel
theorem dX1_overRuns_19 : decode cX1_overRuns 19 = .ok (.if_icmp .ge 57, 3) := dk_162 0 57 (dk_at dksX1_overRuns_0 19 rfl rfl)
theorem dX1_overRuns_22 : decode cX1_overRuns 22 = .ok (.aload_n 0, 1) := dk_42 (dk_at dksX1_overRuns_0 22 rfl rfl)
theorem dX1_overRuns_23 : decode cX1_overRuns 23 = .ok (.getfield 29, 3) := dk_180 0 29 (dk_at dksX1_overRuns_1 0 rfl rfl)
theorem dX1_overRuns_26 : decode cX1_overRuns 26 = .ok (.iload 4, 2) := dk_21 4 (dk_at dksX1_overRuns_1 3 rfl rfl)
theorem dX1_overRuns_28 : decode cX1_overRuns 28 = .ok (.invokevirtual 148, 3) := dk_182 0 148 (dk_at dksX1_overRuns_1 5 rfl rfl)
theorem dX1_overRuns_31 : decode cX1_overRuns 31 = .ok (.getfield 164, 3) := dk_180 0 164 (dk_at dksX1_overRuns_1 8 rfl rfl)
theorem dX1_overRuns_34 : decode cX1_overRuns 34 = .ok (.astore 5, 2) := dk_58 5 (dk_at dksX1_overRuns_1 11 rfl rfl)
theorem dX1_overRuns_36 : decode cX1_overRuns 36 = .ok (.iload_n 1, 1) := dk_27 (dk_at dksX1_overRuns_1 13 rfl rfl)
theorem dX1_overRuns_37 : decode cX1_overRuns 37 = .ok (.istore 6, 2) := dk_54 6 (dk_at dksX1_overRuns_1 14 rfl rfl)
theorem dX1_overRuns_39 : decode cX1_overRuns 39 = .ok (.iload 6, 2) := dk_21 6 (dk_at dksX1_overRuns_1 16 rfl rfl)
theorem dX1_overRuns_41 : decode cX1_overRuns 41 = .ok (.aload 5, 2) := dk_25 5 (dk_at dksX1_overRuns_1 18 rfl rfl)
theorem dX1_overRuns_43 : decode cX1_overRuns 43 = .ok (.invokevirtual 168, 3) := dk_182 0 168 (dk_at dksX1_overRuns_1 20 rfl rfl)
theorem dX1_overRuns_46 : decode cX1_overRuns 46 = .ok (.if_icmp .ge 24, 3) := dk_162 0 24 (dk_at dksX1_overRuns_2 0 rfl rfl)
theorem dX1_overRuns_49 : decode cX1_overRuns 49 = .ok (.aload_n 2, 1) := dk_44 (dk_at dksX1_overRuns_2 3 rfl rfl)
theorem dX1_overRuns_50 : decode cX1_overRuns 50 = .ok (.iload_n 3, 1) := dk_29 (dk_at dksX1_overRuns_2 4 rfl rfl)
theorem dX1_overRuns_51 : decode cX1_overRuns 51 = .ok (.aload 5, 2) := dk_25 5 (dk_at dksX1_overRuns_2 5 rfl rfl)
theorem dX1_overRuns_53 : decode cX1_overRuns 53 = .ok (.iload 6, 2) := dk_21 6 (dk_at dksX1_overRuns_2 7 rfl rfl)
theorem dX1_overRuns_55 : decode cX1_overRuns 55 = .ok (.invokevirtual 188, 3) := dk_182 0 188 (dk_at dksX1_overRuns_2 9 rfl rfl)
theorem dX1_overRuns_58 : decode cX1_overRuns 58 = .ok (.invokeinterface 205 3, 5) := by decide +kernel
theorem dX1_overRuns_63 : decode cX1_overRuns 63 = .ok (.istore_n 3, 1) := dk_62 (dk_at dksX1_overRuns_2 17 rfl rfl)
theorem dX1_overRuns_64 : decode cX1_overRuns 64 = .ok (.iinc 6 2, 3) := dk_132 6 2 (dk_at dksX1_overRuns_2 18 rfl rfl)
theorem dX1_overRuns_67 : decode cX1_overRuns 67 = .ok (.goto (-28), 3) := dk_167 255 228 (dk_at dksX1_overRuns_2 21 rfl rfl)
theorem dX1_overRuns_70 : decode cX1_overRuns 70 = .ok (.iinc 4 1, 3) := dk_132 4 1 (dk_at dksX1_overRuns_3 0 rfl rfl)
theorem dX1_overRuns_73 : decode cX1_overRuns 73 = .ok (.goto (-68), 3) := dk_167 255 188 (dk_at dksX1_overRuns_3 3 rfl rfl)
theorem dX1_overRuns_76 : decode cX1_overRuns 76 = .ok (.iload_n 3, 1) := dk_29 (dk_at dksX1_overRuns_3 6 rfl rfl)
theorem dX1_overRuns_77 : decode cX1_overRuns 77 = .ok (.ireturn, 1) := dk_172 (dk_at dksX1_overRuns_3 7 rfl rfl)
abbrev cX1_runsOf : ByteArray := prog_1_method_21_code
def yX1_runsOf : MethodName := ⟨RX1, "runsOf", "(II)I"⟩
def dkwX1_runsOf_1 : List UInt8 := [184, 0, 119, 42, 27, 28, 186, 0, 217, 0, 0, 182, 0, 213, 172]
abbrev dktX1_runsOf_1 : List UInt8 := dkwX1_runsOf_1 ++ []
def dkwX1_runsOf_0 : List UInt8 := [27, 3, 4, 184, 0, 84, 153, 0, 17, 28, 4, 16, 40, 184, 0, 84, 153, 0, 7, 4, 167, 0, 4, 3]
abbrev dktX1_runsOf_0 : List UInt8 := dkwX1_runsOf_0 ++ dktX1_runsOf_1
theorem dksX1_runsOf_0 : cX1_runsOf.data.toList.drop 0 = dktX1_runsOf_0 := by decide +kernel
theorem dksX1_runsOf_1 : cX1_runsOf.data.toList.drop 24 = dktX1_runsOf_1 := dk_seg dksX1_runsOf_0 24 rfl rfl
theorem dX1_runsOf_0 : decode cX1_runsOf 0 = .ok (.iload_n 1, 1) := dk_27 (dk_at dksX1_runsOf_0 0 rfl rfl)
theorem dX1_runsOf_1 : decode cX1_runsOf 1 = .ok (.iconst 0, 1) := dk_3 (dk_at dksX1_runsOf_0 1 rfl rfl)
theorem dX1_runsOf_2 : decode cX1_runsOf 2 = .ok (.iconst 1, 1) := dk_4 (dk_at dksX1_runsOf_0 2 rfl rfl)
theorem dX1_runsOf_3 : decode cX1_runsOf 3 = .ok (.invokestatic 84, 3) := dk_184 0 84 (dk_at dksX1_runsOf_0 3 rfl rfl)
theorem dX1_runsOf_6 : decode cX1_runsOf 6 = .ok (.ifCond .eq 17, 3) := dk_153 0 17 (dk_at dksX1_runsOf_0 6 rfl rfl)
theorem dX1_runsOf_9 : decode cX1_runsOf 9 = .ok (.iload_n 2, 1) := dk_28 (dk_at dksX1_runsOf_0 9 rfl rfl)
theorem dX1_runsOf_10 : decode cX1_runsOf 10 = .ok (.iconst 1, 1) := dk_4 (dk_at dksX1_runsOf_0 10 rfl rfl)
theorem dX1_runsOf_11 : decode cX1_runsOf 11 = .ok (.bipush 40, 2) := dk_16 40 (dk_at dksX1_runsOf_0 11 rfl rfl)
theorem dX1_runsOf_13 : decode cX1_runsOf 13 = .ok (.invokestatic 84, 3) := dk_184 0 84 (dk_at dksX1_runsOf_0 13 rfl rfl)
theorem dX1_runsOf_16 : decode cX1_runsOf 16 = .ok (.ifCond .eq 7, 3) := dk_153 0 7 (dk_at dksX1_runsOf_0 16 rfl rfl)
theorem dX1_runsOf_19 : decode cX1_runsOf 19 = .ok (.iconst 1, 1) := dk_4 (dk_at dksX1_runsOf_0 19 rfl rfl)
theorem dX1_runsOf_20 : decode cX1_runsOf 20 = .ok (.goto 4, 3) := dk_167 0 4 (dk_at dksX1_runsOf_0 20 rfl rfl)
theorem dX1_runsOf_23 : decode cX1_runsOf 23 = .ok (.iconst 0, 1) := dk_3 (dk_at dksX1_runsOf_0 23 rfl rfl)
theorem dX1_runsOf_24 : decode cX1_runsOf 24 = .ok (.invokestatic 119, 3) := dk_184 0 119 (dk_at dksX1_runsOf_1 0 rfl rfl)
theorem dX1_runsOf_27 : decode cX1_runsOf 27 = .ok (.aload_n 0, 1) := dk_42 (dk_at dksX1_runsOf_1 3 rfl rfl)
theorem dX1_runsOf_28 : decode cX1_runsOf 28 = .ok (.iload_n 1, 1) := dk_27 (dk_at dksX1_runsOf_1 4 rfl rfl)
theorem dX1_runsOf_29 : decode cX1_runsOf 29 = .ok (.iload_n 2, 1) := dk_28 (dk_at dksX1_runsOf_1 5 rfl rfl)
theorem dX1_runsOf_30 : decode cX1_runsOf 30 = .ok (.invokedynamic 217, 5) := by decide +kernel
theorem dX1_runsOf_35 : decode cX1_runsOf 35 = .ok (.invokevirtual 213, 3) := dk_182 0 213 (dk_at dksX1_runsOf_1 11 rfl rfl)
theorem dX1_runsOf_38 : decode cX1_runsOf 38 = .ok (.ireturn, 1) := dk_172 (dk_at dksX1_runsOf_1 14 rfl rfl)
abbrev cX1_lambda_runsOf_4 : ByteArray := prog_1_method_56_code
def yX1_lambda_runsOf_4 : MethodName := ⟨RX1, "lambda$runsOf$4", "(III)I"⟩
def dkwX1_lambda_runsOf_4_0 : List UInt8 := [27, 28, 26, 160, 0, 7, 4, 167, 0, 4, 3, 184, 0, 105, 96, 172]
abbrev dktX1_lambda_runsOf_4_0 : List UInt8 := dkwX1_lambda_runsOf_4_0 ++ []
theorem dksX1_lambda_runsOf_4_0 : cX1_lambda_runsOf_4.data.toList.drop 0 = dktX1_lambda_runsOf_4_0 := by decide +kernel
theorem dX1_lambda_runsOf_4_0 : decode cX1_lambda_runsOf_4 0 = .ok (.iload_n 1, 1) := dk_27 (dk_at dksX1_lambda_runsOf_4_0 0 rfl rfl)
theorem dX1_lambda_runsOf_4_1 : decode cX1_lambda_runsOf_4 1 = .ok (.iload_n 2, 1) := dk_28 (dk_at dksX1_lambda_runsOf_4_0 1 rfl rfl)
theorem dX1_lambda_runsOf_4_2 : decode cX1_lambda_runsOf_4 2 = .ok (.iload_n 0, 1) := dk_26 (dk_at dksX1_lambda_runsOf_4_0 2 rfl rfl)
theorem dX1_lambda_runsOf_4_3 : decode cX1_lambda_runsOf_4 3 = .ok (.if_icmp .ne 7, 3) := dk_160 0 7 (dk_at dksX1_lambda_runsOf_4_0 3 rfl rfl)
theorem dX1_lambda_runsOf_4_6 : decode cX1_lambda_runsOf_4 6 = .ok (.iconst 1, 1) := dk_4 (dk_at dksX1_lambda_runsOf_4_0 6 rfl rfl)
theorem dX1_lambda_runsOf_4_7 : decode cX1_lambda_runsOf_4 7 = .ok (.goto 4, 3) := dk_167 0 4 (dk_at dksX1_lambda_runsOf_4_0 7 rfl rfl)
theorem dX1_lambda_runsOf_4_10 : decode cX1_lambda_runsOf_4 10 = .ok (.iconst 0, 1) := dk_3 (dk_at dksX1_lambda_runsOf_4_0 10 rfl rfl)
theorem dX1_lambda_runsOf_4_11 : decode cX1_lambda_runsOf_4 11 = .ok (.invokestatic 105, 3) := dk_184 0 105 (dk_at dksX1_lambda_runsOf_4_0 11 rfl rfl)
theorem dX1_lambda_runsOf_4_14 : decode cX1_lambda_runsOf_4 14 = .ok (.iadd, 1) := dk_96 (dk_at dksX1_lambda_runsOf_4_0 14 rfl rfl)
theorem dX1_lambda_runsOf_4_15 : decode cX1_lambda_runsOf_4 15 = .ok (.ireturn, 1) := dk_172 (dk_at dksX1_lambda_runsOf_4_0 15 rfl rfl)
abbrev cX1_readBelow : ByteArray := prog_1_method_22_code
def yX1_readBelow : MethodName := ⟨RX1, "readBelow", "(II)I"⟩
def dkwX1_readBelow_4 : List UInt8 := [182, 0, 221, 58, 4, 25, 4, 199, 0, 7, 2, 167, 0, 9, 25, 4, 45, 182, 0, 225, 172]
abbrev dktX1_readBelow_4 : List UInt8 := dkwX1_readBelow_4 ++ []
def dkwX1_readBelow_3 : List UInt8 := [183, 0, 220, 167, 0, 19, 42, 180, 0, 29, 180, 0, 77, 28, 185, 0, 96, 2, 0, 192, 0, 100]
abbrev dktX1_readBelow_3 : List UInt8 := dkwX1_readBelow_3 ++ dktX1_readBelow_4
def dkwX1_readBelow_2 : List UInt8 := [42, 180, 0, 29, 27, 182, 0, 148, 28, 2, 160, 0, 20, 187, 0, 100, 89, 42, 180, 0, 29, 180, 0, 122]
abbrev dktX1_readBelow_2 : List UInt8 := dkwX1_readBelow_2 ++ dktX1_readBelow_3
def dkwX1_readBelow_1 : List UInt8 := [167, 0, 4, 3, 184, 0, 92, 42, 180, 0, 29, 180, 0, 77, 27, 185, 0, 96, 2, 0, 192, 0, 100, 78]
abbrev dktX1_readBelow_1 : List UInt8 := dkwX1_readBelow_1 ++ dktX1_readBelow_2
def dkwX1_readBelow_0 : List UInt8 := [42, 27, 182, 0, 88, 153, 0, 20, 28, 2, 159, 0, 11, 42, 28, 182, 0, 88, 153, 0, 7, 4]
abbrev dktX1_readBelow_0 : List UInt8 := dkwX1_readBelow_0 ++ dktX1_readBelow_1
theorem dksX1_readBelow_0 : cX1_readBelow.data.toList.drop 0 = dktX1_readBelow_0 := by decide +kernel
theorem dksX1_readBelow_1 : cX1_readBelow.data.toList.drop 22 = dktX1_readBelow_1 := dk_seg dksX1_readBelow_0 22 rfl rfl
theorem dksX1_readBelow_2 : cX1_readBelow.data.toList.drop 46 = dktX1_readBelow_2 := dk_seg dksX1_readBelow_1 24 rfl rfl
theorem dksX1_readBelow_3 : cX1_readBelow.data.toList.drop 70 = dktX1_readBelow_3 := dk_seg dksX1_readBelow_2 24 rfl rfl
theorem dksX1_readBelow_4 : cX1_readBelow.data.toList.drop 92 = dktX1_readBelow_4 := dk_seg dksX1_readBelow_3 22 rfl rfl
theorem dX1_readBelow_0 : decode cX1_readBelow 0 = .ok (.aload_n 0, 1) := dk_42 (dk_at dksX1_readBelow_0 0 rfl rfl)
theorem dX1_readBelow_1 : decode cX1_readBelow 1 = .ok (.iload_n 1, 1) := dk_27 (dk_at dksX1_readBelow_0 1 rfl rfl)
theorem dX1_readBelow_2 : decode cX1_readBelow 2 = .ok (.invokevirtual 88, 3) := dk_182 0 88 (dk_at dksX1_readBelow_0 2 rfl rfl)
theorem dX1_readBelow_5 : decode cX1_readBelow 5 = .ok (.ifCond .eq 20, 3) := dk_153 0 20 (dk_at dksX1_readBelow_0 5 rfl rfl)
theorem dX1_readBelow_8 : decode cX1_readBelow 8 = .ok (.iload_n 2, 1) := dk_28 (dk_at dksX1_readBelow_0 8 rfl rfl)
theorem dX1_readBelow_9 : decode cX1_readBelow 9 = .ok (.iconst (-1), 1) := dk_2 (dk_at dksX1_readBelow_0 9 rfl rfl)
theorem dX1_readBelow_10 : decode cX1_readBelow 10 = .ok (.if_icmp .eq 11, 3) := dk_159 0 11 (dk_at dksX1_readBelow_0 10 rfl rfl)
theorem dX1_readBelow_13 : decode cX1_readBelow 13 = .ok (.aload_n 0, 1) := dk_42 (dk_at dksX1_readBelow_0 13 rfl rfl)
theorem dX1_readBelow_14 : decode cX1_readBelow 14 = .ok (.iload_n 2, 1) := dk_28 (dk_at dksX1_readBelow_0 14 rfl rfl)
theorem dX1_readBelow_15 : decode cX1_readBelow 15 = .ok (.invokevirtual 88, 3) := dk_182 0 88 (dk_at dksX1_readBelow_0 15 rfl rfl)
theorem dX1_readBelow_18 : decode cX1_readBelow 18 = .ok (.ifCond .eq 7, 3) := dk_153 0 7 (dk_at dksX1_readBelow_0 18 rfl rfl)
theorem dX1_readBelow_21 : decode cX1_readBelow 21 = .ok (.iconst 1, 1) := dk_4 (dk_at dksX1_readBelow_0 21 rfl rfl)
theorem dX1_readBelow_22 : decode cX1_readBelow 22 = .ok (.goto 4, 3) := dk_167 0 4 (dk_at dksX1_readBelow_1 0 rfl rfl)
theorem dX1_readBelow_25 : decode cX1_readBelow 25 = .ok (.iconst 0, 1) := dk_3 (dk_at dksX1_readBelow_1 3 rfl rfl)
theorem dX1_readBelow_26 : decode cX1_readBelow 26 = .ok (.invokestatic 92, 3) := dk_184 0 92 (dk_at dksX1_readBelow_1 4 rfl rfl)
theorem dX1_readBelow_29 : decode cX1_readBelow 29 = .ok (.aload_n 0, 1) := dk_42 (dk_at dksX1_readBelow_1 7 rfl rfl)
theorem dX1_readBelow_30 : decode cX1_readBelow 30 = .ok (.getfield 29, 3) := dk_180 0 29 (dk_at dksX1_readBelow_1 8 rfl rfl)
theorem dX1_readBelow_33 : decode cX1_readBelow 33 = .ok (.getfield 77, 3) := dk_180 0 77 (dk_at dksX1_readBelow_1 11 rfl rfl)
theorem dX1_readBelow_36 : decode cX1_readBelow 36 = .ok (.iload_n 1, 1) := dk_27 (dk_at dksX1_readBelow_1 14 rfl rfl)
theorem dX1_readBelow_37 : decode cX1_readBelow 37 = .ok (.invokeinterface 96 2, 5) := by decide +kernel
theorem dX1_readBelow_42 : decode cX1_readBelow 42 = .ok (.checkcast 100, 3) := dk_192 0 100 (dk_at dksX1_readBelow_1 20 rfl rfl)
theorem dX1_readBelow_45 : decode cX1_readBelow 45 = .ok (.astore_n 3, 1) := dk_78 (dk_at dksX1_readBelow_1 23 rfl rfl)
theorem dX1_readBelow_46 : decode cX1_readBelow 46 = .ok (.aload_n 0, 1) := dk_42 (dk_at dksX1_readBelow_2 0 rfl rfl)
theorem dX1_readBelow_47 : decode cX1_readBelow 47 = .ok (.getfield 29, 3) := dk_180 0 29 (dk_at dksX1_readBelow_2 1 rfl rfl)
theorem dX1_readBelow_50 : decode cX1_readBelow 50 = .ok (.iload_n 1, 1) := dk_27 (dk_at dksX1_readBelow_2 4 rfl rfl)
theorem dX1_readBelow_51 : decode cX1_readBelow 51 = .ok (.invokevirtual 148, 3) := dk_182 0 148 (dk_at dksX1_readBelow_2 5 rfl rfl)
theorem dX1_readBelow_54 : decode cX1_readBelow 54 = .ok (.iload_n 2, 1) := dk_28 (dk_at dksX1_readBelow_2 8 rfl rfl)
theorem dX1_readBelow_55 : decode cX1_readBelow 55 = .ok (.iconst (-1), 1) := dk_2 (dk_at dksX1_readBelow_2 9 rfl rfl)
theorem dX1_readBelow_56 : decode cX1_readBelow 56 = .ok (.if_icmp .ne 20, 3) := dk_160 0 20 (dk_at dksX1_readBelow_2 10 rfl rfl)
theorem dX1_readBelow_59 : decode cX1_readBelow 59 = .ok (.new 100, 3) := dk_187 0 100 (dk_at dksX1_readBelow_2 13 rfl rfl)
theorem dX1_readBelow_62 : decode cX1_readBelow 62 = .ok (.dup, 1) := dk_89 (dk_at dksX1_readBelow_2 16 rfl rfl)
theorem dX1_readBelow_63 : decode cX1_readBelow 63 = .ok (.aload_n 0, 1) := dk_42 (dk_at dksX1_readBelow_2 17 rfl rfl)
theorem dX1_readBelow_64 : decode cX1_readBelow 64 = .ok (.getfield 29, 3) := dk_180 0 29 (dk_at dksX1_readBelow_2 18 rfl rfl)
theorem dX1_readBelow_67 : decode cX1_readBelow 67 = .ok (.getfield 122, 3) := dk_180 0 122 (dk_at dksX1_readBelow_2 21 rfl rfl)
theorem dX1_readBelow_70 : decode cX1_readBelow 70 = .ok (.invokespecial 220, 3) := dk_183 0 220 (dk_at dksX1_readBelow_3 0 rfl rfl)
theorem dX1_readBelow_73 : decode cX1_readBelow 73 = .ok (.goto 19, 3) := dk_167 0 19 (dk_at dksX1_readBelow_3 3 rfl rfl)
theorem dX1_readBelow_76 : decode cX1_readBelow 76 = .ok (.aload_n 0, 1) := dk_42 (dk_at dksX1_readBelow_3 6 rfl rfl)
theorem dX1_readBelow_77 : decode cX1_readBelow 77 = .ok (.getfield 29, 3) := dk_180 0 29 (dk_at dksX1_readBelow_3 7 rfl rfl)
theorem dX1_readBelow_80 : decode cX1_readBelow 80 = .ok (.getfield 77, 3) := dk_180 0 77 (dk_at dksX1_readBelow_3 10 rfl rfl)
theorem dX1_readBelow_83 : decode cX1_readBelow 83 = .ok (.iload_n 2, 1) := dk_28 (dk_at dksX1_readBelow_3 13 rfl rfl)
theorem dX1_readBelow_84 : decode cX1_readBelow 84 = .ok (.invokeinterface 96 2, 5) := by decide +kernel
theorem dX1_readBelow_89 : decode cX1_readBelow 89 = .ok (.checkcast 100, 3) := dk_192 0 100 (dk_at dksX1_readBelow_3 19 rfl rfl)
theorem dX1_readBelow_92 : decode cX1_readBelow 92 = .ok (.invokevirtual 221, 3) := dk_182 0 221 (dk_at dksX1_readBelow_4 0 rfl rfl)
theorem dX1_readBelow_95 : decode cX1_readBelow 95 = .ok (.astore 4, 2) := dk_58 4 (dk_at dksX1_readBelow_4 3 rfl rfl)
theorem dX1_readBelow_97 : decode cX1_readBelow 97 = .ok (.aload 4, 2) := dk_25 4 (dk_at dksX1_readBelow_4 5 rfl rfl)
theorem dX1_readBelow_99 : decode cX1_readBelow 99 = .ok (.ifnonnull 7, 3) := dk_199 0 7 (dk_at dksX1_readBelow_4 7 rfl rfl)
theorem dX1_readBelow_102 : decode cX1_readBelow 102 = .ok (.iconst (-1), 1) := dk_2 (dk_at dksX1_readBelow_4 10 rfl rfl)
theorem dX1_readBelow_103 : decode cX1_readBelow 103 = .ok (.goto 9, 3) := dk_167 0 9 (dk_at dksX1_readBelow_4 11 rfl rfl)
theorem dX1_readBelow_106 : decode cX1_readBelow 106 = .ok (.aload 4, 2) := dk_25 4 (dk_at dksX1_readBelow_4 14 rfl rfl)
theorem dX1_readBelow_108 : decode cX1_readBelow 108 = .ok (.aload_n 3, 1) := dk_45 (dk_at dksX1_readBelow_4 16 rfl rfl)
theorem dX1_readBelow_109 : decode cX1_readBelow 109 = .ok (.invokevirtual 225, 3) := dk_182 0 225 (dk_at dksX1_readBelow_4 17 rfl rfl)
theorem dX1_readBelow_112 : decode cX1_readBelow 112 = .ok (.ireturn, 1) := dk_172 (dk_at dksX1_readBelow_4 20 rfl rfl)
abbrev cX1_set : ByteArray := prog_1_method_23_code
def yX1_set : MethodName := ⟨RX1, "set", "(II)I"⟩
def dkwX1_set_2 : List UInt8 := [182, 0, 235, 180, 0, 137, 27, 28, 79, 29, 172]
abbrev dktX1_set_2 : List UInt8 := dkwX1_set_2 ++ []
def dkwX1_set_1 : List UInt8 := [153, 0, 7, 4, 167, 0, 4, 3, 184, 0, 119, 42, 180, 0, 29, 180, 0, 137, 27, 46, 62, 42]
abbrev dktX1_set_1 : List UInt8 := dkwX1_set_1 ++ dktX1_set_2
def dkwX1_set_0 : List UInt8 := [27, 3, 8, 184, 0, 84, 153, 0, 24, 28, 178, 0, 229, 27, 46, 178, 0, 232, 27, 46, 184, 0, 84]
abbrev dktX1_set_0 : List UInt8 := dkwX1_set_0 ++ dktX1_set_1
theorem dksX1_set_0 : cX1_set.data.toList.drop 0 = dktX1_set_0 := by decide +kernel
theorem dksX1_set_1 : cX1_set.data.toList.drop 23 = dktX1_set_1 := dk_seg dksX1_set_0 23 rfl rfl
theorem dksX1_set_2 : cX1_set.data.toList.drop 45 = dktX1_set_2 := dk_seg dksX1_set_1 22 rfl rfl
theorem dX1_set_0 : decode cX1_set 0 = .ok (.iload_n 1, 1) := dk_27 (dk_at dksX1_set_0 0 rfl rfl)
theorem dX1_set_1 : decode cX1_set 1 = .ok (.iconst 0, 1) := dk_3 (dk_at dksX1_set_0 1 rfl rfl)
theorem dX1_set_2 : decode cX1_set 2 = .ok (.iconst 5, 1) := dk_8 (dk_at dksX1_set_0 2 rfl rfl)
theorem dX1_set_3 : decode cX1_set 3 = .ok (.invokestatic 84, 3) := dk_184 0 84 (dk_at dksX1_set_0 3 rfl rfl)
theorem dX1_set_6 : decode cX1_set 6 = .ok (.ifCond .eq 24, 3) := dk_153 0 24 (dk_at dksX1_set_0 6 rfl rfl)
theorem dX1_set_9 : decode cX1_set 9 = .ok (.iload_n 2, 1) := dk_28 (dk_at dksX1_set_0 9 rfl rfl)
theorem dX1_set_10 : decode cX1_set 10 = .ok (.getstatic 229, 3) := dk_178 0 229 (dk_at dksX1_set_0 10 rfl rfl)
theorem dX1_set_13 : decode cX1_set 13 = .ok (.iload_n 1, 1) := dk_27 (dk_at dksX1_set_0 13 rfl rfl)
theorem dX1_set_14 : decode cX1_set 14 = .ok (.iaload, 1) := dk_46 (dk_at dksX1_set_0 14 rfl rfl)
theorem dX1_set_15 : decode cX1_set 15 = .ok (.getstatic 232, 3) := dk_178 0 232 (dk_at dksX1_set_0 15 rfl rfl)
theorem dX1_set_18 : decode cX1_set 18 = .ok (.iload_n 1, 1) := dk_27 (dk_at dksX1_set_0 18 rfl rfl)
theorem dX1_set_19 : decode cX1_set 19 = .ok (.iaload, 1) := dk_46 (dk_at dksX1_set_0 19 rfl rfl)
theorem dX1_set_20 : decode cX1_set 20 = .ok (.invokestatic 84, 3) := dk_184 0 84 (dk_at dksX1_set_0 20 rfl rfl)
theorem dX1_set_23 : decode cX1_set 23 = .ok (.ifCond .eq 7, 3) := dk_153 0 7 (dk_at dksX1_set_1 0 rfl rfl)
theorem dX1_set_26 : decode cX1_set 26 = .ok (.iconst 1, 1) := dk_4 (dk_at dksX1_set_1 3 rfl rfl)
theorem dX1_set_27 : decode cX1_set 27 = .ok (.goto 4, 3) := dk_167 0 4 (dk_at dksX1_set_1 4 rfl rfl)
theorem dX1_set_30 : decode cX1_set 30 = .ok (.iconst 0, 1) := dk_3 (dk_at dksX1_set_1 7 rfl rfl)
theorem dX1_set_31 : decode cX1_set 31 = .ok (.invokestatic 119, 3) := dk_184 0 119 (dk_at dksX1_set_1 8 rfl rfl)
theorem dX1_set_34 : decode cX1_set 34 = .ok (.aload_n 0, 1) := dk_42 (dk_at dksX1_set_1 11 rfl rfl)
theorem dX1_set_35 : decode cX1_set 35 = .ok (.getfield 29, 3) := dk_180 0 29 (dk_at dksX1_set_1 12 rfl rfl)
theorem dX1_set_38 : decode cX1_set 38 = .ok (.getfield 137, 3) := dk_180 0 137 (dk_at dksX1_set_1 15 rfl rfl)
theorem dX1_set_41 : decode cX1_set 41 = .ok (.iload_n 1, 1) := dk_27 (dk_at dksX1_set_1 18 rfl rfl)
theorem dX1_set_42 : decode cX1_set 42 = .ok (.iaload, 1) := dk_46 (dk_at dksX1_set_1 19 rfl rfl)
theorem dX1_set_43 : decode cX1_set 43 = .ok (.istore_n 3, 1) := dk_62 (dk_at dksX1_set_1 20 rfl rfl)
theorem dX1_set_44 : decode cX1_set 44 = .ok (.aload_n 0, 1) := dk_42 (dk_at dksX1_set_1 21 rfl rfl)
theorem dX1_set_45 : decode cX1_set 45 = .ok (.invokevirtual 235, 3) := dk_182 0 235 (dk_at dksX1_set_2 0 rfl rfl)
theorem dX1_set_48 : decode cX1_set 48 = .ok (.getfield 137, 3) := dk_180 0 137 (dk_at dksX1_set_2 3 rfl rfl)
theorem dX1_set_51 : decode cX1_set 51 = .ok (.iload_n 1, 1) := dk_27 (dk_at dksX1_set_2 6 rfl rfl)
theorem dX1_set_52 : decode cX1_set 52 = .ok (.iload_n 2, 1) := dk_28 (dk_at dksX1_set_2 7 rfl rfl)
theorem dX1_set_53 : decode cX1_set 53 = .ok (.iastore, 1) := dk_79 (dk_at dksX1_set_2 8 rfl rfl)
theorem dX1_set_54 : decode cX1_set 54 = .ok (.iload_n 3, 1) := dk_29 (dk_at dksX1_set_2 9 rfl rfl)
theorem dX1_set_55 : decode cX1_set 55 = .ok (.ireturn, 1) := dk_172 (dk_at dksX1_set_2 10 rfl rfl)
abbrev cX1_edited : ByteArray := prog_1_method_8_code
def yX1_edited : MethodName := ⟨RX1, "edited", "()LDotRuns$Page;"⟩
def dkwX1_edited_2 : List UInt8 := [180, 0, 29, 176]
abbrev dktX1_edited_2 : List UInt8 := dkwX1_edited_2 ++ []
def dkwX1_edited_1 : List UInt8 := [180, 0, 38, 42, 180, 0, 29, 182, 0, 69, 42, 42, 180, 0, 29, 182, 0, 73, 181, 0, 29, 42]
abbrev dktX1_edited_1 : List UInt8 := dkwX1_edited_1 ++ dktX1_edited_2
def dkwX1_edited_0 : List UInt8 := [42, 180, 0, 38, 182, 0, 61, 16, 10, 160, 0, 14, 42, 180, 0, 38, 182, 0, 65, 192, 0, 24, 76, 42]
abbrev dktX1_edited_0 : List UInt8 := dkwX1_edited_0 ++ dktX1_edited_1
theorem dksX1_edited_0 : cX1_edited.data.toList.drop 0 = dktX1_edited_0 := by decide +kernel
theorem dksX1_edited_1 : cX1_edited.data.toList.drop 24 = dktX1_edited_1 := dk_seg dksX1_edited_0 24 rfl rfl
theorem dksX1_edited_2 : cX1_edited.data.toList.drop 46 = dktX1_edited_2 := dk_seg dksX1_edited_1 22 rfl rfl
theorem dX1_edited_0 : decode cX1_edited 0 = .ok (.aload_n 0, 1) := dk_42 (dk_at dksX1_edited_0 0 rfl rfl)
theorem dX1_edited_1 : decode cX1_edited 1 = .ok (.getfield 38, 3) := dk_180 0 38 (dk_at dksX1_edited_0 1 rfl rfl)
theorem dX1_edited_4 : decode cX1_edited 4 = .ok (.invokevirtual 61, 3) := dk_182 0 61 (dk_at dksX1_edited_0 4 rfl rfl)
theorem dX1_edited_7 : decode cX1_edited 7 = .ok (.bipush 10, 2) := dk_16 10 (dk_at dksX1_edited_0 7 rfl rfl)
theorem dX1_edited_9 : decode cX1_edited 9 = .ok (.if_icmp .ne 14, 3) := dk_160 0 14 (dk_at dksX1_edited_0 9 rfl rfl)
theorem dX1_edited_12 : decode cX1_edited 12 = .ok (.aload_n 0, 1) := dk_42 (dk_at dksX1_edited_0 12 rfl rfl)
theorem dX1_edited_13 : decode cX1_edited 13 = .ok (.getfield 38, 3) := dk_180 0 38 (dk_at dksX1_edited_0 13 rfl rfl)
theorem dX1_edited_16 : decode cX1_edited 16 = .ok (.invokevirtual 65, 3) := dk_182 0 65 (dk_at dksX1_edited_0 16 rfl rfl)
theorem dX1_edited_19 : decode cX1_edited 19 = .ok (.checkcast 24, 3) := dk_192 0 24 (dk_at dksX1_edited_0 19 rfl rfl)
theorem dX1_edited_22 : decode cX1_edited 22 = .ok (.astore_n 1, 1) := dk_76 (dk_at dksX1_edited_0 22 rfl rfl)
theorem dX1_edited_23 : decode cX1_edited 23 = .ok (.aload_n 0, 1) := dk_42 (dk_at dksX1_edited_0 23 rfl rfl)
theorem dX1_edited_24 : decode cX1_edited 24 = .ok (.getfield 38, 3) := dk_180 0 38 (dk_at dksX1_edited_1 0 rfl rfl)
theorem dX1_edited_27 : decode cX1_edited 27 = .ok (.aload_n 0, 1) := dk_42 (dk_at dksX1_edited_1 3 rfl rfl)
theorem dX1_edited_28 : decode cX1_edited 28 = .ok (.getfield 29, 3) := dk_180 0 29 (dk_at dksX1_edited_1 4 rfl rfl)
theorem dX1_edited_31 : decode cX1_edited 31 = .ok (.invokevirtual 69, 3) := dk_182 0 69 (dk_at dksX1_edited_1 7 rfl rfl)
theorem dX1_edited_34 : decode cX1_edited 34 = .ok (.aload_n 0, 1) := dk_42 (dk_at dksX1_edited_1 10 rfl rfl)
theorem dX1_edited_35 : decode cX1_edited 35 = .ok (.aload_n 0, 1) := dk_42 (dk_at dksX1_edited_1 11 rfl rfl)
theorem dX1_edited_36 : decode cX1_edited 36 = .ok (.getfield 29, 3) := dk_180 0 29 (dk_at dksX1_edited_1 12 rfl rfl)
theorem dX1_edited_39 : decode cX1_edited 39 = .ok (.invokevirtual 73, 3) := dk_182 0 73 (dk_at dksX1_edited_1 15 rfl rfl)
theorem dX1_edited_42 : decode cX1_edited 42 = .ok (.putfield 29, 3) := dk_181 0 29 (dk_at dksX1_edited_1 18 rfl rfl)
theorem dX1_edited_45 : decode cX1_edited 45 = .ok (.aload_n 0, 1) := dk_42 (dk_at dksX1_edited_1 21 rfl rfl)
theorem dX1_edited_46 : decode cX1_edited 46 = .ok (.getfield 29, 3) := dk_180 0 29 (dk_at dksX1_edited_2 0 rfl rfl)
theorem dX1_edited_49 : decode cX1_edited 49 = .ok (.areturn, 1) := dk_176 (dk_at dksX1_edited_2 3 rfl rfl)
abbrev cX1_lose : ByteArray := prog_1_method_24_code
def yX1_lose : MethodName := ⟨RX1, "lose", "(II)I"⟩
def dkwX1_lose_1 : List UInt8 := [180, 0, 179, 27, 46, 62, 42, 182, 0, 235, 180, 0, 179, 27, 28, 79, 29, 172]
abbrev dktX1_lose_1 : List UInt8 := dkwX1_lose_1 ++ []
def dkwX1_lose_0 : List UInt8 := [27, 3, 16, 19, 184, 0, 84, 184, 0, 92, 28, 3, 8, 184, 0, 84, 184, 0, 119, 42, 180, 0, 29]
abbrev dktX1_lose_0 : List UInt8 := dkwX1_lose_0 ++ dktX1_lose_1
theorem dksX1_lose_0 : cX1_lose.data.toList.drop 0 = dktX1_lose_0 := by decide +kernel
theorem dksX1_lose_1 : cX1_lose.data.toList.drop 23 = dktX1_lose_1 := dk_seg dksX1_lose_0 23 rfl rfl
theorem dX1_lose_0 : decode cX1_lose 0 = .ok (.iload_n 1, 1) := dk_27 (dk_at dksX1_lose_0 0 rfl rfl)
theorem dX1_lose_1 : decode cX1_lose 1 = .ok (.iconst 0, 1) := dk_3 (dk_at dksX1_lose_0 1 rfl rfl)
theorem dX1_lose_2 : decode cX1_lose 2 = .ok (.bipush 19, 2) := dk_16 19 (dk_at dksX1_lose_0 2 rfl rfl)
theorem dX1_lose_4 : decode cX1_lose 4 = .ok (.invokestatic 84, 3) := dk_184 0 84 (dk_at dksX1_lose_0 4 rfl rfl)
theorem dX1_lose_7 : decode cX1_lose 7 = .ok (.invokestatic 92, 3) := dk_184 0 92 (dk_at dksX1_lose_0 7 rfl rfl)
theorem dX1_lose_10 : decode cX1_lose 10 = .ok (.iload_n 2, 1) := dk_28 (dk_at dksX1_lose_0 10 rfl rfl)
theorem dX1_lose_11 : decode cX1_lose 11 = .ok (.iconst 0, 1) := dk_3 (dk_at dksX1_lose_0 11 rfl rfl)
theorem dX1_lose_12 : decode cX1_lose 12 = .ok (.iconst 5, 1) := dk_8 (dk_at dksX1_lose_0 12 rfl rfl)
theorem dX1_lose_13 : decode cX1_lose 13 = .ok (.invokestatic 84, 3) := dk_184 0 84 (dk_at dksX1_lose_0 13 rfl rfl)
theorem dX1_lose_16 : decode cX1_lose 16 = .ok (.invokestatic 119, 3) := dk_184 0 119 (dk_at dksX1_lose_0 16 rfl rfl)
theorem dX1_lose_19 : decode cX1_lose 19 = .ok (.aload_n 0, 1) := dk_42 (dk_at dksX1_lose_0 19 rfl rfl)
theorem dX1_lose_20 : decode cX1_lose 20 = .ok (.getfield 29, 3) := dk_180 0 29 (dk_at dksX1_lose_0 20 rfl rfl)
theorem dX1_lose_23 : decode cX1_lose 23 = .ok (.getfield 179, 3) := dk_180 0 179 (dk_at dksX1_lose_1 0 rfl rfl)
theorem dX1_lose_26 : decode cX1_lose 26 = .ok (.iload_n 1, 1) := dk_27 (dk_at dksX1_lose_1 3 rfl rfl)
theorem dX1_lose_27 : decode cX1_lose 27 = .ok (.iaload, 1) := dk_46 (dk_at dksX1_lose_1 4 rfl rfl)
theorem dX1_lose_28 : decode cX1_lose 28 = .ok (.istore_n 3, 1) := dk_62 (dk_at dksX1_lose_1 5 rfl rfl)
theorem dX1_lose_29 : decode cX1_lose 29 = .ok (.aload_n 0, 1) := dk_42 (dk_at dksX1_lose_1 6 rfl rfl)
theorem dX1_lose_30 : decode cX1_lose 30 = .ok (.invokevirtual 235, 3) := dk_182 0 235 (dk_at dksX1_lose_1 7 rfl rfl)
theorem dX1_lose_33 : decode cX1_lose 33 = .ok (.getfield 179, 3) := dk_180 0 179 (dk_at dksX1_lose_1 10 rfl rfl)
theorem dX1_lose_36 : decode cX1_lose 36 = .ok (.iload_n 1, 1) := dk_27 (dk_at dksX1_lose_1 13 rfl rfl)
theorem dX1_lose_37 : decode cX1_lose 37 = .ok (.iload_n 2, 1) := dk_28 (dk_at dksX1_lose_1 14 rfl rfl)
theorem dX1_lose_38 : decode cX1_lose 38 = .ok (.iastore, 1) := dk_79 (dk_at dksX1_lose_1 15 rfl rfl)
theorem dX1_lose_39 : decode cX1_lose 39 = .ok (.iload_n 3, 1) := dk_29 (dk_at dksX1_lose_1 16 rfl rfl)
theorem dX1_lose_40 : decode cX1_lose 40 = .ok (.ireturn, 1) := dk_172 (dk_at dksX1_lose_1 17 rfl rfl)
abbrev cX1_addLine : ByteArray := prog_1_method_26_code
def yX1_addLine : MethodName := ⟨RX1, "addLine", "(II)I"⟩
def dkwX1_addLine_3 : List UInt8 := [180, 0, 77, 185, 0, 81, 1, 0, 4, 100, 172]
abbrev dktX1_addLine_3 : List UInt8 := dkwX1_addLine_3 ++ []
def dkwX1_addLine_2 : List UInt8 := [180, 0, 29, 180, 0, 122, 27, 28, 184, 0, 245, 183, 0, 249, 185, 0, 252, 2, 0, 87, 42, 180, 0, 29]
abbrev dktX1_addLine_2 : List UInt8 := dkwX1_addLine_2 ++ dktX1_addLine_3
def dkwX1_addLine_1 : List UInt8 := [162, 0, 7, 4, 167, 0, 4, 3, 184, 0, 242, 42, 182, 0, 235, 180, 0, 77, 187, 0, 100, 89, 42]
abbrev dktX1_addLine_1 : List UInt8 := dkwX1_addLine_1 ++ dktX1_addLine_2
def dkwX1_addLine_0 : List UInt8 := [42, 27, 28, 182, 0, 238, 184, 0, 119, 42, 180, 0, 29, 180, 0, 77, 185, 0, 81, 1, 0, 16, 20]
abbrev dktX1_addLine_0 : List UInt8 := dkwX1_addLine_0 ++ dktX1_addLine_1
theorem dksX1_addLine_0 : cX1_addLine.data.toList.drop 0 = dktX1_addLine_0 := by decide +kernel
theorem dksX1_addLine_1 : cX1_addLine.data.toList.drop 23 = dktX1_addLine_1 := dk_seg dksX1_addLine_0 23 rfl rfl
theorem dksX1_addLine_2 : cX1_addLine.data.toList.drop 46 = dktX1_addLine_2 := dk_seg dksX1_addLine_1 23 rfl rfl
theorem dksX1_addLine_3 : cX1_addLine.data.toList.drop 70 = dktX1_addLine_3 := dk_seg dksX1_addLine_2 24 rfl rfl
theorem dX1_addLine_0 : decode cX1_addLine 0 = .ok (.aload_n 0, 1) := dk_42 (dk_at dksX1_addLine_0 0 rfl rfl)
theorem dX1_addLine_1 : decode cX1_addLine 1 = .ok (.iload_n 1, 1) := dk_27 (dk_at dksX1_addLine_0 1 rfl rfl)
theorem dX1_addLine_2 : decode cX1_addLine 2 = .ok (.iload_n 2, 1) := dk_28 (dk_at dksX1_addLine_0 2 rfl rfl)
theorem dX1_addLine_3 : decode cX1_addLine 3 = .ok (.invokevirtual 238, 3) := dk_182 0 238 (dk_at dksX1_addLine_0 3 rfl rfl)
theorem dX1_addLine_6 : decode cX1_addLine 6 = .ok (.invokestatic 119, 3) := dk_184 0 119 (dk_at dksX1_addLine_0 6 rfl rfl)
theorem dX1_addLine_9 : decode cX1_addLine 9 = .ok (.aload_n 0, 1) := dk_42 (dk_at dksX1_addLine_0 9 rfl rfl)
theorem dX1_addLine_10 : decode cX1_addLine 10 = .ok (.getfield 29, 3) := dk_180 0 29 (dk_at dksX1_addLine_0 10 rfl rfl)
theorem dX1_addLine_13 : decode cX1_addLine 13 = .ok (.getfield 77, 3) := dk_180 0 77 (dk_at dksX1_addLine_0 13 rfl rfl)
theorem dX1_addLine_16 : decode cX1_addLine 16 = .ok (.invokeinterface 81 1, 5) := by decide +kernel
theorem dX1_addLine_21 : decode cX1_addLine 21 = .ok (.bipush 20, 2) := dk_16 20 (dk_at dksX1_addLine_0 21 rfl rfl)
theorem dX1_addLine_23 : decode cX1_addLine 23 = .ok (.if_icmp .ge 7, 3) := dk_162 0 7 (dk_at dksX1_addLine_1 0 rfl rfl)
theorem dX1_addLine_26 : decode cX1_addLine 26 = .ok (.iconst 1, 1) := dk_4 (dk_at dksX1_addLine_1 3 rfl rfl)
theorem dX1_addLine_27 : decode cX1_addLine 27 = .ok (.goto 4, 3) := dk_167 0 4 (dk_at dksX1_addLine_1 4 rfl rfl)
theorem dX1_addLine_30 : decode cX1_addLine 30 = .ok (.iconst 0, 1) := dk_3 (dk_at dksX1_addLine_1 7 rfl rfl)
theorem dX1_addLine_31 : decode cX1_addLine 31 = .ok (.invokestatic 242, 3) := dk_184 0 242 (dk_at dksX1_addLine_1 8 rfl rfl)
theorem dX1_addLine_34 : decode cX1_addLine 34 = .ok (.aload_n 0, 1) := dk_42 (dk_at dksX1_addLine_1 11 rfl rfl)
theorem dX1_addLine_35 : decode cX1_addLine 35 = .ok (.invokevirtual 235, 3) := dk_182 0 235 (dk_at dksX1_addLine_1 12 rfl rfl)
theorem dX1_addLine_38 : decode cX1_addLine 38 = .ok (.getfield 77, 3) := dk_180 0 77 (dk_at dksX1_addLine_1 15 rfl rfl)
theorem dX1_addLine_41 : decode cX1_addLine 41 = .ok (.new 100, 3) := dk_187 0 100 (dk_at dksX1_addLine_1 18 rfl rfl)
theorem dX1_addLine_44 : decode cX1_addLine 44 = .ok (.dup, 1) := dk_89 (dk_at dksX1_addLine_1 21 rfl rfl)
theorem dX1_addLine_45 : decode cX1_addLine 45 = .ok (.aload_n 0, 1) := dk_42 (dk_at dksX1_addLine_1 22 rfl rfl)
theorem dX1_addLine_46 : decode cX1_addLine 46 = .ok (.getfield 29, 3) := dk_180 0 29 (dk_at dksX1_addLine_2 0 rfl rfl)
theorem dX1_addLine_49 : decode cX1_addLine 49 = .ok (.getfield 122, 3) := dk_180 0 122 (dk_at dksX1_addLine_2 3 rfl rfl)
theorem dX1_addLine_52 : decode cX1_addLine 52 = .ok (.iload_n 1, 1) := dk_27 (dk_at dksX1_addLine_2 6 rfl rfl)
theorem dX1_addLine_53 : decode cX1_addLine 53 = .ok (.iload_n 2, 1) := dk_28 (dk_at dksX1_addLine_2 7 rfl rfl)
theorem dX1_addLine_54 : decode cX1_addLine 54 = .ok (.invokestatic 245, 3) := dk_184 0 245 (dk_at dksX1_addLine_2 8 rfl rfl)
theorem dX1_addLine_57 : decode cX1_addLine 57 = .ok (.invokespecial 249, 3) := dk_183 0 249 (dk_at dksX1_addLine_2 11 rfl rfl)
theorem dX1_addLine_60 : decode cX1_addLine 60 = .ok (.invokeinterface 252 2, 5) := by decide +kernel
theorem dX1_addLine_65 : decode cX1_addLine 65 = .ok (.pop, 1) := dk_87 (dk_at dksX1_addLine_2 19 rfl rfl)
theorem dX1_addLine_66 : decode cX1_addLine 66 = .ok (.aload_n 0, 1) := dk_42 (dk_at dksX1_addLine_2 20 rfl rfl)
theorem dX1_addLine_67 : decode cX1_addLine 67 = .ok (.getfield 29, 3) := dk_180 0 29 (dk_at dksX1_addLine_2 21 rfl rfl)
theorem dX1_addLine_70 : decode cX1_addLine 70 = .ok (.getfield 77, 3) := dk_180 0 77 (dk_at dksX1_addLine_3 0 rfl rfl)
theorem dX1_addLine_73 : decode cX1_addLine 73 = .ok (.invokeinterface 81 1, 5) := by decide +kernel
theorem dX1_addLine_78 : decode cX1_addLine 78 = .ok (.iconst 1, 1) := dk_4 (dk_at dksX1_addLine_3 8 rfl rfl)
theorem dX1_addLine_79 : decode cX1_addLine 79 = .ok (.isub, 1) := dk_100 (dk_at dksX1_addLine_3 9 rfl rfl)
theorem dX1_addLine_80 : decode cX1_addLine 80 = .ok (.ireturn, 1) := dk_172 (dk_at dksX1_addLine_3 10 rfl rfl)
abbrev cX1_isPart : ByteArray := prog_1_method_25_code
def yX1_isPart : MethodName := ⟨RX1, "isPart", "(II)Z"⟩
def dkwX1_isPart_1 : List UInt8 := [184, 0, 84, 153, 0, 7, 4, 167, 0, 4, 3, 172]
abbrev dktX1_isPart_1 : List UInt8 := dkwX1_isPart_1 ++ []
def dkwX1_isPart_0 : List UInt8 := [27, 3, 42, 180, 0, 29, 180, 0, 122, 184, 0, 84, 153, 0, 22, 28, 27, 42, 180, 0, 29, 180, 0, 122]
abbrev dktX1_isPart_0 : List UInt8 := dkwX1_isPart_0 ++ dktX1_isPart_1
theorem dksX1_isPart_0 : cX1_isPart.data.toList.drop 0 = dktX1_isPart_0 := by decide +kernel
theorem dksX1_isPart_1 : cX1_isPart.data.toList.drop 24 = dktX1_isPart_1 := dk_seg dksX1_isPart_0 24 rfl rfl
theorem dX1_isPart_0 : decode cX1_isPart 0 = .ok (.iload_n 1, 1) := dk_27 (dk_at dksX1_isPart_0 0 rfl rfl)
theorem dX1_isPart_1 : decode cX1_isPart 1 = .ok (.iconst 0, 1) := dk_3 (dk_at dksX1_isPart_0 1 rfl rfl)
theorem dX1_isPart_2 : decode cX1_isPart 2 = .ok (.aload_n 0, 1) := dk_42 (dk_at dksX1_isPart_0 2 rfl rfl)
theorem dX1_isPart_3 : decode cX1_isPart 3 = .ok (.getfield 29, 3) := dk_180 0 29 (dk_at dksX1_isPart_0 3 rfl rfl)
theorem dX1_isPart_6 : decode cX1_isPart 6 = .ok (.getfield 122, 3) := dk_180 0 122 (dk_at dksX1_isPart_0 6 rfl rfl)
theorem dX1_isPart_9 : decode cX1_isPart 9 = .ok (.invokestatic 84, 3) := dk_184 0 84 (dk_at dksX1_isPart_0 9 rfl rfl)
theorem dX1_isPart_12 : decode cX1_isPart 12 = .ok (.ifCond .eq 22, 3) := dk_153 0 22 (dk_at dksX1_isPart_0 12 rfl rfl)
theorem dX1_isPart_15 : decode cX1_isPart 15 = .ok (.iload_n 2, 1) := dk_28 (dk_at dksX1_isPart_0 15 rfl rfl)
theorem dX1_isPart_16 : decode cX1_isPart 16 = .ok (.iload_n 1, 1) := dk_27 (dk_at dksX1_isPart_0 16 rfl rfl)
theorem dX1_isPart_17 : decode cX1_isPart 17 = .ok (.aload_n 0, 1) := dk_42 (dk_at dksX1_isPart_0 17 rfl rfl)
theorem dX1_isPart_18 : decode cX1_isPart 18 = .ok (.getfield 29, 3) := dk_180 0 29 (dk_at dksX1_isPart_0 18 rfl rfl)
theorem dX1_isPart_21 : decode cX1_isPart 21 = .ok (.getfield 122, 3) := dk_180 0 122 (dk_at dksX1_isPart_0 21 rfl rfl)
theorem dX1_isPart_24 : decode cX1_isPart 24 = .ok (.invokestatic 84, 3) := dk_184 0 84 (dk_at dksX1_isPart_1 0 rfl rfl)
theorem dX1_isPart_27 : decode cX1_isPart 27 = .ok (.ifCond .eq 7, 3) := dk_153 0 7 (dk_at dksX1_isPart_1 3 rfl rfl)
theorem dX1_isPart_30 : decode cX1_isPart 30 = .ok (.iconst 1, 1) := dk_4 (dk_at dksX1_isPart_1 6 rfl rfl)
theorem dX1_isPart_31 : decode cX1_isPart 31 = .ok (.goto 4, 3) := dk_167 0 4 (dk_at dksX1_isPart_1 7 rfl rfl)
theorem dX1_isPart_34 : decode cX1_isPart 34 = .ok (.iconst 0, 1) := dk_3 (dk_at dksX1_isPart_1 10 rfl rfl)
theorem dX1_isPart_35 : decode cX1_isPart 35 = .ok (.ireturn, 1) := dk_172 (dk_at dksX1_isPart_1 11 rfl rfl)
abbrev cX1_paint : ByteArray := prog_1_method_27_code
def yX1_paint : MethodName := ⟨RX1, "paint", "(IIII)I"⟩
def dkwX1_paint_3 : List UInt8 := [182, 0, 225, 172]
abbrev dktX1_paint_3 : List UInt8 := dkwX1_paint_3 ++ []
def dkwX1_paint_2 : List UInt8 := [182, 0, 235, 180, 0, 77, 27, 25, 6, 185, 1, 4, 3, 0, 192, 0, 100, 58, 7, 25, 6, 25, 7]
abbrev dktX1_paint_2 : List UInt8 := dkwX1_paint_2 ++ dktX1_paint_3
def dkwX1_paint_1 : List UInt8 := [153, 0, 7, 4, 167, 0, 4, 3, 184, 0, 119, 25, 5, 28, 29, 21, 4, 182, 1, 0, 58, 6, 42]
abbrev dktX1_paint_1 : List UInt8 := dkwX1_paint_1 ++ dktX1_paint_2
def dkwX1_paint_0 : List UInt8 := [42, 27, 182, 0, 145, 58, 5, 42, 28, 29, 182, 0, 238, 153, 0, 17, 21, 4, 3, 4, 184, 0, 84]
abbrev dktX1_paint_0 : List UInt8 := dkwX1_paint_0 ++ dktX1_paint_1
theorem dksX1_paint_0 : cX1_paint.data.toList.drop 0 = dktX1_paint_0 := by decide +kernel
theorem dksX1_paint_1 : cX1_paint.data.toList.drop 23 = dktX1_paint_1 := dk_seg dksX1_paint_0 23 rfl rfl
theorem dksX1_paint_2 : cX1_paint.data.toList.drop 46 = dktX1_paint_2 := dk_seg dksX1_paint_1 23 rfl rfl
theorem dksX1_paint_3 : cX1_paint.data.toList.drop 69 = dktX1_paint_3 := dk_seg dksX1_paint_2 23 rfl rfl
theorem dX1_paint_0 : decode cX1_paint 0 = .ok (.aload_n 0, 1) := dk_42 (dk_at dksX1_paint_0 0 rfl rfl)
theorem dX1_paint_1 : decode cX1_paint 1 = .ok (.iload_n 1, 1) := dk_27 (dk_at dksX1_paint_0 1 rfl rfl)
theorem dX1_paint_2 : decode cX1_paint 2 = .ok (.invokevirtual 145, 3) := dk_182 0 145 (dk_at dksX1_paint_0 2 rfl rfl)
theorem dX1_paint_5 : decode cX1_paint 5 = .ok (.astore 5, 2) := dk_58 5 (dk_at dksX1_paint_0 5 rfl rfl)
theorem dX1_paint_7 : decode cX1_paint 7 = .ok (.aload_n 0, 1) := dk_42 (dk_at dksX1_paint_0 7 rfl rfl)
theorem dX1_paint_8 : decode cX1_paint 8 = .ok (.iload_n 2, 1) := dk_28 (dk_at dksX1_paint_0 8 rfl rfl)
theorem dX1_paint_9 : decode cX1_paint 9 = .ok (.iload_n 3, 1) := dk_29 (dk_at dksX1_paint_0 9 rfl rfl)
theorem dX1_paint_10 : decode cX1_paint 10 = .ok (.invokevirtual 238, 3) := dk_182 0 238 (dk_at dksX1_paint_0 10 rfl rfl)
theorem dX1_paint_13 : decode cX1_paint 13 = .ok (.ifCond .eq 17, 3) := dk_153 0 17 (dk_at dksX1_paint_0 13 rfl rfl)
theorem dX1_paint_16 : decode cX1_paint 16 = .ok (.iload 4, 2) := dk_21 4 (dk_at dksX1_paint_0 16 rfl rfl)
theorem dX1_paint_18 : decode cX1_paint 18 = .ok (.iconst 0, 1) := dk_3 (dk_at dksX1_paint_0 18 rfl rfl)
theorem dX1_paint_19 : decode cX1_paint 19 = .ok (.iconst 1, 1) := dk_4 (dk_at dksX1_paint_0 19 rfl rfl)
theorem dX1_paint_20 : decode cX1_paint 20 = .ok (.invokestatic 84, 3) := dk_184 0 84 (dk_at dksX1_paint_0 20 rfl rfl)
theorem dX1_paint_23 : decode cX1_paint 23 = .ok (.ifCond .eq 7, 3) := dk_153 0 7 (dk_at dksX1_paint_1 0 rfl rfl)
theorem dX1_paint_26 : decode cX1_paint 26 = .ok (.iconst 1, 1) := dk_4 (dk_at dksX1_paint_1 3 rfl rfl)
theorem dX1_paint_27 : decode cX1_paint 27 = .ok (.goto 4, 3) := dk_167 0 4 (dk_at dksX1_paint_1 4 rfl rfl)
theorem dX1_paint_30 : decode cX1_paint 30 = .ok (.iconst 0, 1) := dk_3 (dk_at dksX1_paint_1 7 rfl rfl)
theorem dX1_paint_31 : decode cX1_paint 31 = .ok (.invokestatic 119, 3) := dk_184 0 119 (dk_at dksX1_paint_1 8 rfl rfl)
theorem dX1_paint_34 : decode cX1_paint 34 = .ok (.aload 5, 2) := dk_25 5 (dk_at dksX1_paint_1 11 rfl rfl)
theorem dX1_paint_36 : decode cX1_paint 36 = .ok (.iload_n 2, 1) := dk_28 (dk_at dksX1_paint_1 13 rfl rfl)
theorem dX1_paint_37 : decode cX1_paint 37 = .ok (.iload_n 3, 1) := dk_29 (dk_at dksX1_paint_1 14 rfl rfl)
theorem dX1_paint_38 : decode cX1_paint 38 = .ok (.iload 4, 2) := dk_21 4 (dk_at dksX1_paint_1 15 rfl rfl)
theorem dX1_paint_40 : decode cX1_paint 40 = .ok (.invokevirtual 256, 3) := dk_182 1 0 (dk_at dksX1_paint_1 17 rfl rfl)
theorem dX1_paint_43 : decode cX1_paint 43 = .ok (.astore 6, 2) := dk_58 6 (dk_at dksX1_paint_1 20 rfl rfl)
theorem dX1_paint_45 : decode cX1_paint 45 = .ok (.aload_n 0, 1) := dk_42 (dk_at dksX1_paint_1 22 rfl rfl)
theorem dX1_paint_46 : decode cX1_paint 46 = .ok (.invokevirtual 235, 3) := dk_182 0 235 (dk_at dksX1_paint_2 0 rfl rfl)
theorem dX1_paint_49 : decode cX1_paint 49 = .ok (.getfield 77, 3) := dk_180 0 77 (dk_at dksX1_paint_2 3 rfl rfl)
theorem dX1_paint_52 : decode cX1_paint 52 = .ok (.iload_n 1, 1) := dk_27 (dk_at dksX1_paint_2 6 rfl rfl)
theorem dX1_paint_53 : decode cX1_paint 53 = .ok (.aload 6, 2) := dk_25 6 (dk_at dksX1_paint_2 7 rfl rfl)
theorem dX1_paint_55 : decode cX1_paint 55 = .ok (.invokeinterface 260 3, 5) := by decide +kernel
theorem dX1_paint_60 : decode cX1_paint 60 = .ok (.checkcast 100, 3) := dk_192 0 100 (dk_at dksX1_paint_2 14 rfl rfl)
theorem dX1_paint_63 : decode cX1_paint 63 = .ok (.astore 7, 2) := dk_58 7 (dk_at dksX1_paint_2 17 rfl rfl)
theorem dX1_paint_65 : decode cX1_paint 65 = .ok (.aload 6, 2) := dk_25 6 (dk_at dksX1_paint_2 19 rfl rfl)
theorem dX1_paint_67 : decode cX1_paint 67 = .ok (.aload 7, 2) := dk_25 7 (dk_at dksX1_paint_2 21 rfl rfl)
theorem dX1_paint_69 : decode cX1_paint 69 = .ok (.invokevirtual 225, 3) := dk_182 0 225 (dk_at dksX1_paint_3 0 rfl rfl)
theorem dX1_paint_72 : decode cX1_paint 72 = .ok (.ireturn, 1) := dk_172 (dk_at dksX1_paint_3 3 rfl rfl)
abbrev cX1_shift : ByteArray := prog_1_method_28_code
def yX1_shift : MethodName := ⟨RX1, "shift", "(II)I"⟩
def dkwX1_shift_2 : List UInt8 := [182, 0, 182, 172]
abbrev dktX1_shift_2 : List UInt8 := dkwX1_shift_2 ++ []
def dkwX1_shift_1 : List UInt8 := [42, 182, 0, 235, 180, 0, 77, 27, 25, 4, 185, 1, 4, 3, 0, 192, 0, 100, 58, 5, 25, 4]
abbrev dktX1_shift_1 : List UInt8 := dkwX1_shift_1 ++ dktX1_shift_2
def dkwX1_shift_0 : List UInt8 := [42, 27, 182, 0, 145, 78, 28, 16, 216, 16, 40, 184, 0, 84, 184, 0, 119, 45, 28, 182, 1, 7, 58, 4]
abbrev dktX1_shift_0 : List UInt8 := dkwX1_shift_0 ++ dktX1_shift_1
theorem dksX1_shift_0 : cX1_shift.data.toList.drop 0 = dktX1_shift_0 := by decide +kernel
theorem dksX1_shift_1 : cX1_shift.data.toList.drop 24 = dktX1_shift_1 := dk_seg dksX1_shift_0 24 rfl rfl
theorem dksX1_shift_2 : cX1_shift.data.toList.drop 46 = dktX1_shift_2 := dk_seg dksX1_shift_1 22 rfl rfl
theorem dX1_shift_0 : decode cX1_shift 0 = .ok (.aload_n 0, 1) := dk_42 (dk_at dksX1_shift_0 0 rfl rfl)
theorem dX1_shift_1 : decode cX1_shift 1 = .ok (.iload_n 1, 1) := dk_27 (dk_at dksX1_shift_0 1 rfl rfl)
theorem dX1_shift_2 : decode cX1_shift 2 = .ok (.invokevirtual 145, 3) := dk_182 0 145 (dk_at dksX1_shift_0 2 rfl rfl)
theorem dX1_shift_5 : decode cX1_shift 5 = .ok (.astore_n 3, 1) := dk_78 (dk_at dksX1_shift_0 5 rfl rfl)
theorem dX1_shift_6 : decode cX1_shift 6 = .ok (.iload_n 2, 1) := dk_28 (dk_at dksX1_shift_0 6 rfl rfl)
theorem dX1_shift_7 : decode cX1_shift 7 = .ok (.bipush (-40), 2) := dk_16 216 (dk_at dksX1_shift_0 7 rfl rfl)
theorem dX1_shift_9 : decode cX1_shift 9 = .ok (.bipush 40, 2) := dk_16 40 (dk_at dksX1_shift_0 9 rfl rfl)
theorem dX1_shift_11 : decode cX1_shift 11 = .ok (.invokestatic 84, 3) := dk_184 0 84 (dk_at dksX1_shift_0 11 rfl rfl)
theorem dX1_shift_14 : decode cX1_shift 14 = .ok (.invokestatic 119, 3) := dk_184 0 119 (dk_at dksX1_shift_0 14 rfl rfl)
theorem dX1_shift_17 : decode cX1_shift 17 = .ok (.aload_n 3, 1) := dk_45 (dk_at dksX1_shift_0 17 rfl rfl)
theorem dX1_shift_18 : decode cX1_shift 18 = .ok (.iload_n 2, 1) := dk_28 (dk_at dksX1_shift_0 18 rfl rfl)
theorem dX1_shift_19 : decode cX1_shift 19 = .ok (.invokevirtual 263, 3) := dk_182 1 7 (dk_at dksX1_shift_0 19 rfl rfl)
theorem dX1_shift_22 : decode cX1_shift 22 = .ok (.astore 4, 2) := dk_58 4 (dk_at dksX1_shift_0 22 rfl rfl)
theorem dX1_shift_24 : decode cX1_shift 24 = .ok (.aload_n 0, 1) := dk_42 (dk_at dksX1_shift_1 0 rfl rfl)
theorem dX1_shift_25 : decode cX1_shift 25 = .ok (.invokevirtual 235, 3) := dk_182 0 235 (dk_at dksX1_shift_1 1 rfl rfl)
theorem dX1_shift_28 : decode cX1_shift 28 = .ok (.getfield 77, 3) := dk_180 0 77 (dk_at dksX1_shift_1 4 rfl rfl)
theorem dX1_shift_31 : decode cX1_shift 31 = .ok (.iload_n 1, 1) := dk_27 (dk_at dksX1_shift_1 7 rfl rfl)
theorem dX1_shift_32 : decode cX1_shift 32 = .ok (.aload 4, 2) := dk_25 4 (dk_at dksX1_shift_1 8 rfl rfl)
theorem dX1_shift_34 : decode cX1_shift 34 = .ok (.invokeinterface 260 3, 5) := by decide +kernel
theorem dX1_shift_39 : decode cX1_shift 39 = .ok (.checkcast 100, 3) := dk_192 0 100 (dk_at dksX1_shift_1 15 rfl rfl)
theorem dX1_shift_42 : decode cX1_shift 42 = .ok (.astore 5, 2) := dk_58 5 (dk_at dksX1_shift_1 18 rfl rfl)
theorem dX1_shift_44 : decode cX1_shift 44 = .ok (.aload 4, 2) := dk_25 4 (dk_at dksX1_shift_1 20 rfl rfl)
theorem dX1_shift_46 : decode cX1_shift 46 = .ok (.invokevirtual 182, 3) := dk_182 0 182 (dk_at dksX1_shift_2 0 rfl rfl)
theorem dX1_shift_49 : decode cX1_shift 49 = .ok (.ireturn, 1) := dk_172 (dk_at dksX1_shift_2 3 rfl rfl)
abbrev cX1_copyLine : ByteArray := prog_1_method_29_code
def yX1_copyLine : MethodName := ⟨RX1, "copyLine", "(II)I"⟩
def dkwX1_copyLine_3 : List UInt8 := [180, 0, 77, 185, 0, 81, 1, 0, 172]
abbrev dktX1_copyLine_3 : List UInt8 := dkwX1_copyLine_3 ++ []
def dkwX1_copyLine_2 : List UInt8 := [3, 184, 0, 242, 42, 182, 0, 235, 180, 0, 77, 28, 45, 185, 1, 10, 3, 0, 42, 180, 0, 29]
abbrev dktX1_copyLine_2 : List UInt8 := dkwX1_copyLine_2 ++ dktX1_copyLine_3
def dkwX1_copyLine_1 : List UInt8 := [184, 0, 92, 42, 180, 0, 29, 180, 0, 77, 185, 0, 81, 1, 0, 16, 20, 162, 0, 7, 4, 167, 0, 4]
abbrev dktX1_copyLine_1 : List UInt8 := dkwX1_copyLine_1 ++ dktX1_copyLine_2
def dkwX1_copyLine_0 : List UInt8 := [42, 27, 182, 0, 145, 78, 28, 3, 42, 180, 0, 29, 180, 0, 77, 185, 0, 81, 1, 0, 184, 0, 84]
abbrev dktX1_copyLine_0 : List UInt8 := dkwX1_copyLine_0 ++ dktX1_copyLine_1
theorem dksX1_copyLine_0 : cX1_copyLine.data.toList.drop 0 = dktX1_copyLine_0 := by decide +kernel
theorem dksX1_copyLine_1 : cX1_copyLine.data.toList.drop 23 = dktX1_copyLine_1 := dk_seg dksX1_copyLine_0 23 rfl rfl
theorem dksX1_copyLine_2 : cX1_copyLine.data.toList.drop 47 = dktX1_copyLine_2 := dk_seg dksX1_copyLine_1 24 rfl rfl
theorem dksX1_copyLine_3 : cX1_copyLine.data.toList.drop 69 = dktX1_copyLine_3 := dk_seg dksX1_copyLine_2 22 rfl rfl
theorem dX1_copyLine_0 : decode cX1_copyLine 0 = .ok (.aload_n 0, 1) := dk_42 (dk_at dksX1_copyLine_0 0 rfl rfl)
theorem dX1_copyLine_1 : decode cX1_copyLine 1 = .ok (.iload_n 1, 1) := dk_27 (dk_at dksX1_copyLine_0 1 rfl rfl)
theorem dX1_copyLine_2 : decode cX1_copyLine 2 = .ok (.invokevirtual 145, 3) := dk_182 0 145 (dk_at dksX1_copyLine_0 2 rfl rfl)
theorem dX1_copyLine_5 : decode cX1_copyLine 5 = .ok (.astore_n 3, 1) := dk_78 (dk_at dksX1_copyLine_0 5 rfl rfl)
theorem dX1_copyLine_6 : decode cX1_copyLine 6 = .ok (.iload_n 2, 1) := dk_28 (dk_at dksX1_copyLine_0 6 rfl rfl)
theorem dX1_copyLine_7 : decode cX1_copyLine 7 = .ok (.iconst 0, 1) := dk_3 (dk_at dksX1_copyLine_0 7 rfl rfl)
theorem dX1_copyLine_8 : decode cX1_copyLine 8 = .ok (.aload_n 0, 1) := dk_42 (dk_at dksX1_copyLine_0 8 rfl rfl)
theorem dX1_copyLine_9 : decode cX1_copyLine 9 = .ok (.getfield 29, 3) := dk_180 0 29 (dk_at dksX1_copyLine_0 9 rfl rfl)
theorem dX1_copyLine_12 : decode cX1_copyLine 12 = .ok (.getfield 77, 3) := dk_180 0 77 (dk_at dksX1_copyLine_0 12 rfl rfl)
theorem dX1_copyLine_15 : decode cX1_copyLine 15 = .ok (.invokeinterface 81 1, 5) := by decide +kernel
theorem dX1_copyLine_20 : decode cX1_copyLine 20 = .ok (.invokestatic 84, 3) := dk_184 0 84 (dk_at dksX1_copyLine_0 20 rfl rfl)
theorem dX1_copyLine_23 : decode cX1_copyLine 23 = .ok (.invokestatic 92, 3) := dk_184 0 92 (dk_at dksX1_copyLine_1 0 rfl rfl)
theorem dX1_copyLine_26 : decode cX1_copyLine 26 = .ok (.aload_n 0, 1) := dk_42 (dk_at dksX1_copyLine_1 3 rfl rfl)
theorem dX1_copyLine_27 : decode cX1_copyLine 27 = .ok (.getfield 29, 3) := dk_180 0 29 (dk_at dksX1_copyLine_1 4 rfl rfl)
theorem dX1_copyLine_30 : decode cX1_copyLine 30 = .ok (.getfield 77, 3) := dk_180 0 77 (dk_at dksX1_copyLine_1 7 rfl rfl)
theorem dX1_copyLine_33 : decode cX1_copyLine 33 = .ok (.invokeinterface 81 1, 5) := by decide +kernel
theorem dX1_copyLine_38 : decode cX1_copyLine 38 = .ok (.bipush 20, 2) := dk_16 20 (dk_at dksX1_copyLine_1 15 rfl rfl)
theorem dX1_copyLine_40 : decode cX1_copyLine 40 = .ok (.if_icmp .ge 7, 3) := dk_162 0 7 (dk_at dksX1_copyLine_1 17 rfl rfl)
theorem dX1_copyLine_43 : decode cX1_copyLine 43 = .ok (.iconst 1, 1) := dk_4 (dk_at dksX1_copyLine_1 20 rfl rfl)
theorem dX1_copyLine_44 : decode cX1_copyLine 44 = .ok (.goto 4, 3) := dk_167 0 4 (dk_at dksX1_copyLine_1 21 rfl rfl)
theorem dX1_copyLine_47 : decode cX1_copyLine 47 = .ok (.iconst 0, 1) := dk_3 (dk_at dksX1_copyLine_2 0 rfl rfl)
theorem dX1_copyLine_48 : decode cX1_copyLine 48 = .ok (.invokestatic 242, 3) := dk_184 0 242 (dk_at dksX1_copyLine_2 1 rfl rfl)
theorem dX1_copyLine_51 : decode cX1_copyLine 51 = .ok (.aload_n 0, 1) := dk_42 (dk_at dksX1_copyLine_2 4 rfl rfl)
theorem dX1_copyLine_52 : decode cX1_copyLine 52 = .ok (.invokevirtual 235, 3) := dk_182 0 235 (dk_at dksX1_copyLine_2 5 rfl rfl)
theorem dX1_copyLine_55 : decode cX1_copyLine 55 = .ok (.getfield 77, 3) := dk_180 0 77 (dk_at dksX1_copyLine_2 8 rfl rfl)
theorem dX1_copyLine_58 : decode cX1_copyLine 58 = .ok (.iload_n 2, 1) := dk_28 (dk_at dksX1_copyLine_2 11 rfl rfl)
theorem dX1_copyLine_59 : decode cX1_copyLine 59 = .ok (.aload_n 3, 1) := dk_45 (dk_at dksX1_copyLine_2 12 rfl rfl)
theorem dX1_copyLine_60 : decode cX1_copyLine 60 = .ok (.invokeinterface 266 3, 5) := by decide +kernel
theorem dX1_copyLine_65 : decode cX1_copyLine 65 = .ok (.aload_n 0, 1) := dk_42 (dk_at dksX1_copyLine_2 18 rfl rfl)
theorem dX1_copyLine_66 : decode cX1_copyLine 66 = .ok (.getfield 29, 3) := dk_180 0 29 (dk_at dksX1_copyLine_2 19 rfl rfl)
theorem dX1_copyLine_69 : decode cX1_copyLine 69 = .ok (.getfield 77, 3) := dk_180 0 77 (dk_at dksX1_copyLine_3 0 rfl rfl)
theorem dX1_copyLine_72 : decode cX1_copyLine 72 = .ok (.invokeinterface 81 1, 5) := by decide +kernel
theorem dX1_copyLine_77 : decode cX1_copyLine 77 = .ok (.ireturn, 1) := dk_172 (dk_at dksX1_copyLine_3 8 rfl rfl)
abbrev cX1_removeLine : ByteArray := prog_1_method_30_code
def yX1_removeLine : MethodName := ⟨RX1, "removeLine", "(I)I"⟩
def dkwX1_removeLine_1 : List UInt8 := [77, 42, 180, 0, 29, 180, 0, 77, 185, 0, 81, 1, 0, 172]
abbrev dktX1_removeLine_1 : List UInt8 := dkwX1_removeLine_1 ++ []
def dkwX1_removeLine_0 : List UInt8 := [42, 27, 182, 0, 88, 184, 0, 92, 42, 182, 0, 235, 180, 0, 77, 27, 185, 1, 13, 2, 0, 192, 0, 100]
abbrev dktX1_removeLine_0 : List UInt8 := dkwX1_removeLine_0 ++ dktX1_removeLine_1
theorem dksX1_removeLine_0 : cX1_removeLine.data.toList.drop 0 = dktX1_removeLine_0 := by decide +kernel
theorem dksX1_removeLine_1 : cX1_removeLine.data.toList.drop 24 = dktX1_removeLine_1 := dk_seg dksX1_removeLine_0 24 rfl rfl
theorem dX1_removeLine_0 : decode cX1_removeLine 0 = .ok (.aload_n 0, 1) := dk_42 (dk_at dksX1_removeLine_0 0 rfl rfl)
theorem dX1_removeLine_1 : decode cX1_removeLine 1 = .ok (.iload_n 1, 1) := dk_27 (dk_at dksX1_removeLine_0 1 rfl rfl)
theorem dX1_removeLine_2 : decode cX1_removeLine 2 = .ok (.invokevirtual 88, 3) := dk_182 0 88 (dk_at dksX1_removeLine_0 2 rfl rfl)
theorem dX1_removeLine_5 : decode cX1_removeLine 5 = .ok (.invokestatic 92, 3) := dk_184 0 92 (dk_at dksX1_removeLine_0 5 rfl rfl)
theorem dX1_removeLine_8 : decode cX1_removeLine 8 = .ok (.aload_n 0, 1) := dk_42 (dk_at dksX1_removeLine_0 8 rfl rfl)
theorem dX1_removeLine_9 : decode cX1_removeLine 9 = .ok (.invokevirtual 235, 3) := dk_182 0 235 (dk_at dksX1_removeLine_0 9 rfl rfl)
theorem dX1_removeLine_12 : decode cX1_removeLine 12 = .ok (.getfield 77, 3) := dk_180 0 77 (dk_at dksX1_removeLine_0 12 rfl rfl)
theorem dX1_removeLine_15 : decode cX1_removeLine 15 = .ok (.iload_n 1, 1) := dk_27 (dk_at dksX1_removeLine_0 15 rfl rfl)
theorem dX1_removeLine_16 : decode cX1_removeLine 16 = .ok (.invokeinterface 269 2, 5) := by decide +kernel
theorem dX1_removeLine_21 : decode cX1_removeLine 21 = .ok (.checkcast 100, 3) := dk_192 0 100 (dk_at dksX1_removeLine_0 21 rfl rfl)
theorem dX1_removeLine_24 : decode cX1_removeLine 24 = .ok (.astore_n 2, 1) := dk_77 (dk_at dksX1_removeLine_1 0 rfl rfl)
theorem dX1_removeLine_25 : decode cX1_removeLine 25 = .ok (.aload_n 0, 1) := dk_42 (dk_at dksX1_removeLine_1 1 rfl rfl)
theorem dX1_removeLine_26 : decode cX1_removeLine 26 = .ok (.getfield 29, 3) := dk_180 0 29 (dk_at dksX1_removeLine_1 2 rfl rfl)
theorem dX1_removeLine_29 : decode cX1_removeLine 29 = .ok (.getfield 77, 3) := dk_180 0 77 (dk_at dksX1_removeLine_1 5 rfl rfl)
theorem dX1_removeLine_32 : decode cX1_removeLine 32 = .ok (.invokeinterface 81 1, 5) := by decide +kernel
theorem dX1_removeLine_37 : decode cX1_removeLine 37 = .ok (.ireturn, 1) := dk_172 (dk_at dksX1_removeLine_1 13 rfl rfl)
abbrev cX1_invert : ByteArray := prog_1_method_31_code
def yX1_invert : MethodName := ⟨RX1, "invert", "(I)I"⟩
def dkwX1_invert_2 : List UInt8 := [27, 45, 185, 1, 4, 3, 0, 192, 0, 100, 58, 4, 45, 182, 0, 182, 172]
abbrev dktX1_invert_2 : List UInt8 := dkwX1_invert_2 ++ []
def dkwX1_invert_1 : List UInt8 := [131, 3, 42, 180, 0, 29, 180, 0, 122, 184, 0, 245, 127, 183, 0, 249, 78, 42, 182, 0, 235, 180, 0, 77]
abbrev dktX1_invert_1 : List UInt8 := dkwX1_invert_1 ++ dktX1_invert_2
def dkwX1_invert_0 : List UInt8 := [42, 27, 182, 0, 145, 77, 187, 0, 100, 89, 42, 180, 0, 29, 180, 0, 122, 44, 180, 1, 16, 20, 1, 19]
abbrev dktX1_invert_0 : List UInt8 := dkwX1_invert_0 ++ dktX1_invert_1
theorem dksX1_invert_0 : cX1_invert.data.toList.drop 0 = dktX1_invert_0 := by decide +kernel
theorem dksX1_invert_1 : cX1_invert.data.toList.drop 24 = dktX1_invert_1 := dk_seg dksX1_invert_0 24 rfl rfl
theorem dksX1_invert_2 : cX1_invert.data.toList.drop 48 = dktX1_invert_2 := dk_seg dksX1_invert_1 24 rfl rfl
theorem dX1_invert_0 : decode cX1_invert 0 = .ok (.aload_n 0, 1) := dk_42 (dk_at dksX1_invert_0 0 rfl rfl)
theorem dX1_invert_1 : decode cX1_invert 1 = .ok (.iload_n 1, 1) := dk_27 (dk_at dksX1_invert_0 1 rfl rfl)
theorem dX1_invert_2 : decode cX1_invert 2 = .ok (.invokevirtual 145, 3) := dk_182 0 145 (dk_at dksX1_invert_0 2 rfl rfl)
theorem dX1_invert_5 : decode cX1_invert 5 = .ok (.astore_n 2, 1) := dk_77 (dk_at dksX1_invert_0 5 rfl rfl)
theorem dX1_invert_6 : decode cX1_invert 6 = .ok (.new 100, 3) := dk_187 0 100 (dk_at dksX1_invert_0 6 rfl rfl)
theorem dX1_invert_9 : decode cX1_invert 9 = .ok (.dup, 1) := dk_89 (dk_at dksX1_invert_0 9 rfl rfl)
theorem dX1_invert_10 : decode cX1_invert 10 = .ok (.aload_n 0, 1) := dk_42 (dk_at dksX1_invert_0 10 rfl rfl)
theorem dX1_invert_11 : decode cX1_invert 11 = .ok (.getfield 29, 3) := dk_180 0 29 (dk_at dksX1_invert_0 11 rfl rfl)
theorem dX1_invert_14 : decode cX1_invert 14 = .ok (.getfield 122, 3) := dk_180 0 122 (dk_at dksX1_invert_0 14 rfl rfl)
theorem dX1_invert_17 : decode cX1_invert 17 = .ok (.aload_n 2, 1) := dk_44 (dk_at dksX1_invert_0 17 rfl rfl)
theorem dX1_invert_18 : decode cX1_invert 18 = .ok (.getfield 272, 3) := dk_180 1 16 (dk_at dksX1_invert_0 18 rfl rfl)
theorem dX1_invert_21 : decode cX1_invert 21 = .ok (.ldc2_w 275, 3) := dk_20 1 19 (dk_at dksX1_invert_0 21 rfl rfl)
theorem dX1_invert_24 : decode cX1_invert 24 = .ok (.lxor, 1) := dk_131 (dk_at dksX1_invert_1 0 rfl rfl)
theorem dX1_invert_25 : decode cX1_invert 25 = .ok (.iconst 0, 1) := dk_3 (dk_at dksX1_invert_1 1 rfl rfl)
theorem dX1_invert_26 : decode cX1_invert 26 = .ok (.aload_n 0, 1) := dk_42 (dk_at dksX1_invert_1 2 rfl rfl)
theorem dX1_invert_27 : decode cX1_invert 27 = .ok (.getfield 29, 3) := dk_180 0 29 (dk_at dksX1_invert_1 3 rfl rfl)
theorem dX1_invert_30 : decode cX1_invert 30 = .ok (.getfield 122, 3) := dk_180 0 122 (dk_at dksX1_invert_1 6 rfl rfl)
theorem dX1_invert_33 : decode cX1_invert 33 = .ok (.invokestatic 245, 3) := dk_184 0 245 (dk_at dksX1_invert_1 9 rfl rfl)
theorem dX1_invert_36 : decode cX1_invert 36 = .ok (.land, 1) := dk_127 (dk_at dksX1_invert_1 12 rfl rfl)
theorem dX1_invert_37 : decode cX1_invert 37 = .ok (.invokespecial 249, 3) := dk_183 0 249 (dk_at dksX1_invert_1 13 rfl rfl)
theorem dX1_invert_40 : decode cX1_invert 40 = .ok (.astore_n 3, 1) := dk_78 (dk_at dksX1_invert_1 16 rfl rfl)
theorem dX1_invert_41 : decode cX1_invert 41 = .ok (.aload_n 0, 1) := dk_42 (dk_at dksX1_invert_1 17 rfl rfl)
theorem dX1_invert_42 : decode cX1_invert 42 = .ok (.invokevirtual 235, 3) := dk_182 0 235 (dk_at dksX1_invert_1 18 rfl rfl)
theorem dX1_invert_45 : decode cX1_invert 45 = .ok (.getfield 77, 3) := dk_180 0 77 (dk_at dksX1_invert_1 21 rfl rfl)
theorem dX1_invert_48 : decode cX1_invert 48 = .ok (.iload_n 1, 1) := dk_27 (dk_at dksX1_invert_2 0 rfl rfl)
theorem dX1_invert_49 : decode cX1_invert 49 = .ok (.aload_n 3, 1) := dk_45 (dk_at dksX1_invert_2 1 rfl rfl)
theorem dX1_invert_50 : decode cX1_invert 50 = .ok (.invokeinterface 260 3, 5) := by decide +kernel
theorem dX1_invert_55 : decode cX1_invert 55 = .ok (.checkcast 100, 3) := dk_192 0 100 (dk_at dksX1_invert_2 7 rfl rfl)
theorem dX1_invert_58 : decode cX1_invert 58 = .ok (.astore 4, 2) := dk_58 4 (dk_at dksX1_invert_2 10 rfl rfl)
theorem dX1_invert_60 : decode cX1_invert 60 = .ok (.aload_n 3, 1) := dk_45 (dk_at dksX1_invert_2 12 rfl rfl)
theorem dX1_invert_61 : decode cX1_invert 61 = .ok (.invokevirtual 182, 3) := dk_182 0 182 (dk_at dksX1_invert_2 13 rfl rfl)
theorem dX1_invert_64 : decode cX1_invert 64 = .ok (.ireturn, 1) := dk_172 (dk_at dksX1_invert_2 16 rfl rfl)
abbrev cX1_swap : ByteArray := prog_1_method_32_code
def yX1_swap : MethodName := ⟨RX1, "swap", "(II)I"⟩
def dkwX1_swap_4 : List UInt8 := [45, 25, 4, 182, 0, 225, 172]
abbrev dktX1_swap_4 : List UInt8 := dkwX1_swap_4 ++ []
def dkwX1_swap_3 : List UInt8 := [192, 0, 100, 58, 4, 42, 180, 0, 29, 180, 0, 77, 28, 45, 185, 1, 4, 3, 0, 192, 0, 100, 58, 4]
abbrev dktX1_swap_3 : List UInt8 := dkwX1_swap_3 ++ dktX1_swap_4
def dkwX1_swap_2 : List UInt8 := [27, 42, 180, 0, 29, 180, 0, 77, 28, 185, 0, 96, 2, 0, 192, 0, 100, 185, 1, 4, 3, 0]
abbrev dktX1_swap_2 : List UInt8 := dkwX1_swap_2 ++ dktX1_swap_3
def dkwX1_swap_1 : List UInt8 := [42, 180, 0, 29, 180, 0, 77, 27, 185, 0, 96, 2, 0, 192, 0, 100, 78, 42, 182, 0, 235, 180, 0, 77]
abbrev dktX1_swap_1 : List UInt8 := dkwX1_swap_1 ++ dktX1_swap_2
def dkwX1_swap_0 : List UInt8 := [42, 27, 182, 0, 88, 153, 0, 15, 42, 28, 182, 0, 88, 153, 0, 7, 4, 167, 0, 4, 3, 184, 0, 92]
abbrev dktX1_swap_0 : List UInt8 := dkwX1_swap_0 ++ dktX1_swap_1
theorem dksX1_swap_0 : cX1_swap.data.toList.drop 0 = dktX1_swap_0 := by decide +kernel
theorem dksX1_swap_1 : cX1_swap.data.toList.drop 24 = dktX1_swap_1 := dk_seg dksX1_swap_0 24 rfl rfl
theorem dksX1_swap_2 : cX1_swap.data.toList.drop 48 = dktX1_swap_2 := dk_seg dksX1_swap_1 24 rfl rfl
theorem dksX1_swap_3 : cX1_swap.data.toList.drop 70 = dktX1_swap_3 := dk_seg dksX1_swap_2 22 rfl rfl
theorem dksX1_swap_4 : cX1_swap.data.toList.drop 94 = dktX1_swap_4 := dk_seg dksX1_swap_3 24 rfl rfl
theorem dX1_swap_0 : decode cX1_swap 0 = .ok (.aload_n 0, 1) := dk_42 (dk_at dksX1_swap_0 0 rfl rfl)
theorem dX1_swap_1 : decode cX1_swap 1 = .ok (.iload_n 1, 1) := dk_27 (dk_at dksX1_swap_0 1 rfl rfl)
theorem dX1_swap_2 : decode cX1_swap 2 = .ok (.invokevirtual 88, 3) := dk_182 0 88 (dk_at dksX1_swap_0 2 rfl rfl)
theorem dX1_swap_5 : decode cX1_swap 5 = .ok (.ifCond .eq 15, 3) := dk_153 0 15 (dk_at dksX1_swap_0 5 rfl rfl)
theorem dX1_swap_8 : decode cX1_swap 8 = .ok (.aload_n 0, 1) := dk_42 (dk_at dksX1_swap_0 8 rfl rfl)
theorem dX1_swap_9 : decode cX1_swap 9 = .ok (.iload_n 2, 1) := dk_28 (dk_at dksX1_swap_0 9 rfl rfl)
theorem dX1_swap_10 : decode cX1_swap 10 = .ok (.invokevirtual 88, 3) := dk_182 0 88 (dk_at dksX1_swap_0 10 rfl rfl)
theorem dX1_swap_13 : decode cX1_swap 13 = .ok (.ifCond .eq 7, 3) := dk_153 0 7 (dk_at dksX1_swap_0 13 rfl rfl)
theorem dX1_swap_16 : decode cX1_swap 16 = .ok (.iconst 1, 1) := dk_4 (dk_at dksX1_swap_0 16 rfl rfl)
theorem dX1_swap_17 : decode cX1_swap 17 = .ok (.goto 4, 3) := dk_167 0 4 (dk_at dksX1_swap_0 17 rfl rfl)
theorem dX1_swap_20 : decode cX1_swap 20 = .ok (.iconst 0, 1) := dk_3 (dk_at dksX1_swap_0 20 rfl rfl)
theorem dX1_swap_21 : decode cX1_swap 21 = .ok (.invokestatic 92, 3) := dk_184 0 92 (dk_at dksX1_swap_0 21 rfl rfl)
theorem dX1_swap_24 : decode cX1_swap 24 = .ok (.aload_n 0, 1) := dk_42 (dk_at dksX1_swap_1 0 rfl rfl)
theorem dX1_swap_25 : decode cX1_swap 25 = .ok (.getfield 29, 3) := dk_180 0 29 (dk_at dksX1_swap_1 1 rfl rfl)
theorem dX1_swap_28 : decode cX1_swap 28 = .ok (.getfield 77, 3) := dk_180 0 77 (dk_at dksX1_swap_1 4 rfl rfl)
theorem dX1_swap_31 : decode cX1_swap 31 = .ok (.iload_n 1, 1) := dk_27 (dk_at dksX1_swap_1 7 rfl rfl)
theorem dX1_swap_32 : decode cX1_swap 32 = .ok (.invokeinterface 96 2, 5) := by decide +kernel
theorem dX1_swap_37 : decode cX1_swap 37 = .ok (.checkcast 100, 3) := dk_192 0 100 (dk_at dksX1_swap_1 13 rfl rfl)
theorem dX1_swap_40 : decode cX1_swap 40 = .ok (.astore_n 3, 1) := dk_78 (dk_at dksX1_swap_1 16 rfl rfl)
theorem dX1_swap_41 : decode cX1_swap 41 = .ok (.aload_n 0, 1) := dk_42 (dk_at dksX1_swap_1 17 rfl rfl)
theorem dX1_swap_42 : decode cX1_swap 42 = .ok (.invokevirtual 235, 3) := dk_182 0 235 (dk_at dksX1_swap_1 18 rfl rfl)
theorem dX1_swap_45 : decode cX1_swap 45 = .ok (.getfield 77, 3) := dk_180 0 77 (dk_at dksX1_swap_1 21 rfl rfl)
theorem dX1_swap_48 : decode cX1_swap 48 = .ok (.iload_n 1, 1) := dk_27 (dk_at dksX1_swap_2 0 rfl rfl)
theorem dX1_swap_49 : decode cX1_swap 49 = .ok (.aload_n 0, 1) := dk_42 (dk_at dksX1_swap_2 1 rfl rfl)
theorem dX1_swap_50 : decode cX1_swap 50 = .ok (.getfield 29, 3) := dk_180 0 29 (dk_at dksX1_swap_2 2 rfl rfl)
theorem dX1_swap_53 : decode cX1_swap 53 = .ok (.getfield 77, 3) := dk_180 0 77 (dk_at dksX1_swap_2 5 rfl rfl)
theorem dX1_swap_56 : decode cX1_swap 56 = .ok (.iload_n 2, 1) := dk_28 (dk_at dksX1_swap_2 8 rfl rfl)
theorem dX1_swap_57 : decode cX1_swap 57 = .ok (.invokeinterface 96 2, 5) := by decide +kernel
theorem dX1_swap_62 : decode cX1_swap 62 = .ok (.checkcast 100, 3) := dk_192 0 100 (dk_at dksX1_swap_2 14 rfl rfl)
theorem dX1_swap_65 : decode cX1_swap 65 = .ok (.invokeinterface 260 3, 5) := by decide +kernel
theorem dX1_swap_70 : decode cX1_swap 70 = .ok (.checkcast 100, 3) := dk_192 0 100 (dk_at dksX1_swap_3 0 rfl rfl)
theorem dX1_swap_73 : decode cX1_swap 73 = .ok (.astore 4, 2) := dk_58 4 (dk_at dksX1_swap_3 3 rfl rfl)
theorem dX1_swap_75 : decode cX1_swap 75 = .ok (.aload_n 0, 1) := dk_42 (dk_at dksX1_swap_3 5 rfl rfl)
theorem dX1_swap_76 : decode cX1_swap 76 = .ok (.getfield 29, 3) := dk_180 0 29 (dk_at dksX1_swap_3 6 rfl rfl)
theorem dX1_swap_79 : decode cX1_swap 79 = .ok (.getfield 77, 3) := dk_180 0 77 (dk_at dksX1_swap_3 9 rfl rfl)
theorem dX1_swap_82 : decode cX1_swap 82 = .ok (.iload_n 2, 1) := dk_28 (dk_at dksX1_swap_3 12 rfl rfl)
theorem dX1_swap_83 : decode cX1_swap 83 = .ok (.aload_n 3, 1) := dk_45 (dk_at dksX1_swap_3 13 rfl rfl)
theorem dX1_swap_84 : decode cX1_swap 84 = .ok (.invokeinterface 260 3, 5) := by decide +kernel
theorem dX1_swap_89 : decode cX1_swap 89 = .ok (.checkcast 100, 3) := dk_192 0 100 (dk_at dksX1_swap_3 19 rfl rfl)
theorem dX1_swap_92 : decode cX1_swap 92 = .ok (.astore 4, 2) := dk_58 4 (dk_at dksX1_swap_3 22 rfl rfl)
theorem dX1_swap_94 : decode cX1_swap 94 = .ok (.aload_n 3, 1) := dk_45 (dk_at dksX1_swap_4 0 rfl rfl)
theorem dX1_swap_95 : decode cX1_swap 95 = .ok (.aload 4, 2) := dk_25 4 (dk_at dksX1_swap_4 1 rfl rfl)
theorem dX1_swap_97 : decode cX1_swap 97 = .ok (.invokevirtual 225, 3) := dk_182 0 225 (dk_at dksX1_swap_4 3 rfl rfl)
theorem dX1_swap_100 : decode cX1_swap 100 = .ok (.ireturn, 1) := dk_172 (dk_at dksX1_swap_4 6 rfl rfl)
abbrev cX1_sent : ByteArray := prog_1_method_33_code
def yX1_sent : MethodName := ⟨RX1, "sent", "(I)I"⟩
def dkwX1_sent_4 : List UInt8 := [180, 1, 42, 172]
abbrev dktX1_sent_4 : List UInt8 := dkwX1_sent_4 ++ []
def dkwX1_sent_3 : List UInt8 := [100, 182, 1, 34, 167, 0, 21, 44, 182, 1, 37, 167, 0, 14, 44, 180, 1, 39, 167, 0, 7, 44]
abbrev dktX1_sent_3 : List UInt8 := dkwX1_sent_3 ++ dktX1_sent_4
def dkwX1_sent_2 : List UInt8 := [44, 180, 1, 26, 167, 0, 45, 44, 180, 1, 28, 167, 0, 38, 44, 180, 1, 31, 167, 0, 31, 44, 27, 6]
abbrev dktX1_sent_2 : List UInt8 := dkwX1_sent_2 ++ dktX1_sent_3
def dkwX1_sent_1 : List UInt8 := [170, 0, 0, 0, 94, 0, 0, 0, 0, 0, 0, 0, 8, 0, 0, 0, 49, 0, 0, 0, 56, 0, 0, 0, 63, 0, 0, 0, 70, 0, 0, 0, 70, 0, 0, 0, 70, 0, 0, 0, 70, 0, 0, 0, 80, 0, 0, 0, 87]
abbrev dktX1_sent_1 : List UInt8 := dkwX1_sent_1 ++ dktX1_sent_2
def dkwX1_sent_0 : List UInt8 := [27, 3, 16, 9, 184, 0, 84, 184, 0, 119, 42, 180, 0, 29, 184, 1, 21, 77, 27]
abbrev dktX1_sent_0 : List UInt8 := dkwX1_sent_0 ++ dktX1_sent_1
theorem dksX1_sent_0 : cX1_sent.data.toList.drop 0 = dktX1_sent_0 := by decide +kernel
theorem dksX1_sent_1 : cX1_sent.data.toList.drop 19 = dktX1_sent_1 := dk_seg dksX1_sent_0 19 rfl rfl
theorem dksX1_sent_2 : cX1_sent.data.toList.drop 68 = dktX1_sent_2 := dk_seg dksX1_sent_1 49 rfl rfl
theorem dksX1_sent_3 : cX1_sent.data.toList.drop 92 = dktX1_sent_3 := dk_seg dksX1_sent_2 24 rfl rfl
theorem dksX1_sent_4 : cX1_sent.data.toList.drop 114 = dktX1_sent_4 := dk_seg dksX1_sent_3 22 rfl rfl
theorem dX1_sent_0 : decode cX1_sent 0 = .ok (.iload_n 1, 1) := dk_27 (dk_at dksX1_sent_0 0 rfl rfl)
theorem dX1_sent_1 : decode cX1_sent 1 = .ok (.iconst 0, 1) := dk_3 (dk_at dksX1_sent_0 1 rfl rfl)
theorem dX1_sent_2 : decode cX1_sent 2 = .ok (.bipush 9, 2) := dk_16 9 (dk_at dksX1_sent_0 2 rfl rfl)
theorem dX1_sent_4 : decode cX1_sent 4 = .ok (.invokestatic 84, 3) := dk_184 0 84 (dk_at dksX1_sent_0 4 rfl rfl)
theorem dX1_sent_7 : decode cX1_sent 7 = .ok (.invokestatic 119, 3) := dk_184 0 119 (dk_at dksX1_sent_0 7 rfl rfl)
theorem dX1_sent_10 : decode cX1_sent 10 = .ok (.aload_n 0, 1) := dk_42 (dk_at dksX1_sent_0 10 rfl rfl)
theorem dX1_sent_11 : decode cX1_sent 11 = .ok (.getfield 29, 3) := dk_180 0 29 (dk_at dksX1_sent_0 11 rfl rfl)
theorem dX1_sent_14 : decode cX1_sent 14 = .ok (.invokestatic 277, 3) := dk_184 1 21 (dk_at dksX1_sent_0 14 rfl rfl)
theorem dX1_sent_17 : decode cX1_sent 17 = .ok (.astore_n 2, 1) := dk_77 (dk_at dksX1_sent_0 17 rfl rfl)
theorem dX1_sent_18 : decode cX1_sent 18 = .ok (.iload_n 1, 1) := dk_27 (dk_at dksX1_sent_0 18 rfl rfl)
theorem dX1_sent_19 : decode cX1_sent 19 = .ok (.tableswitch 94 0 8 #[49, 56, 63, 70, 70, 70, 70, 80, 87], 49) := by decide +kernel
theorem dX1_sent_68 : decode cX1_sent 68 = .ok (.aload_n 2, 1) := dk_44 (dk_at dksX1_sent_2 0 rfl rfl)
theorem dX1_sent_69 : decode cX1_sent 69 = .ok (.getfield 282, 3) := dk_180 1 26 (dk_at dksX1_sent_2 1 rfl rfl)
theorem dX1_sent_72 : decode cX1_sent 72 = .ok (.goto 45, 3) := dk_167 0 45 (dk_at dksX1_sent_2 4 rfl rfl)
theorem dX1_sent_75 : decode cX1_sent 75 = .ok (.aload_n 2, 1) := dk_44 (dk_at dksX1_sent_2 7 rfl rfl)
theorem dX1_sent_76 : decode cX1_sent 76 = .ok (.getfield 284, 3) := dk_180 1 28 (dk_at dksX1_sent_2 8 rfl rfl)
theorem dX1_sent_79 : decode cX1_sent 79 = .ok (.goto 38, 3) := dk_167 0 38 (dk_at dksX1_sent_2 11 rfl rfl)
theorem dX1_sent_82 : decode cX1_sent 82 = .ok (.aload_n 2, 1) := dk_44 (dk_at dksX1_sent_2 14 rfl rfl)
theorem dX1_sent_83 : decode cX1_sent 83 = .ok (.getfield 287, 3) := dk_180 1 31 (dk_at dksX1_sent_2 15 rfl rfl)
theorem dX1_sent_86 : decode cX1_sent 86 = .ok (.goto 31, 3) := dk_167 0 31 (dk_at dksX1_sent_2 18 rfl rfl)
theorem dX1_sent_89 : decode cX1_sent 89 = .ok (.aload_n 2, 1) := dk_44 (dk_at dksX1_sent_2 21 rfl rfl)
theorem dX1_sent_90 : decode cX1_sent 90 = .ok (.iload_n 1, 1) := dk_27 (dk_at dksX1_sent_2 22 rfl rfl)
theorem dX1_sent_91 : decode cX1_sent 91 = .ok (.iconst 3, 1) := dk_6 (dk_at dksX1_sent_2 23 rfl rfl)
theorem dX1_sent_92 : decode cX1_sent 92 = .ok (.isub, 1) := dk_100 (dk_at dksX1_sent_3 0 rfl rfl)
theorem dX1_sent_93 : decode cX1_sent 93 = .ok (.invokevirtual 290, 3) := dk_182 1 34 (dk_at dksX1_sent_3 1 rfl rfl)
theorem dX1_sent_96 : decode cX1_sent 96 = .ok (.goto 21, 3) := dk_167 0 21 (dk_at dksX1_sent_3 4 rfl rfl)
theorem dX1_sent_99 : decode cX1_sent 99 = .ok (.aload_n 2, 1) := dk_44 (dk_at dksX1_sent_3 7 rfl rfl)
theorem dX1_sent_100 : decode cX1_sent 100 = .ok (.invokevirtual 293, 3) := dk_182 1 37 (dk_at dksX1_sent_3 8 rfl rfl)
theorem dX1_sent_103 : decode cX1_sent 103 = .ok (.goto 14, 3) := dk_167 0 14 (dk_at dksX1_sent_3 11 rfl rfl)
theorem dX1_sent_106 : decode cX1_sent 106 = .ok (.aload_n 2, 1) := dk_44 (dk_at dksX1_sent_3 14 rfl rfl)
theorem dX1_sent_107 : decode cX1_sent 107 = .ok (.getfield 295, 3) := dk_180 1 39 (dk_at dksX1_sent_3 15 rfl rfl)
theorem dX1_sent_110 : decode cX1_sent 110 = .ok (.goto 7, 3) := dk_167 0 7 (dk_at dksX1_sent_3 18 rfl rfl)
theorem dX1_sent_113 : decode cX1_sent 113 = .ok (.aload_n 2, 1) := dk_44 (dk_at dksX1_sent_3 21 rfl rfl)
theorem dX1_sent_114 : decode cX1_sent 114 = .ok (.getfield 298, 3) := dk_180 1 42 (dk_at dksX1_sent_4 0 rfl rfl)
theorem dX1_sent_117 : decode cX1_sent 117 = .ok (.ireturn, 1) := dk_172 (dk_at dksX1_sent_4 3 rfl rfl)
abbrev cX1_sentLine : ByteArray := prog_1_method_34_code
def yX1_sentLine : MethodName := ⟨RX1, "sentLine", "(II)I"⟩
def dkwX1_sentLine_4 : List UInt8 := [167, 0, 17, 45, 27, 182, 1, 54, 167, 0, 9, 45, 180, 1, 57, 27, 46, 172]
abbrev dktX1_sentLine_4 : List UInt8 := dkwX1_sentLine_4 ++ []
def dkwX1_sentLine_3 : List UInt8 := [45, 180, 1, 45, 27, 46, 167, 0, 35, 45, 180, 1, 48, 27, 46, 167, 0, 26, 45, 180, 1, 51, 27, 46]
abbrev dktX1_sentLine_3 : List UInt8 := dkwX1_sentLine_3 ++ dktX1_sentLine_4
def dkwX1_sentLine_2 : List UInt8 := [170, 0, 0, 0, 0, 65, 0, 0, 0, 0, 0, 0, 0, 3, 0, 0, 0, 30, 0, 0, 0, 39, 0, 0, 0, 48, 0, 0, 0, 57]
abbrev dktX1_sentLine_2 : List UInt8 := dkwX1_sentLine_2 ++ dktX1_sentLine_3
def dkwX1_sentLine_1 : List UInt8 := [78, 28]
abbrev dktX1_sentLine_1 : List UInt8 := dkwX1_sentLine_1 ++ dktX1_sentLine_2
def dkwX1_sentLine_0 : List UInt8 := [42, 27, 182, 0, 88, 184, 0, 92, 28, 3, 7, 184, 0, 84, 184, 0, 119, 42, 180, 0, 29, 184, 1, 21]
abbrev dktX1_sentLine_0 : List UInt8 := dkwX1_sentLine_0 ++ dktX1_sentLine_1
theorem dksX1_sentLine_0 : cX1_sentLine.data.toList.drop 0 = dktX1_sentLine_0 := by decide +kernel
theorem dksX1_sentLine_1 : cX1_sentLine.data.toList.drop 24 = dktX1_sentLine_1 := dk_seg dksX1_sentLine_0 24 rfl rfl
theorem dksX1_sentLine_2 : cX1_sentLine.data.toList.drop 26 = dktX1_sentLine_2 := dk_seg dksX1_sentLine_1 2 rfl rfl
theorem dksX1_sentLine_3 : cX1_sentLine.data.toList.drop 56 = dktX1_sentLine_3 := dk_seg dksX1_sentLine_2 30 rfl rfl
theorem dksX1_sentLine_4 : cX1_sentLine.data.toList.drop 80 = dktX1_sentLine_4 := dk_seg dksX1_sentLine_3 24 rfl rfl
theorem dX1_sentLine_0 : decode cX1_sentLine 0 = .ok (.aload_n 0, 1) := dk_42 (dk_at dksX1_sentLine_0 0 rfl rfl)
theorem dX1_sentLine_1 : decode cX1_sentLine 1 = .ok (.iload_n 1, 1) := dk_27 (dk_at dksX1_sentLine_0 1 rfl rfl)
theorem dX1_sentLine_2 : decode cX1_sentLine 2 = .ok (.invokevirtual 88, 3) := dk_182 0 88 (dk_at dksX1_sentLine_0 2 rfl rfl)
theorem dX1_sentLine_5 : decode cX1_sentLine 5 = .ok (.invokestatic 92, 3) := dk_184 0 92 (dk_at dksX1_sentLine_0 5 rfl rfl)
theorem dX1_sentLine_8 : decode cX1_sentLine 8 = .ok (.iload_n 2, 1) := dk_28 (dk_at dksX1_sentLine_0 8 rfl rfl)
theorem dX1_sentLine_9 : decode cX1_sentLine 9 = .ok (.iconst 0, 1) := dk_3 (dk_at dksX1_sentLine_0 9 rfl rfl)
theorem dX1_sentLine_10 : decode cX1_sentLine 10 = .ok (.iconst 4, 1) := dk_7 (dk_at dksX1_sentLine_0 10 rfl rfl)
theorem dX1_sentLine_11 : decode cX1_sentLine 11 = .ok (.invokestatic 84, 3) := dk_184 0 84 (dk_at dksX1_sentLine_0 11 rfl rfl)
theorem dX1_sentLine_14 : decode cX1_sentLine 14 = .ok (.invokestatic 119, 3) := dk_184 0 119 (dk_at dksX1_sentLine_0 14 rfl rfl)
theorem dX1_sentLine_17 : decode cX1_sentLine 17 = .ok (.aload_n 0, 1) := dk_42 (dk_at dksX1_sentLine_0 17 rfl rfl)
theorem dX1_sentLine_18 : decode cX1_sentLine 18 = .ok (.getfield 29, 3) := dk_180 0 29 (dk_at dksX1_sentLine_0 18 rfl rfl)
theorem dX1_sentLine_21 : decode cX1_sentLine 21 = .ok (.invokestatic 277, 3) := dk_184 1 21 (dk_at dksX1_sentLine_0 21 rfl rfl)
theorem dX1_sentLine_24 : decode cX1_sentLine 24 = .ok (.astore_n 3, 1) := dk_78 (dk_at dksX1_sentLine_1 0 rfl rfl)
theorem dX1_sentLine_25 : decode cX1_sentLine 25 = .ok (.iload_n 2, 1) := dk_28 (dk_at dksX1_sentLine_1 1 rfl rfl)
theorem dX1_sentLine_26 : decode cX1_sentLine 26 = .ok (.tableswitch 65 0 3 #[30, 39, 48, 57], 30) := by decide +kernel
theorem dX1_sentLine_56 : decode cX1_sentLine 56 = .ok (.aload_n 3, 1) := dk_45 (dk_at dksX1_sentLine_3 0 rfl rfl)
theorem dX1_sentLine_57 : decode cX1_sentLine 57 = .ok (.getfield 301, 3) := dk_180 1 45 (dk_at dksX1_sentLine_3 1 rfl rfl)
theorem dX1_sentLine_60 : decode cX1_sentLine 60 = .ok (.iload_n 1, 1) := dk_27 (dk_at dksX1_sentLine_3 4 rfl rfl)
theorem dX1_sentLine_61 : decode cX1_sentLine 61 = .ok (.iaload, 1) := dk_46 (dk_at dksX1_sentLine_3 5 rfl rfl)
theorem dX1_sentLine_62 : decode cX1_sentLine 62 = .ok (.goto 35, 3) := dk_167 0 35 (dk_at dksX1_sentLine_3 6 rfl rfl)
theorem dX1_sentLine_65 : decode cX1_sentLine 65 = .ok (.aload_n 3, 1) := dk_45 (dk_at dksX1_sentLine_3 9 rfl rfl)
theorem dX1_sentLine_66 : decode cX1_sentLine 66 = .ok (.getfield 304, 3) := dk_180 1 48 (dk_at dksX1_sentLine_3 10 rfl rfl)
theorem dX1_sentLine_69 : decode cX1_sentLine 69 = .ok (.iload_n 1, 1) := dk_27 (dk_at dksX1_sentLine_3 13 rfl rfl)
theorem dX1_sentLine_70 : decode cX1_sentLine 70 = .ok (.iaload, 1) := dk_46 (dk_at dksX1_sentLine_3 14 rfl rfl)
theorem dX1_sentLine_71 : decode cX1_sentLine 71 = .ok (.goto 26, 3) := dk_167 0 26 (dk_at dksX1_sentLine_3 15 rfl rfl)
theorem dX1_sentLine_74 : decode cX1_sentLine 74 = .ok (.aload_n 3, 1) := dk_45 (dk_at dksX1_sentLine_3 18 rfl rfl)
theorem dX1_sentLine_75 : decode cX1_sentLine 75 = .ok (.getfield 307, 3) := dk_180 1 51 (dk_at dksX1_sentLine_3 19 rfl rfl)
theorem dX1_sentLine_78 : decode cX1_sentLine 78 = .ok (.iload_n 1, 1) := dk_27 (dk_at dksX1_sentLine_3 22 rfl rfl)
theorem dX1_sentLine_79 : decode cX1_sentLine 79 = .ok (.iaload, 1) := dk_46 (dk_at dksX1_sentLine_3 23 rfl rfl)
theorem dX1_sentLine_80 : decode cX1_sentLine 80 = .ok (.goto 17, 3) := dk_167 0 17 (dk_at dksX1_sentLine_4 0 rfl rfl)
theorem dX1_sentLine_83 : decode cX1_sentLine 83 = .ok (.aload_n 3, 1) := dk_45 (dk_at dksX1_sentLine_4 3 rfl rfl)
theorem dX1_sentLine_84 : decode cX1_sentLine 84 = .ok (.iload_n 1, 1) := dk_27 (dk_at dksX1_sentLine_4 4 rfl rfl)
theorem dX1_sentLine_85 : decode cX1_sentLine 85 = .ok (.invokevirtual 310, 3) := dk_182 1 54 (dk_at dksX1_sentLine_4 5 rfl rfl)
theorem dX1_sentLine_88 : decode cX1_sentLine 88 = .ok (.goto 9, 3) := dk_167 0 9 (dk_at dksX1_sentLine_4 8 rfl rfl)
theorem dX1_sentLine_91 : decode cX1_sentLine 91 = .ok (.aload_n 3, 1) := dk_45 (dk_at dksX1_sentLine_4 11 rfl rfl)
theorem dX1_sentLine_92 : decode cX1_sentLine 92 = .ok (.getfield 313, 3) := dk_180 1 57 (dk_at dksX1_sentLine_4 12 rfl rfl)
theorem dX1_sentLine_95 : decode cX1_sentLine 95 = .ok (.iload_n 1, 1) := dk_27 (dk_at dksX1_sentLine_4 15 rfl rfl)
theorem dX1_sentLine_96 : decode cX1_sentLine 96 = .ok (.iaload, 1) := dk_46 (dk_at dksX1_sentLine_4 16 rfl rfl)
theorem dX1_sentLine_97 : decode cX1_sentLine 97 = .ok (.ireturn, 1) := dk_172 (dk_at dksX1_sentLine_4 17 rfl rfl)
abbrev cX1_received : ByteArray := prog_1_method_35_code
def yX1_received : MethodName := ⟨RX1, "received", "(II)I"⟩
def dkwX1_received_2 : List UInt8 := [182, 0, 141, 172]
abbrev dktX1_received_2 : List UInt8 := dkwX1_received_2 ++ []
def dkwX1_received_1 : List UInt8 := [153, 0, 7, 4, 167, 0, 4, 3, 184, 0, 92, 42, 180, 0, 29, 184, 1, 21, 180, 1, 60, 27, 50, 28]
abbrev dktX1_received_1 : List UInt8 := dkwX1_received_1 ++ dktX1_received_2
def dkwX1_received_0 : List UInt8 := [42, 27, 182, 0, 88, 153, 0, 24, 28, 3, 42, 180, 0, 29, 180, 0, 122, 4, 100, 184, 0, 84]
abbrev dktX1_received_0 : List UInt8 := dkwX1_received_0 ++ dktX1_received_1
theorem dksX1_received_0 : cX1_received.data.toList.drop 0 = dktX1_received_0 := by decide +kernel
theorem dksX1_received_1 : cX1_received.data.toList.drop 22 = dktX1_received_1 := dk_seg dksX1_received_0 22 rfl rfl
theorem dksX1_received_2 : cX1_received.data.toList.drop 46 = dktX1_received_2 := dk_seg dksX1_received_1 24 rfl rfl
theorem dX1_received_0 : decode cX1_received 0 = .ok (.aload_n 0, 1) := dk_42 (dk_at dksX1_received_0 0 rfl rfl)
theorem dX1_received_1 : decode cX1_received 1 = .ok (.iload_n 1, 1) := dk_27 (dk_at dksX1_received_0 1 rfl rfl)
theorem dX1_received_2 : decode cX1_received 2 = .ok (.invokevirtual 88, 3) := dk_182 0 88 (dk_at dksX1_received_0 2 rfl rfl)
theorem dX1_received_5 : decode cX1_received 5 = .ok (.ifCond .eq 24, 3) := dk_153 0 24 (dk_at dksX1_received_0 5 rfl rfl)
theorem dX1_received_8 : decode cX1_received 8 = .ok (.iload_n 2, 1) := dk_28 (dk_at dksX1_received_0 8 rfl rfl)
theorem dX1_received_9 : decode cX1_received 9 = .ok (.iconst 0, 1) := dk_3 (dk_at dksX1_received_0 9 rfl rfl)
theorem dX1_received_10 : decode cX1_received 10 = .ok (.aload_n 0, 1) := dk_42 (dk_at dksX1_received_0 10 rfl rfl)
theorem dX1_received_11 : decode cX1_received 11 = .ok (.getfield 29, 3) := dk_180 0 29 (dk_at dksX1_received_0 11 rfl rfl)
theorem dX1_received_14 : decode cX1_received 14 = .ok (.getfield 122, 3) := dk_180 0 122 (dk_at dksX1_received_0 14 rfl rfl)
theorem dX1_received_17 : decode cX1_received 17 = .ok (.iconst 1, 1) := dk_4 (dk_at dksX1_received_0 17 rfl rfl)
theorem dX1_received_18 : decode cX1_received 18 = .ok (.isub, 1) := dk_100 (dk_at dksX1_received_0 18 rfl rfl)
theorem dX1_received_19 : decode cX1_received 19 = .ok (.invokestatic 84, 3) := dk_184 0 84 (dk_at dksX1_received_0 19 rfl rfl)
theorem dX1_received_22 : decode cX1_received 22 = .ok (.ifCond .eq 7, 3) := dk_153 0 7 (dk_at dksX1_received_1 0 rfl rfl)
theorem dX1_received_25 : decode cX1_received 25 = .ok (.iconst 1, 1) := dk_4 (dk_at dksX1_received_1 3 rfl rfl)
theorem dX1_received_26 : decode cX1_received 26 = .ok (.goto 4, 3) := dk_167 0 4 (dk_at dksX1_received_1 4 rfl rfl)
theorem dX1_received_29 : decode cX1_received 29 = .ok (.iconst 0, 1) := dk_3 (dk_at dksX1_received_1 7 rfl rfl)
theorem dX1_received_30 : decode cX1_received 30 = .ok (.invokestatic 92, 3) := dk_184 0 92 (dk_at dksX1_received_1 8 rfl rfl)
theorem dX1_received_33 : decode cX1_received 33 = .ok (.aload_n 0, 1) := dk_42 (dk_at dksX1_received_1 11 rfl rfl)
theorem dX1_received_34 : decode cX1_received 34 = .ok (.getfield 29, 3) := dk_180 0 29 (dk_at dksX1_received_1 12 rfl rfl)
theorem dX1_received_37 : decode cX1_received 37 = .ok (.invokestatic 277, 3) := dk_184 1 21 (dk_at dksX1_received_1 15 rfl rfl)
theorem dX1_received_40 : decode cX1_received 40 = .ok (.getfield 316, 3) := dk_180 1 60 (dk_at dksX1_received_1 18 rfl rfl)
theorem dX1_received_43 : decode cX1_received 43 = .ok (.iload_n 1, 1) := dk_27 (dk_at dksX1_received_1 21 rfl rfl)
theorem dX1_received_44 : decode cX1_received 44 = .ok (.aaload, 1) := dk_50 (dk_at dksX1_received_1 22 rfl rfl)
theorem dX1_received_45 : decode cX1_received 45 = .ok (.iload_n 2, 1) := dk_28 (dk_at dksX1_received_1 23 rfl rfl)
theorem dX1_received_46 : decode cX1_received 46 = .ok (.invokevirtual 141, 3) := dk_182 0 141 (dk_at dksX1_received_2 0 rfl rfl)
theorem dX1_received_49 : decode cX1_received 49 = .ok (.ireturn, 1) := dk_172 (dk_at dksX1_received_2 3 rfl rfl)
abbrev cX1_harm : ByteArray := prog_1_method_38_code
def yX1_harm : MethodName := ⟨RX1, "harm", "(II)I"⟩
def dkwX1_harm_4 : List UInt8 := [172]
abbrev dktX1_harm_4 : List UInt8 := dkwX1_harm_4 ++ []
def dkwX1_harm_3 : List UInt8 := [132, 4, 1, 21, 6, 54, 5, 132, 6, 1, 167, 255, 217, 28, 154, 0, 8, 21, 4, 167, 0, 5, 21, 5]
abbrev dktX1_harm_3 : List UInt8 := dkwX1_harm_3 ++ dktX1_harm_4
def dkwX1_harm_2 : List UInt8 := [180, 0, 77, 185, 0, 81, 1, 0, 162, 0, 28, 45, 21, 6, 182, 1, 54, 154, 0, 6, 167, 0, 10]
abbrev dktX1_harm_2 : List UInt8 := dkwX1_harm_2 ++ dktX1_harm_3
def dkwX1_harm_1 : List UInt8 := [4, 160, 0, 8, 45, 182, 1, 37, 172, 3, 54, 4, 2, 54, 5, 3, 54, 6, 21, 6, 42, 180, 0, 29]
abbrev dktX1_harm_1 : List UInt8 := dkwX1_harm_1 ++ dktX1_harm_2
def dkwX1_harm_0 : List UInt8 := [42, 27, 182, 0, 88, 184, 0, 92, 28, 3, 5, 184, 0, 84, 184, 0, 119, 42, 27, 182, 1, 67, 78, 28]
abbrev dktX1_harm_0 : List UInt8 := dkwX1_harm_0 ++ dktX1_harm_1
theorem dksX1_harm_0 : cX1_harm.data.toList.drop 0 = dktX1_harm_0 := by decide +kernel
theorem dksX1_harm_1 : cX1_harm.data.toList.drop 24 = dktX1_harm_1 := dk_seg dksX1_harm_0 24 rfl rfl
theorem dksX1_harm_2 : cX1_harm.data.toList.drop 48 = dktX1_harm_2 := dk_seg dksX1_harm_1 24 rfl rfl
theorem dksX1_harm_3 : cX1_harm.data.toList.drop 71 = dktX1_harm_3 := dk_seg dksX1_harm_2 23 rfl rfl
theorem dksX1_harm_4 : cX1_harm.data.toList.drop 95 = dktX1_harm_4 := dk_seg dksX1_harm_3 24 rfl rfl
theorem dX1_harm_0 : decode cX1_harm 0 = .ok (.aload_n 0, 1) := dk_42 (dk_at dksX1_harm_0 0 rfl rfl)
theorem dX1_harm_1 : decode cX1_harm 1 = .ok (.iload_n 1, 1) := dk_27 (dk_at dksX1_harm_0 1 rfl rfl)
theorem dX1_harm_2 : decode cX1_harm 2 = .ok (.invokevirtual 88, 3) := dk_182 0 88 (dk_at dksX1_harm_0 2 rfl rfl)
theorem dX1_harm_5 : decode cX1_harm 5 = .ok (.invokestatic 92, 3) := dk_184 0 92 (dk_at dksX1_harm_0 5 rfl rfl)
theorem dX1_harm_8 : decode cX1_harm 8 = .ok (.iload_n 2, 1) := dk_28 (dk_at dksX1_harm_0 8 rfl rfl)
theorem dX1_harm_9 : decode cX1_harm 9 = .ok (.iconst 0, 1) := dk_3 (dk_at dksX1_harm_0 9 rfl rfl)
theorem dX1_harm_10 : decode cX1_harm 10 = .ok (.iconst 2, 1) := dk_5 (dk_at dksX1_harm_0 10 rfl rfl)
theorem dX1_harm_11 : decode cX1_harm 11 = .ok (.invokestatic 84, 3) := dk_184 0 84 (dk_at dksX1_harm_0 11 rfl rfl)
theorem dX1_harm_14 : decode cX1_harm 14 = .ok (.invokestatic 119, 3) := dk_184 0 119 (dk_at dksX1_harm_0 14 rfl rfl)
theorem dX1_harm_17 : decode cX1_harm 17 = .ok (.aload_n 0, 1) := dk_42 (dk_at dksX1_harm_0 17 rfl rfl)
theorem dX1_harm_18 : decode cX1_harm 18 = .ok (.iload_n 1, 1) := dk_27 (dk_at dksX1_harm_0 18 rfl rfl)
theorem dX1_harm_19 : decode cX1_harm 19 = .ok (.invokevirtual 323, 3) := dk_182 1 67 (dk_at dksX1_harm_0 19 rfl rfl)
theorem dX1_harm_22 : decode cX1_harm 22 = .ok (.astore_n 3, 1) := dk_78 (dk_at dksX1_harm_0 22 rfl rfl)
theorem dX1_harm_23 : decode cX1_harm 23 = .ok (.iload_n 2, 1) := dk_28 (dk_at dksX1_harm_0 23 rfl rfl)
theorem dX1_harm_24 : decode cX1_harm 24 = .ok (.iconst 1, 1) := dk_4 (dk_at dksX1_harm_1 0 rfl rfl)
theorem dX1_harm_25 : decode cX1_harm 25 = .ok (.if_icmp .ne 8, 3) := dk_160 0 8 (dk_at dksX1_harm_1 1 rfl rfl)
theorem dX1_harm_28 : decode cX1_harm 28 = .ok (.aload_n 3, 1) := dk_45 (dk_at dksX1_harm_1 4 rfl rfl)
theorem dX1_harm_29 : decode cX1_harm 29 = .ok (.invokevirtual 293, 3) := dk_182 1 37 (dk_at dksX1_harm_1 5 rfl rfl)
theorem dX1_harm_32 : decode cX1_harm 32 = .ok (.ireturn, 1) := dk_172 (dk_at dksX1_harm_1 8 rfl rfl)
theorem dX1_harm_33 : decode cX1_harm 33 = .ok (.iconst 0, 1) := dk_3 (dk_at dksX1_harm_1 9 rfl rfl)
theorem dX1_harm_34 : decode cX1_harm 34 = .ok (.istore 4, 2) := dk_54 4 (dk_at dksX1_harm_1 10 rfl rfl)
theorem dX1_harm_36 : decode cX1_harm 36 = .ok (.iconst (-1), 1) := dk_2 (dk_at dksX1_harm_1 12 rfl rfl)
theorem dX1_harm_37 : decode cX1_harm 37 = .ok (.istore 5, 2) := dk_54 5 (dk_at dksX1_harm_1 13 rfl rfl)
theorem dX1_harm_39 : decode cX1_harm 39 = .ok (.iconst 0, 1) := dk_3 (dk_at dksX1_harm_1 15 rfl rfl)
theorem dX1_harm_40 : decode cX1_harm 40 = .ok (.istore 6, 2) := dk_54 6 (dk_at dksX1_harm_1 16 rfl rfl)
theorem dX1_harm_42 : decode cX1_harm 42 = .ok (.iload 6, 2) := dk_21 6 (dk_at dksX1_harm_1 18 rfl rfl)
theorem dX1_harm_44 : decode cX1_harm 44 = .ok (.aload_n 0, 1) := dk_42 (dk_at dksX1_harm_1 20 rfl rfl)
theorem dX1_harm_45 : decode cX1_harm 45 = .ok (.getfield 29, 3) := dk_180 0 29 (dk_at dksX1_harm_1 21 rfl rfl)
theorem dX1_harm_48 : decode cX1_harm 48 = .ok (.getfield 77, 3) := dk_180 0 77 (dk_at dksX1_harm_2 0 rfl rfl)
theorem dX1_harm_51 : decode cX1_harm 51 = .ok (.invokeinterface 81 1, 5) := by decide +kernel
theorem dX1_harm_56 : decode cX1_harm 56 = .ok (.if_icmp .ge 28, 3) := dk_162 0 28 (dk_at dksX1_harm_2 8 rfl rfl)
theorem dX1_harm_59 : decode cX1_harm 59 = .ok (.aload_n 3, 1) := dk_45 (dk_at dksX1_harm_2 11 rfl rfl)
theorem dX1_harm_60 : decode cX1_harm 60 = .ok (.iload 6, 2) := dk_21 6 (dk_at dksX1_harm_2 12 rfl rfl)
theorem dX1_harm_62 : decode cX1_harm 62 = .ok (.invokevirtual 310, 3) := dk_182 1 54 (dk_at dksX1_harm_2 14 rfl rfl)
theorem dX1_harm_65 : decode cX1_harm 65 = .ok (.ifCond .ne 6, 3) := dk_154 0 6 (dk_at dksX1_harm_2 17 rfl rfl)
theorem dX1_harm_68 : decode cX1_harm 68 = .ok (.goto 10, 3) := dk_167 0 10 (dk_at dksX1_harm_2 20 rfl rfl)
theorem dX1_harm_71 : decode cX1_harm 71 = .ok (.iinc 4 1, 3) := dk_132 4 1 (dk_at dksX1_harm_3 0 rfl rfl)
theorem dX1_harm_74 : decode cX1_harm 74 = .ok (.iload 6, 2) := dk_21 6 (dk_at dksX1_harm_3 3 rfl rfl)
theorem dX1_harm_76 : decode cX1_harm 76 = .ok (.istore 5, 2) := dk_54 5 (dk_at dksX1_harm_3 5 rfl rfl)
theorem dX1_harm_78 : decode cX1_harm 78 = .ok (.iinc 6 1, 3) := dk_132 6 1 (dk_at dksX1_harm_3 7 rfl rfl)
theorem dX1_harm_81 : decode cX1_harm 81 = .ok (.goto (-39), 3) := dk_167 255 217 (dk_at dksX1_harm_3 10 rfl rfl)
theorem dX1_harm_84 : decode cX1_harm 84 = .ok (.iload_n 2, 1) := dk_28 (dk_at dksX1_harm_3 13 rfl rfl)
theorem dX1_harm_85 : decode cX1_harm 85 = .ok (.ifCond .ne 8, 3) := dk_154 0 8 (dk_at dksX1_harm_3 14 rfl rfl)
theorem dX1_harm_88 : decode cX1_harm 88 = .ok (.iload 4, 2) := dk_21 4 (dk_at dksX1_harm_3 17 rfl rfl)
theorem dX1_harm_90 : decode cX1_harm 90 = .ok (.goto 5, 3) := dk_167 0 5 (dk_at dksX1_harm_3 19 rfl rfl)
theorem dX1_harm_93 : decode cX1_harm 93 = .ok (.iload 5, 2) := dk_21 5 (dk_at dksX1_harm_3 22 rfl rfl)
theorem dX1_harm_95 : decode cX1_harm 95 = .ok (.ireturn, 1) := dk_172 (dk_at dksX1_harm_4 0 rfl rfl)
abbrev cX1_write : ByteArray := prog_1_method_44_code
def yX1_write : MethodName := ⟨RX1, "write", "(I)I"⟩
def dkwX1_write_6 : List UInt8 := [180, 0, 49, 182, 1, 110, 172]
abbrev dktX1_write_6 : List UInt8 := dkwX1_write_6 ++ []
def dkwX1_write_5 : List UInt8 := [153, 0, 23, 45, 185, 1, 103, 1, 0, 192, 0, 191, 58, 4, 42, 25, 4, 182, 1, 106, 167, 255, 230, 42]
abbrev dktX1_write_5 : List UInt8 := dkwX1_write_5 ++ dktX1_write_6
def dkwX1_write_4 : List UInt8 := [19, 1, 93, 182, 1, 90, 87, 44, 180, 0, 173, 185, 1, 94, 1, 0, 78, 45, 185, 1, 98, 1, 0]
abbrev dktX1_write_4 : List UInt8 := dkwX1_write_4 ++ dktX1_write_5
def dkwX1_write_3 : List UInt8 := [180, 0, 164, 29, 182, 0, 188, 182, 1, 83, 87, 132, 3, 1, 167, 255, 221, 167, 0, 53, 42, 180, 0, 49]
abbrev dktX1_write_3 : List UInt8 := dkwX1_write_3 ++ dktX1_write_4
def dkwX1_write_2 : List UInt8 := [62, 29, 44, 180, 0, 164, 182, 0, 168, 162, 0, 30, 42, 180, 0, 49, 16, 32, 182, 1, 75, 44]
abbrev dktX1_write_2 : List UInt8 := dkwX1_write_2 ++ dktX1_write_3
def dkwX1_write_1 : List UInt8 := [77, 42, 180, 0, 29, 27, 182, 0, 102, 153, 0, 57, 42, 180, 0, 49, 19, 1, 89, 182, 1, 90, 87, 3]
abbrev dktX1_write_1 : List UInt8 := dkwX1_write_1 ++ dktX1_write_2
def dkwX1_write_0 : List UInt8 := [42, 27, 182, 0, 88, 184, 0, 92, 42, 180, 0, 49, 3, 182, 1, 86, 42, 180, 0, 29, 27, 182, 0, 148]
abbrev dktX1_write_0 : List UInt8 := dkwX1_write_0 ++ dktX1_write_1
theorem dksX1_write_0 : cX1_write.data.toList.drop 0 = dktX1_write_0 := by decide +kernel
theorem dksX1_write_1 : cX1_write.data.toList.drop 24 = dktX1_write_1 := dk_seg dksX1_write_0 24 rfl rfl
theorem dksX1_write_2 : cX1_write.data.toList.drop 48 = dktX1_write_2 := dk_seg dksX1_write_1 24 rfl rfl
theorem dksX1_write_3 : cX1_write.data.toList.drop 70 = dktX1_write_3 := dk_seg dksX1_write_2 22 rfl rfl
theorem dksX1_write_4 : cX1_write.data.toList.drop 94 = dktX1_write_4 := dk_seg dksX1_write_3 24 rfl rfl
theorem dksX1_write_5 : cX1_write.data.toList.drop 117 = dktX1_write_5 := dk_seg dksX1_write_4 23 rfl rfl
theorem dksX1_write_6 : cX1_write.data.toList.drop 141 = dktX1_write_6 := dk_seg dksX1_write_5 24 rfl rfl
theorem dX1_write_0 : decode cX1_write 0 = .ok (.aload_n 0, 1) := dk_42 (dk_at dksX1_write_0 0 rfl rfl)
theorem dX1_write_1 : decode cX1_write 1 = .ok (.iload_n 1, 1) := dk_27 (dk_at dksX1_write_0 1 rfl rfl)
theorem dX1_write_2 : decode cX1_write 2 = .ok (.invokevirtual 88, 3) := dk_182 0 88 (dk_at dksX1_write_0 2 rfl rfl)
theorem dX1_write_5 : decode cX1_write 5 = .ok (.invokestatic 92, 3) := dk_184 0 92 (dk_at dksX1_write_0 5 rfl rfl)
theorem dX1_write_8 : decode cX1_write 8 = .ok (.aload_n 0, 1) := dk_42 (dk_at dksX1_write_0 8 rfl rfl)
theorem dX1_write_9 : decode cX1_write 9 = .ok (.getfield 49, 3) := dk_180 0 49 (dk_at dksX1_write_0 9 rfl rfl)
theorem dX1_write_12 : decode cX1_write 12 = .ok (.iconst 0, 1) := dk_3 (dk_at dksX1_write_0 12 rfl rfl)
theorem dX1_write_13 : decode cX1_write 13 = .ok (.invokevirtual 342, 3) := dk_182 1 86 (dk_at dksX1_write_0 13 rfl rfl)
theorem dX1_write_16 : decode cX1_write 16 = .ok (.aload_n 0, 1) := dk_42 (dk_at dksX1_write_0 16 rfl rfl)
theorem dX1_write_17 : decode cX1_write 17 = .ok (.getfield 29, 3) := dk_180 0 29 (dk_at dksX1_write_0 17 rfl rfl)
theorem dX1_write_20 : decode cX1_write 20 = .ok (.iload_n 1, 1) := dk_27 (dk_at dksX1_write_0 20 rfl rfl)
theorem dX1_write_21 : decode cX1_write 21 = .ok (.invokevirtual 148, 3) := dk_182 0 148 (dk_at dksX1_write_0 21 rfl rfl)
theorem dX1_write_24 : decode cX1_write 24 = .ok (.astore_n 2, 1) := dk_77 (dk_at dksX1_write_1 0 rfl rfl)
theorem dX1_write_25 : decode cX1_write 25 = .ok (.aload_n 0, 1) := dk_42 (dk_at dksX1_write_1 1 rfl rfl)
theorem dX1_write_26 : decode cX1_write 26 = .ok (.getfield 29, 3) := dk_180 0 29 (dk_at dksX1_write_1 2 rfl rfl)
theorem dX1_write_29 : decode cX1_write 29 = .ok (.iload_n 1, 1) := dk_27 (dk_at dksX1_write_1 5 rfl rfl)
theorem dX1_write_30 : decode cX1_write 30 = .ok (.invokevirtual 102, 3) := dk_182 0 102 (dk_at dksX1_write_1 6 rfl rfl)
theorem dX1_write_33 : decode cX1_write 33 = .ok (.ifCond .eq 57, 3) := dk_153 0 57 (dk_at dksX1_write_1 9 rfl rfl)
theorem dX1_write_36 : decode cX1_write 36 = .ok (.aload_n 0, 1) := dk_42 (dk_at dksX1_write_1 12 rfl rfl)
theorem dX1_write_37 : decode cX1_write 37 = .ok (.getfield 49, 3) := dk_180 0 49 (dk_at dksX1_write_1 13 rfl rfl)
theorem dX1_write_40 : decode cX1_write 40 = .ok (.ldc_w 345, 3) := dk_19 1 89 (dk_at dksX1_write_1 16 rfl rfl)
theorem dX1_write_43 : decode cX1_write 43 = .ok (.invokevirtual 346, 3) := dk_182 1 90 (dk_at dksX1_write_1 19 rfl rfl)
theorem dX1_write_46 : decode cX1_write 46 = .ok (.pop, 1) := dk_87 (dk_at dksX1_write_1 22 rfl rfl)
theorem dX1_write_47 : decode cX1_write 47 = .ok (.iconst 0, 1) := dk_3 (dk_at dksX1_write_1 23 rfl rfl)
theorem dX1_write_48 : decode cX1_write 48 = .ok (.istore_n 3, 1) := dk_62 (dk_at dksX1_write_2 0 rfl rfl)
theorem dX1_write_49 : decode cX1_write 49 = .ok (.iload_n 3, 1) := dk_29 (dk_at dksX1_write_2 1 rfl rfl)
theorem dX1_write_50 : decode cX1_write 50 = .ok (.aload_n 2, 1) := dk_44 (dk_at dksX1_write_2 2 rfl rfl)
theorem dX1_write_51 : decode cX1_write 51 = .ok (.getfield 164, 3) := dk_180 0 164 (dk_at dksX1_write_2 3 rfl rfl)
theorem dX1_write_54 : decode cX1_write 54 = .ok (.invokevirtual 168, 3) := dk_182 0 168 (dk_at dksX1_write_2 6 rfl rfl)
theorem dX1_write_57 : decode cX1_write 57 = .ok (.if_icmp .ge 30, 3) := dk_162 0 30 (dk_at dksX1_write_2 9 rfl rfl)
theorem dX1_write_60 : decode cX1_write 60 = .ok (.aload_n 0, 1) := dk_42 (dk_at dksX1_write_2 12 rfl rfl)
theorem dX1_write_61 : decode cX1_write 61 = .ok (.getfield 49, 3) := dk_180 0 49 (dk_at dksX1_write_2 13 rfl rfl)
theorem dX1_write_64 : decode cX1_write 64 = .ok (.bipush 32, 2) := dk_16 32 (dk_at dksX1_write_2 16 rfl rfl)
theorem dX1_write_66 : decode cX1_write 66 = .ok (.invokevirtual 331, 3) := dk_182 1 75 (dk_at dksX1_write_2 18 rfl rfl)
theorem dX1_write_69 : decode cX1_write 69 = .ok (.aload_n 2, 1) := dk_44 (dk_at dksX1_write_2 21 rfl rfl)
theorem dX1_write_70 : decode cX1_write 70 = .ok (.getfield 164, 3) := dk_180 0 164 (dk_at dksX1_write_3 0 rfl rfl)
theorem dX1_write_73 : decode cX1_write 73 = .ok (.iload_n 3, 1) := dk_29 (dk_at dksX1_write_3 3 rfl rfl)
theorem dX1_write_74 : decode cX1_write 74 = .ok (.invokevirtual 188, 3) := dk_182 0 188 (dk_at dksX1_write_3 4 rfl rfl)
theorem dX1_write_77 : decode cX1_write 77 = .ok (.invokevirtual 339, 3) := dk_182 1 83 (dk_at dksX1_write_3 7 rfl rfl)
theorem dX1_write_80 : decode cX1_write 80 = .ok (.pop, 1) := dk_87 (dk_at dksX1_write_3 10 rfl rfl)
theorem dX1_write_81 : decode cX1_write 81 = .ok (.iinc 3 1, 3) := dk_132 3 1 (dk_at dksX1_write_3 11 rfl rfl)
theorem dX1_write_84 : decode cX1_write 84 = .ok (.goto (-35), 3) := dk_167 255 221 (dk_at dksX1_write_3 14 rfl rfl)
theorem dX1_write_87 : decode cX1_write 87 = .ok (.goto 53, 3) := dk_167 0 53 (dk_at dksX1_write_3 17 rfl rfl)
theorem dX1_write_90 : decode cX1_write 90 = .ok (.aload_n 0, 1) := dk_42 (dk_at dksX1_write_3 20 rfl rfl)
theorem dX1_write_91 : decode cX1_write 91 = .ok (.getfield 49, 3) := dk_180 0 49 (dk_at dksX1_write_3 21 rfl rfl)
theorem dX1_write_94 : decode cX1_write 94 = .ok (.ldc_w 349, 3) := dk_19 1 93 (dk_at dksX1_write_4 0 rfl rfl)
theorem dX1_write_97 : decode cX1_write 97 = .ok (.invokevirtual 346, 3) := dk_182 1 90 (dk_at dksX1_write_4 3 rfl rfl)
theorem dX1_write_100 : decode cX1_write 100 = .ok (.pop, 1) := dk_87 (dk_at dksX1_write_4 6 rfl rfl)
theorem dX1_write_101 : decode cX1_write 101 = .ok (.aload_n 2, 1) := dk_44 (dk_at dksX1_write_4 7 rfl rfl)
theorem dX1_write_102 : decode cX1_write 102 = .ok (.getfield 173, 3) := dk_180 0 173 (dk_at dksX1_write_4 8 rfl rfl)
theorem dX1_write_105 : decode cX1_write 105 = .ok (.invokeinterface 350 1, 5) := by decide +kernel
theorem dX1_write_110 : decode cX1_write 110 = .ok (.astore_n 3, 1) := dk_78 (dk_at dksX1_write_4 16 rfl rfl)
theorem dX1_write_111 : decode cX1_write 111 = .ok (.aload_n 3, 1) := dk_45 (dk_at dksX1_write_4 17 rfl rfl)
theorem dX1_write_112 : decode cX1_write 112 = .ok (.invokeinterface 354 1, 5) := by decide +kernel
theorem dX1_write_117 : decode cX1_write 117 = .ok (.ifCond .eq 23, 3) := dk_153 0 23 (dk_at dksX1_write_5 0 rfl rfl)
theorem dX1_write_120 : decode cX1_write 120 = .ok (.aload_n 3, 1) := dk_45 (dk_at dksX1_write_5 3 rfl rfl)
theorem dX1_write_121 : decode cX1_write 121 = .ok (.invokeinterface 359 1, 5) := by decide +kernel
theorem dX1_write_126 : decode cX1_write 126 = .ok (.checkcast 191, 3) := dk_192 0 191 (dk_at dksX1_write_5 9 rfl rfl)
theorem dX1_write_129 : decode cX1_write 129 = .ok (.astore 4, 2) := dk_58 4 (dk_at dksX1_write_5 12 rfl rfl)
theorem dX1_write_131 : decode cX1_write 131 = .ok (.aload_n 0, 1) := dk_42 (dk_at dksX1_write_5 14 rfl rfl)
theorem dX1_write_132 : decode cX1_write 132 = .ok (.aload 4, 2) := dk_25 4 (dk_at dksX1_write_5 15 rfl rfl)
theorem dX1_write_134 : decode cX1_write 134 = .ok (.invokevirtual 362, 3) := dk_182 1 106 (dk_at dksX1_write_5 17 rfl rfl)
theorem dX1_write_137 : decode cX1_write 137 = .ok (.goto (-26), 3) := dk_167 255 230 (dk_at dksX1_write_5 20 rfl rfl)
theorem dX1_write_140 : decode cX1_write 140 = .ok (.aload_n 0, 1) := dk_42 (dk_at dksX1_write_5 23 rfl rfl)
theorem dX1_write_141 : decode cX1_write 141 = .ok (.getfield 49, 3) := dk_180 0 49 (dk_at dksX1_write_6 0 rfl rfl)
theorem dX1_write_144 : decode cX1_write 144 = .ok (.invokevirtual 366, 3) := dk_182 1 110 (dk_at dksX1_write_6 3 rfl rfl)
theorem dX1_write_147 : decode cX1_write 147 = .ok (.ireturn, 1) := dk_172 (dk_at dksX1_write_6 6 rfl rfl)
abbrev cX1_tellMode : ByteArray := prog_1_method_43_code
def yX1_tellMode : MethodName := ⟨RX1, "tellMode", "(LDotRuns$Mode;)V"⟩
def dkwX1_tellMode_2 : List UInt8 := [180, 0, 49, 43, 28, 185, 0, 200, 2, 0, 182, 1, 83, 87, 132, 2, 1, 167, 255, 214, 177]
abbrev dktX1_tellMode_2 : List UInt8 := dkwX1_tellMode_2 ++ []
def dkwX1_tellMode_1 : List UInt8 := [185, 0, 199, 1, 0, 162, 0, 38, 28, 158, 0, 13, 42, 180, 0, 49, 16, 32, 182, 1, 75, 87, 42]
abbrev dktX1_tellMode_1 : List UInt8 := dkwX1_tellMode_1 ++ dktX1_tellMode_2
def dkwX1_tellMode_0 : List UInt8 := [42, 180, 0, 49, 16, 32, 182, 1, 75, 43, 185, 1, 79, 1, 0, 182, 1, 75, 87, 3, 61, 28, 43]
abbrev dktX1_tellMode_0 : List UInt8 := dkwX1_tellMode_0 ++ dktX1_tellMode_1
theorem dksX1_tellMode_0 : cX1_tellMode.data.toList.drop 0 = dktX1_tellMode_0 := by decide +kernel
theorem dksX1_tellMode_1 : cX1_tellMode.data.toList.drop 23 = dktX1_tellMode_1 := dk_seg dksX1_tellMode_0 23 rfl rfl
theorem dksX1_tellMode_2 : cX1_tellMode.data.toList.drop 46 = dktX1_tellMode_2 := dk_seg dksX1_tellMode_1 23 rfl rfl
theorem dX1_tellMode_0 : decode cX1_tellMode 0 = .ok (.aload_n 0, 1) := dk_42 (dk_at dksX1_tellMode_0 0 rfl rfl)
theorem dX1_tellMode_1 : decode cX1_tellMode 1 = .ok (.getfield 49, 3) := dk_180 0 49 (dk_at dksX1_tellMode_0 1 rfl rfl)
theorem dX1_tellMode_4 : decode cX1_tellMode 4 = .ok (.bipush 32, 2) := dk_16 32 (dk_at dksX1_tellMode_0 4 rfl rfl)
theorem dX1_tellMode_6 : decode cX1_tellMode 6 = .ok (.invokevirtual 331, 3) := dk_182 1 75 (dk_at dksX1_tellMode_0 6 rfl rfl)
theorem dX1_tellMode_9 : decode cX1_tellMode 9 = .ok (.aload_n 1, 1) := dk_43 (dk_at dksX1_tellMode_0 9 rfl rfl)
theorem dX1_tellMode_10 : decode cX1_tellMode 10 = .ok (.invokeinterface 335 1, 5) := by decide +kernel
theorem dX1_tellMode_15 : decode cX1_tellMode 15 = .ok (.invokevirtual 331, 3) := dk_182 1 75 (dk_at dksX1_tellMode_0 15 rfl rfl)
theorem dX1_tellMode_18 : decode cX1_tellMode 18 = .ok (.pop, 1) := dk_87 (dk_at dksX1_tellMode_0 18 rfl rfl)
theorem dX1_tellMode_19 : decode cX1_tellMode 19 = .ok (.iconst 0, 1) := dk_3 (dk_at dksX1_tellMode_0 19 rfl rfl)
theorem dX1_tellMode_20 : decode cX1_tellMode 20 = .ok (.istore_n 2, 1) := dk_61 (dk_at dksX1_tellMode_0 20 rfl rfl)
theorem dX1_tellMode_21 : decode cX1_tellMode 21 = .ok (.iload_n 2, 1) := dk_28 (dk_at dksX1_tellMode_0 21 rfl rfl)
theorem dX1_tellMode_22 : decode cX1_tellMode 22 = .ok (.aload_n 1, 1) := dk_43 (dk_at dksX1_tellMode_0 22 rfl rfl)
theorem dX1_tellMode_23 : decode cX1_tellMode 23 = .ok (.invokeinterface 199 1, 5) := by decide +kernel
theorem dX1_tellMode_28 : decode cX1_tellMode 28 = .ok (.if_icmp .ge 38, 3) := dk_162 0 38 (dk_at dksX1_tellMode_1 5 rfl rfl)
theorem dX1_tellMode_31 : decode cX1_tellMode 31 = .ok (.iload_n 2, 1) := dk_28 (dk_at dksX1_tellMode_1 8 rfl rfl)
theorem dX1_tellMode_32 : decode cX1_tellMode 32 = .ok (.ifCond .le 13, 3) := dk_158 0 13 (dk_at dksX1_tellMode_1 9 rfl rfl)
theorem dX1_tellMode_35 : decode cX1_tellMode 35 = .ok (.aload_n 0, 1) := dk_42 (dk_at dksX1_tellMode_1 12 rfl rfl)
theorem dX1_tellMode_36 : decode cX1_tellMode 36 = .ok (.getfield 49, 3) := dk_180 0 49 (dk_at dksX1_tellMode_1 13 rfl rfl)
theorem dX1_tellMode_39 : decode cX1_tellMode 39 = .ok (.bipush 32, 2) := dk_16 32 (dk_at dksX1_tellMode_1 16 rfl rfl)
theorem dX1_tellMode_41 : decode cX1_tellMode 41 = .ok (.invokevirtual 331, 3) := dk_182 1 75 (dk_at dksX1_tellMode_1 18 rfl rfl)
theorem dX1_tellMode_44 : decode cX1_tellMode 44 = .ok (.pop, 1) := dk_87 (dk_at dksX1_tellMode_1 21 rfl rfl)
theorem dX1_tellMode_45 : decode cX1_tellMode 45 = .ok (.aload_n 0, 1) := dk_42 (dk_at dksX1_tellMode_1 22 rfl rfl)
theorem dX1_tellMode_46 : decode cX1_tellMode 46 = .ok (.getfield 49, 3) := dk_180 0 49 (dk_at dksX1_tellMode_2 0 rfl rfl)
theorem dX1_tellMode_49 : decode cX1_tellMode 49 = .ok (.aload_n 1, 1) := dk_43 (dk_at dksX1_tellMode_2 3 rfl rfl)
theorem dX1_tellMode_50 : decode cX1_tellMode 50 = .ok (.iload_n 2, 1) := dk_28 (dk_at dksX1_tellMode_2 4 rfl rfl)
theorem dX1_tellMode_51 : decode cX1_tellMode 51 = .ok (.invokeinterface 200 2, 5) := by decide +kernel
theorem dX1_tellMode_56 : decode cX1_tellMode 56 = .ok (.invokevirtual 339, 3) := dk_182 1 83 (dk_at dksX1_tellMode_2 10 rfl rfl)
theorem dX1_tellMode_59 : decode cX1_tellMode 59 = .ok (.pop, 1) := dk_87 (dk_at dksX1_tellMode_2 13 rfl rfl)
theorem dX1_tellMode_60 : decode cX1_tellMode 60 = .ok (.iinc 2 1, 3) := dk_132 2 1 (dk_at dksX1_tellMode_2 14 rfl rfl)
theorem dX1_tellMode_63 : decode cX1_tellMode 63 = .ok (.goto (-42), 3) := dk_167 255 214 (dk_at dksX1_tellMode_2 17 rfl rfl)
theorem dX1_tellMode_66 : decode cX1_tellMode 66 = .ok (.return_, 1) := dk_177 (dk_at dksX1_tellMode_2 20 rfl rfl)
abbrev cX1_show : ByteArray := prog_1_method_46_code
def yX1_show : MethodName := ⟨RX1, "show", "(I)I"⟩
def dkwX1_show_2 : List UInt8 := [180, 1, 45, 27, 46, 182, 1, 83, 87, 42, 180, 0, 49, 182, 1, 110, 172]
abbrev dktX1_show_2 : List UInt8 := dkwX1_show_2 ++ []
def dkwX1_show_1 : List UInt8 := [42, 44, 180, 1, 60, 27, 50, 182, 1, 120, 44, 180, 1, 45, 27, 46, 153, 0, 17, 42, 180, 0, 49, 44]
abbrev dktX1_show_1 : List UInt8 := dkwX1_show_1 ++ dktX1_show_2
def dkwX1_show_0 : List UInt8 := [42, 27, 182, 0, 88, 184, 0, 92, 42, 180, 0, 49, 3, 182, 1, 86, 42, 180, 0, 29, 184, 1, 21, 77]
abbrev dktX1_show_0 : List UInt8 := dkwX1_show_0 ++ dktX1_show_1
theorem dksX1_show_0 : cX1_show.data.toList.drop 0 = dktX1_show_0 := by decide +kernel
theorem dksX1_show_1 : cX1_show.data.toList.drop 24 = dktX1_show_1 := dk_seg dksX1_show_0 24 rfl rfl
theorem dksX1_show_2 : cX1_show.data.toList.drop 48 = dktX1_show_2 := dk_seg dksX1_show_1 24 rfl rfl
theorem dX1_show_0 : decode cX1_show 0 = .ok (.aload_n 0, 1) := dk_42 (dk_at dksX1_show_0 0 rfl rfl)
theorem dX1_show_1 : decode cX1_show 1 = .ok (.iload_n 1, 1) := dk_27 (dk_at dksX1_show_0 1 rfl rfl)
theorem dX1_show_2 : decode cX1_show 2 = .ok (.invokevirtual 88, 3) := dk_182 0 88 (dk_at dksX1_show_0 2 rfl rfl)
theorem dX1_show_5 : decode cX1_show 5 = .ok (.invokestatic 92, 3) := dk_184 0 92 (dk_at dksX1_show_0 5 rfl rfl)
theorem dX1_show_8 : decode cX1_show 8 = .ok (.aload_n 0, 1) := dk_42 (dk_at dksX1_show_0 8 rfl rfl)
theorem dX1_show_9 : decode cX1_show 9 = .ok (.getfield 49, 3) := dk_180 0 49 (dk_at dksX1_show_0 9 rfl rfl)
theorem dX1_show_12 : decode cX1_show 12 = .ok (.iconst 0, 1) := dk_3 (dk_at dksX1_show_0 12 rfl rfl)
theorem dX1_show_13 : decode cX1_show 13 = .ok (.invokevirtual 342, 3) := dk_182 1 86 (dk_at dksX1_show_0 13 rfl rfl)
theorem dX1_show_16 : decode cX1_show 16 = .ok (.aload_n 0, 1) := dk_42 (dk_at dksX1_show_0 16 rfl rfl)
theorem dX1_show_17 : decode cX1_show 17 = .ok (.getfield 29, 3) := dk_180 0 29 (dk_at dksX1_show_0 17 rfl rfl)
theorem dX1_show_20 : decode cX1_show 20 = .ok (.invokestatic 277, 3) := dk_184 1 21 (dk_at dksX1_show_0 20 rfl rfl)
theorem dX1_show_23 : decode cX1_show 23 = .ok (.astore_n 2, 1) := dk_77 (dk_at dksX1_show_0 23 rfl rfl)
theorem dX1_show_24 : decode cX1_show 24 = .ok (.aload_n 0, 1) := dk_42 (dk_at dksX1_show_1 0 rfl rfl)
theorem dX1_show_25 : decode cX1_show 25 = .ok (.aload_n 2, 1) := dk_44 (dk_at dksX1_show_1 1 rfl rfl)
theorem dX1_show_26 : decode cX1_show 26 = .ok (.getfield 316, 3) := dk_180 1 60 (dk_at dksX1_show_1 2 rfl rfl)
theorem dX1_show_29 : decode cX1_show 29 = .ok (.iload_n 1, 1) := dk_27 (dk_at dksX1_show_1 5 rfl rfl)
theorem dX1_show_30 : decode cX1_show 30 = .ok (.aaload, 1) := dk_50 (dk_at dksX1_show_1 6 rfl rfl)
theorem dX1_show_31 : decode cX1_show 31 = .ok (.invokevirtual 376, 3) := dk_182 1 120 (dk_at dksX1_show_1 7 rfl rfl)
theorem dX1_show_34 : decode cX1_show 34 = .ok (.aload_n 2, 1) := dk_44 (dk_at dksX1_show_1 10 rfl rfl)
theorem dX1_show_35 : decode cX1_show 35 = .ok (.getfield 301, 3) := dk_180 1 45 (dk_at dksX1_show_1 11 rfl rfl)
theorem dX1_show_38 : decode cX1_show 38 = .ok (.iload_n 1, 1) := dk_27 (dk_at dksX1_show_1 14 rfl rfl)
theorem dX1_show_39 : decode cX1_show 39 = .ok (.iaload, 1) := dk_46 (dk_at dksX1_show_1 15 rfl rfl)
theorem dX1_show_40 : decode cX1_show 40 = .ok (.ifCond .eq 17, 3) := dk_153 0 17 (dk_at dksX1_show_1 16 rfl rfl)
theorem dX1_show_43 : decode cX1_show 43 = .ok (.aload_n 0, 1) := dk_42 (dk_at dksX1_show_1 19 rfl rfl)
theorem dX1_show_44 : decode cX1_show 44 = .ok (.getfield 49, 3) := dk_180 0 49 (dk_at dksX1_show_1 20 rfl rfl)
theorem dX1_show_47 : decode cX1_show 47 = .ok (.aload_n 2, 1) := dk_44 (dk_at dksX1_show_1 23 rfl rfl)
theorem dX1_show_48 : decode cX1_show 48 = .ok (.getfield 301, 3) := dk_180 1 45 (dk_at dksX1_show_2 0 rfl rfl)
theorem dX1_show_51 : decode cX1_show 51 = .ok (.iload_n 1, 1) := dk_27 (dk_at dksX1_show_2 3 rfl rfl)
theorem dX1_show_52 : decode cX1_show 52 = .ok (.iaload, 1) := dk_46 (dk_at dksX1_show_2 4 rfl rfl)
theorem dX1_show_53 : decode cX1_show 53 = .ok (.invokevirtual 339, 3) := dk_182 1 83 (dk_at dksX1_show_2 5 rfl rfl)
theorem dX1_show_56 : decode cX1_show 56 = .ok (.pop, 1) := dk_87 (dk_at dksX1_show_2 8 rfl rfl)
theorem dX1_show_57 : decode cX1_show 57 = .ok (.aload_n 0, 1) := dk_42 (dk_at dksX1_show_2 9 rfl rfl)
theorem dX1_show_58 : decode cX1_show 58 = .ok (.getfield 49, 3) := dk_180 0 49 (dk_at dksX1_show_2 10 rfl rfl)
theorem dX1_show_61 : decode cX1_show 61 = .ok (.invokevirtual 366, 3) := dk_182 1 110 (dk_at dksX1_show_2 13 rfl rfl)
theorem dX1_show_64 : decode cX1_show 64 = .ok (.ireturn, 1) := dk_172 (dk_at dksX1_show_2 16 rfl rfl)
abbrev cX1_tell : ByteArray := prog_1_method_45_code
def yX1_tell : MethodName := ⟨RX1, "tell", "(Ljava/lang/CharSequence;)V"⟩
def dkwX1_tell_1 : List UInt8 := [182, 1, 75, 87, 132, 2, 1, 167, 255, 228, 177]
abbrev dktX1_tell_1 : List UInt8 := dkwX1_tell_1 ++ []
def dkwX1_tell_0 : List UInt8 := [3, 61, 28, 43, 185, 1, 113, 1, 0, 162, 0, 24, 42, 180, 0, 49, 43, 28, 185, 1, 116, 2, 0]
abbrev dktX1_tell_0 : List UInt8 := dkwX1_tell_0 ++ dktX1_tell_1
theorem dksX1_tell_0 : cX1_tell.data.toList.drop 0 = dktX1_tell_0 := by decide +kernel
theorem dksX1_tell_1 : cX1_tell.data.toList.drop 23 = dktX1_tell_1 := dk_seg dksX1_tell_0 23 rfl rfl
theorem dX1_tell_0 : decode cX1_tell 0 = .ok (.iconst 0, 1) := dk_3 (dk_at dksX1_tell_0 0 rfl rfl)
theorem dX1_tell_1 : decode cX1_tell 1 = .ok (.istore_n 2, 1) := dk_61 (dk_at dksX1_tell_0 1 rfl rfl)
theorem dX1_tell_2 : decode cX1_tell 2 = .ok (.iload_n 2, 1) := dk_28 (dk_at dksX1_tell_0 2 rfl rfl)
theorem dX1_tell_3 : decode cX1_tell 3 = .ok (.aload_n 1, 1) := dk_43 (dk_at dksX1_tell_0 3 rfl rfl)
theorem dX1_tell_4 : decode cX1_tell 4 = .ok (.invokeinterface 369 1, 5) := by decide +kernel
theorem dX1_tell_9 : decode cX1_tell 9 = .ok (.if_icmp .ge 24, 3) := dk_162 0 24 (dk_at dksX1_tell_0 9 rfl rfl)
theorem dX1_tell_12 : decode cX1_tell 12 = .ok (.aload_n 0, 1) := dk_42 (dk_at dksX1_tell_0 12 rfl rfl)
theorem dX1_tell_13 : decode cX1_tell 13 = .ok (.getfield 49, 3) := dk_180 0 49 (dk_at dksX1_tell_0 13 rfl rfl)
theorem dX1_tell_16 : decode cX1_tell 16 = .ok (.aload_n 1, 1) := dk_43 (dk_at dksX1_tell_0 16 rfl rfl)
theorem dX1_tell_17 : decode cX1_tell 17 = .ok (.iload_n 2, 1) := dk_28 (dk_at dksX1_tell_0 17 rfl rfl)
theorem dX1_tell_18 : decode cX1_tell 18 = .ok (.invokeinterface 372 2, 5) := by decide +kernel
theorem dX1_tell_23 : decode cX1_tell 23 = .ok (.invokevirtual 331, 3) := dk_182 1 75 (dk_at dksX1_tell_1 0 rfl rfl)
theorem dX1_tell_26 : decode cX1_tell 26 = .ok (.pop, 1) := dk_87 (dk_at dksX1_tell_1 3 rfl rfl)
theorem dX1_tell_27 : decode cX1_tell 27 = .ok (.iinc 2 1, 3) := dk_132 2 1 (dk_at dksX1_tell_1 4 rfl rfl)
theorem dX1_tell_30 : decode cX1_tell 30 = .ok (.goto (-28), 3) := dk_167 255 228 (dk_at dksX1_tell_1 7 rfl rfl)
theorem dX1_tell_33 : decode cX1_tell 33 = .ok (.return_, 1) := dk_177 (dk_at dksX1_tell_1 10 rfl rfl)
abbrev cX1_save : ByteArray := prog_1_method_54_code
def yX1_save : MethodName := ⟨RX1, "save", "(I)V"⟩
def dkwX1_save_0 : List UInt8 := [27, 3, 4, 184, 0, 84, 184, 0, 119, 42, 180, 0, 42, 27, 42, 180, 0, 29, 182, 0, 73, 83, 177]
abbrev dktX1_save_0 : List UInt8 := dkwX1_save_0 ++ []
theorem dksX1_save_0 : cX1_save.data.toList.drop 0 = dktX1_save_0 := by decide +kernel
theorem dX1_save_0 : decode cX1_save 0 = .ok (.iload_n 1, 1) := dk_27 (dk_at dksX1_save_0 0 rfl rfl)
theorem dX1_save_1 : decode cX1_save 1 = .ok (.iconst 0, 1) := dk_3 (dk_at dksX1_save_0 1 rfl rfl)
theorem dX1_save_2 : decode cX1_save 2 = .ok (.iconst 1, 1) := dk_4 (dk_at dksX1_save_0 2 rfl rfl)
theorem dX1_save_3 : decode cX1_save 3 = .ok (.invokestatic 84, 3) := dk_184 0 84 (dk_at dksX1_save_0 3 rfl rfl)
theorem dX1_save_6 : decode cX1_save 6 = .ok (.invokestatic 119, 3) := dk_184 0 119 (dk_at dksX1_save_0 6 rfl rfl)
theorem dX1_save_9 : decode cX1_save 9 = .ok (.aload_n 0, 1) := dk_42 (dk_at dksX1_save_0 9 rfl rfl)
theorem dX1_save_10 : decode cX1_save 10 = .ok (.getfield 42, 3) := dk_180 0 42 (dk_at dksX1_save_0 10 rfl rfl)
theorem dX1_save_13 : decode cX1_save 13 = .ok (.iload_n 1, 1) := dk_27 (dk_at dksX1_save_0 13 rfl rfl)
theorem dX1_save_14 : decode cX1_save 14 = .ok (.aload_n 0, 1) := dk_42 (dk_at dksX1_save_0 14 rfl rfl)
theorem dX1_save_15 : decode cX1_save 15 = .ok (.getfield 29, 3) := dk_180 0 29 (dk_at dksX1_save_0 15 rfl rfl)
theorem dX1_save_18 : decode cX1_save 18 = .ok (.invokevirtual 73, 3) := dk_182 0 73 (dk_at dksX1_save_0 18 rfl rfl)
theorem dX1_save_21 : decode cX1_save 21 = .ok (.aastore, 1) := dk_83 (dk_at dksX1_save_0 21 rfl rfl)
theorem dX1_save_22 : decode cX1_save 22 = .ok (.return_, 1) := dk_177 (dk_at dksX1_save_0 22 rfl rfl)
abbrev cX1_restore : ByteArray := prog_1_method_55_code
def yX1_restore : MethodName := ⟨RX1, "restore", "(I)V"⟩
def dkwX1_restore_1 : List UInt8 := [184, 0, 242, 42, 42, 180, 0, 42, 27, 50, 182, 0, 73, 181, 0, 29, 42, 180, 0, 38, 182, 1, 139, 177]
abbrev dktX1_restore_1 : List UInt8 := dkwX1_restore_1 ++ []
def dkwX1_restore_0 : List UInt8 := [27, 3, 4, 184, 0, 84, 184, 0, 119, 42, 180, 0, 42, 27, 50, 198, 0, 7, 4, 167, 0, 4, 3]
abbrev dktX1_restore_0 : List UInt8 := dkwX1_restore_0 ++ dktX1_restore_1
theorem dksX1_restore_0 : cX1_restore.data.toList.drop 0 = dktX1_restore_0 := by decide +kernel
theorem dksX1_restore_1 : cX1_restore.data.toList.drop 23 = dktX1_restore_1 := dk_seg dksX1_restore_0 23 rfl rfl
theorem dX1_restore_0 : decode cX1_restore 0 = .ok (.iload_n 1, 1) := dk_27 (dk_at dksX1_restore_0 0 rfl rfl)
theorem dX1_restore_1 : decode cX1_restore 1 = .ok (.iconst 0, 1) := dk_3 (dk_at dksX1_restore_0 1 rfl rfl)
theorem dX1_restore_2 : decode cX1_restore 2 = .ok (.iconst 1, 1) := dk_4 (dk_at dksX1_restore_0 2 rfl rfl)
theorem dX1_restore_3 : decode cX1_restore 3 = .ok (.invokestatic 84, 3) := dk_184 0 84 (dk_at dksX1_restore_0 3 rfl rfl)
theorem dX1_restore_6 : decode cX1_restore 6 = .ok (.invokestatic 119, 3) := dk_184 0 119 (dk_at dksX1_restore_0 6 rfl rfl)
theorem dX1_restore_9 : decode cX1_restore 9 = .ok (.aload_n 0, 1) := dk_42 (dk_at dksX1_restore_0 9 rfl rfl)
theorem dX1_restore_10 : decode cX1_restore 10 = .ok (.getfield 42, 3) := dk_180 0 42 (dk_at dksX1_restore_0 10 rfl rfl)
theorem dX1_restore_13 : decode cX1_restore 13 = .ok (.iload_n 1, 1) := dk_27 (dk_at dksX1_restore_0 13 rfl rfl)
theorem dX1_restore_14 : decode cX1_restore 14 = .ok (.aaload, 1) := dk_50 (dk_at dksX1_restore_0 14 rfl rfl)
theorem dX1_restore_15 : decode cX1_restore 15 = .ok (.ifnull 7, 3) := dk_198 0 7 (dk_at dksX1_restore_0 15 rfl rfl)
theorem dX1_restore_18 : decode cX1_restore 18 = .ok (.iconst 1, 1) := dk_4 (dk_at dksX1_restore_0 18 rfl rfl)
theorem dX1_restore_19 : decode cX1_restore 19 = .ok (.goto 4, 3) := dk_167 0 4 (dk_at dksX1_restore_0 19 rfl rfl)
theorem dX1_restore_22 : decode cX1_restore 22 = .ok (.iconst 0, 1) := dk_3 (dk_at dksX1_restore_0 22 rfl rfl)
theorem dX1_restore_23 : decode cX1_restore 23 = .ok (.invokestatic 242, 3) := dk_184 0 242 (dk_at dksX1_restore_1 0 rfl rfl)
theorem dX1_restore_26 : decode cX1_restore 26 = .ok (.aload_n 0, 1) := dk_42 (dk_at dksX1_restore_1 3 rfl rfl)
theorem dX1_restore_27 : decode cX1_restore 27 = .ok (.aload_n 0, 1) := dk_42 (dk_at dksX1_restore_1 4 rfl rfl)
theorem dX1_restore_28 : decode cX1_restore 28 = .ok (.getfield 42, 3) := dk_180 0 42 (dk_at dksX1_restore_1 5 rfl rfl)
theorem dX1_restore_31 : decode cX1_restore 31 = .ok (.iload_n 1, 1) := dk_27 (dk_at dksX1_restore_1 8 rfl rfl)
theorem dX1_restore_32 : decode cX1_restore 32 = .ok (.aaload, 1) := dk_50 (dk_at dksX1_restore_1 9 rfl rfl)
theorem dX1_restore_33 : decode cX1_restore 33 = .ok (.invokevirtual 73, 3) := dk_182 0 73 (dk_at dksX1_restore_1 10 rfl rfl)
theorem dX1_restore_36 : decode cX1_restore 36 = .ok (.putfield 29, 3) := dk_181 0 29 (dk_at dksX1_restore_1 13 rfl rfl)
theorem dX1_restore_39 : decode cX1_restore 39 = .ok (.aload_n 0, 1) := dk_42 (dk_at dksX1_restore_1 16 rfl rfl)
theorem dX1_restore_40 : decode cX1_restore 40 = .ok (.getfield 38, 3) := dk_180 0 38 (dk_at dksX1_restore_1 17 rfl rfl)
theorem dX1_restore_43 : decode cX1_restore 43 = .ok (.invokevirtual 395, 3) := dk_182 1 139 (dk_at dksX1_restore_1 20 rfl rfl)
theorem dX1_restore_46 : decode cX1_restore 46 = .ok (.return_, 1) := dk_177 (dk_at dksX1_restore_1 23 rfl rfl)
theorem q111 : (Jvm.Cond.initialized "DotRuns") ∈ lw_all := lw_g (lw_at lw_m1 1 rfl) rfl
theorem q154 : (Jvm.Cond.instantiable "DotRuns" (8 : Nat)) ∈ lw_all := lw_g (lw_at lw_m1 44 rfl) rfl
theorem q156 : (Jvm.Cond.instanceMethod ({ cls := "DotRuns", name := "<init>", desc := "()V" } : Jvm.MethodName)) ∈ lw_all := lw_g (lw_at lw_m1 46 rfl) rfl
theorem q157 : (Jvm.Cond.code ({ cls := "DotRuns", name := "<init>", desc := "()V" } : Jvm.MethodName) prog_1_method_7_code (1 : Nat) (Option.none : Option Jvm.ClassFile.FieldType)) ∈ lw_all := lw_g (lw_at lw_m1 47 rfl) rfl
theorem q158 : (Jvm.Cond.methodLink "DotRuns" (19 : Nat) ({ cls := "java/lang/Object", name := "<init>", desc := "()V" } : Jvm.MethodName)) ∈ lw_all := lw_g (lw_at lw_m1 48 rfl) rfl
theorem q161 : (Jvm.Cond.classLink "DotRuns" (24 : Nat) "DotRuns$Page") ∈ lw_all := lw_g (lw_at lw_m1 51 rfl) rfl
theorem q163 : (Jvm.Cond.methodLink "DotRuns" (26 : Nat) ({ cls := "DotRuns$Page", name := "<init>", desc := "(I)V" } : Jvm.MethodName)) ∈ lw_all := lw_g (lw_at lw_m1 53 rfl) rfl
theorem q167 : (Jvm.Cond.laysStatic "DotRuns" "FIRST" "[I") ∈ lw_tbl := lw_at lw_m1 57 rfl
theorem q530 : (Jvm.Cond.fieldLinkNest "DotRuns" (122 : Nat) "DotRuns$Page" "wide" "I" "DotRuns") ∈ lw_tbl := lw_at lw_m2 180 rfl
theorem q533 : (Jvm.Cond.fieldLinkNest "DotRuns" (137 : Nat) "DotRuns$Page" "set" "[I" "DotRuns") ∈ lw_tbl := lw_at lw_m2 183 rfl
theorem q537 : (Jvm.Cond.fieldLinkNest "DotRuns" (179 : Nat) "DotRuns$Page" "losses" "[I" "DotRuns") ∈ lw_tbl := lw_at lw_m2 187 rfl
theorem q541 : (Jvm.Cond.fieldLinkNest "DotRuns" (77 : Nat) "DotRuns$Page" "lines" "Ljava/util/List;" "DotRuns") ∈ lw_tbl := lw_at lw_m2 191 rfl
theorem q555 : (Jvm.Cond.classLink "DotRuns" (35 : Nat) "java/util/ArrayDeque") ∈ lw_all := lw_g (lw_at lw_m2 205 rfl) rfl
theorem q557 : (Jvm.Cond.methodLink "DotRuns" (37 : Nat) ({ cls := "java/util/ArrayDeque", name := "<init>", desc := "(I)V" } : Jvm.MethodName)) ∈ lw_all := lw_g (lw_at lw_m2 207 rfl) rfl
theorem q574 : (Jvm.Cond.classLink "DotRuns" (46 : Nat) "java/lang/StringBuilder") ∈ lw_all := lw_g (lw_at lw_m2 224 rfl) rfl
theorem q575 : (Jvm.Cond.methodLink "DotRuns" (48 : Nat) ({ cls := "java/lang/StringBuilder", name := "<init>", desc := "()V" } : Jvm.MethodName)) ∈ lw_all := lw_g (lw_at lw_m2 225 rfl) rfl
theorem q576 : (Jvm.Cond.fieldLink "DotRuns" (29 : Nat) "DotRuns" "now" "LDotRuns$Page;") ∈ lw_all := lw_g (lw_at lw_m2 226 rfl) rfl
theorem q577 : (Jvm.Cond.fieldLink "DotRuns" (38 : Nat) "DotRuns" "past" "Ljava/util/ArrayDeque;") ∈ lw_all := lw_g (lw_at lw_m2 227 rfl) rfl
theorem q578 : (Jvm.Cond.fieldLink "DotRuns" (42 : Nat) "DotRuns" "slots" "[LDotRuns$Page;") ∈ lw_all := lw_g (lw_at lw_m2 228 rfl) rfl
theorem q579 : (Jvm.Cond.fieldLink "DotRuns" (49 : Nat) "DotRuns" "output" "Ljava/lang/StringBuilder;") ∈ lw_all := lw_g (lw_at lw_m2 229 rfl) rfl
theorem q581 : (Jvm.Cond.fieldLink "DotRuns" (53 : Nat) "DotRuns" "text" "[B") ∈ lw_all := lw_g (lw_at lw_m2 231 rfl) rfl
theorem q583 : (Jvm.Cond.fieldLink "DotRuns" (381 : Nat) "DotRuns" "textLength" "I") ∈ lw_all := lw_g (lw_at lw_m2 233 rfl) rfl
theorem q584 : (Jvm.Cond.fieldLink "DotRuns" (384 : Nat) "DotRuns" "errorCode" "I") ∈ lw_all := lw_g (lw_at lw_m2 234 rfl) rfl
theorem q585 : (Jvm.Cond.fieldLink "DotRuns" (57 : Nat) "DotRuns" "errorPosition" "I") ∈ lw_all := lw_g (lw_at lw_m2 235 rfl) rfl
theorem q586 : (Jvm.Cond.lays "DotRuns" "DotRuns" "now" "LDotRuns$Page;") ∈ lw_all := lw_g (lw_at lw_m2 236 rfl) rfl
theorem q587 : (Jvm.Cond.soleField "DotRuns" "now") ∈ lw_all := lw_g (lw_at lw_m2 237 rfl) rfl
theorem q588 : (Jvm.Cond.laysFinal "DotRuns" "DotRuns" "past" "Ljava/util/ArrayDeque;") ∈ lw_all := lw_g (lw_at lw_m2 238 rfl) rfl
theorem q589 : (Jvm.Cond.soleField "DotRuns" "past") ∈ lw_all := lw_g (lw_at lw_m2 239 rfl) rfl
theorem q590 : (Jvm.Cond.laysFinal "DotRuns" "DotRuns" "slots" "[LDotRuns$Page;") ∈ lw_all := lw_g (lw_at lw_m3 0 rfl) rfl
theorem q591 : (Jvm.Cond.soleField "DotRuns" "slots") ∈ lw_all := lw_g (lw_at lw_m3 1 rfl) rfl
theorem q592 : (Jvm.Cond.laysFinal "DotRuns" "DotRuns" "output" "Ljava/lang/StringBuilder;") ∈ lw_all := lw_g (lw_at lw_m3 2 rfl) rfl
theorem q593 : (Jvm.Cond.soleField "DotRuns" "output") ∈ lw_all := lw_g (lw_at lw_m3 3 rfl) rfl
theorem q594 : (Jvm.Cond.laysFinal "DotRuns" "DotRuns" "text" "[B") ∈ lw_all := lw_g (lw_at lw_m3 4 rfl) rfl
theorem q595 : (Jvm.Cond.soleField "DotRuns" "text") ∈ lw_all := lw_g (lw_at lw_m3 5 rfl) rfl
theorem q596 : (Jvm.Cond.lays "DotRuns" "DotRuns" "textLength" "I") ∈ lw_all := lw_g (lw_at lw_m3 6 rfl) rfl
theorem q597 : (Jvm.Cond.soleField "DotRuns" "textLength") ∈ lw_all := lw_g (lw_at lw_m3 7 rfl) rfl
theorem q598 : (Jvm.Cond.lays "DotRuns" "DotRuns" "errorCode" "I") ∈ lw_all := lw_g (lw_at lw_m3 8 rfl) rfl
theorem q599 : (Jvm.Cond.soleField "DotRuns" "errorCode") ∈ lw_all := lw_g (lw_at lw_m3 9 rfl) rfl
theorem q600 : (Jvm.Cond.lays "DotRuns" "DotRuns" "errorPosition" "I") ∈ lw_all := lw_g (lw_at lw_m3 10 rfl) rfl
theorem q601 : (Jvm.Cond.soleField "DotRuns" "errorPosition") ∈ lw_all := lw_g (lw_at lw_m3 11 rfl) rfl
theorem q602 : (Jvm.Cond.superclass "DotRuns" "java/lang/Object") ∈ lw_all := lw_g (lw_at lw_m3 12 rfl) rfl
theorem q604 : (Jvm.Cond.instanceMethod ({ cls := "DotRuns", name := "worst", desc := "()I" } : Jvm.MethodName)) ∈ lw_all := lw_g (lw_at lw_m3 14 rfl) rfl
theorem q605 : (Jvm.Cond.selects "DotRuns" ({ cls := "DotRuns", name := "worst", desc := "()I" } : Jvm.MethodName) ({ cls := "DotRuns", name := "worst", desc := "()I" } : Jvm.MethodName)) ∈ lw_all := lw_g (lw_at lw_m3 15 rfl) rfl
theorem q606 : (Jvm.Cond.code ({ cls := "DotRuns", name := "worst", desc := "()I" } : Jvm.MethodName) prog_1_method_37_code (5 : Nat) (Option.some Jvm.ClassFile.FieldType.int)) ∈ lw_all := lw_g (lw_at lw_m3 16 rfl) rfl
theorem q607 : (Jvm.Cond.interfaceEntry "DotRuns" (81 : Nat)) ∈ lw_tbl := lw_at lw_m3 17 rfl
theorem q608 : (Jvm.Cond.methodLink "DotRuns" (81 : Nat) ({ cls := "java/util/List", name := "size", desc := "()I" } : Jvm.MethodName)) ∈ lw_all := lw_g (lw_at lw_m3 18 rfl) rfl
theorem q617 : (Jvm.Cond.methodLink "DotRuns" (323 : Nat) ({ cls := "DotRuns", name := "without", desc := "(I)LDotRuns$Sending;" } : Jvm.MethodName)) ∈ lw_all := lw_g (lw_at lw_m3 27 rfl) rfl
theorem q618 : (Jvm.Cond.privateMethod ({ cls := "DotRuns", name := "without", desc := "(I)LDotRuns$Sending;" } : Jvm.MethodName)) ∈ lw_tbl := lw_at lw_m3 28 rfl
theorem q619 : (Jvm.Cond.instanceMethod ({ cls := "DotRuns", name := "without", desc := "(I)LDotRuns$Sending;" } : Jvm.MethodName)) ∈ lw_all := lw_g (lw_at lw_m3 29 rfl) rfl
theorem q620 : (Jvm.Cond.code ({ cls := "DotRuns", name := "without", desc := "(I)LDotRuns$Sending;" } : Jvm.MethodName) prog_1_method_36_code (3 : Nat) (Option.some (Jvm.ClassFile.FieldType.object "DotRuns$Sending"))) ∈ lw_all := lw_g (lw_at lw_m3 30 rfl) rfl
theorem q621 : (Jvm.Cond.classLink "DotRuns" (278 : Nat) "DotRuns$Sending") ∈ lw_all := lw_g (lw_at lw_m3 31 rfl) rfl
theorem q623 : (Jvm.Cond.methodLink "DotRuns" (320 : Nat) ({ cls := "DotRuns$Sending", name := "<init>", desc := "(LDotRuns$Page;II[I)V" } : Jvm.MethodName)) ∈ lw_all := lw_g (lw_at lw_m3 33 rfl) rfl
theorem q687 : (Jvm.Cond.fieldLinkNest "DotRuns" (204 : Nat) "DotRuns$Line" "wide" "I" "DotRuns") ∈ lw_tbl := lw_at lw_m3 97 rfl
theorem q689 : (Jvm.Cond.fieldLinkNest "DotRuns" (272 : Nat) "DotRuns$Line" "bits" "J" "DotRuns") ∈ lw_tbl := lw_at lw_m3 99 rfl
theorem q803 : (Jvm.Cond.static ({ cls := "DotRuns", name := "isIn", desc := "(III)Z" } : Jvm.MethodName)) ∈ lw_all := lw_g (lw_at lw_m3 213 rfl) rfl
theorem q804 : (Jvm.Cond.code ({ cls := "DotRuns", name := "isIn", desc := "(III)Z" } : Jvm.MethodName) prog_1_method_2_code (3 : Nat) (Option.some Jvm.ClassFile.FieldType.boolean)) ∈ lw_all := lw_g (lw_at lw_m3 214 rfl) rfl
theorem q913 : (Jvm.Cond.selects "DotRuns" ({ cls := "java/lang/Object", name := "getClass", desc := "()Ljava/lang/Class;" } : Jvm.MethodName) ({ cls := "java/lang/Object", name := "getClass", desc := "()Ljava/lang/Class;" } : Jvm.MethodName)) ∈ lw_all := lw_g (lw_at lw_m4 83 rfl) rfl
theorem q1043 : (Jvm.Cond.fieldLinkNest "DotRuns" (164 : Nat) "DotRuns$Code" "runs" "LDotRuns$Runs;" "DotRuns") ∈ lw_tbl := lw_at lw_m4 213 rfl
theorem q1045 : (Jvm.Cond.fieldLinkNest "DotRuns" (173 : Nat) "DotRuns$Code" "modes" "Ljava/util/List;" "DotRuns") ∈ lw_tbl := lw_at lw_m4 215 rfl
theorem q1047 : (Jvm.Cond.fieldLinkNest "DotRuns" (196 : Nat) "DotRuns$Code" "places" "[I" "DotRuns") ∈ lw_tbl := lw_at lw_m4 217 rfl
theorem q1049 : (Jvm.Cond.fieldLinkNest "DotRuns" (176 : Nat) "DotRuns$Code" "sorts" "[I" "DotRuns") ∈ lw_tbl := lw_at lw_m4 219 rfl
theorem q1052 : (Jvm.Cond.fieldLinkNest "DotRuns" (152 : Nat) "DotRuns$Code" "alone" "I" "DotRuns") ∈ lw_tbl := lw_at lw_m4 222 rfl
theorem q1055 : (Jvm.Cond.fieldLinkNest "DotRuns" (157 : Nat) "DotRuns$Code" "byAbove" "I" "DotRuns") ∈ lw_tbl := lw_at lw_m4 225 rfl
theorem q1159 : (Jvm.Cond.fieldLinkNest "DotRuns" (301 : Nat) "DotRuns$Sending" "states" "[I" "DotRuns") ∈ lw_tbl := lw_at lw_m5 89 rfl
theorem q1161 : (Jvm.Cond.fieldLinkNest "DotRuns" (304 : Nat) "DotRuns$Sending" "times" "[I" "DotRuns") ∈ lw_tbl := lw_at lw_m5 91 rfl
theorem q1163 : (Jvm.Cond.fieldLinkNest "DotRuns" (307 : Nat) "DotRuns$Sending" "costs" "[I" "DotRuns") ∈ lw_tbl := lw_at lw_m5 93 rfl
theorem q1165 : (Jvm.Cond.fieldLinkNest "DotRuns" (313 : Nat) "DotRuns$Sending" "backs" "[I" "DotRuns") ∈ lw_tbl := lw_at lw_m5 95 rfl
theorem q1167 : (Jvm.Cond.fieldLinkNest "DotRuns" (316 : Nat) "DotRuns$Sending" "got" "[LDotRuns$Line;" "DotRuns") ∈ lw_tbl := lw_at lw_m5 97 rfl
theorem q1169 : (Jvm.Cond.fieldLinkNest "DotRuns" (282 : Nat) "DotRuns$Sending" "bits" "I" "DotRuns") ∈ lw_tbl := lw_at lw_m5 99 rfl
theorem q1171 : (Jvm.Cond.fieldLinkNest "DotRuns" (284 : Nat) "DotRuns$Sending" "sendings" "I" "DotRuns") ∈ lw_tbl := lw_at lw_m5 101 rfl
theorem q1173 : (Jvm.Cond.fieldLinkNest "DotRuns" (287 : Nat) "DotRuns$Sending" "steps" "I" "DotRuns") ∈ lw_tbl := lw_at lw_m5 103 rfl
theorem q1175 : (Jvm.Cond.fieldLinkNest "DotRuns" (295 : Nat) "DotRuns$Sending" "lost" "I" "DotRuns") ∈ lw_tbl := lw_at lw_m5 105 rfl
theorem q1177 : (Jvm.Cond.fieldLinkNest "DotRuns" (298 : Nat) "DotRuns$Sending" "broken" "I" "DotRuns") ∈ lw_tbl := lw_at lw_m5 107 rfl
theorem q1207 : (Jvm.Cond.methodLink "DotRuns" (293 : Nat) ({ cls := "DotRuns$Sending", name := "wrong", desc := "()I" } : Jvm.MethodName)) ∈ lw_all := lw_g (lw_at lw_m5 137 rfl) rfl
theorem q1226 : (Jvm.Cond.instanceMethod ({ cls := "DotRuns", name := "bestEvery", desc := "()I" } : Jvm.MethodName)) ∈ lw_all := lw_g (lw_at lw_m5 156 rfl) rfl
theorem q1227 : (Jvm.Cond.selects "DotRuns" ({ cls := "DotRuns", name := "bestEvery", desc := "()I" } : Jvm.MethodName) ({ cls := "DotRuns", name := "bestEvery", desc := "()I" } : Jvm.MethodName)) ∈ lw_all := lw_g (lw_at lw_m5 157 rfl) rfl
theorem q1228 : (Jvm.Cond.code ({ cls := "DotRuns", name := "bestEvery", desc := "()I" } : Jvm.MethodName) prog_1_method_39_code (7 : Nat) (Option.some Jvm.ClassFile.FieldType.int)) ∈ lw_all := lw_g (lw_at lw_m5 158 rfl) rfl
theorem q1229 : (Jvm.Cond.fieldLink "DotRuns" (232 : Nat) "DotRuns" "GREATEST" "[I") ∈ lw_all := lw_g (lw_at lw_m5 159 rfl) rfl
theorem q1230 : (Jvm.Cond.laysStatic "DotRuns" "GREATEST" "[I") ∈ lw_tbl := lw_at lw_m5 160 rfl
theorem q1232 : (Jvm.Cond.instanceMethod ({ cls := "DotRuns", name := "needsSteps", desc := "()I" } : Jvm.MethodName)) ∈ lw_all := lw_g (lw_at lw_m5 162 rfl) rfl
theorem q1233 : (Jvm.Cond.selects "DotRuns" ({ cls := "DotRuns", name := "needsSteps", desc := "()I" } : Jvm.MethodName) ({ cls := "DotRuns", name := "needsSteps", desc := "()I" } : Jvm.MethodName)) ∈ lw_all := lw_g (lw_at lw_m5 163 rfl) rfl
theorem q1234 : (Jvm.Cond.code ({ cls := "DotRuns", name := "needsSteps", desc := "()I" } : Jvm.MethodName) prog_1_method_40_code (2 : Nat) (Option.some Jvm.ClassFile.FieldType.int)) ∈ lw_all := lw_g (lw_at lw_m5 164 rfl) rfl
theorem q1236 : (Jvm.Cond.instanceMethod ({ cls := "DotRuns", name := "perDot", desc := "()D" } : Jvm.MethodName)) ∈ lw_all := lw_g (lw_at lw_m5 166 rfl) rfl
theorem q1237 : (Jvm.Cond.selects "DotRuns" ({ cls := "DotRuns", name := "perDot", desc := "()D" } : Jvm.MethodName) ({ cls := "DotRuns", name := "perDot", desc := "()D" } : Jvm.MethodName)) ∈ lw_all := lw_g (lw_at lw_m5 167 rfl) rfl
theorem q1238 : (Jvm.Cond.code ({ cls := "DotRuns", name := "perDot", desc := "()D" } : Jvm.MethodName) prog_1_method_41_code (1 : Nat) (Option.some Jvm.ClassFile.FieldType.double)) ∈ lw_all := lw_g (lw_at lw_m5 168 rfl) rfl
theorem q1239 : (Jvm.Cond.interfaceEntry "DotRuns" (327 : Nat)) ∈ lw_tbl := lw_at lw_m5 169 rfl
theorem q1240 : (Jvm.Cond.methodLink "DotRuns" (327 : Nat) ({ cls := "java/util/List", name := "isEmpty", desc := "()Z" } : Jvm.MethodName)) ∈ lw_all := lw_g (lw_at lw_m5 170 rfl) rfl
theorem q1248 : (Jvm.Cond.methodLink "DotRuns" (277 : Nat) ({ cls := "DotRuns$Sending", name := "of", desc := "(LDotRuns$Page;)LDotRuns$Sending;" } : Jvm.MethodName)) ∈ lw_all := lw_g (lw_at lw_m5 178 rfl) rfl
theorem q1254 : (Jvm.Cond.instanceMethod ({ cls := "DotRuns", name := "byAbove", desc := "()F" } : Jvm.MethodName)) ∈ lw_all := lw_g (lw_at lw_m5 184 rfl) rfl
theorem q1255 : (Jvm.Cond.selects "DotRuns" ({ cls := "DotRuns", name := "byAbove", desc := "()F" } : Jvm.MethodName) ({ cls := "DotRuns", name := "byAbove", desc := "()F" } : Jvm.MethodName)) ∈ lw_all := lw_g (lw_at lw_m5 185 rfl) rfl
theorem q1256 : (Jvm.Cond.code ({ cls := "DotRuns", name := "byAbove", desc := "()F" } : Jvm.MethodName) prog_1_method_42_code (1 : Nat) (Option.some Jvm.ClassFile.FieldType.float)) ∈ lw_all := lw_g (lw_at lw_m5 186 rfl) rfl
theorem q1257 : (Jvm.Cond.methodLink "DotRuns" (133 : Nat) ({ cls := "DotRuns", name := "marks", desc := "()I" } : Jvm.MethodName)) ∈ lw_all := lw_g (lw_at lw_m5 187 rfl) rfl
theorem q1258 : (Jvm.Cond.privateMethod ({ cls := "DotRuns", name := "marks", desc := "()I" } : Jvm.MethodName)) ∈ lw_tbl := lw_at lw_m5 188 rfl
theorem q1259 : (Jvm.Cond.instanceMethod ({ cls := "DotRuns", name := "marks", desc := "()I" } : Jvm.MethodName)) ∈ lw_all := lw_g (lw_at lw_m5 189 rfl) rfl
theorem q1260 : (Jvm.Cond.code ({ cls := "DotRuns", name := "marks", desc := "()I" } : Jvm.MethodName) prog_1_method_11_code (3 : Nat) (Option.some Jvm.ClassFile.FieldType.int)) ∈ lw_all := lw_g (lw_at lw_m5 190 rfl) rfl
theorem q1261 : (Jvm.Cond.methodLink "DotRuns" (102 : Nat) ({ cls := "DotRuns$Page", name := "isMark", desc := "(I)Z" } : Jvm.MethodName)) ∈ lw_all := lw_g (lw_at lw_m5 191 rfl) rfl
theorem q1265 : (Jvm.Cond.methodLink "DotRuns" (105 : Nat) ({ cls := "DotRuns", name := "bit", desc := "(Z)I" } : Jvm.MethodName)) ∈ lw_all := lw_g (lw_at lw_m5 195 rfl) rfl
theorem q1266 : (Jvm.Cond.static ({ cls := "DotRuns", name := "bit", desc := "(Z)I" } : Jvm.MethodName)) ∈ lw_all := lw_g (lw_at lw_m5 196 rfl) rfl
theorem q1267 : (Jvm.Cond.code ({ cls := "DotRuns", name := "bit", desc := "(Z)I" } : Jvm.MethodName) prog_1_method_6_code (1 : Nat) (Option.some Jvm.ClassFile.FieldType.int)) ∈ lw_all := lw_g (lw_at lw_m5 197 rfl) rfl
theorem q1269 : (Jvm.Cond.instanceMethod ({ cls := "DotRuns", name := "output", desc := "(I)I" } : Jvm.MethodName)) ∈ lw_all := lw_g (lw_at lw_m5 199 rfl) rfl
theorem q1270 : (Jvm.Cond.selects "DotRuns" ({ cls := "DotRuns", name := "output", desc := "(I)I" } : Jvm.MethodName) ({ cls := "DotRuns", name := "output", desc := "(I)I" } : Jvm.MethodName)) ∈ lw_all := lw_g (lw_at lw_m5 200 rfl) rfl
theorem q1271 : (Jvm.Cond.code ({ cls := "DotRuns", name := "output", desc := "(I)I" } : Jvm.MethodName) prog_1_method_47_code (2 : Nat) (Option.some Jvm.ClassFile.FieldType.int)) ∈ lw_all := lw_g (lw_at lw_m5 201 rfl) rfl
theorem q1272 : (Jvm.Cond.methodLink "DotRuns" (366 : Nat) ({ cls := "java/lang/StringBuilder", name := "length", desc := "()I" } : Jvm.MethodName)) ∈ lw_all := lw_g (lw_at lw_m5 202 rfl) rfl
theorem q1273 : (Jvm.Cond.methodLink "DotRuns" (84 : Nat) ({ cls := "DotRuns", name := "isIn", desc := "(III)Z" } : Jvm.MethodName)) ∈ lw_all := lw_g (lw_at lw_m5 203 rfl) rfl
theorem q1274 : (Jvm.Cond.methodLink "DotRuns" (380 : Nat) ({ cls := "java/lang/StringBuilder", name := "charAt", desc := "(I)C" } : Jvm.MethodName)) ∈ lw_all := lw_g (lw_at lw_m5 204 rfl) rfl
theorem q1288 : (Jvm.Cond.instanceMethod ({ cls := "DotRuns", name := "load", desc := "()I" } : Jvm.MethodName)) ∈ lw_all := lw_g (lw_at lw_m5 218 rfl) rfl
theorem q1289 : (Jvm.Cond.selects "DotRuns" ({ cls := "DotRuns", name := "load", desc := "()I" } : Jvm.MethodName) ({ cls := "DotRuns", name := "load", desc := "()I" } : Jvm.MethodName)) ∈ lw_all := lw_g (lw_at lw_m5 219 rfl) rfl
theorem q1290 : (Jvm.Cond.codeWith ({ cls := "DotRuns", name := "load", desc := "()I" } : Jvm.MethodName) prog_1_method_50_code (4 : Nat) (Option.some Jvm.ClassFile.FieldType.int) [((10 : Nat), (45 : Nat), (52 : Nat), (398 : Nat)), ((10 : Nat), (45 : Nat), (78 : Nat), (0 : Nat)), ((52 : Nat), (71 : Nat), (78 : Nat), (0 : Nat))]) ∈ lw_all := lw_g (lw_at lw_m5 220 rfl) rfl
theorem q1291 : (Jvm.Cond.classLink "DotRuns" (398 : Nat) "DotRuns$Fault") ∈ lw_all := lw_g (lw_at lw_m5 221 rfl) rfl
theorem q1292 : (Jvm.Cond.classLink "DotRuns" (387 : Nat) "DotRuns$Reader") ∈ lw_all := lw_g (lw_at lw_m5 222 rfl) rfl
theorem q1294 : (Jvm.Cond.methodLink "DotRuns" (389 : Nat) ({ cls := "DotRuns$Reader", name := "<init>", desc := "(LDotRuns;)V" } : Jvm.MethodName)) ∈ lw_all := lw_g (lw_at lw_m5 224 rfl) rfl
theorem q1334 : (Jvm.Cond.methodLink "DotRuns" (392 : Nat) ({ cls := "DotRuns$Reader", name := "page", desc := "()LDotRuns$Page;" } : Jvm.MethodName)) ∈ lw_all := lw_g (lw_at lw_m6 24 rfl) rfl
theorem q1404 : (Jvm.Cond.fieldLinkNest "DotRuns" (400 : Nat) "DotRuns$Fault" "code" "I" "DotRuns") ∈ lw_tbl := lw_at lw_m6 94 rfl
theorem q1406 : (Jvm.Cond.fieldLinkNest "DotRuns" (402 : Nat) "DotRuns$Fault" "place" "I" "DotRuns") ∈ lw_tbl := lw_at lw_m6 96 rfl
theorem q1551 : (Jvm.Cond.laysStatic "DotRuns" "LEAST" "[I") ∈ lw_tbl := lw_at lw_m7 1 rfl
theorem q1557 : (Jvm.Cond.methodLink "DotRuns" (395 : Nat) ({ cls := "java/util/ArrayDeque", name := "clear", desc := "()V" } : Jvm.MethodName)) ∈ lw_all := lw_g (lw_at lw_m7 7 rfl) rfl
theorem q1565 : (Jvm.Cond.instanceMethod ({ cls := "DotRuns", name := "errorCode", desc := "()I" } : Jvm.MethodName)) ∈ lw_all := lw_g (lw_at lw_m7 15 rfl) rfl
theorem q1566 : (Jvm.Cond.selects "DotRuns" ({ cls := "DotRuns", name := "errorCode", desc := "()I" } : Jvm.MethodName) ({ cls := "DotRuns", name := "errorCode", desc := "()I" } : Jvm.MethodName)) ∈ lw_all := lw_g (lw_at lw_m7 16 rfl) rfl
theorem q1567 : (Jvm.Cond.code ({ cls := "DotRuns", name := "errorCode", desc := "()I" } : Jvm.MethodName) prog_1_method_51_code (1 : Nat) (Option.some Jvm.ClassFile.FieldType.int)) ∈ lw_all := lw_g (lw_at lw_m7 17 rfl) rfl
theorem q1569 : (Jvm.Cond.instanceMethod ({ cls := "DotRuns", name := "errorPosition", desc := "()I" } : Jvm.MethodName)) ∈ lw_all := lw_g (lw_at lw_m7 19 rfl) rfl
theorem q1570 : (Jvm.Cond.selects "DotRuns" ({ cls := "DotRuns", name := "errorPosition", desc := "()I" } : Jvm.MethodName) ({ cls := "DotRuns", name := "errorPosition", desc := "()I" } : Jvm.MethodName)) ∈ lw_all := lw_g (lw_at lw_m7 20 rfl) rfl
theorem q1571 : (Jvm.Cond.code ({ cls := "DotRuns", name := "errorPosition", desc := "()I" } : Jvm.MethodName) prog_1_method_52_code (1 : Nat) (Option.some Jvm.ClassFile.FieldType.int)) ∈ lw_all := lw_g (lw_at lw_m7 21 rfl) rfl
theorem q1573 : (Jvm.Cond.instanceMethod ({ cls := "DotRuns", name := "undo", desc := "()I" } : Jvm.MethodName)) ∈ lw_all := lw_g (lw_at lw_m7 23 rfl) rfl
theorem q1574 : (Jvm.Cond.selects "DotRuns" ({ cls := "DotRuns", name := "undo", desc := "()I" } : Jvm.MethodName) ({ cls := "DotRuns", name := "undo", desc := "()I" } : Jvm.MethodName)) ∈ lw_all := lw_g (lw_at lw_m7 24 rfl) rfl
theorem q1575 : (Jvm.Cond.code ({ cls := "DotRuns", name := "undo", desc := "()I" } : Jvm.MethodName) prog_1_method_53_code (1 : Nat) (Option.some Jvm.ClassFile.FieldType.int)) ∈ lw_all := lw_g (lw_at lw_m7 25 rfl) rfl
theorem q1576 : (Jvm.Cond.methodLink "DotRuns" (405 : Nat) ({ cls := "java/util/ArrayDeque", name := "isEmpty", desc := "()Z" } : Jvm.MethodName)) ∈ lw_all := lw_g (lw_at lw_m7 26 rfl) rfl
theorem q1580 : (Jvm.Cond.methodLink "DotRuns" (406 : Nat) ({ cls := "java/util/ArrayDeque", name := "removeLast", desc := "()Ljava/lang/Object;" } : Jvm.MethodName)) ∈ lw_all := lw_g (lw_at lw_m7 30 rfl) rfl
theorem q1594 : (Jvm.Cond.methodLink "DotRuns" (61 : Nat) ({ cls := "java/util/ArrayDeque", name := "size", desc := "()I" } : Jvm.MethodName)) ∈ lw_all := lw_g (lw_at lw_m7 44 rfl) rfl
theorem q1606 : (Jvm.Cond.instanceMethod ({ cls := "DotRuns", name := "appendText", desc := "(I)I" } : Jvm.MethodName)) ∈ lw_all := lw_g (lw_at lw_m7 56 rfl) rfl
theorem q1607 : (Jvm.Cond.selects "DotRuns" ({ cls := "DotRuns", name := "appendText", desc := "(I)I" } : Jvm.MethodName) ({ cls := "DotRuns", name := "appendText", desc := "(I)I" } : Jvm.MethodName)) ∈ lw_all := lw_g (lw_at lw_m7 57 rfl) rfl
theorem q1608 : (Jvm.Cond.code ({ cls := "DotRuns", name := "appendText", desc := "(I)I" } : Jvm.MethodName) prog_1_method_48_code (3 : Nat) (Option.some Jvm.ClassFile.FieldType.int)) ∈ lw_all := lw_g (lw_at lw_m7 58 rfl) rfl
theorem q1609 : (Jvm.Cond.methodLink "DotRuns" (242 : Nat) ({ cls := "DotRuns", name := "possible", desc := "(Z)V" } : Jvm.MethodName)) ∈ lw_all := lw_g (lw_at lw_m7 59 rfl) rfl
theorem q1610 : (Jvm.Cond.static ({ cls := "DotRuns", name := "possible", desc := "(Z)V" } : Jvm.MethodName)) ∈ lw_all := lw_g (lw_at lw_m7 60 rfl) rfl
theorem q1611 : (Jvm.Cond.code ({ cls := "DotRuns", name := "possible", desc := "(Z)V" } : Jvm.MethodName) prog_1_method_5_code (1 : Nat) (Option.none : Option Jvm.ClassFile.FieldType)) ∈ lw_all := lw_g (lw_at lw_m7 61 rfl) rfl
theorem q1612 : (Jvm.Cond.classLink "DotRuns" (14 : Nat) "java/lang/IllegalStateException") ∈ lw_all := lw_g (lw_at lw_m7 62 rfl) rfl
theorem q1621 : (Jvm.Cond.stringRef "DotRuns" (16 : Nat) "not possible now") ∈ lw_tbl := lw_at lw_m7 71 rfl
theorem q1622 : (Jvm.Cond.methodLink "DotRuns" (18 : Nat) ({ cls := "java/lang/IllegalStateException", name := "<init>", desc := "(Ljava/lang/String;)V" } : Jvm.MethodName)) ∈ lw_all := lw_g (lw_at lw_m7 72 rfl) rfl
theorem q1633 : (Jvm.Cond.instanceMethod ({ cls := "DotRuns", name := "truncateText", desc := "(I)I" } : Jvm.MethodName)) ∈ lw_all := lw_g (lw_at lw_m7 83 rfl) rfl
theorem q1634 : (Jvm.Cond.selects "DotRuns" ({ cls := "DotRuns", name := "truncateText", desc := "(I)I" } : Jvm.MethodName) ({ cls := "DotRuns", name := "truncateText", desc := "(I)I" } : Jvm.MethodName)) ∈ lw_all := lw_g (lw_at lw_m7 84 rfl) rfl
theorem q1635 : (Jvm.Cond.code ({ cls := "DotRuns", name := "truncateText", desc := "(I)I" } : Jvm.MethodName) prog_1_method_49_code (2 : Nat) (Option.some Jvm.ClassFile.FieldType.int)) ∈ lw_all := lw_g (lw_at lw_m7 85 rfl) rfl
theorem q1636 : (Jvm.Cond.methodLink "DotRuns" (119 : Nat) ({ cls := "DotRuns", name := "argument", desc := "(Z)V" } : Jvm.MethodName)) ∈ lw_all := lw_g (lw_at lw_m7 86 rfl) rfl
theorem q1637 : (Jvm.Cond.static ({ cls := "DotRuns", name := "argument", desc := "(Z)V" } : Jvm.MethodName)) ∈ lw_all := lw_g (lw_at lw_m7 87 rfl) rfl
theorem q1638 : (Jvm.Cond.code ({ cls := "DotRuns", name := "argument", desc := "(Z)V" } : Jvm.MethodName) prog_1_method_4_code (1 : Nat) (Option.none : Option Jvm.ClassFile.FieldType)) ∈ lw_all := lw_g (lw_at lw_m7 88 rfl) rfl
theorem q1639 : (Jvm.Cond.classLink "DotRuns" (9 : Nat) "java/lang/IllegalArgumentException") ∈ lw_all := lw_g (lw_at lw_m7 89 rfl) rfl
theorem q1640 : (Jvm.Cond.stringRef "DotRuns" (11 : Nat) "out of range") ∈ lw_tbl := lw_at lw_m7 90 rfl
theorem q1641 : (Jvm.Cond.methodLink "DotRuns" (13 : Nat) ({ cls := "java/lang/IllegalArgumentException", name := "<init>", desc := "(Ljava/lang/String;)V" } : Jvm.MethodName)) ∈ lw_all := lw_g (lw_at lw_m7 91 rfl) rfl
theorem q1646 : (Jvm.Cond.instanceMethod ({ cls := "DotRuns", name := "count", desc := "(I)I" } : Jvm.MethodName)) ∈ lw_all := lw_g (lw_at lw_m7 96 rfl) rfl
theorem q1647 : (Jvm.Cond.selects "DotRuns" ({ cls := "DotRuns", name := "count", desc := "(I)I" } : Jvm.MethodName) ({ cls := "DotRuns", name := "count", desc := "(I)I" } : Jvm.MethodName)) ∈ lw_all := lw_g (lw_at lw_m7 97 rfl) rfl
theorem q1648 : (Jvm.Cond.code ({ cls := "DotRuns", name := "count", desc := "(I)I" } : Jvm.MethodName) prog_1_method_13_code (2 : Nat) (Option.some Jvm.ClassFile.FieldType.int)) ∈ lw_all := lw_g (lw_at lw_m7 98 rfl) rfl
theorem q1649 : (Jvm.Cond.static ({ cls := "DotRuns", name := "lambda$count$0", desc := "(LDotRuns$Line;LDotRuns$Line;)I" } : Jvm.MethodName)) ∈ lw_all := lw_g (lw_at lw_m7 99 rfl) rfl
theorem q1650 : (Jvm.Cond.code ({ cls := "DotRuns", name := "lambda$count$0", desc := "(LDotRuns$Line;LDotRuns$Line;)I" } : Jvm.MethodName) prog_1_method_60_code (2 : Nat) (Option.some Jvm.ClassFile.FieldType.int)) ∈ lw_all := lw_g (lw_at lw_m7 100 rfl) rfl
theorem q1651 : (Jvm.Cond.methodLink "DotRuns" (182 : Nat) ({ cls := "DotRuns$Line", name := "black", desc := "()I" } : Jvm.MethodName)) ∈ lw_all := lw_g (lw_at lw_m7 101 rfl) rfl
theorem q1655 : (Jvm.Cond.methodLink "DotRuns" (128 : Nat) ({ cls := "DotRuns", name := "sum", desc := "(LDotRuns$Asked;)I" } : Jvm.MethodName)) ∈ lw_all := lw_g (lw_at lw_m7 105 rfl) rfl
theorem q1656 : (Jvm.Cond.privateMethod ({ cls := "DotRuns", name := "sum", desc := "(LDotRuns$Asked;)I" } : Jvm.MethodName)) ∈ lw_tbl := lw_at lw_m7 106 rfl
theorem q1657 : (Jvm.Cond.instanceMethod ({ cls := "DotRuns", name := "sum", desc := "(LDotRuns$Asked;)I" } : Jvm.MethodName)) ∈ lw_all := lw_g (lw_at lw_m7 107 rfl) rfl
theorem q1658 : (Jvm.Cond.code ({ cls := "DotRuns", name := "sum", desc := "(LDotRuns$Asked;)I" } : Jvm.MethodName) prog_1_method_12_code (4 : Nat) (Option.some Jvm.ClassFile.FieldType.int)) ∈ lw_all := lw_g (lw_at lw_m7 108 rfl) rfl
theorem q1659 : (Jvm.Cond.interfaceEntry "DotRuns" (96 : Nat)) ∈ lw_tbl := lw_at lw_m7 109 rfl
theorem q1660 : (Jvm.Cond.methodLink "DotRuns" (96 : Nat) ({ cls := "java/util/List", name := "get", desc := "(I)Ljava/lang/Object;" } : Jvm.MethodName)) ∈ lw_all := lw_g (lw_at lw_m7 110 rfl) rfl
theorem q1661 : (Jvm.Cond.classLink "DotRuns" (100 : Nat) "DotRuns$Line") ∈ lw_all := lw_g (lw_at lw_m7 111 rfl) rfl
theorem q1662 : (Jvm.Cond.methodLink "DotRuns" (109 : Nat) ({ cls := "DotRuns$Page", name := "above", desc := "(I)LDotRuns$Line;" } : Jvm.MethodName)) ∈ lw_all := lw_g (lw_at lw_m7 112 rfl) rfl
theorem q1663 : (Jvm.Cond.interfaceEntry "DotRuns" (113 : Nat)) ∈ lw_tbl := lw_at lw_m7 113 rfl
theorem q1664 : (Jvm.Cond.methodLink "DotRuns" (113 : Nat) ({ cls := "DotRuns$Asked", name := "of", desc := "(LDotRuns$Line;LDotRuns$Line;)I" } : Jvm.MethodName)) ∈ lw_all := lw_g (lw_at lw_m7 114 rfl) rfl
theorem q1667 : (Jvm.Cond.static ({ cls := "DotRuns", name := "lambda$count$1", desc := "(LDotRuns$Line;LDotRuns$Line;)I" } : Jvm.MethodName)) ∈ lw_all := lw_g (lw_at lw_m7 117 rfl) rfl
theorem q1668 : (Jvm.Cond.code ({ cls := "DotRuns", name := "lambda$count$1", desc := "(LDotRuns$Line;LDotRuns$Line;)I" } : Jvm.MethodName) prog_1_method_59_code (2 : Nat) (Option.some Jvm.ClassFile.FieldType.int)) ∈ lw_all := lw_g (lw_at lw_m7 118 rfl) rfl
theorem q1669 : (Jvm.Cond.methodLink "DotRuns" (418 : Nat) ({ cls := "DotRuns$Line", name := "changes", desc := "()I" } : Jvm.MethodName)) ∈ lw_all := lw_g (lw_at lw_m7 119 rfl) rfl
theorem q1674 : (Jvm.Cond.static ({ cls := "DotRuns", name := "lambda$count$2", desc := "(LDotRuns$Line;LDotRuns$Line;)I" } : Jvm.MethodName)) ∈ lw_all := lw_g (lw_at lw_m7 124 rfl) rfl
theorem q1675 : (Jvm.Cond.code ({ cls := "DotRuns", name := "lambda$count$2", desc := "(LDotRuns$Line;LDotRuns$Line;)I" } : Jvm.MethodName) prog_1_method_58_code (2 : Nat) (Option.some Jvm.ClassFile.FieldType.int)) ∈ lw_all := lw_g (lw_at lw_m7 125 rfl) rfl
theorem q1676 : (Jvm.Cond.methodLink "DotRuns" (414 : Nat) ({ cls := "DotRuns$Line", name := "isLike", desc := "(LDotRuns$Line;)Z" } : Jvm.MethodName)) ∈ lw_all := lw_g (lw_at lw_m7 126 rfl) rfl
theorem q1700 : (Jvm.Cond.instanceMethod ({ cls := "DotRuns", name := "dot", desc := "(II)I" } : Jvm.MethodName)) ∈ lw_all := lw_g (lw_at lw_m7 150 rfl) rfl
theorem q1701 : (Jvm.Cond.selects "DotRuns" ({ cls := "DotRuns", name := "dot", desc := "(II)I" } : Jvm.MethodName) ({ cls := "DotRuns", name := "dot", desc := "(II)I" } : Jvm.MethodName)) ∈ lw_all := lw_g (lw_at lw_m7 151 rfl) rfl
theorem q1702 : (Jvm.Cond.code ({ cls := "DotRuns", name := "dot", desc := "(II)I" } : Jvm.MethodName) prog_1_method_14_code (3 : Nat) (Option.some Jvm.ClassFile.FieldType.int)) ∈ lw_all := lw_g (lw_at lw_m7 152 rfl) rfl
theorem q1703 : (Jvm.Cond.methodLink "DotRuns" (88 : Nat) ({ cls := "DotRuns", name := "isLine", desc := "(I)Z" } : Jvm.MethodName)) ∈ lw_all := lw_g (lw_at lw_m7 153 rfl) rfl
theorem q1704 : (Jvm.Cond.privateMethod ({ cls := "DotRuns", name := "isLine", desc := "(I)Z" } : Jvm.MethodName)) ∈ lw_tbl := lw_at lw_m7 154 rfl
theorem q1705 : (Jvm.Cond.instanceMethod ({ cls := "DotRuns", name := "isLine", desc := "(I)Z" } : Jvm.MethodName)) ∈ lw_all := lw_g (lw_at lw_m7 155 rfl) rfl
theorem q1706 : (Jvm.Cond.code ({ cls := "DotRuns", name := "isLine", desc := "(I)Z" } : Jvm.MethodName) prog_1_method_9_code (2 : Nat) (Option.some Jvm.ClassFile.FieldType.boolean)) ∈ lw_all := lw_g (lw_at lw_m7 156 rfl) rfl
theorem q1707 : (Jvm.Cond.methodLink "DotRuns" (92 : Nat) ({ cls := "DotRuns", name := "index", desc := "(Z)V" } : Jvm.MethodName)) ∈ lw_all := lw_g (lw_at lw_m7 157 rfl) rfl
theorem q1708 : (Jvm.Cond.static ({ cls := "DotRuns", name := "index", desc := "(Z)V" } : Jvm.MethodName)) ∈ lw_all := lw_g (lw_at lw_m7 158 rfl) rfl
theorem q1709 : (Jvm.Cond.code ({ cls := "DotRuns", name := "index", desc := "(Z)V" } : Jvm.MethodName) prog_1_method_3_code (1 : Nat) (Option.none : Option Jvm.ClassFile.FieldType)) ∈ lw_all := lw_g (lw_at lw_m7 159 rfl) rfl
theorem q1710 : (Jvm.Cond.classLink "DotRuns" (1 : Nat) "java/lang/IndexOutOfBoundsException") ∈ lw_all := lw_g (lw_at lw_m7 160 rfl) rfl
theorem q1719 : (Jvm.Cond.stringRef "DotRuns" (3 : Nat) "there is no such one") ∈ lw_tbl := lw_at lw_m7 169 rfl
theorem q1720 : (Jvm.Cond.methodLink "DotRuns" (5 : Nat) ({ cls := "java/lang/IndexOutOfBoundsException", name := "<init>", desc := "(Ljava/lang/String;)V" } : Jvm.MethodName)) ∈ lw_all := lw_g (lw_at lw_m7 170 rfl) rfl
theorem q1723 : (Jvm.Cond.methodLink "DotRuns" (141 : Nat) ({ cls := "DotRuns$Line", name := "dot", desc := "(I)I" } : Jvm.MethodName)) ∈ lw_all := lw_g (lw_at lw_m7 173 rfl) rfl
theorem q1728 : (Jvm.Cond.instanceMethod ({ cls := "DotRuns", name := "line", desc := "(II)I" } : Jvm.MethodName)) ∈ lw_all := lw_g (lw_at lw_m7 178 rfl) rfl
theorem q1729 : (Jvm.Cond.selects "DotRuns" ({ cls := "DotRuns", name := "line", desc := "(II)I" } : Jvm.MethodName) ({ cls := "DotRuns", name := "line", desc := "(II)I" } : Jvm.MethodName)) ∈ lw_all := lw_g (lw_at lw_m7 179 rfl) rfl
theorem q1730 : (Jvm.Cond.code ({ cls := "DotRuns", name := "line", desc := "(II)I" } : Jvm.MethodName) prog_1_method_15_code (5 : Nat) (Option.some Jvm.ClassFile.FieldType.int)) ∈ lw_all := lw_g (lw_at lw_m7 180 rfl) rfl
theorem q1731 : (Jvm.Cond.methodLink "DotRuns" (145 : Nat) ({ cls := "DotRuns", name := "lineAt", desc := "(I)LDotRuns$Line;" } : Jvm.MethodName)) ∈ lw_all := lw_g (lw_at lw_m7 181 rfl) rfl
theorem q1732 : (Jvm.Cond.privateMethod ({ cls := "DotRuns", name := "lineAt", desc := "(I)LDotRuns$Line;" } : Jvm.MethodName)) ∈ lw_tbl := lw_at lw_m7 182 rfl
theorem q1733 : (Jvm.Cond.instanceMethod ({ cls := "DotRuns", name := "lineAt", desc := "(I)LDotRuns$Line;" } : Jvm.MethodName)) ∈ lw_all := lw_g (lw_at lw_m7 183 rfl) rfl
theorem q1734 : (Jvm.Cond.code ({ cls := "DotRuns", name := "lineAt", desc := "(I)LDotRuns$Line;" } : Jvm.MethodName) prog_1_method_10_code (2 : Nat) (Option.some (Jvm.ClassFile.FieldType.object "DotRuns$Line"))) ∈ lw_all := lw_g (lw_at lw_m7 184 rfl) rfl
theorem q1735 : (Jvm.Cond.methodLink "DotRuns" (148 : Nat) ({ cls := "DotRuns$Page", name := "code", desc := "(I)LDotRuns$Code;" } : Jvm.MethodName)) ∈ lw_all := lw_g (lw_at lw_m7 185 rfl) rfl
theorem q1736 : (Jvm.Cond.methodLink "DotRuns" (160 : Nat) ({ cls := "DotRuns$Page", name := "bits", desc := "(II)I" } : Jvm.MethodName)) ∈ lw_all := lw_g (lw_at lw_m7 186 rfl) rfl
theorem q1737 : (Jvm.Cond.methodLink "DotRuns" (168 : Nat) ({ cls := "DotRuns$Runs", name := "many", desc := "()I" } : Jvm.MethodName)) ∈ lw_all := lw_g (lw_at lw_m7 187 rfl) rfl
theorem q1738 : (Jvm.Cond.methodLink "DotRuns" (185 : Nat) ({ cls := "DotRuns$Page", name := "latestMark", desc := "(II)I" } : Jvm.MethodName)) ∈ lw_all := lw_g (lw_at lw_m7 188 rfl) rfl
theorem q1743 : (Jvm.Cond.instanceMethod ({ cls := "DotRuns", name := "run", desc := "(II)I" } : Jvm.MethodName)) ∈ lw_all := lw_g (lw_at lw_m7 193 rfl) rfl
theorem q1744 : (Jvm.Cond.selects "DotRuns" ({ cls := "DotRuns", name := "run", desc := "(II)I" } : Jvm.MethodName) ({ cls := "DotRuns", name := "run", desc := "(II)I" } : Jvm.MethodName)) ∈ lw_all := lw_g (lw_at lw_m7 194 rfl) rfl
theorem q1745 : (Jvm.Cond.code ({ cls := "DotRuns", name := "run", desc := "(II)I" } : Jvm.MethodName) prog_1_method_16_code (4 : Nat) (Option.some Jvm.ClassFile.FieldType.int)) ∈ lw_all := lw_g (lw_at lw_m7 195 rfl) rfl
theorem q1746 : (Jvm.Cond.methodLink "DotRuns" (188 : Nat) ({ cls := "DotRuns$Runs", name := "number", desc := "(I)I" } : Jvm.MethodName)) ∈ lw_all := lw_g (lw_at lw_m7 196 rfl) rfl
theorem q1751 : (Jvm.Cond.instanceMethod ({ cls := "DotRuns", name := "mode", desc := "(III)I" } : Jvm.MethodName)) ∈ lw_all := lw_g (lw_at lw_m7 201 rfl) rfl
theorem q1752 : (Jvm.Cond.selects "DotRuns" ({ cls := "DotRuns", name := "mode", desc := "(III)I" } : Jvm.MethodName) ({ cls := "DotRuns", name := "mode", desc := "(III)I" } : Jvm.MethodName)) ∈ lw_all := lw_g (lw_at lw_m7 202 rfl) rfl
theorem q1753 : (Jvm.Cond.code ({ cls := "DotRuns", name := "mode", desc := "(III)I" } : Jvm.MethodName) prog_1_method_17_code (6 : Nat) (Option.some Jvm.ClassFile.FieldType.int)) ∈ lw_all := lw_g (lw_at lw_m7 203 rfl) rfl
theorem q1754 : (Jvm.Cond.classLink "DotRuns" (191 : Nat) "DotRuns$Mode") ∈ lw_all := lw_g (lw_at lw_m7 204 rfl) rfl
theorem q1755 : (Jvm.Cond.interfaceEntry "DotRuns" (193 : Nat)) ∈ lw_tbl := lw_at lw_m7 205 rfl
theorem q1756 : (Jvm.Cond.methodLink "DotRuns" (193 : Nat) ({ cls := "DotRuns$Mode", name := "sort", desc := "()I" } : Jvm.MethodName)) ∈ lw_all := lw_g (lw_at lw_m7 206 rfl) rfl
theorem q1757 : (Jvm.Cond.interfaceEntry "DotRuns" (199 : Nat)) ∈ lw_tbl := lw_at lw_m7 207 rfl
theorem q1759 : (Jvm.Cond.interfaceEntry "DotRuns" (200 : Nat)) ∈ lw_tbl := lw_at lw_m7 209 rfl
theorem q1765 : (Jvm.Cond.instanceMethod ({ cls := "DotRuns", name := "change", desc := "(II)I" } : Jvm.MethodName)) ∈ lw_all := lw_g (lw_at lw_m7 215 rfl) rfl
theorem q1766 : (Jvm.Cond.selects "DotRuns" ({ cls := "DotRuns", name := "change", desc := "(II)I" } : Jvm.MethodName) ({ cls := "DotRuns", name := "change", desc := "(II)I" } : Jvm.MethodName)) ∈ lw_all := lw_g (lw_at lw_m7 216 rfl) rfl
theorem q1767 : (Jvm.Cond.code ({ cls := "DotRuns", name := "change", desc := "(II)I" } : Jvm.MethodName) prog_1_method_18_code (6 : Nat) (Option.some Jvm.ClassFile.FieldType.int)) ∈ lw_all := lw_g (lw_at lw_m7 217 rfl) rfl
theorem q1768 : (Jvm.Cond.methodLink "DotRuns" (201 : Nat) ({ cls := "DotRuns$Line", name := "change", desc := "(II)I" } : Jvm.MethodName)) ∈ lw_all := lw_g (lw_at lw_m7 218 rfl) rfl
theorem q1773 : (Jvm.Cond.instanceMethod ({ cls := "DotRuns", name := "longest", desc := "(I)I" } : Jvm.MethodName)) ∈ lw_all := lw_g (lw_at lw_m7 223 rfl) rfl
theorem q1774 : (Jvm.Cond.selects "DotRuns" ({ cls := "DotRuns", name := "longest", desc := "(I)I" } : Jvm.MethodName) ({ cls := "DotRuns", name := "longest", desc := "(I)I" } : Jvm.MethodName)) ∈ lw_all := lw_g (lw_at lw_m7 224 rfl) rfl
theorem q1775 : (Jvm.Cond.code ({ cls := "DotRuns", name := "longest", desc := "(I)I" } : Jvm.MethodName) prog_1_method_20_code (2 : Nat) (Option.some Jvm.ClassFile.FieldType.int)) ∈ lw_all := lw_g (lw_at lw_m7 225 rfl) rfl
theorem q1776 : (Jvm.Cond.static ({ cls := "DotRuns", name := "lambda$longest$3", desc := "(II)I" } : Jvm.MethodName)) ∈ lw_all := lw_g (lw_at lw_m7 226 rfl) rfl
theorem q1777 : (Jvm.Cond.code ({ cls := "DotRuns", name := "lambda$longest$3", desc := "(II)I" } : Jvm.MethodName) prog_1_method_57_code (2 : Nat) (Option.some Jvm.ClassFile.FieldType.int)) ∈ lw_all := lw_g (lw_at lw_m7 227 rfl) rfl
theorem q1778 : (Jvm.Cond.methodLink "DotRuns" (409 : Nat) ({ cls := "java/lang/Math", name := "max", desc := "(II)I" } : Jvm.MethodName)) ∈ lw_all := lw_g (lw_at lw_m7 228 rfl) rfl
theorem q1779 : (Jvm.Cond.methodLink "DotRuns" (213 : Nat) ({ cls := "DotRuns", name := "overRuns", desc := "(ILDotRuns$Taking;)I" } : Jvm.MethodName)) ∈ lw_all := lw_g (lw_at lw_m7 229 rfl) rfl
theorem q1780 : (Jvm.Cond.privateMethod ({ cls := "DotRuns", name := "overRuns", desc := "(ILDotRuns$Taking;)I" } : Jvm.MethodName)) ∈ lw_tbl := lw_at lw_m7 230 rfl
theorem q1781 : (Jvm.Cond.instanceMethod ({ cls := "DotRuns", name := "overRuns", desc := "(ILDotRuns$Taking;)I" } : Jvm.MethodName)) ∈ lw_all := lw_g (lw_at lw_m7 231 rfl) rfl
theorem q1782 : (Jvm.Cond.code ({ cls := "DotRuns", name := "overRuns", desc := "(ILDotRuns$Taking;)I" } : Jvm.MethodName) prog_1_method_19_code (7 : Nat) (Option.some Jvm.ClassFile.FieldType.int)) ∈ lw_all := lw_g (lw_at lw_m7 232 rfl) rfl
theorem q1783 : (Jvm.Cond.interfaceEntry "DotRuns" (205 : Nat)) ∈ lw_tbl := lw_at lw_m7 233 rfl
theorem q1784 : (Jvm.Cond.methodLink "DotRuns" (205 : Nat) ({ cls := "DotRuns$Taking", name := "with", desc := "(II)I" } : Jvm.MethodName)) ∈ lw_all := lw_g (lw_at lw_m7 234 rfl) rfl
theorem q1791 : (Jvm.Cond.instanceMethod ({ cls := "DotRuns", name := "runsOf", desc := "(II)I" } : Jvm.MethodName)) ∈ lw_all := lw_g (lw_at lw_m8 1 rfl) rfl
theorem q1792 : (Jvm.Cond.selects "DotRuns" ({ cls := "DotRuns", name := "runsOf", desc := "(II)I" } : Jvm.MethodName) ({ cls := "DotRuns", name := "runsOf", desc := "(II)I" } : Jvm.MethodName)) ∈ lw_all := lw_g (lw_at lw_m8 2 rfl) rfl
theorem q1793 : (Jvm.Cond.code ({ cls := "DotRuns", name := "runsOf", desc := "(II)I" } : Jvm.MethodName) prog_1_method_21_code (3 : Nat) (Option.some Jvm.ClassFile.FieldType.int)) ∈ lw_all := lw_g (lw_at lw_m8 3 rfl) rfl
theorem q1794 : (Jvm.Cond.static ({ cls := "DotRuns", name := "lambda$runsOf$4", desc := "(III)I" } : Jvm.MethodName)) ∈ lw_all := lw_g (lw_at lw_m8 4 rfl) rfl
theorem q1795 : (Jvm.Cond.code ({ cls := "DotRuns", name := "lambda$runsOf$4", desc := "(III)I" } : Jvm.MethodName) prog_1_method_56_code (3 : Nat) (Option.some Jvm.ClassFile.FieldType.int)) ∈ lw_all := lw_g (lw_at lw_m8 5 rfl) rfl
theorem q1800 : (Jvm.Cond.instanceMethod ({ cls := "DotRuns", name := "readBelow", desc := "(II)I" } : Jvm.MethodName)) ∈ lw_all := lw_g (lw_at lw_m8 10 rfl) rfl
theorem q1801 : (Jvm.Cond.selects "DotRuns" ({ cls := "DotRuns", name := "readBelow", desc := "(II)I" } : Jvm.MethodName) ({ cls := "DotRuns", name := "readBelow", desc := "(II)I" } : Jvm.MethodName)) ∈ lw_all := lw_g (lw_at lw_m8 11 rfl) rfl
theorem q1802 : (Jvm.Cond.code ({ cls := "DotRuns", name := "readBelow", desc := "(II)I" } : Jvm.MethodName) prog_1_method_22_code (5 : Nat) (Option.some Jvm.ClassFile.FieldType.int)) ∈ lw_all := lw_g (lw_at lw_m8 12 rfl) rfl
theorem q1803 : (Jvm.Cond.methodLink "DotRuns" (220 : Nat) ({ cls := "DotRuns$Line", name := "<init>", desc := "(I)V" } : Jvm.MethodName)) ∈ lw_all := lw_g (lw_at lw_m8 13 rfl) rfl
theorem q1804 : (Jvm.Cond.methodLink "DotRuns" (221 : Nat) ({ cls := "DotRuns$Code", name := "read", desc := "(LDotRuns$Line;)LDotRuns$Line;" } : Jvm.MethodName)) ∈ lw_all := lw_g (lw_at lw_m8 14 rfl) rfl
theorem q1805 : (Jvm.Cond.methodLink "DotRuns" (225 : Nat) ({ cls := "DotRuns$Line", name := "wrong", desc := "(LDotRuns$Line;)I" } : Jvm.MethodName)) ∈ lw_all := lw_g (lw_at lw_m8 15 rfl) rfl
theorem q1810 : (Jvm.Cond.instanceMethod ({ cls := "DotRuns", name := "set", desc := "(II)I" } : Jvm.MethodName)) ∈ lw_all := lw_g (lw_at lw_m8 20 rfl) rfl
theorem q1811 : (Jvm.Cond.selects "DotRuns" ({ cls := "DotRuns", name := "set", desc := "(II)I" } : Jvm.MethodName) ({ cls := "DotRuns", name := "set", desc := "(II)I" } : Jvm.MethodName)) ∈ lw_all := lw_g (lw_at lw_m8 21 rfl) rfl
theorem q1812 : (Jvm.Cond.code ({ cls := "DotRuns", name := "set", desc := "(II)I" } : Jvm.MethodName) prog_1_method_23_code (4 : Nat) (Option.some Jvm.ClassFile.FieldType.int)) ∈ lw_all := lw_g (lw_at lw_m8 22 rfl) rfl
theorem q1813 : (Jvm.Cond.fieldLink "DotRuns" (229 : Nat) "DotRuns" "LEAST" "[I") ∈ lw_all := lw_g (lw_at lw_m8 23 rfl) rfl
theorem q1814 : (Jvm.Cond.methodLink "DotRuns" (235 : Nat) ({ cls := "DotRuns", name := "edited", desc := "()LDotRuns$Page;" } : Jvm.MethodName)) ∈ lw_all := lw_g (lw_at lw_m8 24 rfl) rfl
theorem q1815 : (Jvm.Cond.privateMethod ({ cls := "DotRuns", name := "edited", desc := "()LDotRuns$Page;" } : Jvm.MethodName)) ∈ lw_tbl := lw_at lw_m8 25 rfl
theorem q1816 : (Jvm.Cond.instanceMethod ({ cls := "DotRuns", name := "edited", desc := "()LDotRuns$Page;" } : Jvm.MethodName)) ∈ lw_all := lw_g (lw_at lw_m8 26 rfl) rfl
theorem q1817 : (Jvm.Cond.code ({ cls := "DotRuns", name := "edited", desc := "()LDotRuns$Page;" } : Jvm.MethodName) prog_1_method_8_code (2 : Nat) (Option.some (Jvm.ClassFile.FieldType.object "DotRuns$Page"))) ∈ lw_all := lw_g (lw_at lw_m8 27 rfl) rfl
theorem q1818 : (Jvm.Cond.methodLink "DotRuns" (65 : Nat) ({ cls := "java/util/ArrayDeque", name := "removeFirst", desc := "()Ljava/lang/Object;" } : Jvm.MethodName)) ∈ lw_all := lw_g (lw_at lw_m8 28 rfl) rfl
theorem q1829 : (Jvm.Cond.methodLink "DotRuns" (69 : Nat) ({ cls := "java/util/ArrayDeque", name := "addLast", desc := "(Ljava/lang/Object;)V" } : Jvm.MethodName)) ∈ lw_all := lw_g (lw_at lw_m8 39 rfl) rfl
theorem q1847 : (Jvm.Cond.methodLink "DotRuns" (73 : Nat) ({ cls := "DotRuns$Page", name := "copy", desc := "()LDotRuns$Page;" } : Jvm.MethodName)) ∈ lw_all := lw_g (lw_at lw_m8 57 rfl) rfl
theorem q1862 : (Jvm.Cond.instanceMethod ({ cls := "DotRuns", name := "lose", desc := "(II)I" } : Jvm.MethodName)) ∈ lw_all := lw_g (lw_at lw_m8 72 rfl) rfl
theorem q1863 : (Jvm.Cond.selects "DotRuns" ({ cls := "DotRuns", name := "lose", desc := "(II)I" } : Jvm.MethodName) ({ cls := "DotRuns", name := "lose", desc := "(II)I" } : Jvm.MethodName)) ∈ lw_all := lw_g (lw_at lw_m8 73 rfl) rfl
theorem q1864 : (Jvm.Cond.code ({ cls := "DotRuns", name := "lose", desc := "(II)I" } : Jvm.MethodName) prog_1_method_24_code (4 : Nat) (Option.some Jvm.ClassFile.FieldType.int)) ∈ lw_all := lw_g (lw_at lw_m8 74 rfl) rfl
theorem q1869 : (Jvm.Cond.instanceMethod ({ cls := "DotRuns", name := "addLine", desc := "(II)I" } : Jvm.MethodName)) ∈ lw_all := lw_g (lw_at lw_m8 79 rfl) rfl
theorem q1870 : (Jvm.Cond.selects "DotRuns" ({ cls := "DotRuns", name := "addLine", desc := "(II)I" } : Jvm.MethodName) ({ cls := "DotRuns", name := "addLine", desc := "(II)I" } : Jvm.MethodName)) ∈ lw_all := lw_g (lw_at lw_m8 80 rfl) rfl
theorem q1871 : (Jvm.Cond.code ({ cls := "DotRuns", name := "addLine", desc := "(II)I" } : Jvm.MethodName) prog_1_method_26_code (3 : Nat) (Option.some Jvm.ClassFile.FieldType.int)) ∈ lw_all := lw_g (lw_at lw_m8 81 rfl) rfl
theorem q1872 : (Jvm.Cond.methodLink "DotRuns" (238 : Nat) ({ cls := "DotRuns", name := "isPart", desc := "(II)Z" } : Jvm.MethodName)) ∈ lw_all := lw_g (lw_at lw_m8 82 rfl) rfl
theorem q1873 : (Jvm.Cond.privateMethod ({ cls := "DotRuns", name := "isPart", desc := "(II)Z" } : Jvm.MethodName)) ∈ lw_tbl := lw_at lw_m8 83 rfl
theorem q1874 : (Jvm.Cond.instanceMethod ({ cls := "DotRuns", name := "isPart", desc := "(II)Z" } : Jvm.MethodName)) ∈ lw_all := lw_g (lw_at lw_m8 84 rfl) rfl
theorem q1875 : (Jvm.Cond.code ({ cls := "DotRuns", name := "isPart", desc := "(II)Z" } : Jvm.MethodName) prog_1_method_25_code (3 : Nat) (Option.some Jvm.ClassFile.FieldType.boolean)) ∈ lw_all := lw_g (lw_at lw_m8 85 rfl) rfl
theorem q1876 : (Jvm.Cond.methodLink "DotRuns" (245 : Nat) ({ cls := "DotRuns$Line", name := "ones", desc := "(II)J" } : Jvm.MethodName)) ∈ lw_all := lw_g (lw_at lw_m8 86 rfl) rfl
theorem q1877 : (Jvm.Cond.methodLink "DotRuns" (249 : Nat) ({ cls := "DotRuns$Line", name := "<init>", desc := "(IJ)V" } : Jvm.MethodName)) ∈ lw_all := lw_g (lw_at lw_m8 87 rfl) rfl
theorem q1878 : (Jvm.Cond.interfaceEntry "DotRuns" (252 : Nat)) ∈ lw_tbl := lw_at lw_m8 88 rfl
theorem q1879 : (Jvm.Cond.methodLink "DotRuns" (252 : Nat) ({ cls := "java/util/List", name := "add", desc := "(Ljava/lang/Object;)Z" } : Jvm.MethodName)) ∈ lw_all := lw_g (lw_at lw_m8 89 rfl) rfl
theorem q1884 : (Jvm.Cond.instanceMethod ({ cls := "DotRuns", name := "paint", desc := "(IIII)I" } : Jvm.MethodName)) ∈ lw_all := lw_g (lw_at lw_m8 94 rfl) rfl
theorem q1885 : (Jvm.Cond.selects "DotRuns" ({ cls := "DotRuns", name := "paint", desc := "(IIII)I" } : Jvm.MethodName) ({ cls := "DotRuns", name := "paint", desc := "(IIII)I" } : Jvm.MethodName)) ∈ lw_all := lw_g (lw_at lw_m8 95 rfl) rfl
theorem q1886 : (Jvm.Cond.code ({ cls := "DotRuns", name := "paint", desc := "(IIII)I" } : Jvm.MethodName) prog_1_method_27_code (8 : Nat) (Option.some Jvm.ClassFile.FieldType.int)) ∈ lw_all := lw_g (lw_at lw_m8 96 rfl) rfl
theorem q1887 : (Jvm.Cond.methodLink "DotRuns" (256 : Nat) ({ cls := "DotRuns$Line", name := "painted", desc := "(III)LDotRuns$Line;" } : Jvm.MethodName)) ∈ lw_all := lw_g (lw_at lw_m8 97 rfl) rfl
theorem q1894 : (Jvm.Cond.interfaceEntry "DotRuns" (260 : Nat)) ∈ lw_tbl := lw_at lw_m8 104 rfl
theorem q1895 : (Jvm.Cond.methodLink "DotRuns" (260 : Nat) ({ cls := "java/util/List", name := "set", desc := "(ILjava/lang/Object;)Ljava/lang/Object;" } : Jvm.MethodName)) ∈ lw_all := lw_g (lw_at lw_m8 105 rfl) rfl
theorem q1907 : (Jvm.Cond.instanceMethod ({ cls := "DotRuns", name := "shift", desc := "(II)I" } : Jvm.MethodName)) ∈ lw_all := lw_g (lw_at lw_m8 117 rfl) rfl
theorem q1908 : (Jvm.Cond.selects "DotRuns" ({ cls := "DotRuns", name := "shift", desc := "(II)I" } : Jvm.MethodName) ({ cls := "DotRuns", name := "shift", desc := "(II)I" } : Jvm.MethodName)) ∈ lw_all := lw_g (lw_at lw_m8 118 rfl) rfl
theorem q1909 : (Jvm.Cond.code ({ cls := "DotRuns", name := "shift", desc := "(II)I" } : Jvm.MethodName) prog_1_method_28_code (6 : Nat) (Option.some Jvm.ClassFile.FieldType.int)) ∈ lw_all := lw_g (lw_at lw_m8 119 rfl) rfl
theorem q1910 : (Jvm.Cond.methodLink "DotRuns" (263 : Nat) ({ cls := "DotRuns$Line", name := "shifted", desc := "(I)LDotRuns$Line;" } : Jvm.MethodName)) ∈ lw_all := lw_g (lw_at lw_m8 120 rfl) rfl
theorem q1918 : (Jvm.Cond.instanceMethod ({ cls := "DotRuns", name := "copyLine", desc := "(II)I" } : Jvm.MethodName)) ∈ lw_all := lw_g (lw_at lw_m8 128 rfl) rfl
theorem q1919 : (Jvm.Cond.selects "DotRuns" ({ cls := "DotRuns", name := "copyLine", desc := "(II)I" } : Jvm.MethodName) ({ cls := "DotRuns", name := "copyLine", desc := "(II)I" } : Jvm.MethodName)) ∈ lw_all := lw_g (lw_at lw_m8 129 rfl) rfl
theorem q1920 : (Jvm.Cond.code ({ cls := "DotRuns", name := "copyLine", desc := "(II)I" } : Jvm.MethodName) prog_1_method_29_code (4 : Nat) (Option.some Jvm.ClassFile.FieldType.int)) ∈ lw_all := lw_g (lw_at lw_m8 130 rfl) rfl
theorem q1921 : (Jvm.Cond.interfaceEntry "DotRuns" (266 : Nat)) ∈ lw_tbl := lw_at lw_m8 131 rfl
theorem q1922 : (Jvm.Cond.methodLink "DotRuns" (266 : Nat) ({ cls := "java/util/List", name := "add", desc := "(ILjava/lang/Object;)V" } : Jvm.MethodName)) ∈ lw_all := lw_g (lw_at lw_m8 132 rfl) rfl
theorem q1947 : (Jvm.Cond.instanceMethod ({ cls := "DotRuns", name := "removeLine", desc := "(I)I" } : Jvm.MethodName)) ∈ lw_all := lw_g (lw_at lw_m8 157 rfl) rfl
theorem q1948 : (Jvm.Cond.selects "DotRuns" ({ cls := "DotRuns", name := "removeLine", desc := "(I)I" } : Jvm.MethodName) ({ cls := "DotRuns", name := "removeLine", desc := "(I)I" } : Jvm.MethodName)) ∈ lw_all := lw_g (lw_at lw_m8 158 rfl) rfl
theorem q1949 : (Jvm.Cond.code ({ cls := "DotRuns", name := "removeLine", desc := "(I)I" } : Jvm.MethodName) prog_1_method_30_code (3 : Nat) (Option.some Jvm.ClassFile.FieldType.int)) ∈ lw_all := lw_g (lw_at lw_m8 159 rfl) rfl
theorem q1950 : (Jvm.Cond.interfaceEntry "DotRuns" (269 : Nat)) ∈ lw_tbl := lw_at lw_m8 160 rfl
theorem q1951 : (Jvm.Cond.methodLink "DotRuns" (269 : Nat) ({ cls := "java/util/List", name := "remove", desc := "(I)Ljava/lang/Object;" } : Jvm.MethodName)) ∈ lw_all := lw_g (lw_at lw_m8 161 rfl) rfl
theorem q1967 : (Jvm.Cond.instanceMethod ({ cls := "DotRuns", name := "invert", desc := "(I)I" } : Jvm.MethodName)) ∈ lw_all := lw_g (lw_at lw_m8 177 rfl) rfl
theorem q1968 : (Jvm.Cond.selects "DotRuns" ({ cls := "DotRuns", name := "invert", desc := "(I)I" } : Jvm.MethodName) ({ cls := "DotRuns", name := "invert", desc := "(I)I" } : Jvm.MethodName)) ∈ lw_all := lw_g (lw_at lw_m8 178 rfl) rfl
theorem q1969 : (Jvm.Cond.code ({ cls := "DotRuns", name := "invert", desc := "(I)I" } : Jvm.MethodName) prog_1_method_31_code (5 : Nat) (Option.some Jvm.ClassFile.FieldType.int)) ∈ lw_all := lw_g (lw_at lw_m8 179 rfl) rfl
theorem q1970 : (Jvm.Cond.constantLong "DotRuns" (275 : Nat) (-1 : Int64)) ∈ lw_all := lw_g (lw_at lw_m8 180 rfl) rfl
theorem q1975 : (Jvm.Cond.instanceMethod ({ cls := "DotRuns", name := "swap", desc := "(II)I" } : Jvm.MethodName)) ∈ lw_all := lw_g (lw_at lw_m8 185 rfl) rfl
theorem q1976 : (Jvm.Cond.selects "DotRuns" ({ cls := "DotRuns", name := "swap", desc := "(II)I" } : Jvm.MethodName) ({ cls := "DotRuns", name := "swap", desc := "(II)I" } : Jvm.MethodName)) ∈ lw_all := lw_g (lw_at lw_m8 186 rfl) rfl
theorem q1977 : (Jvm.Cond.code ({ cls := "DotRuns", name := "swap", desc := "(II)I" } : Jvm.MethodName) prog_1_method_32_code (5 : Nat) (Option.some Jvm.ClassFile.FieldType.int)) ∈ lw_all := lw_g (lw_at lw_m8 187 rfl) rfl
theorem q1982 : (Jvm.Cond.instanceMethod ({ cls := "DotRuns", name := "sent", desc := "(I)I" } : Jvm.MethodName)) ∈ lw_all := lw_g (lw_at lw_m8 192 rfl) rfl
theorem q1983 : (Jvm.Cond.selects "DotRuns" ({ cls := "DotRuns", name := "sent", desc := "(I)I" } : Jvm.MethodName) ({ cls := "DotRuns", name := "sent", desc := "(I)I" } : Jvm.MethodName)) ∈ lw_all := lw_g (lw_at lw_m8 193 rfl) rfl
theorem q1984 : (Jvm.Cond.code ({ cls := "DotRuns", name := "sent", desc := "(I)I" } : Jvm.MethodName) prog_1_method_33_code (3 : Nat) (Option.some Jvm.ClassFile.FieldType.int)) ∈ lw_all := lw_g (lw_at lw_m8 194 rfl) rfl
theorem q1985 : (Jvm.Cond.methodLink "DotRuns" (290 : Nat) ({ cls := "DotRuns$Sending", name := "inState", desc := "(I)I" } : Jvm.MethodName)) ∈ lw_all := lw_g (lw_at lw_m8 195 rfl) rfl
theorem q1994 : (Jvm.Cond.instanceMethod ({ cls := "DotRuns", name := "sentLine", desc := "(II)I" } : Jvm.MethodName)) ∈ lw_all := lw_g (lw_at lw_m8 204 rfl) rfl
theorem q1995 : (Jvm.Cond.selects "DotRuns" ({ cls := "DotRuns", name := "sentLine", desc := "(II)I" } : Jvm.MethodName) ({ cls := "DotRuns", name := "sentLine", desc := "(II)I" } : Jvm.MethodName)) ∈ lw_all := lw_g (lw_at lw_m8 205 rfl) rfl
theorem q1996 : (Jvm.Cond.code ({ cls := "DotRuns", name := "sentLine", desc := "(II)I" } : Jvm.MethodName) prog_1_method_34_code (4 : Nat) (Option.some Jvm.ClassFile.FieldType.int)) ∈ lw_all := lw_g (lw_at lw_m8 206 rfl) rfl
theorem q1997 : (Jvm.Cond.methodLink "DotRuns" (310 : Nat) ({ cls := "DotRuns$Sending", name := "wrongIn", desc := "(I)I" } : Jvm.MethodName)) ∈ lw_all := lw_g (lw_at lw_m8 207 rfl) rfl
theorem q2002 : (Jvm.Cond.instanceMethod ({ cls := "DotRuns", name := "received", desc := "(II)I" } : Jvm.MethodName)) ∈ lw_all := lw_g (lw_at lw_m8 212 rfl) rfl
theorem q2003 : (Jvm.Cond.selects "DotRuns" ({ cls := "DotRuns", name := "received", desc := "(II)I" } : Jvm.MethodName) ({ cls := "DotRuns", name := "received", desc := "(II)I" } : Jvm.MethodName)) ∈ lw_all := lw_g (lw_at lw_m8 213 rfl) rfl
theorem q2004 : (Jvm.Cond.code ({ cls := "DotRuns", name := "received", desc := "(II)I" } : Jvm.MethodName) prog_1_method_35_code (3 : Nat) (Option.some Jvm.ClassFile.FieldType.int)) ∈ lw_all := lw_g (lw_at lw_m8 214 rfl) rfl
theorem q2009 : (Jvm.Cond.instanceMethod ({ cls := "DotRuns", name := "harm", desc := "(II)I" } : Jvm.MethodName)) ∈ lw_all := lw_g (lw_at lw_m8 219 rfl) rfl
theorem q2010 : (Jvm.Cond.selects "DotRuns" ({ cls := "DotRuns", name := "harm", desc := "(II)I" } : Jvm.MethodName) ({ cls := "DotRuns", name := "harm", desc := "(II)I" } : Jvm.MethodName)) ∈ lw_all := lw_g (lw_at lw_m8 220 rfl) rfl
theorem q2011 : (Jvm.Cond.code ({ cls := "DotRuns", name := "harm", desc := "(II)I" } : Jvm.MethodName) prog_1_method_38_code (7 : Nat) (Option.some Jvm.ClassFile.FieldType.int)) ∈ lw_all := lw_g (lw_at lw_m8 221 rfl) rfl
theorem q2016 : (Jvm.Cond.instanceMethod ({ cls := "DotRuns", name := "write", desc := "(I)I" } : Jvm.MethodName)) ∈ lw_all := lw_g (lw_at lw_m8 226 rfl) rfl
theorem q2017 : (Jvm.Cond.selects "DotRuns" ({ cls := "DotRuns", name := "write", desc := "(I)I" } : Jvm.MethodName) ({ cls := "DotRuns", name := "write", desc := "(I)I" } : Jvm.MethodName)) ∈ lw_all := lw_g (lw_at lw_m8 227 rfl) rfl
theorem q2018 : (Jvm.Cond.code ({ cls := "DotRuns", name := "write", desc := "(I)I" } : Jvm.MethodName) prog_1_method_44_code (5 : Nat) (Option.some Jvm.ClassFile.FieldType.int)) ∈ lw_all := lw_g (lw_at lw_m8 228 rfl) rfl
theorem q2019 : (Jvm.Cond.methodLink "DotRuns" (342 : Nat) ({ cls := "java/lang/StringBuilder", name := "setLength", desc := "(I)V" } : Jvm.MethodName)) ∈ lw_all := lw_g (lw_at lw_m8 229 rfl) rfl
theorem q2071 : (Jvm.Cond.stringRef "DotRuns" (345 : Nat) "alone") ∈ lw_tbl := lw_at lw_m9 41 rfl
theorem q2072 : (Jvm.Cond.methodLink "DotRuns" (346 : Nat) ({ cls := "java/lang/StringBuilder", name := "append", desc := "(Ljava/lang/String;)Ljava/lang/StringBuilder;" } : Jvm.MethodName)) ∈ lw_all := lw_g (lw_at lw_m9 42 rfl) rfl
theorem q2073 : (Jvm.Cond.methodLink "DotRuns" (331 : Nat) ({ cls := "java/lang/StringBuilder", name := "append", desc := "(C)Ljava/lang/StringBuilder;" } : Jvm.MethodName)) ∈ lw_all := lw_g (lw_at lw_m9 43 rfl) rfl
theorem q2074 : (Jvm.Cond.methodLink "DotRuns" (339 : Nat) ({ cls := "java/lang/StringBuilder", name := "append", desc := "(I)Ljava/lang/StringBuilder;" } : Jvm.MethodName)) ∈ lw_all := lw_g (lw_at lw_m9 44 rfl) rfl
theorem q2075 : (Jvm.Cond.stringRef "DotRuns" (349 : Nat) "above") ∈ lw_tbl := lw_at lw_m9 45 rfl
theorem q2076 : (Jvm.Cond.interfaceEntry "DotRuns" (350 : Nat)) ∈ lw_tbl := lw_at lw_m9 46 rfl
theorem q2077 : (Jvm.Cond.methodLink "DotRuns" (350 : Nat) ({ cls := "java/util/List", name := "iterator", desc := "()Ljava/util/Iterator;" } : Jvm.MethodName)) ∈ lw_all := lw_g (lw_at lw_m9 47 rfl) rfl
theorem q2078 : (Jvm.Cond.interfaceEntry "DotRuns" (354 : Nat)) ∈ lw_tbl := lw_at lw_m9 48 rfl
theorem q2079 : (Jvm.Cond.methodLink "DotRuns" (354 : Nat) ({ cls := "java/util/Iterator", name := "hasNext", desc := "()Z" } : Jvm.MethodName)) ∈ lw_all := lw_g (lw_at lw_m9 49 rfl) rfl
theorem q2080 : (Jvm.Cond.interfaceEntry "DotRuns" (359 : Nat)) ∈ lw_tbl := lw_at lw_m9 50 rfl
theorem q2081 : (Jvm.Cond.methodLink "DotRuns" (359 : Nat) ({ cls := "java/util/Iterator", name := "next", desc := "()Ljava/lang/Object;" } : Jvm.MethodName)) ∈ lw_all := lw_g (lw_at lw_m9 51 rfl) rfl
theorem q2082 : (Jvm.Cond.methodLink "DotRuns" (362 : Nat) ({ cls := "DotRuns", name := "tellMode", desc := "(LDotRuns$Mode;)V" } : Jvm.MethodName)) ∈ lw_all := lw_g (lw_at lw_m9 52 rfl) rfl
theorem q2083 : (Jvm.Cond.privateMethod ({ cls := "DotRuns", name := "tellMode", desc := "(LDotRuns$Mode;)V" } : Jvm.MethodName)) ∈ lw_tbl := lw_at lw_m9 53 rfl
theorem q2084 : (Jvm.Cond.instanceMethod ({ cls := "DotRuns", name := "tellMode", desc := "(LDotRuns$Mode;)V" } : Jvm.MethodName)) ∈ lw_all := lw_g (lw_at lw_m9 54 rfl) rfl
theorem q2085 : (Jvm.Cond.code ({ cls := "DotRuns", name := "tellMode", desc := "(LDotRuns$Mode;)V" } : Jvm.MethodName) prog_1_method_43_code (3 : Nat) (Option.none : Option Jvm.ClassFile.FieldType)) ∈ lw_all := lw_g (lw_at lw_m9 55 rfl) rfl
theorem q2086 : (Jvm.Cond.interfaceEntry "DotRuns" (335 : Nat)) ∈ lw_tbl := lw_at lw_m9 56 rfl
theorem q2087 : (Jvm.Cond.methodLink "DotRuns" (335 : Nat) ({ cls := "DotRuns$Mode", name := "letter", desc := "()C" } : Jvm.MethodName)) ∈ lw_all := lw_g (lw_at lw_m9 57 rfl) rfl
theorem q2109 : (Jvm.Cond.instanceMethod ({ cls := "DotRuns", name := "show", desc := "(I)I" } : Jvm.MethodName)) ∈ lw_all := lw_g (lw_at lw_m9 79 rfl) rfl
theorem q2110 : (Jvm.Cond.selects "DotRuns" ({ cls := "DotRuns", name := "show", desc := "(I)I" } : Jvm.MethodName) ({ cls := "DotRuns", name := "show", desc := "(I)I" } : Jvm.MethodName)) ∈ lw_all := lw_g (lw_at lw_m9 80 rfl) rfl
theorem q2111 : (Jvm.Cond.code ({ cls := "DotRuns", name := "show", desc := "(I)I" } : Jvm.MethodName) prog_1_method_46_code (3 : Nat) (Option.some Jvm.ClassFile.FieldType.int)) ∈ lw_all := lw_g (lw_at lw_m9 81 rfl) rfl
theorem q2112 : (Jvm.Cond.methodLink "DotRuns" (376 : Nat) ({ cls := "DotRuns", name := "tell", desc := "(Ljava/lang/CharSequence;)V" } : Jvm.MethodName)) ∈ lw_all := lw_g (lw_at lw_m9 82 rfl) rfl
theorem q2113 : (Jvm.Cond.privateMethod ({ cls := "DotRuns", name := "tell", desc := "(Ljava/lang/CharSequence;)V" } : Jvm.MethodName)) ∈ lw_tbl := lw_at lw_m9 83 rfl
theorem q2114 : (Jvm.Cond.instanceMethod ({ cls := "DotRuns", name := "tell", desc := "(Ljava/lang/CharSequence;)V" } : Jvm.MethodName)) ∈ lw_all := lw_g (lw_at lw_m9 84 rfl) rfl
theorem q2115 : (Jvm.Cond.code ({ cls := "DotRuns", name := "tell", desc := "(Ljava/lang/CharSequence;)V" } : Jvm.MethodName) prog_1_method_45_code (3 : Nat) (Option.none : Option Jvm.ClassFile.FieldType)) ∈ lw_all := lw_g (lw_at lw_m9 85 rfl) rfl
theorem q2116 : (Jvm.Cond.interfaceEntry "DotRuns" (369 : Nat)) ∈ lw_tbl := lw_at lw_m9 86 rfl
theorem q2117 : (Jvm.Cond.methodLink "DotRuns" (369 : Nat) ({ cls := "java/lang/CharSequence", name := "length", desc := "()I" } : Jvm.MethodName)) ∈ lw_all := lw_g (lw_at lw_m9 87 rfl) rfl
theorem q2134 : (Jvm.Cond.interfaceEntry "DotRuns" (372 : Nat)) ∈ lw_tbl := lw_at lw_m9 104 rfl
theorem q2135 : (Jvm.Cond.methodLink "DotRuns" (372 : Nat) ({ cls := "java/lang/CharSequence", name := "charAt", desc := "(I)C" } : Jvm.MethodName)) ∈ lw_all := lw_g (lw_at lw_m9 105 rfl) rfl
theorem q2162 : (Jvm.Cond.instanceMethod ({ cls := "DotRuns", name := "save", desc := "(I)V" } : Jvm.MethodName)) ∈ lw_all := lw_g (lw_at lw_m9 132 rfl) rfl
theorem q2163 : (Jvm.Cond.selects "DotRuns" ({ cls := "DotRuns", name := "save", desc := "(I)V" } : Jvm.MethodName) ({ cls := "DotRuns", name := "save", desc := "(I)V" } : Jvm.MethodName)) ∈ lw_all := lw_g (lw_at lw_m9 133 rfl) rfl
theorem q2164 : (Jvm.Cond.code ({ cls := "DotRuns", name := "save", desc := "(I)V" } : Jvm.MethodName) prog_1_method_54_code (2 : Nat) (Option.none : Option Jvm.ClassFile.FieldType)) ∈ lw_all := lw_g (lw_at lw_m9 134 rfl) rfl
theorem q2169 : (Jvm.Cond.instanceMethod ({ cls := "DotRuns", name := "restore", desc := "(I)V" } : Jvm.MethodName)) ∈ lw_all := lw_g (lw_at lw_m9 139 rfl) rfl
theorem q2170 : (Jvm.Cond.selects "DotRuns" ({ cls := "DotRuns", name := "restore", desc := "(I)V" } : Jvm.MethodName) ({ cls := "DotRuns", name := "restore", desc := "(I)V" } : Jvm.MethodName)) ∈ lw_all := lw_g (lw_at lw_m9 140 rfl) rfl
theorem q2171 : (Jvm.Cond.code ({ cls := "DotRuns", name := "restore", desc := "(I)V" } : Jvm.MethodName) prog_1_method_55_code (2 : Nat) (Option.none : Option Jvm.ClassFile.FieldType)) ∈ lw_all := lw_g (lw_at lw_m9 141 rfl) rfl
theorem q2775 : (Jvm.Cond.castable "DotRuns" "java/lang/Object") ∈ lw_tbl := lw_at lw_m12 25 rfl
theorem in_X1 : ∀ w ∈ wsX10, w ∈ lw_all := lw_in wsX10 [586, 588, 590, 592, 594, 596, 598, 600] (by decide +kernel) (by decide +kernel)
