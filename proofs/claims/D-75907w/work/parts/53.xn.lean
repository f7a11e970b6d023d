/-! DotRuns$Page -/
set_option maxRecDepth 100000
def RX2 : String := "DotRuns$Page"
def TX2 : u_T := fun k => match k with
  | 0 => ("DotRuns$Page", "wide", "I", true)
  | 1 => ("DotRuns$Page", "set", "[I", true)
  | 2 => ("DotRuns$Page", "losses", "[I", true)
  | 3 => ("DotRuns$Page", "lines", "Ljava/util/List;", true)
  | _ => ("DotRuns$Page", "codes", "Ljava/util/List;", false)
def tyX2 : Nat → FieldType := fun k => match k with
  | 0 => .int
  | 1 => .array .int
  | 2 => .array .int
  | 3 => .object "java/util/List"
  | _ => .object "java/util/List"
abbrev wsX20 : List Cond := u_ws RX2 TX2 5
theorem nmX2 : ∀ a, a < 5 → ∀ b, b < 5 → a ≠ b → (TX2 a).2.1 ≠ (TX2 b).2.1 := by decide +kernel
theorem tyX2_ok : ∀ k, k < 5 → parseFieldDescriptor (TX2 k).2.2.1 = some (tyX2 k) := by decide +kernel
abbrev cX2_init : ByteArray := prog_8_method_1_code
def yX2_init : MethodName := ⟨RX2, "<init>", "(I)V"⟩
def dkwX2_init_0 : List UInt8 := [42, 27, 178, 0, 3, 182, 0, 7, 192, 0, 8, 16, 20, 188, 10, 183, 0, 12, 177]
abbrev dktX2_init_0 : List UInt8 := dkwX2_init_0 ++ []
theorem dksX2_init_0 : cX2_init.data.toList.drop 0 = dktX2_init_0 := by decide +kernel
theorem dX2_init_0 : decode cX2_init 0 = .ok (.aload_n 0, 1) := dk_42 (dk_at dksX2_init_0 0 rfl rfl)
theorem dX2_init_1 : decode cX2_init 1 = .ok (.iload_n 1, 1) := dk_27 (dk_at dksX2_init_0 1 rfl rfl)
theorem dX2_init_2 : decode cX2_init 2 = .ok (.getstatic 3, 3) := dk_178 0 3 (dk_at dksX2_init_0 2 rfl rfl)
theorem dX2_init_5 : decode cX2_init 5 = .ok (.invokevirtual 7, 3) := dk_182 0 7 (dk_at dksX2_init_0 5 rfl rfl)
theorem dX2_init_8 : decode cX2_init 8 = .ok (.checkcast 8, 3) := dk_192 0 8 (dk_at dksX2_init_0 8 rfl rfl)
theorem dX2_init_11 : decode cX2_init 11 = .ok (.bipush 20, 2) := dk_16 20 (dk_at dksX2_init_0 11 rfl rfl)
theorem dX2_init_13 : decode cX2_init 13 = .ok (.newarray .int, 2) := dk_188_10 (dk_at dksX2_init_0 13 rfl rfl)
theorem dX2_init_15 : decode cX2_init 15 = .ok (.invokespecial 12, 3) := dk_183 0 12 (dk_at dksX2_init_0 15 rfl rfl)
theorem dX2_init_18 : decode cX2_init 18 = .ok (.return_, 1) := dk_177 (dk_at dksX2_init_0 18 rfl rfl)
abbrev cX2_init_2 : ByteArray := prog_8_method_2_code
def yX2_init_2 : MethodName := ⟨RX2, "<init>", "(I[I[I)V"⟩
def dkwX2_init_2_1 : List UInt8 := [181, 0, 36, 42, 45, 181, 0, 39, 177]
abbrev dktX2_init_2_1 : List UInt8 := dkwX2_init_2_1 ++ []
def dkwX2_init_2_0 : List UInt8 := [42, 183, 0, 18, 42, 187, 0, 23, 89, 16, 20, 183, 0, 25, 181, 0, 28, 42, 27, 181, 0, 32, 42, 44]
abbrev dktX2_init_2_0 : List UInt8 := dkwX2_init_2_0 ++ dktX2_init_2_1
theorem dksX2_init_2_0 : cX2_init_2.data.toList.drop 0 = dktX2_init_2_0 := by decide +kernel
theorem dksX2_init_2_1 : cX2_init_2.data.toList.drop 24 = dktX2_init_2_1 := dk_seg dksX2_init_2_0 24 rfl rfl
theorem dX2_init_2_0 : decode cX2_init_2 0 = .ok (.aload_n 0, 1) := dk_42 (dk_at dksX2_init_2_0 0 rfl rfl)
theorem dX2_init_2_1 : decode cX2_init_2 1 = .ok (.invokespecial 18, 3) := dk_183 0 18 (dk_at dksX2_init_2_0 1 rfl rfl)
theorem dX2_init_2_4 : decode cX2_init_2 4 = .ok (.aload_n 0, 1) := dk_42 (dk_at dksX2_init_2_0 4 rfl rfl)
theorem dX2_init_2_5 : decode cX2_init_2 5 = .ok (.new 23, 3) := dk_187 0 23 (dk_at dksX2_init_2_0 5 rfl rfl)
theorem dX2_init_2_8 : decode cX2_init_2 8 = .ok (.dup, 1) := dk_89 (dk_at dksX2_init_2_0 8 rfl rfl)
theorem dX2_init_2_9 : decode cX2_init_2 9 = .ok (.bipush 20, 2) := dk_16 20 (dk_at dksX2_init_2_0 9 rfl rfl)
theorem dX2_init_2_11 : decode cX2_init_2 11 = .ok (.invokespecial 25, 3) := dk_183 0 25 (dk_at dksX2_init_2_0 11 rfl rfl)
theorem dX2_init_2_14 : decode cX2_init_2 14 = .ok (.putfield 28, 3) := dk_181 0 28 (dk_at dksX2_init_2_0 14 rfl rfl)
theorem dX2_init_2_17 : decode cX2_init_2 17 = .ok (.aload_n 0, 1) := dk_42 (dk_at dksX2_init_2_0 17 rfl rfl)
theorem dX2_init_2_18 : decode cX2_init_2 18 = .ok (.iload_n 1, 1) := dk_27 (dk_at dksX2_init_2_0 18 rfl rfl)
theorem dX2_init_2_19 : decode cX2_init_2 19 = .ok (.putfield 32, 3) := dk_181 0 32 (dk_at dksX2_init_2_0 19 rfl rfl)
theorem dX2_init_2_22 : decode cX2_init_2 22 = .ok (.aload_n 0, 1) := dk_42 (dk_at dksX2_init_2_0 22 rfl rfl)
theorem dX2_init_2_23 : decode cX2_init_2 23 = .ok (.aload_n 2, 1) := dk_44 (dk_at dksX2_init_2_0 23 rfl rfl)
theorem dX2_init_2_24 : decode cX2_init_2 24 = .ok (.putfield 36, 3) := dk_181 0 36 (dk_at dksX2_init_2_1 0 rfl rfl)
theorem dX2_init_2_27 : decode cX2_init_2 27 = .ok (.aload_n 0, 1) := dk_42 (dk_at dksX2_init_2_1 3 rfl rfl)
theorem dX2_init_2_28 : decode cX2_init_2 28 = .ok (.aload_n 3, 1) := dk_45 (dk_at dksX2_init_2_1 4 rfl rfl)
theorem dX2_init_2_29 : decode cX2_init_2 29 = .ok (.putfield 39, 3) := dk_181 0 39 (dk_at dksX2_init_2_1 5 rfl rfl)
theorem dX2_init_2_32 : decode cX2_init_2 32 = .ok (.return_, 1) := dk_177 (dk_at dksX2_init_2_1 8 rfl rfl)
abbrev cX2_bits : ByteArray := prog_8_method_8_code
def yX2_bits : MethodName := ⟨RX2, "bits", "(II)I"⟩
def dkwX2_bits_1 : List UInt8 := [182, 0, 88, 180, 0, 95, 172]
abbrev dktX2_bits_1 : List UInt8 := dkwX2_bits_1 ++ []
def dkwX2_bits_0 : List UInt8 := [42, 27, 28, 182, 0, 84, 153, 0, 14, 42, 27, 182, 0, 88, 180, 0, 92, 167, 0, 11, 42, 27]
abbrev dktX2_bits_0 : List UInt8 := dkwX2_bits_0 ++ dktX2_bits_1
theorem dksX2_bits_0 : cX2_bits.data.toList.drop 0 = dktX2_bits_0 := by decide +kernel
theorem dksX2_bits_1 : cX2_bits.data.toList.drop 22 = dktX2_bits_1 := dk_seg dksX2_bits_0 22 rfl rfl
theorem dX2_bits_0 : decode cX2_bits 0 = .ok (.aload_n 0, 1) := dk_42 (dk_at dksX2_bits_0 0 rfl rfl)
theorem dX2_bits_1 : decode cX2_bits 1 = .ok (.iload_n 1, 1) := dk_27 (dk_at dksX2_bits_0 1 rfl rfl)
theorem dX2_bits_2 : decode cX2_bits 2 = .ok (.iload_n 2, 1) := dk_28 (dk_at dksX2_bits_0 2 rfl rfl)
theorem dX2_bits_3 : decode cX2_bits 3 = .ok (.invokevirtual 84, 3) := dk_182 0 84 (dk_at dksX2_bits_0 3 rfl rfl)
theorem dX2_bits_6 : decode cX2_bits 6 = .ok (.ifCond .eq 14, 3) := dk_153 0 14 (dk_at dksX2_bits_0 6 rfl rfl)
theorem dX2_bits_9 : decode cX2_bits 9 = .ok (.aload_n 0, 1) := dk_42 (dk_at dksX2_bits_0 9 rfl rfl)
theorem dX2_bits_10 : decode cX2_bits 10 = .ok (.iload_n 1, 1) := dk_27 (dk_at dksX2_bits_0 10 rfl rfl)
theorem dX2_bits_11 : decode cX2_bits 11 = .ok (.invokevirtual 88, 3) := dk_182 0 88 (dk_at dksX2_bits_0 11 rfl rfl)
theorem dX2_bits_14 : decode cX2_bits 14 = .ok (.getfield 92, 3) := dk_180 0 92 (dk_at dksX2_bits_0 14 rfl rfl)
theorem dX2_bits_17 : decode cX2_bits 17 = .ok (.goto 11, 3) := dk_167 0 11 (dk_at dksX2_bits_0 17 rfl rfl)
theorem dX2_bits_20 : decode cX2_bits 20 = .ok (.aload_n 0, 1) := dk_42 (dk_at dksX2_bits_0 20 rfl rfl)
theorem dX2_bits_21 : decode cX2_bits 21 = .ok (.iload_n 1, 1) := dk_27 (dk_at dksX2_bits_0 21 rfl rfl)
theorem dX2_bits_22 : decode cX2_bits 22 = .ok (.invokevirtual 88, 3) := dk_182 0 88 (dk_at dksX2_bits_1 0 rfl rfl)
theorem dX2_bits_25 : decode cX2_bits 25 = .ok (.getfield 95, 3) := dk_180 0 95 (dk_at dksX2_bits_1 3 rfl rfl)
theorem dX2_bits_28 : decode cX2_bits 28 = .ok (.ireturn, 1) := dk_172 (dk_at dksX2_bits_1 6 rfl rfl)
abbrev cX2_isMarkBy : ByteArray := prog_8_method_7_code
def yX2_isMarkBy : MethodName := ⟨RX2, "isMarkBy", "(II)Z"⟩
def dkwX2_isMarkBy_1 : List UInt8 := [42, 27, 182, 0, 88, 180, 0, 95, 162, 0, 7, 4, 167, 0, 4, 3, 172]
abbrev dktX2_isMarkBy_1 : List UInt8 := dkwX2_isMarkBy_1 ++ []
def dkwX2_isMarkBy_0 : List UInt8 := [27, 28, 112, 153, 0, 32, 42, 180, 0, 36, 4, 46, 4, 160, 0, 26, 42, 27, 182, 0, 88, 180, 0, 92]
abbrev dktX2_isMarkBy_0 : List UInt8 := dkwX2_isMarkBy_0 ++ dktX2_isMarkBy_1
theorem dksX2_isMarkBy_0 : cX2_isMarkBy.data.toList.drop 0 = dktX2_isMarkBy_0 := by decide +kernel
theorem dksX2_isMarkBy_1 : cX2_isMarkBy.data.toList.drop 24 = dktX2_isMarkBy_1 := dk_seg dksX2_isMarkBy_0 24 rfl rfl
theorem dX2_isMarkBy_0 : decode cX2_isMarkBy 0 = .ok (.iload_n 1, 1) := dk_27 (dk_at dksX2_isMarkBy_0 0 rfl rfl)
theorem dX2_isMarkBy_1 : decode cX2_isMarkBy 1 = .ok (.iload_n 2, 1) := dk_28 (dk_at dksX2_isMarkBy_0 1 rfl rfl)
theorem dX2_isMarkBy_2 : decode cX2_isMarkBy 2 = .ok (.irem, 1) := dk_112 (dk_at dksX2_isMarkBy_0 2 rfl rfl)
theorem dX2_isMarkBy_3 : decode cX2_isMarkBy 3 = .ok (.ifCond .eq 32, 3) := dk_153 0 32 (dk_at dksX2_isMarkBy_0 3 rfl rfl)
theorem dX2_isMarkBy_6 : decode cX2_isMarkBy 6 = .ok (.aload_n 0, 1) := dk_42 (dk_at dksX2_isMarkBy_0 6 rfl rfl)
theorem dX2_isMarkBy_7 : decode cX2_isMarkBy 7 = .ok (.getfield 36, 3) := dk_180 0 36 (dk_at dksX2_isMarkBy_0 7 rfl rfl)
theorem dX2_isMarkBy_10 : decode cX2_isMarkBy 10 = .ok (.iconst 1, 1) := dk_4 (dk_at dksX2_isMarkBy_0 10 rfl rfl)
theorem dX2_isMarkBy_11 : decode cX2_isMarkBy 11 = .ok (.iaload, 1) := dk_46 (dk_at dksX2_isMarkBy_0 11 rfl rfl)
theorem dX2_isMarkBy_12 : decode cX2_isMarkBy 12 = .ok (.iconst 1, 1) := dk_4 (dk_at dksX2_isMarkBy_0 12 rfl rfl)
theorem dX2_isMarkBy_13 : decode cX2_isMarkBy 13 = .ok (.if_icmp .ne 26, 3) := dk_160 0 26 (dk_at dksX2_isMarkBy_0 13 rfl rfl)
theorem dX2_isMarkBy_16 : decode cX2_isMarkBy 16 = .ok (.aload_n 0, 1) := dk_42 (dk_at dksX2_isMarkBy_0 16 rfl rfl)
theorem dX2_isMarkBy_17 : decode cX2_isMarkBy 17 = .ok (.iload_n 1, 1) := dk_27 (dk_at dksX2_isMarkBy_0 17 rfl rfl)
theorem dX2_isMarkBy_18 : decode cX2_isMarkBy 18 = .ok (.invokevirtual 88, 3) := dk_182 0 88 (dk_at dksX2_isMarkBy_0 18 rfl rfl)
theorem dX2_isMarkBy_21 : decode cX2_isMarkBy 21 = .ok (.getfield 92, 3) := dk_180 0 92 (dk_at dksX2_isMarkBy_0 21 rfl rfl)
theorem dX2_isMarkBy_24 : decode cX2_isMarkBy 24 = .ok (.aload_n 0, 1) := dk_42 (dk_at dksX2_isMarkBy_1 0 rfl rfl)
theorem dX2_isMarkBy_25 : decode cX2_isMarkBy 25 = .ok (.iload_n 1, 1) := dk_27 (dk_at dksX2_isMarkBy_1 1 rfl rfl)
theorem dX2_isMarkBy_26 : decode cX2_isMarkBy 26 = .ok (.invokevirtual 88, 3) := dk_182 0 88 (dk_at dksX2_isMarkBy_1 2 rfl rfl)
theorem dX2_isMarkBy_29 : decode cX2_isMarkBy 29 = .ok (.getfield 95, 3) := dk_180 0 95 (dk_at dksX2_isMarkBy_1 5 rfl rfl)
theorem dX2_isMarkBy_32 : decode cX2_isMarkBy 32 = .ok (.if_icmp .ge 7, 3) := dk_162 0 7 (dk_at dksX2_isMarkBy_1 8 rfl rfl)
theorem dX2_isMarkBy_35 : decode cX2_isMarkBy 35 = .ok (.iconst 1, 1) := dk_4 (dk_at dksX2_isMarkBy_1 11 rfl rfl)
theorem dX2_isMarkBy_36 : decode cX2_isMarkBy 36 = .ok (.goto 4, 3) := dk_167 0 4 (dk_at dksX2_isMarkBy_1 12 rfl rfl)
theorem dX2_isMarkBy_39 : decode cX2_isMarkBy 39 = .ok (.iconst 0, 1) := dk_3 (dk_at dksX2_isMarkBy_1 15 rfl rfl)
theorem dX2_isMarkBy_40 : decode cX2_isMarkBy 40 = .ok (.ireturn, 1) := dk_172 (dk_at dksX2_isMarkBy_1 16 rfl rfl)
abbrev cX2_code : ByteArray := prog_8_method_5_code
def yX2_code : MethodName := ⟨RX2, "code", "(I)LDotRuns$Code;"⟩
def dkwX2_code_3 : List UInt8 := [132, 2, 1, 167, 255, 205, 42, 180, 0, 68, 27, 185, 0, 64, 2, 0, 192, 0, 75, 176]
abbrev dktX2_code_3 : List UInt8 := dkwX2_code_3 ++ []
def dkwX2_code_2 : List UInt8 := [185, 0, 64, 2, 0, 192, 0, 57, 42, 28, 182, 0, 77, 183, 0, 81, 185, 0, 59, 2, 0, 87]
abbrev dktX2_code_2 : List UInt8 := dkwX2_code_2 ++ dktX2_code_3
def dkwX2_code_1 : List UInt8 := [180, 0, 28, 185, 0, 71, 1, 0, 162, 0, 44, 42, 180, 0, 68, 187, 0, 75, 89, 42, 180, 0, 28, 28]
abbrev dktX2_code_1 : List UInt8 := dkwX2_code_1 ++ dktX2_code_2
def dkwX2_code_0 : List UInt8 := [42, 180, 0, 68, 199, 0, 72, 42, 187, 0, 23, 89, 16, 20, 183, 0, 25, 181, 0, 68, 3, 61, 28, 42]
abbrev dktX2_code_0 : List UInt8 := dkwX2_code_0 ++ dktX2_code_1
theorem dksX2_code_0 : cX2_code.data.toList.drop 0 = dktX2_code_0 := by decide +kernel
theorem dksX2_code_1 : cX2_code.data.toList.drop 24 = dktX2_code_1 := dk_seg dksX2_code_0 24 rfl rfl
theorem dksX2_code_2 : cX2_code.data.toList.drop 48 = dktX2_code_2 := dk_seg dksX2_code_1 24 rfl rfl
theorem dksX2_code_3 : cX2_code.data.toList.drop 70 = dktX2_code_3 := dk_seg dksX2_code_2 22 rfl rfl
theorem dX2_code_0 : decode cX2_code 0 = .ok (.aload_n 0, 1) := dk_42 (dk_at dksX2_code_0 0 rfl rfl)
theorem dX2_code_1 : decode cX2_code 1 = .ok (.getfield 68, 3) := dk_180 0 68 (dk_at dksX2_code_0 1 rfl rfl)
theorem dX2_code_4 : decode cX2_code 4 = .ok (.ifnonnull 72, 3) := dk_199 0 72 (dk_at dksX2_code_0 4 rfl rfl)
theorem dX2_code_7 : decode cX2_code 7 = .ok (.aload_n 0, 1) := dk_42 (dk_at dksX2_code_0 7 rfl rfl)
theorem dX2_code_8 : decode cX2_code 8 = .ok (.new 23, 3) := dk_187 0 23 (dk_at dksX2_code_0 8 rfl rfl)
theorem dX2_code_11 : decode cX2_code 11 = .ok (.dup, 1) := dk_89 (dk_at dksX2_code_0 11 rfl rfl)
theorem dX2_code_12 : decode cX2_code 12 = .ok (.bipush 20, 2) := dk_16 20 (dk_at dksX2_code_0 12 rfl rfl)
theorem dX2_code_14 : decode cX2_code 14 = .ok (.invokespecial 25, 3) := dk_183 0 25 (dk_at dksX2_code_0 14 rfl rfl)
theorem dX2_code_17 : decode cX2_code 17 = .ok (.putfield 68, 3) := dk_181 0 68 (dk_at dksX2_code_0 17 rfl rfl)
theorem dX2_code_20 : decode cX2_code 20 = .ok (.iconst 0, 1) := dk_3 (dk_at dksX2_code_0 20 rfl rfl)
theorem dX2_code_21 : decode cX2_code 21 = .ok (.istore_n 2, 1) := dk_61 (dk_at dksX2_code_0 21 rfl rfl)
theorem dX2_code_22 : decode cX2_code 22 = .ok (.iload_n 2, 1) := dk_28 (dk_at dksX2_code_0 22 rfl rfl)
theorem dX2_code_23 : decode cX2_code 23 = .ok (.aload_n 0, 1) := dk_42 (dk_at dksX2_code_0 23 rfl rfl)
theorem dX2_code_24 : decode cX2_code 24 = .ok (.getfield 28, 3) := dk_180 0 28 (dk_at dksX2_code_1 0 rfl rfl)
theorem dX2_code_27 : decode cX2_code 27 = .ok (.invokeinterface 71 1, 5) := by decide +kernel
theorem dX2_code_32 : decode cX2_code 32 = .ok (.if_icmp .ge 44, 3) := dk_162 0 44 (dk_at dksX2_code_1 8 rfl rfl)
theorem dX2_code_35 : decode cX2_code 35 = .ok (.aload_n 0, 1) := dk_42 (dk_at dksX2_code_1 11 rfl rfl)
theorem dX2_code_36 : decode cX2_code 36 = .ok (.getfield 68, 3) := dk_180 0 68 (dk_at dksX2_code_1 12 rfl rfl)
theorem dX2_code_39 : decode cX2_code 39 = .ok (.new 75, 3) := dk_187 0 75 (dk_at dksX2_code_1 15 rfl rfl)
theorem dX2_code_42 : decode cX2_code 42 = .ok (.dup, 1) := dk_89 (dk_at dksX2_code_1 18 rfl rfl)
theorem dX2_code_43 : decode cX2_code 43 = .ok (.aload_n 0, 1) := dk_42 (dk_at dksX2_code_1 19 rfl rfl)
theorem dX2_code_44 : decode cX2_code 44 = .ok (.getfield 28, 3) := dk_180 0 28 (dk_at dksX2_code_1 20 rfl rfl)
theorem dX2_code_47 : decode cX2_code 47 = .ok (.iload_n 2, 1) := dk_28 (dk_at dksX2_code_1 23 rfl rfl)
theorem dX2_code_48 : decode cX2_code 48 = .ok (.invokeinterface 64 2, 5) := by decide +kernel
theorem dX2_code_53 : decode cX2_code 53 = .ok (.checkcast 57, 3) := dk_192 0 57 (dk_at dksX2_code_2 5 rfl rfl)
theorem dX2_code_56 : decode cX2_code 56 = .ok (.aload_n 0, 1) := dk_42 (dk_at dksX2_code_2 8 rfl rfl)
theorem dX2_code_57 : decode cX2_code 57 = .ok (.iload_n 2, 1) := dk_28 (dk_at dksX2_code_2 9 rfl rfl)
theorem dX2_code_58 : decode cX2_code 58 = .ok (.invokevirtual 77, 3) := dk_182 0 77 (dk_at dksX2_code_2 10 rfl rfl)
theorem dX2_code_61 : decode cX2_code 61 = .ok (.invokespecial 81, 3) := dk_183 0 81 (dk_at dksX2_code_2 13 rfl rfl)
theorem dX2_code_64 : decode cX2_code 64 = .ok (.invokeinterface 59 2, 5) := by decide +kernel
theorem dX2_code_69 : decode cX2_code 69 = .ok (.pop, 1) := dk_87 (dk_at dksX2_code_2 21 rfl rfl)
theorem dX2_code_70 : decode cX2_code 70 = .ok (.iinc 2 1, 3) := dk_132 2 1 (dk_at dksX2_code_3 0 rfl rfl)
theorem dX2_code_73 : decode cX2_code 73 = .ok (.goto (-51), 3) := dk_167 255 205 (dk_at dksX2_code_3 3 rfl rfl)
theorem dX2_code_76 : decode cX2_code 76 = .ok (.aload_n 0, 1) := dk_42 (dk_at dksX2_code_3 6 rfl rfl)
theorem dX2_code_77 : decode cX2_code 77 = .ok (.getfield 68, 3) := dk_180 0 68 (dk_at dksX2_code_3 7 rfl rfl)
theorem dX2_code_80 : decode cX2_code 80 = .ok (.iload_n 1, 1) := dk_27 (dk_at dksX2_code_3 10 rfl rfl)
theorem dX2_code_81 : decode cX2_code 81 = .ok (.invokeinterface 64 2, 5) := by decide +kernel
theorem dX2_code_86 : decode cX2_code 86 = .ok (.checkcast 75, 3) := dk_192 0 75 (dk_at dksX2_code_3 16 rfl rfl)
theorem dX2_code_89 : decode cX2_code 89 = .ok (.areturn, 1) := dk_176 (dk_at dksX2_code_3 19 rfl rfl)
abbrev cX2_above : ByteArray := prog_8_method_4_code
def yX2_above : MethodName := ⟨RX2, "above", "(I)LDotRuns$Line;"⟩
def dkwX2_above_1 : List UInt8 := [100, 185, 0, 64, 2, 0, 192, 0, 57, 176]
abbrev dktX2_above_1 : List UInt8 := dkwX2_above_1 ++ []
def dkwX2_above_0 : List UInt8 := [27, 154, 0, 17, 187, 0, 57, 89, 42, 180, 0, 32, 183, 0, 63, 167, 0, 18, 42, 180, 0, 28, 27, 4]
abbrev dktX2_above_0 : List UInt8 := dkwX2_above_0 ++ dktX2_above_1
theorem dksX2_above_0 : cX2_above.data.toList.drop 0 = dktX2_above_0 := by decide +kernel
theorem dksX2_above_1 : cX2_above.data.toList.drop 24 = dktX2_above_1 := dk_seg dksX2_above_0 24 rfl rfl
theorem dX2_above_0 : decode cX2_above 0 = .ok (.iload_n 1, 1) := dk_27 (dk_at dksX2_above_0 0 rfl rfl)
theorem dX2_above_1 : decode cX2_above 1 = .ok (.ifCond .ne 17, 3) := dk_154 0 17 (dk_at dksX2_above_0 1 rfl rfl)
theorem dX2_above_4 : decode cX2_above 4 = .ok (.new 57, 3) := dk_187 0 57 (dk_at dksX2_above_0 4 rfl rfl)
theorem dX2_above_7 : decode cX2_above 7 = .ok (.dup, 1) := dk_89 (dk_at dksX2_above_0 7 rfl rfl)
theorem dX2_above_8 : decode cX2_above 8 = .ok (.aload_n 0, 1) := dk_42 (dk_at dksX2_above_0 8 rfl rfl)
theorem dX2_above_9 : decode cX2_above 9 = .ok (.getfield 32, 3) := dk_180 0 32 (dk_at dksX2_above_0 9 rfl rfl)
theorem dX2_above_12 : decode cX2_above 12 = .ok (.invokespecial 63, 3) := dk_183 0 63 (dk_at dksX2_above_0 12 rfl rfl)
theorem dX2_above_15 : decode cX2_above 15 = .ok (.goto 18, 3) := dk_167 0 18 (dk_at dksX2_above_0 15 rfl rfl)
theorem dX2_above_18 : decode cX2_above 18 = .ok (.aload_n 0, 1) := dk_42 (dk_at dksX2_above_0 18 rfl rfl)
theorem dX2_above_19 : decode cX2_above 19 = .ok (.getfield 28, 3) := dk_180 0 28 (dk_at dksX2_above_0 19 rfl rfl)
theorem dX2_above_22 : decode cX2_above 22 = .ok (.iload_n 1, 1) := dk_27 (dk_at dksX2_above_0 22 rfl rfl)
theorem dX2_above_23 : decode cX2_above 23 = .ok (.iconst 1, 1) := dk_4 (dk_at dksX2_above_0 23 rfl rfl)
theorem dX2_above_24 : decode cX2_above 24 = .ok (.isub, 1) := dk_100 (dk_at dksX2_above_1 0 rfl rfl)
theorem dX2_above_25 : decode cX2_above 25 = .ok (.invokeinterface 64 2, 5) := by decide +kernel
theorem dX2_above_30 : decode cX2_above 30 = .ok (.checkcast 57, 3) := dk_192 0 57 (dk_at dksX2_above_1 6 rfl rfl)
theorem dX2_above_33 : decode cX2_above 33 = .ok (.areturn, 1) := dk_176 (dk_at dksX2_above_1 9 rfl rfl)
abbrev cX2_latestMark : ByteArray := prog_8_method_9_code
def yX2_latestMark : MethodName := ⟨RX2, "latestMark", "(II)I"⟩
def dkwX2_latestMark_0 : List UInt8 := [27, 62, 42, 29, 28, 182, 0, 84, 154, 0, 9, 132, 3, 255, 167, 255, 244, 29, 172]
abbrev dktX2_latestMark_0 : List UInt8 := dkwX2_latestMark_0 ++ []
theorem dksX2_latestMark_0 : cX2_latestMark.data.toList.drop 0 = dktX2_latestMark_0 := by decide +kernel
theorem dX2_latestMark_0 : decode cX2_latestMark 0 = .ok (.iload_n 1, 1) := dk_27 (dk_at dksX2_latestMark_0 0 rfl rfl)
theorem dX2_latestMark_1 : decode cX2_latestMark 1 = .ok (.istore_n 3, 1) := dk_62 (dk_at dksX2_latestMark_0 1 rfl rfl)
theorem dX2_latestMark_2 : decode cX2_latestMark 2 = .ok (.aload_n 0, 1) := dk_42 (dk_at dksX2_latestMark_0 2 rfl rfl)
theorem dX2_latestMark_3 : decode cX2_latestMark 3 = .ok (.iload_n 3, 1) := dk_29 (dk_at dksX2_latestMark_0 3 rfl rfl)
theorem dX2_latestMark_4 : decode cX2_latestMark 4 = .ok (.iload_n 2, 1) := dk_28 (dk_at dksX2_latestMark_0 4 rfl rfl)
theorem dX2_latestMark_5 : decode cX2_latestMark 5 = .ok (.invokevirtual 84, 3) := dk_182 0 84 (dk_at dksX2_latestMark_0 5 rfl rfl)
theorem dX2_latestMark_8 : decode cX2_latestMark 8 = .ok (.ifCond .ne 9, 3) := dk_154 0 9 (dk_at dksX2_latestMark_0 8 rfl rfl)
theorem dX2_latestMark_11 : decode cX2_latestMark 11 = .ok (.iinc 3 (-1), 3) := dk_132 3 255 (dk_at dksX2_latestMark_0 11 rfl rfl)
theorem dX2_latestMark_14 : decode cX2_latestMark 14 = .ok (.goto (-12), 3) := dk_167 255 244 (dk_at dksX2_latestMark_0 14 rfl rfl)
theorem dX2_latestMark_17 : decode cX2_latestMark 17 = .ok (.iload_n 3, 1) := dk_29 (dk_at dksX2_latestMark_0 17 rfl rfl)
theorem dX2_latestMark_18 : decode cX2_latestMark 18 = .ok (.ireturn, 1) := dk_172 (dk_at dksX2_latestMark_0 18 rfl rfl)
abbrev cX2_isMark : ByteArray := prog_8_method_6_code
def yX2_isMark : MethodName := ⟨RX2, "isMark", "(I)Z"⟩
def dkwX2_isMark_0 : List UInt8 := [42, 27, 42, 180, 0, 36, 3, 46, 182, 0, 84, 172]
abbrev dktX2_isMark_0 : List UInt8 := dkwX2_isMark_0 ++ []
theorem dksX2_isMark_0 : cX2_isMark.data.toList.drop 0 = dktX2_isMark_0 := by decide +kernel
theorem dX2_isMark_0 : decode cX2_isMark 0 = .ok (.aload_n 0, 1) := dk_42 (dk_at dksX2_isMark_0 0 rfl rfl)
theorem dX2_isMark_1 : decode cX2_isMark 1 = .ok (.iload_n 1, 1) := dk_27 (dk_at dksX2_isMark_0 1 rfl rfl)
theorem dX2_isMark_2 : decode cX2_isMark 2 = .ok (.aload_n 0, 1) := dk_42 (dk_at dksX2_isMark_0 2 rfl rfl)
theorem dX2_isMark_3 : decode cX2_isMark 3 = .ok (.getfield 36, 3) := dk_180 0 36 (dk_at dksX2_isMark_0 3 rfl rfl)
theorem dX2_isMark_6 : decode cX2_isMark 6 = .ok (.iconst 0, 1) := dk_3 (dk_at dksX2_isMark_0 6 rfl rfl)
theorem dX2_isMark_7 : decode cX2_isMark 7 = .ok (.iaload, 1) := dk_46 (dk_at dksX2_isMark_0 7 rfl rfl)
theorem dX2_isMark_8 : decode cX2_isMark 8 = .ok (.invokevirtual 84, 3) := dk_182 0 84 (dk_at dksX2_isMark_0 8 rfl rfl)
theorem dX2_isMark_11 : decode cX2_isMark 11 = .ok (.ireturn, 1) := dk_172 (dk_at dksX2_isMark_0 11 rfl rfl)
abbrev cX2_copy : ByteArray := prog_8_method_3_code
def yX2_copy : MethodName := ⟨RX2, "copy", "()LDotRuns$Page;"⟩
def dkwX2_copy_3 : List UInt8 := [185, 0, 59, 2, 0, 87, 167, 255, 226, 43, 176]
abbrev dktX2_copy_3 : List UInt8 := dkwX2_copy_3 ++ []
def dkwX2_copy_2 : List UInt8 := [185, 0, 48, 1, 0, 153, 0, 27, 44, 185, 0, 54, 1, 0, 192, 0, 57, 78, 43, 180, 0, 28, 45]
abbrev dktX2_copy_2 : List UInt8 := dkwX2_copy_2 ++ dktX2_copy_3
def dkwX2_copy_1 : List UInt8 := [182, 0, 7, 192, 0, 8, 183, 0, 12, 76, 42, 180, 0, 28, 185, 0, 42, 1, 0, 77, 44]
abbrev dktX2_copy_1 : List UInt8 := dkwX2_copy_1 ++ dktX2_copy_2
def dkwX2_copy_0 : List UInt8 := [187, 0, 13, 89, 42, 180, 0, 32, 42, 180, 0, 36, 182, 0, 7, 192, 0, 8, 42, 180, 0, 39]
abbrev dktX2_copy_0 : List UInt8 := dkwX2_copy_0 ++ dktX2_copy_1
theorem dksX2_copy_0 : cX2_copy.data.toList.drop 0 = dktX2_copy_0 := by decide +kernel
theorem dksX2_copy_1 : cX2_copy.data.toList.drop 22 = dktX2_copy_1 := dk_seg dksX2_copy_0 22 rfl rfl
theorem dksX2_copy_2 : cX2_copy.data.toList.drop 43 = dktX2_copy_2 := dk_seg dksX2_copy_1 21 rfl rfl
theorem dksX2_copy_3 : cX2_copy.data.toList.drop 66 = dktX2_copy_3 := dk_seg dksX2_copy_2 23 rfl rfl
theorem dX2_copy_0 : decode cX2_copy 0 = .ok (.new 13, 3) := dk_187 0 13 (dk_at dksX2_copy_0 0 rfl rfl)
theorem dX2_copy_3 : decode cX2_copy 3 = .ok (.dup, 1) := dk_89 (dk_at dksX2_copy_0 3 rfl rfl)
theorem dX2_copy_4 : decode cX2_copy 4 = .ok (.aload_n 0, 1) := dk_42 (dk_at dksX2_copy_0 4 rfl rfl)
theorem dX2_copy_5 : decode cX2_copy 5 = .ok (.getfield 32, 3) := dk_180 0 32 (dk_at dksX2_copy_0 5 rfl rfl)
theorem dX2_copy_8 : decode cX2_copy 8 = .ok (.aload_n 0, 1) := dk_42 (dk_at dksX2_copy_0 8 rfl rfl)
theorem dX2_copy_9 : decode cX2_copy 9 = .ok (.getfield 36, 3) := dk_180 0 36 (dk_at dksX2_copy_0 9 rfl rfl)
theorem dX2_copy_12 : decode cX2_copy 12 = .ok (.invokevirtual 7, 3) := dk_182 0 7 (dk_at dksX2_copy_0 12 rfl rfl)
theorem dX2_copy_15 : decode cX2_copy 15 = .ok (.checkcast 8, 3) := dk_192 0 8 (dk_at dksX2_copy_0 15 rfl rfl)
theorem dX2_copy_18 : decode cX2_copy 18 = .ok (.aload_n 0, 1) := dk_42 (dk_at dksX2_copy_0 18 rfl rfl)
theorem dX2_copy_19 : decode cX2_copy 19 = .ok (.getfield 39, 3) := dk_180 0 39 (dk_at dksX2_copy_0 19 rfl rfl)
theorem dX2_copy_22 : decode cX2_copy 22 = .ok (.invokevirtual 7, 3) := dk_182 0 7 (dk_at dksX2_copy_1 0 rfl rfl)
theorem dX2_copy_25 : decode cX2_copy 25 = .ok (.checkcast 8, 3) := dk_192 0 8 (dk_at dksX2_copy_1 3 rfl rfl)
theorem dX2_copy_28 : decode cX2_copy 28 = .ok (.invokespecial 12, 3) := dk_183 0 12 (dk_at dksX2_copy_1 6 rfl rfl)
theorem dX2_copy_31 : decode cX2_copy 31 = .ok (.astore_n 1, 1) := dk_76 (dk_at dksX2_copy_1 9 rfl rfl)
theorem dX2_copy_32 : decode cX2_copy 32 = .ok (.aload_n 0, 1) := dk_42 (dk_at dksX2_copy_1 10 rfl rfl)
theorem dX2_copy_33 : decode cX2_copy 33 = .ok (.getfield 28, 3) := dk_180 0 28 (dk_at dksX2_copy_1 11 rfl rfl)
theorem dX2_copy_36 : decode cX2_copy 36 = .ok (.invokeinterface 42 1, 5) := by decide +kernel
theorem dX2_copy_41 : decode cX2_copy 41 = .ok (.astore_n 2, 1) := dk_77 (dk_at dksX2_copy_1 19 rfl rfl)
theorem dX2_copy_42 : decode cX2_copy 42 = .ok (.aload_n 2, 1) := dk_44 (dk_at dksX2_copy_1 20 rfl rfl)
theorem dX2_copy_43 : decode cX2_copy 43 = .ok (.invokeinterface 48 1, 5) := by decide +kernel
theorem dX2_copy_48 : decode cX2_copy 48 = .ok (.ifCond .eq 27, 3) := dk_153 0 27 (dk_at dksX2_copy_2 5 rfl rfl)
theorem dX2_copy_51 : decode cX2_copy 51 = .ok (.aload_n 2, 1) := dk_44 (dk_at dksX2_copy_2 8 rfl rfl)
theorem dX2_copy_52 : decode cX2_copy 52 = .ok (.invokeinterface 54 1, 5) := by decide +kernel
theorem dX2_copy_57 : decode cX2_copy 57 = .ok (.checkcast 57, 3) := dk_192 0 57 (dk_at dksX2_copy_2 14 rfl rfl)
theorem dX2_copy_60 : decode cX2_copy 60 = .ok (.astore_n 3, 1) := dk_78 (dk_at dksX2_copy_2 17 rfl rfl)
theorem dX2_copy_61 : decode cX2_copy 61 = .ok (.aload_n 1, 1) := dk_43 (dk_at dksX2_copy_2 18 rfl rfl)
theorem dX2_copy_62 : decode cX2_copy 62 = .ok (.getfield 28, 3) := dk_180 0 28 (dk_at dksX2_copy_2 19 rfl rfl)
theorem dX2_copy_65 : decode cX2_copy 65 = .ok (.aload_n 3, 1) := dk_45 (dk_at dksX2_copy_2 22 rfl rfl)
theorem dX2_copy_66 : decode cX2_copy 66 = .ok (.invokeinterface 59 2, 5) := by decide +kernel
theorem dX2_copy_71 : decode cX2_copy 71 = .ok (.pop, 1) := dk_87 (dk_at dksX2_copy_3 5 rfl rfl)
theorem dX2_copy_72 : decode cX2_copy 72 = .ok (.goto (-30), 3) := dk_167 255 226 (dk_at dksX2_copy_3 6 rfl rfl)
theorem dX2_copy_75 : decode cX2_copy 75 = .ok (.aload_n 1, 1) := dk_43 (dk_at dksX2_copy_3 9 rfl rfl)
theorem dX2_copy_76 : decode cX2_copy 76 = .ok (.areturn, 1) := dk_176 (dk_at dksX2_copy_3 10 rfl rfl)
theorem q112 : (Jvm.Cond.initialized "DotRuns$Page") ∈ lw_all := lw_g (lw_at lw_m1 2 rfl) rfl
theorem q162 : (Jvm.Cond.instantiable "DotRuns$Page" (5 : Nat)) ∈ lw_all := lw_g (lw_at lw_m1 52 rfl) rfl
theorem q164 : (Jvm.Cond.instanceMethod ({ cls := "DotRuns$Page", name := "<init>", desc := "(I)V" } : Jvm.MethodName)) ∈ lw_all := lw_g (lw_at lw_m1 54 rfl) rfl
theorem q165 : (Jvm.Cond.code ({ cls := "DotRuns$Page", name := "<init>", desc := "(I)V" } : Jvm.MethodName) prog_8_method_1_code (2 : Nat) (Option.none : Option Jvm.ClassFile.FieldType)) ∈ lw_all := lw_g (lw_at lw_m1 55 rfl) rfl
theorem q166 : (Jvm.Cond.fieldLinkNest "DotRuns$Page" (3 : Nat) "DotRuns" "FIRST" "[I" "DotRuns") ∈ lw_tbl := lw_at lw_m1 56 rfl
theorem q168 : (Jvm.Cond.methodLink "DotRuns$Page" (7 : Nat) ({ cls := "[I", name := "clone", desc := "()Ljava/lang/Object;" } : Jvm.MethodName)) ∈ lw_all := lw_g (lw_at lw_m1 58 rfl) rfl
theorem q174 : (Jvm.Cond.classLink "DotRuns$Page" (8 : Nat) "[I") ∈ lw_all := lw_g (lw_at lw_m1 64 rfl) rfl
theorem q175 : (Jvm.Cond.methodLink "DotRuns$Page" (12 : Nat) ({ cls := "DotRuns$Page", name := "<init>", desc := "(I[I[I)V" } : Jvm.MethodName)) ∈ lw_all := lw_g (lw_at lw_m1 65 rfl) rfl
theorem q176 : (Jvm.Cond.instanceMethod ({ cls := "DotRuns$Page", name := "<init>", desc := "(I[I[I)V" } : Jvm.MethodName)) ∈ lw_all := lw_g (lw_at lw_m1 66 rfl) rfl
theorem q177 : (Jvm.Cond.code ({ cls := "DotRuns$Page", name := "<init>", desc := "(I[I[I)V" } : Jvm.MethodName) prog_8_method_2_code (4 : Nat) (Option.none : Option Jvm.ClassFile.FieldType)) ∈ lw_all := lw_g (lw_at lw_m1 67 rfl) rfl
theorem q178 : (Jvm.Cond.methodLink "DotRuns$Page" (18 : Nat) ({ cls := "java/lang/Object", name := "<init>", desc := "()V" } : Jvm.MethodName)) ∈ lw_all := lw_g (lw_at lw_m1 68 rfl) rfl
theorem q179 : (Jvm.Cond.classLink "DotRuns$Page" (23 : Nat) "java/util/ArrayList") ∈ lw_all := lw_g (lw_at lw_m1 69 rfl) rfl
theorem q181 : (Jvm.Cond.methodLink "DotRuns$Page" (25 : Nat) ({ cls := "java/util/ArrayList", name := "<init>", desc := "(I)V" } : Jvm.MethodName)) ∈ lw_all := lw_g (lw_at lw_m1 71 rfl) rfl
theorem q527 : (Jvm.Cond.fieldLink "DotRuns$Page" (32 : Nat) "DotRuns$Page" "wide" "I") ∈ lw_all := lw_g (lw_at lw_m2 177 rfl) rfl
theorem q532 : (Jvm.Cond.fieldLink "DotRuns$Page" (36 : Nat) "DotRuns$Page" "set" "[I") ∈ lw_all := lw_g (lw_at lw_m2 182 rfl) rfl
theorem q536 : (Jvm.Cond.fieldLink "DotRuns$Page" (39 : Nat) "DotRuns$Page" "losses" "[I") ∈ lw_all := lw_g (lw_at lw_m2 186 rfl) rfl
theorem q540 : (Jvm.Cond.fieldLink "DotRuns$Page" (28 : Nat) "DotRuns$Page" "lines" "Ljava/util/List;") ∈ lw_all := lw_g (lw_at lw_m2 190 rfl) rfl
theorem q543 : (Jvm.Cond.fieldLink "DotRuns$Page" (68 : Nat) "DotRuns$Page" "codes" "Ljava/util/List;") ∈ lw_all := lw_g (lw_at lw_m2 193 rfl) rfl
theorem q544 : (Jvm.Cond.laysFinal "DotRuns$Page" "DotRuns$Page" "wide" "I") ∈ lw_all := lw_g (lw_at lw_m2 194 rfl) rfl
theorem q545 : (Jvm.Cond.soleField "DotRuns$Page" "wide") ∈ lw_all := lw_g (lw_at lw_m2 195 rfl) rfl
theorem q546 : (Jvm.Cond.laysFinal "DotRuns$Page" "DotRuns$Page" "set" "[I") ∈ lw_all := lw_g (lw_at lw_m2 196 rfl) rfl
theorem q547 : (Jvm.Cond.soleField "DotRuns$Page" "set") ∈ lw_all := lw_g (lw_at lw_m2 197 rfl) rfl
theorem q548 : (Jvm.Cond.laysFinal "DotRuns$Page" "DotRuns$Page" "losses" "[I") ∈ lw_all := lw_g (lw_at lw_m2 198 rfl) rfl
theorem q549 : (Jvm.Cond.soleField "DotRuns$Page" "losses") ∈ lw_all := lw_g (lw_at lw_m2 199 rfl) rfl
theorem q550 : (Jvm.Cond.laysFinal "DotRuns$Page" "DotRuns$Page" "lines" "Ljava/util/List;") ∈ lw_all := lw_g (lw_at lw_m2 200 rfl) rfl
theorem q551 : (Jvm.Cond.soleField "DotRuns$Page" "lines") ∈ lw_all := lw_g (lw_at lw_m2 201 rfl) rfl
theorem q552 : (Jvm.Cond.lays "DotRuns$Page" "DotRuns$Page" "codes" "Ljava/util/List;") ∈ lw_all := lw_g (lw_at lw_m2 202 rfl) rfl
theorem q553 : (Jvm.Cond.soleField "DotRuns$Page" "codes") ∈ lw_all := lw_g (lw_at lw_m2 203 rfl) rfl
theorem q554 : (Jvm.Cond.superclass "DotRuns$Page" "java/lang/Object") ∈ lw_all := lw_g (lw_at lw_m2 204 rfl) rfl
theorem q637 : (Jvm.Cond.instanceMethod ({ cls := "DotRuns$Page", name := "bits", desc := "(II)I" } : Jvm.MethodName)) ∈ lw_all := lw_g (lw_at lw_m3 47 rfl) rfl
theorem q638 : (Jvm.Cond.selects "DotRuns$Page" ({ cls := "DotRuns$Page", name := "bits", desc := "(II)I" } : Jvm.MethodName) ({ cls := "DotRuns$Page", name := "bits", desc := "(II)I" } : Jvm.MethodName)) ∈ lw_all := lw_g (lw_at lw_m3 48 rfl) rfl
theorem q639 : (Jvm.Cond.code ({ cls := "DotRuns$Page", name := "bits", desc := "(II)I" } : Jvm.MethodName) prog_8_method_8_code (3 : Nat) (Option.some Jvm.ClassFile.FieldType.int)) ∈ lw_all := lw_g (lw_at lw_m3 49 rfl) rfl
theorem q640 : (Jvm.Cond.methodLink "DotRuns$Page" (84 : Nat) ({ cls := "DotRuns$Page", name := "isMarkBy", desc := "(II)Z" } : Jvm.MethodName)) ∈ lw_all := lw_g (lw_at lw_m3 50 rfl) rfl
theorem q641 : (Jvm.Cond.instanceMethod ({ cls := "DotRuns$Page", name := "isMarkBy", desc := "(II)Z" } : Jvm.MethodName)) ∈ lw_all := lw_g (lw_at lw_m3 51 rfl) rfl
theorem q642 : (Jvm.Cond.selects "DotRuns$Page" ({ cls := "DotRuns$Page", name := "isMarkBy", desc := "(II)Z" } : Jvm.MethodName) ({ cls := "DotRuns$Page", name := "isMarkBy", desc := "(II)Z" } : Jvm.MethodName)) ∈ lw_all := lw_g (lw_at lw_m3 52 rfl) rfl
theorem q643 : (Jvm.Cond.code ({ cls := "DotRuns$Page", name := "isMarkBy", desc := "(II)Z" } : Jvm.MethodName) prog_8_method_7_code (3 : Nat) (Option.some Jvm.ClassFile.FieldType.boolean)) ∈ lw_all := lw_g (lw_at lw_m3 53 rfl) rfl
theorem q644 : (Jvm.Cond.methodLink "DotRuns$Page" (88 : Nat) ({ cls := "DotRuns$Page", name := "code", desc := "(I)LDotRuns$Code;" } : Jvm.MethodName)) ∈ lw_all := lw_g (lw_at lw_m3 54 rfl) rfl
theorem q645 : (Jvm.Cond.instanceMethod ({ cls := "DotRuns$Page", name := "code", desc := "(I)LDotRuns$Code;" } : Jvm.MethodName)) ∈ lw_all := lw_g (lw_at lw_m3 55 rfl) rfl
theorem q646 : (Jvm.Cond.selects "DotRuns$Page" ({ cls := "DotRuns$Page", name := "code", desc := "(I)LDotRuns$Code;" } : Jvm.MethodName) ({ cls := "DotRuns$Page", name := "code", desc := "(I)LDotRuns$Code;" } : Jvm.MethodName)) ∈ lw_all := lw_g (lw_at lw_m3 56 rfl) rfl
theorem q647 : (Jvm.Cond.code ({ cls := "DotRuns$Page", name := "code", desc := "(I)LDotRuns$Code;" } : Jvm.MethodName) prog_8_method_5_code (3 : Nat) (Option.some (Jvm.ClassFile.FieldType.object "DotRuns$Code"))) ∈ lw_all := lw_g (lw_at lw_m3 57 rfl) rfl
theorem q648 : (Jvm.Cond.interfaceEntry "DotRuns$Page" (71 : Nat)) ∈ lw_tbl := lw_at lw_m3 58 rfl
theorem q649 : (Jvm.Cond.methodLink "DotRuns$Page" (71 : Nat) ({ cls := "java/util/List", name := "size", desc := "()I" } : Jvm.MethodName)) ∈ lw_all := lw_g (lw_at lw_m3 59 rfl) rfl
theorem q650 : (Jvm.Cond.classLink "DotRuns$Page" (75 : Nat) "DotRuns$Code") ∈ lw_all := lw_g (lw_at lw_m3 60 rfl) rfl
theorem q652 : (Jvm.Cond.interfaceEntry "DotRuns$Page" (64 : Nat)) ∈ lw_tbl := lw_at lw_m3 62 rfl
theorem q653 : (Jvm.Cond.methodLink "DotRuns$Page" (64 : Nat) ({ cls := "java/util/List", name := "get", desc := "(I)Ljava/lang/Object;" } : Jvm.MethodName)) ∈ lw_all := lw_g (lw_at lw_m3 63 rfl) rfl
theorem q671 : (Jvm.Cond.classLink "DotRuns$Page" (57 : Nat) "DotRuns$Line") ∈ lw_all := lw_g (lw_at lw_m3 81 rfl) rfl
theorem q672 : (Jvm.Cond.methodLink "DotRuns$Page" (77 : Nat) ({ cls := "DotRuns$Page", name := "above", desc := "(I)LDotRuns$Line;" } : Jvm.MethodName)) ∈ lw_all := lw_g (lw_at lw_m3 82 rfl) rfl
theorem q673 : (Jvm.Cond.instanceMethod ({ cls := "DotRuns$Page", name := "above", desc := "(I)LDotRuns$Line;" } : Jvm.MethodName)) ∈ lw_all := lw_g (lw_at lw_m3 83 rfl) rfl
theorem q674 : (Jvm.Cond.selects "DotRuns$Page" ({ cls := "DotRuns$Page", name := "above", desc := "(I)LDotRuns$Line;" } : Jvm.MethodName) ({ cls := "DotRuns$Page", name := "above", desc := "(I)LDotRuns$Line;" } : Jvm.MethodName)) ∈ lw_all := lw_g (lw_at lw_m3 84 rfl) rfl
theorem q675 : (Jvm.Cond.code ({ cls := "DotRuns$Page", name := "above", desc := "(I)LDotRuns$Line;" } : Jvm.MethodName) prog_8_method_4_code (2 : Nat) (Option.some (Jvm.ClassFile.FieldType.object "DotRuns$Line"))) ∈ lw_all := lw_g (lw_at lw_m3 85 rfl) rfl
theorem q677 : (Jvm.Cond.methodLink "DotRuns$Page" (63 : Nat) ({ cls := "DotRuns$Line", name := "<init>", desc := "(I)V" } : Jvm.MethodName)) ∈ lw_all := lw_g (lw_at lw_m3 87 rfl) rfl
theorem q695 : (Jvm.Cond.methodLink "DotRuns$Page" (81 : Nat) ({ cls := "DotRuns$Code", name := "<init>", desc := "(LDotRuns$Line;LDotRuns$Line;)V" } : Jvm.MethodName)) ∈ lw_all := lw_g (lw_at lw_m3 105 rfl) rfl
theorem q918 : (Jvm.Cond.selects "DotRuns$Page" ({ cls := "java/lang/Object", name := "getClass", desc := "()Ljava/lang/Class;" } : Jvm.MethodName) ({ cls := "java/lang/Object", name := "getClass", desc := "()Ljava/lang/Class;" } : Jvm.MethodName)) ∈ lw_all := lw_g (lw_at lw_m4 88 rfl) rfl
theorem q1051 : (Jvm.Cond.fieldLinkNest "DotRuns$Page" (92 : Nat) "DotRuns$Code" "alone" "I" "DotRuns") ∈ lw_tbl := lw_at lw_m4 221 rfl
theorem q1054 : (Jvm.Cond.fieldLinkNest "DotRuns$Page" (95 : Nat) "DotRuns$Code" "byAbove" "I" "DotRuns") ∈ lw_tbl := lw_at lw_m4 224 rfl
theorem q1069 : (Jvm.Cond.interfaceEntry "DotRuns$Page" (59 : Nat)) ∈ lw_tbl := lw_at lw_m4 239 rfl
theorem q1070 : (Jvm.Cond.methodLink "DotRuns$Page" (59 : Nat) ({ cls := "java/util/List", name := "add", desc := "(Ljava/lang/Object;)Z" } : Jvm.MethodName)) ∈ lw_all := lw_g (lw_at lw_m5 0 rfl) rfl
theorem q1076 : (Jvm.Cond.instanceMethod ({ cls := "DotRuns$Page", name := "latestMark", desc := "(II)I" } : Jvm.MethodName)) ∈ lw_all := lw_g (lw_at lw_m5 6 rfl) rfl
theorem q1077 : (Jvm.Cond.selects "DotRuns$Page" ({ cls := "DotRuns$Page", name := "latestMark", desc := "(II)I" } : Jvm.MethodName) ({ cls := "DotRuns$Page", name := "latestMark", desc := "(II)I" } : Jvm.MethodName)) ∈ lw_all := lw_g (lw_at lw_m5 7 rfl) rfl
theorem q1078 : (Jvm.Cond.code ({ cls := "DotRuns$Page", name := "latestMark", desc := "(II)I" } : Jvm.MethodName) prog_8_method_9_code (4 : Nat) (Option.some Jvm.ClassFile.FieldType.int)) ∈ lw_all := lw_g (lw_at lw_m5 8 rfl) rfl
theorem q1262 : (Jvm.Cond.instanceMethod ({ cls := "DotRuns$Page", name := "isMark", desc := "(I)Z" } : Jvm.MethodName)) ∈ lw_all := lw_g (lw_at lw_m5 192 rfl) rfl
theorem q1263 : (Jvm.Cond.selects "DotRuns$Page" ({ cls := "DotRuns$Page", name := "isMark", desc := "(I)Z" } : Jvm.MethodName) ({ cls := "DotRuns$Page", name := "isMark", desc := "(I)Z" } : Jvm.MethodName)) ∈ lw_all := lw_g (lw_at lw_m5 193 rfl) rfl
theorem q1264 : (Jvm.Cond.code ({ cls := "DotRuns$Page", name := "isMark", desc := "(I)Z" } : Jvm.MethodName) prog_8_method_6_code (2 : Nat) (Option.some Jvm.ClassFile.FieldType.boolean)) ∈ lw_all := lw_g (lw_at lw_m5 194 rfl) rfl
theorem q1848 : (Jvm.Cond.instanceMethod ({ cls := "DotRuns$Page", name := "copy", desc := "()LDotRuns$Page;" } : Jvm.MethodName)) ∈ lw_all := lw_g (lw_at lw_m8 58 rfl) rfl
theorem q1849 : (Jvm.Cond.selects "DotRuns$Page" ({ cls := "DotRuns$Page", name := "copy", desc := "()LDotRuns$Page;" } : Jvm.MethodName) ({ cls := "DotRuns$Page", name := "copy", desc := "()LDotRuns$Page;" } : Jvm.MethodName)) ∈ lw_all := lw_g (lw_at lw_m8 59 rfl) rfl
theorem q1850 : (Jvm.Cond.code ({ cls := "DotRuns$Page", name := "copy", desc := "()LDotRuns$Page;" } : Jvm.MethodName) prog_8_method_3_code (4 : Nat) (Option.some (Jvm.ClassFile.FieldType.object "DotRuns$Page"))) ∈ lw_all := lw_g (lw_at lw_m8 60 rfl) rfl
theorem q1851 : (Jvm.Cond.classLink "DotRuns$Page" (13 : Nat) "DotRuns$Page") ∈ lw_all := lw_g (lw_at lw_m8 61 rfl) rfl
theorem q1852 : (Jvm.Cond.interfaceEntry "DotRuns$Page" (42 : Nat)) ∈ lw_tbl := lw_at lw_m8 62 rfl
theorem q1853 : (Jvm.Cond.methodLink "DotRuns$Page" (42 : Nat) ({ cls := "java/util/List", name := "iterator", desc := "()Ljava/util/Iterator;" } : Jvm.MethodName)) ∈ lw_all := lw_g (lw_at lw_m8 63 rfl) rfl
theorem q1854 : (Jvm.Cond.interfaceEntry "DotRuns$Page" (48 : Nat)) ∈ lw_tbl := lw_at lw_m8 64 rfl
theorem q1855 : (Jvm.Cond.methodLink "DotRuns$Page" (48 : Nat) ({ cls := "java/util/Iterator", name := "hasNext", desc := "()Z" } : Jvm.MethodName)) ∈ lw_all := lw_g (lw_at lw_m8 65 rfl) rfl
theorem q1856 : (Jvm.Cond.interfaceEntry "DotRuns$Page" (54 : Nat)) ∈ lw_tbl := lw_at lw_m8 66 rfl
theorem q1857 : (Jvm.Cond.methodLink "DotRuns$Page" (54 : Nat) ({ cls := "java/util/Iterator", name := "next", desc := "()Ljava/lang/Object;" } : Jvm.MethodName)) ∈ lw_all := lw_g (lw_at lw_m8 67 rfl) rfl
theorem q2773 : (Jvm.Cond.castable "DotRuns$Page" "java/lang/Object") ∈ lw_tbl := lw_at lw_m12 23 rfl
theorem in_X2 : ∀ w ∈ wsX20, w ∈ lw_all := lw_in wsX20 [544, 546, 548, 550, 552] (by decide +kernel) (by decide +kernel)

/-! DotRuns$Reader -/
set_option maxRecDepth 100000
def RX4 : String := "DotRuns$Reader"
def TX4 : u_T := fun k => match k with
  | 0 => ("DotRuns$Reader", "made", "LDotRuns$Page;", false)
  | 1 => ("DotRuns$Reader", "at", "I", false)
  | 2 => ("DotRuns$Reader", "begin", "I", false)
  | 3 => ("DotRuns$Reader", "kind", "I", false)
  | 4 => ("DotRuns$Reader", "number", "I", false)
  | _ => ("DotRuns$Reader", "this$0", "LDotRuns;", true)
def tyX4 : Nat → FieldType := fun k => match k with
  | 0 => .object "DotRuns$Page"
  | 1 => .int
  | 2 => .int
  | 3 => .int
  | 4 => .int
  | _ => .object "DotRuns"
abbrev wsX40 : List Cond := u_ws RX4 TX4 6
theorem nmX4 : ∀ a, a < 6 → ∀ b, b < 6 → a ≠ b → (TX4 a).2.1 ≠ (TX4 b).2.1 := by decide +kernel
theorem tyX4_ok : ∀ k, k < 6 → parseFieldDescriptor (TX4 k).2.2.1 = some (tyX4 k) := by decide +kernel
abbrev cX4_init : ByteArray := prog_10_method_1_code
def yX4_init : MethodName := ⟨RX4, "<init>", "(LDotRuns;)V"⟩
def dkwX4_init_1 : List UInt8 := [182, 0, 24, 177]
abbrev dktX4_init_1 : List UInt8 := dkwX4_init_1 ++ []
def dkwX4_init_0 : List UInt8 := [42, 43, 181, 0, 3, 42, 183, 0, 9, 42, 187, 0, 15, 89, 16, 16, 183, 0, 17, 181, 0, 20, 42]
abbrev dktX4_init_0 : List UInt8 := dkwX4_init_0 ++ dktX4_init_1
theorem dksX4_init_0 : cX4_init.data.toList.drop 0 = dktX4_init_0 := by decide +kernel
theorem dksX4_init_1 : cX4_init.data.toList.drop 23 = dktX4_init_1 := dk_seg dksX4_init_0 23 rfl rfl
theorem dX4_init_0 : decode cX4_init 0 = .ok (.aload_n 0, 1) := dk_42 (dk_at dksX4_init_0 0 rfl rfl)
theorem dX4_init_1 : decode cX4_init 1 = .ok (.aload_n 1, 1) := dk_43 (dk_at dksX4_init_0 1 rfl rfl)
theorem dX4_init_2 : decode cX4_init 2 = .ok (.putfield 3, 3) := dk_181 0 3 (dk_at dksX4_init_0 2 rfl rfl)
theorem dX4_init_5 : decode cX4_init 5 = .ok (.aload_n 0, 1) := dk_42 (dk_at dksX4_init_0 5 rfl rfl)
theorem dX4_init_6 : decode cX4_init 6 = .ok (.invokespecial 9, 3) := dk_183 0 9 (dk_at dksX4_init_0 6 rfl rfl)
theorem dX4_init_9 : decode cX4_init 9 = .ok (.aload_n 0, 1) := dk_42 (dk_at dksX4_init_0 9 rfl rfl)
theorem dX4_init_10 : decode cX4_init 10 = .ok (.new 15, 3) := dk_187 0 15 (dk_at dksX4_init_0 10 rfl rfl)
theorem dX4_init_13 : decode cX4_init 13 = .ok (.dup, 1) := dk_89 (dk_at dksX4_init_0 13 rfl rfl)
theorem dX4_init_14 : decode cX4_init 14 = .ok (.bipush 16, 2) := dk_16 16 (dk_at dksX4_init_0 14 rfl rfl)
theorem dX4_init_16 : decode cX4_init 16 = .ok (.invokespecial 17, 3) := dk_183 0 17 (dk_at dksX4_init_0 16 rfl rfl)
theorem dX4_init_19 : decode cX4_init 19 = .ok (.putfield 20, 3) := dk_181 0 20 (dk_at dksX4_init_0 19 rfl rfl)
theorem dX4_init_22 : decode cX4_init 22 = .ok (.aload_n 0, 1) := dk_42 (dk_at dksX4_init_0 22 rfl rfl)
theorem dX4_init_23 : decode cX4_init 23 = .ok (.invokevirtual 24, 3) := dk_182 0 24 (dk_at dksX4_init_1 0 rfl rfl)
theorem dX4_init_26 : decode cX4_init 26 = .ok (.return_, 1) := dk_177 (dk_at dksX4_init_1 3 rfl rfl)
abbrev cX4_next : ByteArray := prog_10_method_4_code
def yX4_next : MethodName := ⟨RX4, "next", "()V"⟩
def dkwX4_next_9 : List UInt8 := [42, 7, 181, 0, 52, 42, 89, 180, 0, 27, 4, 96, 181, 0, 27, 177]
abbrev dktX4_next_9 : List UInt8 := dkwX4_next_9 ++ []
def dkwX4_next_8 : List UInt8 := [6, 181, 0, 52, 42, 182, 0, 62, 153, 0, 31, 42, 89, 180, 0, 27, 4, 96, 181, 0, 27, 167, 255, 239]
abbrev dktX4_next_8 : List UInt8 := dkwX4_next_8 ++ dktX4_next_9
def dkwX4_next_7 : List UInt8 := [181, 0, 49, 42, 89, 180, 0, 27, 4, 96, 181, 0, 27, 167, 255, 203, 42, 182, 0, 62, 153, 0, 28, 42]
abbrev dktX4_next_7 : List UInt8 := dkwX4_next_7 ++ dktX4_next_8
def dkwX4_next_6 : List UInt8 := [42, 180, 0, 49, 104, 42, 180, 0, 3, 180, 0, 34, 42, 180, 0, 27, 51, 96, 16, 48, 100, 184, 0, 56]
abbrev dktX4_next_6 : List UInt8 := dkwX4_next_6 ++ dktX4_next_7
def dkwX4_next_5 : List UInt8 := [153, 0, 64, 42, 5, 181, 0, 52, 42, 16, 48, 16, 57, 182, 0, 42, 153, 0, 95, 42, 18, 55, 16, 10]
abbrev dktX4_next_5 : List UInt8 := dkwX4_next_5 ++ dktX4_next_6
def dkwX4_next_4 : List UInt8 := [153, 0, 135, 42, 89, 180, 0, 27, 4, 96, 181, 0, 27, 167, 255, 235, 42, 16, 48, 16, 57, 182, 0, 42]
abbrev dktX4_next_4 : List UInt8 := dkwX4_next_4 ++ dktX4_next_5
def dkwX4_next_3 : List UInt8 := [16, 97, 16, 122, 182, 0, 42, 153, 0, 32, 42, 4, 181, 0, 52, 42, 16, 97, 16, 122, 182, 0, 42]
abbrev dktX4_next_3 : List UInt8 := dkwX4_next_3 ++ dktX4_next_4
def dkwX4_next_2 : List UInt8 := [42, 180, 0, 27, 42, 180, 0, 3, 180, 0, 31, 160, 0, 11, 42, 3, 181, 0, 52, 167, 0, 162, 42]
abbrev dktX4_next_2 : List UInt8 := dkwX4_next_2 ++ dktX4_next_3
def dkwX4_next_1 : List UInt8 := [180, 0, 27, 4, 96, 181, 0, 27, 167, 255, 224, 42, 42, 180, 0, 27, 181, 0, 46, 42, 3, 181, 0, 49]
abbrev dktX4_next_1 : List UInt8 := dkwX4_next_1 ++ dktX4_next_2
def dkwX4_next_0 : List UInt8 := [42, 16, 32, 16, 32, 182, 0, 42, 154, 0, 14, 42, 16, 10, 16, 10, 182, 0, 42, 153, 0, 16, 42, 89]
abbrev dktX4_next_0 : List UInt8 := dkwX4_next_0 ++ dktX4_next_1
theorem dksX4_next_0 : cX4_next.data.toList.drop 0 = dktX4_next_0 := by decide +kernel
theorem dksX4_next_1 : cX4_next.data.toList.drop 24 = dktX4_next_1 := dk_seg dksX4_next_0 24 rfl rfl
theorem dksX4_next_2 : cX4_next.data.toList.drop 48 = dktX4_next_2 := dk_seg dksX4_next_1 24 rfl rfl
theorem dksX4_next_3 : cX4_next.data.toList.drop 71 = dktX4_next_3 := dk_seg dksX4_next_2 23 rfl rfl
theorem dksX4_next_4 : cX4_next.data.toList.drop 94 = dktX4_next_4 := dk_seg dksX4_next_3 23 rfl rfl
theorem dksX4_next_5 : cX4_next.data.toList.drop 118 = dktX4_next_5 := dk_seg dksX4_next_4 24 rfl rfl
theorem dksX4_next_6 : cX4_next.data.toList.drop 142 = dktX4_next_6 := dk_seg dksX4_next_5 24 rfl rfl
theorem dksX4_next_7 : cX4_next.data.toList.drop 166 = dktX4_next_7 := dk_seg dksX4_next_6 24 rfl rfl
theorem dksX4_next_8 : cX4_next.data.toList.drop 190 = dktX4_next_8 := dk_seg dksX4_next_7 24 rfl rfl
theorem dksX4_next_9 : cX4_next.data.toList.drop 214 = dktX4_next_9 := dk_seg dksX4_next_8 24 rfl rfl
theorem dX4_next_0 : decode cX4_next 0 = .ok (.aload_n 0, 1) := dk_42 (dk_at dksX4_next_0 0 rfl rfl)
theorem dX4_next_1 : decode cX4_next 1 = .ok (.bipush 32, 2) := dk_16 32 (dk_at dksX4_next_0 1 rfl rfl)
theorem dX4_next_3 : decode cX4_next 3 = .ok (.bipush 32, 2) := dk_16 32 (dk_at dksX4_next_0 3 rfl rfl)
theorem dX4_next_5 : decode cX4_next 5 = .ok (.invokevirtual 42, 3) := dk_182 0 42 (dk_at dksX4_next_0 5 rfl rfl)
theorem dX4_next_8 : decode cX4_next 8 = .ok (.ifCond .ne 14, 3) := dk_154 0 14 (dk_at dksX4_next_0 8 rfl rfl)
theorem dX4_next_11 : decode cX4_next 11 = .ok (.aload_n 0, 1) := dk_42 (dk_at dksX4_next_0 11 rfl rfl)
theorem dX4_next_12 : decode cX4_next 12 = .ok (.bipush 10, 2) := dk_16 10 (dk_at dksX4_next_0 12 rfl rfl)
theorem dX4_next_14 : decode cX4_next 14 = .ok (.bipush 10, 2) := dk_16 10 (dk_at dksX4_next_0 14 rfl rfl)
theorem dX4_next_16 : decode cX4_next 16 = .ok (.invokevirtual 42, 3) := dk_182 0 42 (dk_at dksX4_next_0 16 rfl rfl)
theorem dX4_next_19 : decode cX4_next 19 = .ok (.ifCond .eq 16, 3) := dk_153 0 16 (dk_at dksX4_next_0 19 rfl rfl)
theorem dX4_next_22 : decode cX4_next 22 = .ok (.aload_n 0, 1) := dk_42 (dk_at dksX4_next_0 22 rfl rfl)
theorem dX4_next_23 : decode cX4_next 23 = .ok (.dup, 1) := dk_89 (dk_at dksX4_next_0 23 rfl rfl)
theorem dX4_next_24 : decode cX4_next 24 = .ok (.getfield 27, 3) := dk_180 0 27 (dk_at dksX4_next_1 0 rfl rfl)
theorem dX4_next_27 : decode cX4_next 27 = .ok (.iconst 1, 1) := dk_4 (dk_at dksX4_next_1 3 rfl rfl)
theorem dX4_next_28 : decode cX4_next 28 = .ok (.iadd, 1) := dk_96 (dk_at dksX4_next_1 4 rfl rfl)
theorem dX4_next_29 : decode cX4_next 29 = .ok (.putfield 27, 3) := dk_181 0 27 (dk_at dksX4_next_1 5 rfl rfl)
theorem dX4_next_32 : decode cX4_next 32 = .ok (.goto (-32), 3) := dk_167 255 224 (dk_at dksX4_next_1 8 rfl rfl)
theorem dX4_next_35 : decode cX4_next 35 = .ok (.aload_n 0, 1) := dk_42 (dk_at dksX4_next_1 11 rfl rfl)
theorem dX4_next_36 : decode cX4_next 36 = .ok (.aload_n 0, 1) := dk_42 (dk_at dksX4_next_1 12 rfl rfl)
theorem dX4_next_37 : decode cX4_next 37 = .ok (.getfield 27, 3) := dk_180 0 27 (dk_at dksX4_next_1 13 rfl rfl)
theorem dX4_next_40 : decode cX4_next 40 = .ok (.putfield 46, 3) := dk_181 0 46 (dk_at dksX4_next_1 16 rfl rfl)
theorem dX4_next_43 : decode cX4_next 43 = .ok (.aload_n 0, 1) := dk_42 (dk_at dksX4_next_1 19 rfl rfl)
theorem dX4_next_44 : decode cX4_next 44 = .ok (.iconst 0, 1) := dk_3 (dk_at dksX4_next_1 20 rfl rfl)
theorem dX4_next_45 : decode cX4_next 45 = .ok (.putfield 49, 3) := dk_181 0 49 (dk_at dksX4_next_1 21 rfl rfl)
theorem dX4_next_48 : decode cX4_next 48 = .ok (.aload_n 0, 1) := dk_42 (dk_at dksX4_next_2 0 rfl rfl)
theorem dX4_next_49 : decode cX4_next 49 = .ok (.getfield 27, 3) := dk_180 0 27 (dk_at dksX4_next_2 1 rfl rfl)
theorem dX4_next_52 : decode cX4_next 52 = .ok (.aload_n 0, 1) := dk_42 (dk_at dksX4_next_2 4 rfl rfl)
theorem dX4_next_53 : decode cX4_next 53 = .ok (.getfield 3, 3) := dk_180 0 3 (dk_at dksX4_next_2 5 rfl rfl)
theorem dX4_next_56 : decode cX4_next 56 = .ok (.getfield 31, 3) := dk_180 0 31 (dk_at dksX4_next_2 8 rfl rfl)
theorem dX4_next_59 : decode cX4_next 59 = .ok (.if_icmp .ne 11, 3) := dk_160 0 11 (dk_at dksX4_next_2 11 rfl rfl)
theorem dX4_next_62 : decode cX4_next 62 = .ok (.aload_n 0, 1) := dk_42 (dk_at dksX4_next_2 14 rfl rfl)
theorem dX4_next_63 : decode cX4_next 63 = .ok (.iconst 0, 1) := dk_3 (dk_at dksX4_next_2 15 rfl rfl)
theorem dX4_next_64 : decode cX4_next 64 = .ok (.putfield 52, 3) := dk_181 0 52 (dk_at dksX4_next_2 16 rfl rfl)
theorem dX4_next_67 : decode cX4_next 67 = .ok (.goto 162, 3) := dk_167 0 162 (dk_at dksX4_next_2 19 rfl rfl)
theorem dX4_next_70 : decode cX4_next 70 = .ok (.aload_n 0, 1) := dk_42 (dk_at dksX4_next_2 22 rfl rfl)
theorem dX4_next_71 : decode cX4_next 71 = .ok (.bipush 97, 2) := dk_16 97 (dk_at dksX4_next_3 0 rfl rfl)
theorem dX4_next_73 : decode cX4_next 73 = .ok (.bipush 122, 2) := dk_16 122 (dk_at dksX4_next_3 2 rfl rfl)
theorem dX4_next_75 : decode cX4_next 75 = .ok (.invokevirtual 42, 3) := dk_182 0 42 (dk_at dksX4_next_3 4 rfl rfl)
theorem dX4_next_78 : decode cX4_next 78 = .ok (.ifCond .eq 32, 3) := dk_153 0 32 (dk_at dksX4_next_3 7 rfl rfl)
theorem dX4_next_81 : decode cX4_next 81 = .ok (.aload_n 0, 1) := dk_42 (dk_at dksX4_next_3 10 rfl rfl)
theorem dX4_next_82 : decode cX4_next 82 = .ok (.iconst 1, 1) := dk_4 (dk_at dksX4_next_3 11 rfl rfl)
theorem dX4_next_83 : decode cX4_next 83 = .ok (.putfield 52, 3) := dk_181 0 52 (dk_at dksX4_next_3 12 rfl rfl)
theorem dX4_next_86 : decode cX4_next 86 = .ok (.aload_n 0, 1) := dk_42 (dk_at dksX4_next_3 15 rfl rfl)
theorem dX4_next_87 : decode cX4_next 87 = .ok (.bipush 97, 2) := dk_16 97 (dk_at dksX4_next_3 16 rfl rfl)
theorem dX4_next_89 : decode cX4_next 89 = .ok (.bipush 122, 2) := dk_16 122 (dk_at dksX4_next_3 18 rfl rfl)
theorem dX4_next_91 : decode cX4_next 91 = .ok (.invokevirtual 42, 3) := dk_182 0 42 (dk_at dksX4_next_3 20 rfl rfl)
theorem dX4_next_94 : decode cX4_next 94 = .ok (.ifCond .eq 135, 3) := dk_153 0 135 (dk_at dksX4_next_4 0 rfl rfl)
theorem dX4_next_97 : decode cX4_next 97 = .ok (.aload_n 0, 1) := dk_42 (dk_at dksX4_next_4 3 rfl rfl)
theorem dX4_next_98 : decode cX4_next 98 = .ok (.dup, 1) := dk_89 (dk_at dksX4_next_4 4 rfl rfl)
theorem dX4_next_99 : decode cX4_next 99 = .ok (.getfield 27, 3) := dk_180 0 27 (dk_at dksX4_next_4 5 rfl rfl)
theorem dX4_next_102 : decode cX4_next 102 = .ok (.iconst 1, 1) := dk_4 (dk_at dksX4_next_4 8 rfl rfl)
theorem dX4_next_103 : decode cX4_next 103 = .ok (.iadd, 1) := dk_96 (dk_at dksX4_next_4 9 rfl rfl)
theorem dX4_next_104 : decode cX4_next 104 = .ok (.putfield 27, 3) := dk_181 0 27 (dk_at dksX4_next_4 10 rfl rfl)
theorem dX4_next_107 : decode cX4_next 107 = .ok (.goto (-21), 3) := dk_167 255 235 (dk_at dksX4_next_4 13 rfl rfl)
theorem dX4_next_110 : decode cX4_next 110 = .ok (.aload_n 0, 1) := dk_42 (dk_at dksX4_next_4 16 rfl rfl)
theorem dX4_next_111 : decode cX4_next 111 = .ok (.bipush 48, 2) := dk_16 48 (dk_at dksX4_next_4 17 rfl rfl)
theorem dX4_next_113 : decode cX4_next 113 = .ok (.bipush 57, 2) := dk_16 57 (dk_at dksX4_next_4 19 rfl rfl)
theorem dX4_next_115 : decode cX4_next 115 = .ok (.invokevirtual 42, 3) := dk_182 0 42 (dk_at dksX4_next_4 21 rfl rfl)
theorem dX4_next_118 : decode cX4_next 118 = .ok (.ifCond .eq 64, 3) := dk_153 0 64 (dk_at dksX4_next_5 0 rfl rfl)
theorem dX4_next_121 : decode cX4_next 121 = .ok (.aload_n 0, 1) := dk_42 (dk_at dksX4_next_5 3 rfl rfl)
theorem dX4_next_122 : decode cX4_next 122 = .ok (.iconst 2, 1) := dk_5 (dk_at dksX4_next_5 4 rfl rfl)
theorem dX4_next_123 : decode cX4_next 123 = .ok (.putfield 52, 3) := dk_181 0 52 (dk_at dksX4_next_5 5 rfl rfl)
theorem dX4_next_126 : decode cX4_next 126 = .ok (.aload_n 0, 1) := dk_42 (dk_at dksX4_next_5 8 rfl rfl)
theorem dX4_next_127 : decode cX4_next 127 = .ok (.bipush 48, 2) := dk_16 48 (dk_at dksX4_next_5 9 rfl rfl)
theorem dX4_next_129 : decode cX4_next 129 = .ok (.bipush 57, 2) := dk_16 57 (dk_at dksX4_next_5 11 rfl rfl)
theorem dX4_next_131 : decode cX4_next 131 = .ok (.invokevirtual 42, 3) := dk_182 0 42 (dk_at dksX4_next_5 13 rfl rfl)
theorem dX4_next_134 : decode cX4_next 134 = .ok (.ifCond .eq 95, 3) := dk_153 0 95 (dk_at dksX4_next_5 16 rfl rfl)
theorem dX4_next_137 : decode cX4_next 137 = .ok (.aload_n 0, 1) := dk_42 (dk_at dksX4_next_5 19 rfl rfl)
theorem dX4_next_138 : decode cX4_next 138 = .ok (.ldc 55, 2) := dk_18 55 (dk_at dksX4_next_5 20 rfl rfl)
theorem dX4_next_140 : decode cX4_next 140 = .ok (.bipush 10, 2) := dk_16 10 (dk_at dksX4_next_5 22 rfl rfl)
theorem dX4_next_142 : decode cX4_next 142 = .ok (.aload_n 0, 1) := dk_42 (dk_at dksX4_next_6 0 rfl rfl)
theorem dX4_next_143 : decode cX4_next 143 = .ok (.getfield 49, 3) := dk_180 0 49 (dk_at dksX4_next_6 1 rfl rfl)
theorem dX4_next_146 : decode cX4_next 146 = .ok (.imul, 1) := dk_104 (dk_at dksX4_next_6 4 rfl rfl)
theorem dX4_next_147 : decode cX4_next 147 = .ok (.aload_n 0, 1) := dk_42 (dk_at dksX4_next_6 5 rfl rfl)
theorem dX4_next_148 : decode cX4_next 148 = .ok (.getfield 3, 3) := dk_180 0 3 (dk_at dksX4_next_6 6 rfl rfl)
theorem dX4_next_151 : decode cX4_next 151 = .ok (.getfield 34, 3) := dk_180 0 34 (dk_at dksX4_next_6 9 rfl rfl)
theorem dX4_next_154 : decode cX4_next 154 = .ok (.aload_n 0, 1) := dk_42 (dk_at dksX4_next_6 12 rfl rfl)
theorem dX4_next_155 : decode cX4_next 155 = .ok (.getfield 27, 3) := dk_180 0 27 (dk_at dksX4_next_6 13 rfl rfl)
theorem dX4_next_158 : decode cX4_next 158 = .ok (.baload, 1) := dk_51 (dk_at dksX4_next_6 16 rfl rfl)
theorem dX4_next_159 : decode cX4_next 159 = .ok (.iadd, 1) := dk_96 (dk_at dksX4_next_6 17 rfl rfl)
theorem dX4_next_160 : decode cX4_next 160 = .ok (.bipush 48, 2) := dk_16 48 (dk_at dksX4_next_6 18 rfl rfl)
theorem dX4_next_162 : decode cX4_next 162 = .ok (.isub, 1) := dk_100 (dk_at dksX4_next_6 20 rfl rfl)
theorem dX4_next_163 : decode cX4_next 163 = .ok (.invokestatic 56, 3) := dk_184 0 56 (dk_at dksX4_next_6 21 rfl rfl)
theorem dX4_next_166 : decode cX4_next 166 = .ok (.putfield 49, 3) := dk_181 0 49 (dk_at dksX4_next_7 0 rfl rfl)
theorem dX4_next_169 : decode cX4_next 169 = .ok (.aload_n 0, 1) := dk_42 (dk_at dksX4_next_7 3 rfl rfl)
theorem dX4_next_170 : decode cX4_next 170 = .ok (.dup, 1) := dk_89 (dk_at dksX4_next_7 4 rfl rfl)
theorem dX4_next_171 : decode cX4_next 171 = .ok (.getfield 27, 3) := dk_180 0 27 (dk_at dksX4_next_7 5 rfl rfl)
theorem dX4_next_174 : decode cX4_next 174 = .ok (.iconst 1, 1) := dk_4 (dk_at dksX4_next_7 8 rfl rfl)
theorem dX4_next_175 : decode cX4_next 175 = .ok (.iadd, 1) := dk_96 (dk_at dksX4_next_7 9 rfl rfl)
theorem dX4_next_176 : decode cX4_next 176 = .ok (.putfield 27, 3) := dk_181 0 27 (dk_at dksX4_next_7 10 rfl rfl)
theorem dX4_next_179 : decode cX4_next 179 = .ok (.goto (-53), 3) := dk_167 255 203 (dk_at dksX4_next_7 13 rfl rfl)
theorem dX4_next_182 : decode cX4_next 182 = .ok (.aload_n 0, 1) := dk_42 (dk_at dksX4_next_7 16 rfl rfl)
theorem dX4_next_183 : decode cX4_next 183 = .ok (.invokevirtual 62, 3) := dk_182 0 62 (dk_at dksX4_next_7 17 rfl rfl)
theorem dX4_next_186 : decode cX4_next 186 = .ok (.ifCond .eq 28, 3) := dk_153 0 28 (dk_at dksX4_next_7 20 rfl rfl)
theorem dX4_next_189 : decode cX4_next 189 = .ok (.aload_n 0, 1) := dk_42 (dk_at dksX4_next_7 23 rfl rfl)
theorem dX4_next_190 : decode cX4_next 190 = .ok (.iconst 3, 1) := dk_6 (dk_at dksX4_next_8 0 rfl rfl)
theorem dX4_next_191 : decode cX4_next 191 = .ok (.putfield 52, 3) := dk_181 0 52 (dk_at dksX4_next_8 1 rfl rfl)
theorem dX4_next_194 : decode cX4_next 194 = .ok (.aload_n 0, 1) := dk_42 (dk_at dksX4_next_8 4 rfl rfl)
theorem dX4_next_195 : decode cX4_next 195 = .ok (.invokevirtual 62, 3) := dk_182 0 62 (dk_at dksX4_next_8 5 rfl rfl)
theorem dX4_next_198 : decode cX4_next 198 = .ok (.ifCond .eq 31, 3) := dk_153 0 31 (dk_at dksX4_next_8 8 rfl rfl)
theorem dX4_next_201 : decode cX4_next 201 = .ok (.aload_n 0, 1) := dk_42 (dk_at dksX4_next_8 11 rfl rfl)
theorem dX4_next_202 : decode cX4_next 202 = .ok (.dup, 1) := dk_89 (dk_at dksX4_next_8 12 rfl rfl)
theorem dX4_next_203 : decode cX4_next 203 = .ok (.getfield 27, 3) := dk_180 0 27 (dk_at dksX4_next_8 13 rfl rfl)
theorem dX4_next_206 : decode cX4_next 206 = .ok (.iconst 1, 1) := dk_4 (dk_at dksX4_next_8 16 rfl rfl)
theorem dX4_next_207 : decode cX4_next 207 = .ok (.iadd, 1) := dk_96 (dk_at dksX4_next_8 17 rfl rfl)
theorem dX4_next_208 : decode cX4_next 208 = .ok (.putfield 27, 3) := dk_181 0 27 (dk_at dksX4_next_8 18 rfl rfl)
theorem dX4_next_211 : decode cX4_next 211 = .ok (.goto (-17), 3) := dk_167 255 239 (dk_at dksX4_next_8 21 rfl rfl)
theorem dX4_next_214 : decode cX4_next 214 = .ok (.aload_n 0, 1) := dk_42 (dk_at dksX4_next_9 0 rfl rfl)
theorem dX4_next_215 : decode cX4_next 215 = .ok (.iconst 4, 1) := dk_7 (dk_at dksX4_next_9 1 rfl rfl)
theorem dX4_next_216 : decode cX4_next 216 = .ok (.putfield 52, 3) := dk_181 0 52 (dk_at dksX4_next_9 2 rfl rfl)
theorem dX4_next_219 : decode cX4_next 219 = .ok (.aload_n 0, 1) := dk_42 (dk_at dksX4_next_9 5 rfl rfl)
theorem dX4_next_220 : decode cX4_next 220 = .ok (.dup, 1) := dk_89 (dk_at dksX4_next_9 6 rfl rfl)
theorem dX4_next_221 : decode cX4_next 221 = .ok (.getfield 27, 3) := dk_180 0 27 (dk_at dksX4_next_9 7 rfl rfl)
theorem dX4_next_224 : decode cX4_next 224 = .ok (.iconst 1, 1) := dk_4 (dk_at dksX4_next_9 10 rfl rfl)
theorem dX4_next_225 : decode cX4_next 225 = .ok (.iadd, 1) := dk_96 (dk_at dksX4_next_9 11 rfl rfl)
theorem dX4_next_226 : decode cX4_next 226 = .ok (.putfield 27, 3) := dk_181 0 27 (dk_at dksX4_next_9 12 rfl rfl)
theorem dX4_next_229 : decode cX4_next 229 = .ok (.return_, 1) := dk_177 (dk_at dksX4_next_9 15 rfl rfl)
abbrev cX4_isAt : ByteArray := prog_10_method_2_code
def yX4_isAt : MethodName := ⟨RX4, "isAt", "(II)Z"⟩
def dkwX4_isAt_1 : List UInt8 := [180, 0, 27, 51, 27, 28, 184, 0, 38, 153, 0, 7, 4, 167, 0, 4, 3, 172]
abbrev dktX4_isAt_1 : List UInt8 := dkwX4_isAt_1 ++ []
def dkwX4_isAt_0 : List UInt8 := [42, 180, 0, 27, 42, 180, 0, 3, 180, 0, 31, 162, 0, 27, 42, 180, 0, 3, 180, 0, 34, 42]
abbrev dktX4_isAt_0 : List UInt8 := dkwX4_isAt_0 ++ dktX4_isAt_1
theorem dksX4_isAt_0 : cX4_isAt.data.toList.drop 0 = dktX4_isAt_0 := by decide +kernel
theorem dksX4_isAt_1 : cX4_isAt.data.toList.drop 22 = dktX4_isAt_1 := dk_seg dksX4_isAt_0 22 rfl rfl
theorem dX4_isAt_0 : decode cX4_isAt 0 = .ok (.aload_n 0, 1) := dk_42 (dk_at dksX4_isAt_0 0 rfl rfl)
theorem dX4_isAt_1 : decode cX4_isAt 1 = .ok (.getfield 27, 3) := dk_180 0 27 (dk_at dksX4_isAt_0 1 rfl rfl)
theorem dX4_isAt_4 : decode cX4_isAt 4 = .ok (.aload_n 0, 1) := dk_42 (dk_at dksX4_isAt_0 4 rfl rfl)
theorem dX4_isAt_5 : decode cX4_isAt 5 = .ok (.getfield 3, 3) := dk_180 0 3 (dk_at dksX4_isAt_0 5 rfl rfl)
theorem dX4_isAt_8 : decode cX4_isAt 8 = .ok (.getfield 31, 3) := dk_180 0 31 (dk_at dksX4_isAt_0 8 rfl rfl)
theorem dX4_isAt_11 : decode cX4_isAt 11 = .ok (.if_icmp .ge 27, 3) := dk_162 0 27 (dk_at dksX4_isAt_0 11 rfl rfl)
theorem dX4_isAt_14 : decode cX4_isAt 14 = .ok (.aload_n 0, 1) := dk_42 (dk_at dksX4_isAt_0 14 rfl rfl)
theorem dX4_isAt_15 : decode cX4_isAt 15 = .ok (.getfield 3, 3) := dk_180 0 3 (dk_at dksX4_isAt_0 15 rfl rfl)
theorem dX4_isAt_18 : decode cX4_isAt 18 = .ok (.getfield 34, 3) := dk_180 0 34 (dk_at dksX4_isAt_0 18 rfl rfl)
theorem dX4_isAt_21 : decode cX4_isAt 21 = .ok (.aload_n 0, 1) := dk_42 (dk_at dksX4_isAt_0 21 rfl rfl)
theorem dX4_isAt_22 : decode cX4_isAt 22 = .ok (.getfield 27, 3) := dk_180 0 27 (dk_at dksX4_isAt_1 0 rfl rfl)
theorem dX4_isAt_25 : decode cX4_isAt 25 = .ok (.baload, 1) := dk_51 (dk_at dksX4_isAt_1 3 rfl rfl)
theorem dX4_isAt_26 : decode cX4_isAt 26 = .ok (.iload_n 1, 1) := dk_27 (dk_at dksX4_isAt_1 4 rfl rfl)
theorem dX4_isAt_27 : decode cX4_isAt 27 = .ok (.iload_n 2, 1) := dk_28 (dk_at dksX4_isAt_1 5 rfl rfl)
theorem dX4_isAt_28 : decode cX4_isAt 28 = .ok (.invokestatic 38, 3) := dk_184 0 38 (dk_at dksX4_isAt_1 6 rfl rfl)
theorem dX4_isAt_31 : decode cX4_isAt 31 = .ok (.ifCond .eq 7, 3) := dk_153 0 7 (dk_at dksX4_isAt_1 9 rfl rfl)
theorem dX4_isAt_34 : decode cX4_isAt 34 = .ok (.iconst 1, 1) := dk_4 (dk_at dksX4_isAt_1 12 rfl rfl)
theorem dX4_isAt_35 : decode cX4_isAt 35 = .ok (.goto 4, 3) := dk_167 0 4 (dk_at dksX4_isAt_1 13 rfl rfl)
theorem dX4_isAt_38 : decode cX4_isAt 38 = .ok (.iconst 0, 1) := dk_3 (dk_at dksX4_isAt_1 16 rfl rfl)
theorem dX4_isAt_39 : decode cX4_isAt 39 = .ok (.ireturn, 1) := dk_172 (dk_at dksX4_isAt_1 17 rfl rfl)
abbrev cX4_isDot : ByteArray := prog_10_method_3_code
def yX4_isDot : MethodName := ⟨RX4, "isDot", "()Z"⟩
def dkwX4_isDot_1 : List UInt8 := [167, 0, 4, 3, 172]
abbrev dktX4_isDot_1 : List UInt8 := dkwX4_isDot_1 ++ []
def dkwX4_isDot_0 : List UInt8 := [42, 16, 46, 16, 46, 182, 0, 42, 154, 0, 14, 42, 16, 35, 16, 35, 182, 0, 42, 153, 0, 7, 4]
abbrev dktX4_isDot_0 : List UInt8 := dkwX4_isDot_0 ++ dktX4_isDot_1
theorem dksX4_isDot_0 : cX4_isDot.data.toList.drop 0 = dktX4_isDot_0 := by decide +kernel
theorem dksX4_isDot_1 : cX4_isDot.data.toList.drop 23 = dktX4_isDot_1 := dk_seg dksX4_isDot_0 23 rfl rfl
theorem dX4_isDot_0 : decode cX4_isDot 0 = .ok (.aload_n 0, 1) := dk_42 (dk_at dksX4_isDot_0 0 rfl rfl)
theorem dX4_isDot_1 : decode cX4_isDot 1 = .ok (.bipush 46, 2) := dk_16 46 (dk_at dksX4_isDot_0 1 rfl rfl)
theorem dX4_isDot_3 : decode cX4_isDot 3 = .ok (.bipush 46, 2) := dk_16 46 (dk_at dksX4_isDot_0 3 rfl rfl)
theorem dX4_isDot_5 : decode cX4_isDot 5 = .ok (.invokevirtual 42, 3) := dk_182 0 42 (dk_at dksX4_isDot_0 5 rfl rfl)
theorem dX4_isDot_8 : decode cX4_isDot 8 = .ok (.ifCond .ne 14, 3) := dk_154 0 14 (dk_at dksX4_isDot_0 8 rfl rfl)
theorem dX4_isDot_11 : decode cX4_isDot 11 = .ok (.aload_n 0, 1) := dk_42 (dk_at dksX4_isDot_0 11 rfl rfl)
theorem dX4_isDot_12 : decode cX4_isDot 12 = .ok (.bipush 35, 2) := dk_16 35 (dk_at dksX4_isDot_0 12 rfl rfl)
theorem dX4_isDot_14 : decode cX4_isDot 14 = .ok (.bipush 35, 2) := dk_16 35 (dk_at dksX4_isDot_0 14 rfl rfl)
theorem dX4_isDot_16 : decode cX4_isDot 16 = .ok (.invokevirtual 42, 3) := dk_182 0 42 (dk_at dksX4_isDot_0 16 rfl rfl)
theorem dX4_isDot_19 : decode cX4_isDot 19 = .ok (.ifCond .eq 7, 3) := dk_153 0 7 (dk_at dksX4_isDot_0 19 rfl rfl)
theorem dX4_isDot_22 : decode cX4_isDot 22 = .ok (.iconst 1, 1) := dk_4 (dk_at dksX4_isDot_0 22 rfl rfl)
theorem dX4_isDot_23 : decode cX4_isDot 23 = .ok (.goto 4, 3) := dk_167 0 4 (dk_at dksX4_isDot_1 0 rfl rfl)
theorem dX4_isDot_26 : decode cX4_isDot 26 = .ok (.iconst 0, 1) := dk_3 (dk_at dksX4_isDot_1 3 rfl rfl)
theorem dX4_isDot_27 : decode cX4_isDot 27 = .ok (.ireturn, 1) := dk_172 (dk_at dksX4_isDot_1 4 rfl rfl)
abbrev cX4_page : ByteArray := prog_10_method_22_code
def yX4_page : MethodName := ⟨RX4, "page", "()LDotRuns$Page;"⟩
def dkwX4_page_2 : List UInt8 := [182, 0, 226, 167, 255, 245, 42, 180, 0, 20, 176]
abbrev dktX4_page_2 : List UInt8 := dkwX4_page_2 ++ []
def dkwX4_page_1 : List UInt8 := [16, 40, 182, 0, 128, 183, 0, 17, 181, 0, 20, 42, 4, 182, 0, 120, 42, 180, 0, 52, 153, 0, 10, 42]
abbrev dktX4_page_1 : List UInt8 := dkwX4_page_1 ++ dktX4_page_2
def dkwX4_page_0 : List UInt8 := [42, 182, 0, 159, 18, 225, 182, 0, 138, 153, 0, 31, 42, 182, 0, 24, 42, 187, 0, 15, 89, 42, 16, 8]
abbrev dktX4_page_0 : List UInt8 := dkwX4_page_0 ++ dktX4_page_1
theorem dksX4_page_0 : cX4_page.data.toList.drop 0 = dktX4_page_0 := by decide +kernel
theorem dksX4_page_1 : cX4_page.data.toList.drop 24 = dktX4_page_1 := dk_seg dksX4_page_0 24 rfl rfl
theorem dksX4_page_2 : cX4_page.data.toList.drop 48 = dktX4_page_2 := dk_seg dksX4_page_1 24 rfl rfl
theorem dX4_page_0 : decode cX4_page 0 = .ok (.aload_n 0, 1) := dk_42 (dk_at dksX4_page_0 0 rfl rfl)
theorem dX4_page_1 : decode cX4_page 1 = .ok (.invokevirtual 159, 3) := dk_182 0 159 (dk_at dksX4_page_0 1 rfl rfl)
theorem dX4_page_4 : decode cX4_page 4 = .ok (.ldc 225, 2) := dk_18 225 (dk_at dksX4_page_0 4 rfl rfl)
theorem dX4_page_6 : decode cX4_page 6 = .ok (.invokevirtual 138, 3) := dk_182 0 138 (dk_at dksX4_page_0 6 rfl rfl)
theorem dX4_page_9 : decode cX4_page 9 = .ok (.ifCond .eq 31, 3) := dk_153 0 31 (dk_at dksX4_page_0 9 rfl rfl)
theorem dX4_page_12 : decode cX4_page 12 = .ok (.aload_n 0, 1) := dk_42 (dk_at dksX4_page_0 12 rfl rfl)
theorem dX4_page_13 : decode cX4_page 13 = .ok (.invokevirtual 24, 3) := dk_182 0 24 (dk_at dksX4_page_0 13 rfl rfl)
theorem dX4_page_16 : decode cX4_page 16 = .ok (.aload_n 0, 1) := dk_42 (dk_at dksX4_page_0 16 rfl rfl)
theorem dX4_page_17 : decode cX4_page 17 = .ok (.new 15, 3) := dk_187 0 15 (dk_at dksX4_page_0 17 rfl rfl)
theorem dX4_page_20 : decode cX4_page 20 = .ok (.dup, 1) := dk_89 (dk_at dksX4_page_0 20 rfl rfl)
theorem dX4_page_21 : decode cX4_page 21 = .ok (.aload_n 0, 1) := dk_42 (dk_at dksX4_page_0 21 rfl rfl)
theorem dX4_page_22 : decode cX4_page 22 = .ok (.bipush 8, 2) := dk_16 8 (dk_at dksX4_page_0 22 rfl rfl)
theorem dX4_page_24 : decode cX4_page 24 = .ok (.bipush 40, 2) := dk_16 40 (dk_at dksX4_page_1 0 rfl rfl)
theorem dX4_page_26 : decode cX4_page 26 = .ok (.invokevirtual 128, 3) := dk_182 0 128 (dk_at dksX4_page_1 2 rfl rfl)
theorem dX4_page_29 : decode cX4_page 29 = .ok (.invokespecial 17, 3) := dk_183 0 17 (dk_at dksX4_page_1 5 rfl rfl)
theorem dX4_page_32 : decode cX4_page 32 = .ok (.putfield 20, 3) := dk_181 0 20 (dk_at dksX4_page_1 8 rfl rfl)
theorem dX4_page_35 : decode cX4_page 35 = .ok (.aload_n 0, 1) := dk_42 (dk_at dksX4_page_1 11 rfl rfl)
theorem dX4_page_36 : decode cX4_page 36 = .ok (.iconst 1, 1) := dk_4 (dk_at dksX4_page_1 12 rfl rfl)
theorem dX4_page_37 : decode cX4_page 37 = .ok (.invokevirtual 120, 3) := dk_182 0 120 (dk_at dksX4_page_1 13 rfl rfl)
theorem dX4_page_40 : decode cX4_page 40 = .ok (.aload_n 0, 1) := dk_42 (dk_at dksX4_page_1 16 rfl rfl)
theorem dX4_page_41 : decode cX4_page 41 = .ok (.getfield 52, 3) := dk_180 0 52 (dk_at dksX4_page_1 17 rfl rfl)
theorem dX4_page_44 : decode cX4_page 44 = .ok (.ifCond .eq 10, 3) := dk_153 0 10 (dk_at dksX4_page_1 20 rfl rfl)
theorem dX4_page_47 : decode cX4_page 47 = .ok (.aload_n 0, 1) := dk_42 (dk_at dksX4_page_1 23 rfl rfl)
theorem dX4_page_48 : decode cX4_page 48 = .ok (.invokevirtual 226, 3) := dk_182 0 226 (dk_at dksX4_page_2 0 rfl rfl)
theorem dX4_page_51 : decode cX4_page 51 = .ok (.goto (-11), 3) := dk_167 255 245 (dk_at dksX4_page_2 3 rfl rfl)
theorem dX4_page_54 : decode cX4_page 54 = .ok (.aload_n 0, 1) := dk_42 (dk_at dksX4_page_2 6 rfl rfl)
theorem dX4_page_55 : decode cX4_page 55 = .ok (.getfield 20, 3) := dk_180 0 20 (dk_at dksX4_page_2 7 rfl rfl)
theorem dX4_page_58 : decode cX4_page 58 = .ok (.areturn, 1) := dk_176 (dk_at dksX4_page_2 10 rfl rfl)
abbrev cX4_word : ByteArray := prog_10_method_5_code
def yX4_word : MethodName := ⟨RX4, "word", "()Ljava/lang/String;"⟩
def dkwX4_word_2 : List UInt8 := [132, 2, 1, 167, 255, 230, 43, 182, 0, 75, 176]
abbrev dktX4_word_2 : List UInt8 := dkwX4_word_2 ++ []
def dkwX4_word_1 : List UInt8 := [28, 42, 180, 0, 27, 162, 0, 24, 43, 42, 180, 0, 3, 180, 0, 34, 28, 51, 146, 182, 0, 71, 87]
abbrev dktX4_word_1 : List UInt8 := dkwX4_word_1 ++ dktX4_word_2
def dkwX4_word_0 : List UInt8 := [42, 180, 0, 52, 4, 159, 0, 6, 18, 66, 176, 187, 0, 68, 89, 183, 0, 70, 76, 42, 180, 0, 46, 61]
abbrev dktX4_word_0 : List UInt8 := dkwX4_word_0 ++ dktX4_word_1
theorem dksX4_word_0 : cX4_word.data.toList.drop 0 = dktX4_word_0 := by decide +kernel
theorem dksX4_word_1 : cX4_word.data.toList.drop 24 = dktX4_word_1 := dk_seg dksX4_word_0 24 rfl rfl
theorem dksX4_word_2 : cX4_word.data.toList.drop 47 = dktX4_word_2 := dk_seg dksX4_word_1 23 rfl rfl
theorem dX4_word_0 : decode cX4_word 0 = .ok (.aload_n 0, 1) := dk_42 (dk_at dksX4_word_0 0 rfl rfl)
theorem dX4_word_1 : decode cX4_word 1 = .ok (.getfield 52, 3) := dk_180 0 52 (dk_at dksX4_word_0 1 rfl rfl)
theorem dX4_word_4 : decode cX4_word 4 = .ok (.iconst 1, 1) := dk_4 (dk_at dksX4_word_0 4 rfl rfl)
theorem dX4_word_5 : decode cX4_word 5 = .ok (.if_icmp .eq 6, 3) := dk_159 0 6 (dk_at dksX4_word_0 5 rfl rfl)
theorem dX4_word_8 : decode cX4_word 8 = .ok (.ldc 66, 2) := dk_18 66 (dk_at dksX4_word_0 8 rfl rfl)
theorem dX4_word_10 : decode cX4_word 10 = .ok (.areturn, 1) := dk_176 (dk_at dksX4_word_0 10 rfl rfl)
theorem dX4_word_11 : decode cX4_word 11 = .ok (.new 68, 3) := dk_187 0 68 (dk_at dksX4_word_0 11 rfl rfl)
theorem dX4_word_14 : decode cX4_word 14 = .ok (.dup, 1) := dk_89 (dk_at dksX4_word_0 14 rfl rfl)
theorem dX4_word_15 : decode cX4_word 15 = .ok (.invokespecial 70, 3) := dk_183 0 70 (dk_at dksX4_word_0 15 rfl rfl)
theorem dX4_word_18 : decode cX4_word 18 = .ok (.astore_n 1, 1) := dk_76 (dk_at dksX4_word_0 18 rfl rfl)
theorem dX4_word_19 : decode cX4_word 19 = .ok (.aload_n 0, 1) := dk_42 (dk_at dksX4_word_0 19 rfl rfl)
theorem dX4_word_20 : decode cX4_word 20 = .ok (.getfield 46, 3) := dk_180 0 46 (dk_at dksX4_word_0 20 rfl rfl)
theorem dX4_word_23 : decode cX4_word 23 = .ok (.istore_n 2, 1) := dk_61 (dk_at dksX4_word_0 23 rfl rfl)
theorem dX4_word_24 : decode cX4_word 24 = .ok (.iload_n 2, 1) := dk_28 (dk_at dksX4_word_1 0 rfl rfl)
theorem dX4_word_25 : decode cX4_word 25 = .ok (.aload_n 0, 1) := dk_42 (dk_at dksX4_word_1 1 rfl rfl)
theorem dX4_word_26 : decode cX4_word 26 = .ok (.getfield 27, 3) := dk_180 0 27 (dk_at dksX4_word_1 2 rfl rfl)
theorem dX4_word_29 : decode cX4_word 29 = .ok (.if_icmp .ge 24, 3) := dk_162 0 24 (dk_at dksX4_word_1 5 rfl rfl)
theorem dX4_word_32 : decode cX4_word 32 = .ok (.aload_n 1, 1) := dk_43 (dk_at dksX4_word_1 8 rfl rfl)
theorem dX4_word_33 : decode cX4_word 33 = .ok (.aload_n 0, 1) := dk_42 (dk_at dksX4_word_1 9 rfl rfl)
theorem dX4_word_34 : decode cX4_word 34 = .ok (.getfield 3, 3) := dk_180 0 3 (dk_at dksX4_word_1 10 rfl rfl)
theorem dX4_word_37 : decode cX4_word 37 = .ok (.getfield 34, 3) := dk_180 0 34 (dk_at dksX4_word_1 13 rfl rfl)
theorem dX4_word_40 : decode cX4_word 40 = .ok (.iload_n 2, 1) := dk_28 (dk_at dksX4_word_1 16 rfl rfl)
theorem dX4_word_41 : decode cX4_word 41 = .ok (.baload, 1) := dk_51 (dk_at dksX4_word_1 17 rfl rfl)
theorem dX4_word_42 : decode cX4_word 42 = .ok (.i2c, 1) := dk_146 (dk_at dksX4_word_1 18 rfl rfl)
theorem dX4_word_43 : decode cX4_word 43 = .ok (.invokevirtual 71, 3) := dk_182 0 71 (dk_at dksX4_word_1 19 rfl rfl)
theorem dX4_word_46 : decode cX4_word 46 = .ok (.pop, 1) := dk_87 (dk_at dksX4_word_1 22 rfl rfl)
theorem dX4_word_47 : decode cX4_word 47 = .ok (.iinc 2 1, 3) := dk_132 2 1 (dk_at dksX4_word_2 0 rfl rfl)
theorem dX4_word_50 : decode cX4_word 50 = .ok (.goto (-26), 3) := dk_167 255 230 (dk_at dksX4_word_2 3 rfl rfl)
theorem dX4_word_53 : decode cX4_word 53 = .ok (.aload_n 1, 1) := dk_43 (dk_at dksX4_word_2 6 rfl rfl)
theorem dX4_word_54 : decode cX4_word 54 = .ok (.invokevirtual 75, 3) := dk_182 0 75 (dk_at dksX4_word_2 7 rfl rfl)
theorem dX4_word_57 : decode cX4_word 57 = .ok (.areturn, 1) := dk_176 (dk_at dksX4_word_2 10 rfl rfl)
abbrev cX4_take : ByteArray := prog_10_method_9_code
def yX4_take : MethodName := ⟨RX4, "take", "(II)I"⟩
def dkwX4_take_0 : List UInt8 := [42, 27, 28, 182, 0, 88, 62, 42, 182, 0, 24, 29, 172]
abbrev dktX4_take_0 : List UInt8 := dkwX4_take_0 ++ []
theorem dksX4_take_0 : cX4_take.data.toList.drop 0 = dktX4_take_0 := by decide +kernel
theorem dX4_take_0 : decode cX4_take 0 = .ok (.aload_n 0, 1) := dk_42 (dk_at dksX4_take_0 0 rfl rfl)
theorem dX4_take_1 : decode cX4_take 1 = .ok (.iload_n 1, 1) := dk_27 (dk_at dksX4_take_0 1 rfl rfl)
theorem dX4_take_2 : decode cX4_take 2 = .ok (.iload_n 2, 1) := dk_28 (dk_at dksX4_take_0 2 rfl rfl)
theorem dX4_take_3 : decode cX4_take 3 = .ok (.invokevirtual 88, 3) := dk_182 0 88 (dk_at dksX4_take_0 3 rfl rfl)
theorem dX4_take_6 : decode cX4_take 6 = .ok (.istore_n 3, 1) := dk_62 (dk_at dksX4_take_0 6 rfl rfl)
theorem dX4_take_7 : decode cX4_take 7 = .ok (.aload_n 0, 1) := dk_42 (dk_at dksX4_take_0 7 rfl rfl)
theorem dX4_take_8 : decode cX4_take 8 = .ok (.invokevirtual 24, 3) := dk_182 0 24 (dk_at dksX4_take_0 8 rfl rfl)
theorem dX4_take_11 : decode cX4_take 11 = .ok (.iload_n 3, 1) := dk_29 (dk_at dksX4_take_0 11 rfl rfl)
theorem dX4_take_12 : decode cX4_take 12 = .ok (.ireturn, 1) := dk_172 (dk_at dksX4_take_0 12 rfl rfl)
abbrev cX4_look : ByteArray := prog_10_method_8_code
def yX4_look : MethodName := ⟨RX4, "look", "(II)I"⟩
def dkwX4_look_1 : List UInt8 := [28, 184, 0, 38, 5, 182, 0, 84, 42, 180, 0, 49, 172]
abbrev dktX4_look_1 : List UInt8 := dkwX4_look_1 ++ []
def dkwX4_look_0 : List UInt8 := [42, 42, 180, 0, 52, 5, 160, 0, 7, 4, 167, 0, 4, 3, 4, 182, 0, 84, 42, 42, 180, 0, 49, 27]
abbrev dktX4_look_0 : List UInt8 := dkwX4_look_0 ++ dktX4_look_1
theorem dksX4_look_0 : cX4_look.data.toList.drop 0 = dktX4_look_0 := by decide +kernel
theorem dksX4_look_1 : cX4_look.data.toList.drop 24 = dktX4_look_1 := dk_seg dksX4_look_0 24 rfl rfl
theorem dX4_look_0 : decode cX4_look 0 = .ok (.aload_n 0, 1) := dk_42 (dk_at dksX4_look_0 0 rfl rfl)
theorem dX4_look_1 : decode cX4_look 1 = .ok (.aload_n 0, 1) := dk_42 (dk_at dksX4_look_0 1 rfl rfl)
theorem dX4_look_2 : decode cX4_look 2 = .ok (.getfield 52, 3) := dk_180 0 52 (dk_at dksX4_look_0 2 rfl rfl)
theorem dX4_look_5 : decode cX4_look 5 = .ok (.iconst 2, 1) := dk_5 (dk_at dksX4_look_0 5 rfl rfl)
theorem dX4_look_6 : decode cX4_look 6 = .ok (.if_icmp .ne 7, 3) := dk_160 0 7 (dk_at dksX4_look_0 6 rfl rfl)
theorem dX4_look_9 : decode cX4_look 9 = .ok (.iconst 1, 1) := dk_4 (dk_at dksX4_look_0 9 rfl rfl)
theorem dX4_look_10 : decode cX4_look 10 = .ok (.goto 4, 3) := dk_167 0 4 (dk_at dksX4_look_0 10 rfl rfl)
theorem dX4_look_13 : decode cX4_look 13 = .ok (.iconst 0, 1) := dk_3 (dk_at dksX4_look_0 13 rfl rfl)
theorem dX4_look_14 : decode cX4_look 14 = .ok (.iconst 1, 1) := dk_4 (dk_at dksX4_look_0 14 rfl rfl)
theorem dX4_look_15 : decode cX4_look 15 = .ok (.invokevirtual 84, 3) := dk_182 0 84 (dk_at dksX4_look_0 15 rfl rfl)
theorem dX4_look_18 : decode cX4_look 18 = .ok (.aload_n 0, 1) := dk_42 (dk_at dksX4_look_0 18 rfl rfl)
theorem dX4_look_19 : decode cX4_look 19 = .ok (.aload_n 0, 1) := dk_42 (dk_at dksX4_look_0 19 rfl rfl)
theorem dX4_look_20 : decode cX4_look 20 = .ok (.getfield 49, 3) := dk_180 0 49 (dk_at dksX4_look_0 20 rfl rfl)
theorem dX4_look_23 : decode cX4_look 23 = .ok (.iload_n 1, 1) := dk_27 (dk_at dksX4_look_0 23 rfl rfl)
theorem dX4_look_24 : decode cX4_look 24 = .ok (.iload_n 2, 1) := dk_28 (dk_at dksX4_look_1 0 rfl rfl)
theorem dX4_look_25 : decode cX4_look 25 = .ok (.invokestatic 38, 3) := dk_184 0 38 (dk_at dksX4_look_1 1 rfl rfl)
theorem dX4_look_28 : decode cX4_look 28 = .ok (.iconst 2, 1) := dk_5 (dk_at dksX4_look_1 4 rfl rfl)
theorem dX4_look_29 : decode cX4_look 29 = .ok (.invokevirtual 84, 3) := dk_182 0 84 (dk_at dksX4_look_1 5 rfl rfl)
theorem dX4_look_32 : decode cX4_look 32 = .ok (.aload_n 0, 1) := dk_42 (dk_at dksX4_look_1 8 rfl rfl)
theorem dX4_look_33 : decode cX4_look 33 = .ok (.getfield 49, 3) := dk_180 0 49 (dk_at dksX4_look_1 9 rfl rfl)
theorem dX4_look_36 : decode cX4_look 36 = .ok (.ireturn, 1) := dk_172 (dk_at dksX4_look_1 12 rfl rfl)
abbrev cX4_need : ByteArray := prog_10_method_7_code
def yX4_need : MethodName := ⟨RX4, "need", "(ZI)V"⟩
def dkwX4_need_0 : List UInt8 := [27, 154, 0, 16, 187, 0, 79, 89, 28, 42, 180, 0, 46, 183, 0, 81, 191, 177]
abbrev dktX4_need_0 : List UInt8 := dkwX4_need_0 ++ []
theorem dksX4_need_0 : cX4_need.data.toList.drop 0 = dktX4_need_0 := by decide +kernel
theorem dX4_need_0 : decode cX4_need 0 = .ok (.iload_n 1, 1) := dk_27 (dk_at dksX4_need_0 0 rfl rfl)
theorem dX4_need_1 : decode cX4_need 1 = .ok (.ifCond .ne 16, 3) := dk_154 0 16 (dk_at dksX4_need_0 1 rfl rfl)
theorem dX4_need_4 : decode cX4_need 4 = .ok (.new 79, 3) := dk_187 0 79 (dk_at dksX4_need_0 4 rfl rfl)
theorem dX4_need_7 : decode cX4_need 7 = .ok (.dup, 1) := dk_89 (dk_at dksX4_need_0 7 rfl rfl)
theorem dX4_need_8 : decode cX4_need 8 = .ok (.iload_n 2, 1) := dk_28 (dk_at dksX4_need_0 8 rfl rfl)
theorem dX4_need_9 : decode cX4_need 9 = .ok (.aload_n 0, 1) := dk_42 (dk_at dksX4_need_0 9 rfl rfl)
theorem dX4_need_10 : decode cX4_need 10 = .ok (.getfield 46, 3) := dk_180 0 46 (dk_at dksX4_need_0 10 rfl rfl)
theorem dX4_need_13 : decode cX4_need 13 = .ok (.invokespecial 81, 3) := dk_183 0 81 (dk_at dksX4_need_0 13 rfl rfl)
theorem dX4_need_16 : decode cX4_need 16 = .ok (.athrow, 1) := dk_191 (dk_at dksX4_need_0 16 rfl rfl)
theorem dX4_need_17 : decode cX4_need 17 = .ok (.return_, 1) := dk_177 (dk_at dksX4_need_0 17 rfl rfl)
abbrev cX4_end : ByteArray := prog_10_method_10_code
def yX4_end : MethodName := ⟨RX4, "end", "(Z)V"⟩
def dkwX4_end_0 : List UInt8 := [42, 42, 16, 59, 182, 0, 91, 4, 182, 0, 84, 42, 27, 6, 182, 0, 84, 42, 182, 0, 24, 177]
abbrev dktX4_end_0 : List UInt8 := dkwX4_end_0 ++ []
theorem dksX4_end_0 : cX4_end.data.toList.drop 0 = dktX4_end_0 := by decide +kernel
theorem dX4_end_0 : decode cX4_end 0 = .ok (.aload_n 0, 1) := dk_42 (dk_at dksX4_end_0 0 rfl rfl)
theorem dX4_end_1 : decode cX4_end 1 = .ok (.aload_n 0, 1) := dk_42 (dk_at dksX4_end_0 1 rfl rfl)
theorem dX4_end_2 : decode cX4_end 2 = .ok (.bipush 59, 2) := dk_16 59 (dk_at dksX4_end_0 2 rfl rfl)
theorem dX4_end_4 : decode cX4_end 4 = .ok (.invokevirtual 91, 3) := dk_182 0 91 (dk_at dksX4_end_0 4 rfl rfl)
theorem dX4_end_7 : decode cX4_end 7 = .ok (.iconst 1, 1) := dk_4 (dk_at dksX4_end_0 7 rfl rfl)
theorem dX4_end_8 : decode cX4_end 8 = .ok (.invokevirtual 84, 3) := dk_182 0 84 (dk_at dksX4_end_0 8 rfl rfl)
theorem dX4_end_11 : decode cX4_end 11 = .ok (.aload_n 0, 1) := dk_42 (dk_at dksX4_end_0 11 rfl rfl)
theorem dX4_end_12 : decode cX4_end 12 = .ok (.iload_n 1, 1) := dk_27 (dk_at dksX4_end_0 12 rfl rfl)
theorem dX4_end_13 : decode cX4_end 13 = .ok (.iconst 3, 1) := dk_6 (dk_at dksX4_end_0 13 rfl rfl)
theorem dX4_end_14 : decode cX4_end 14 = .ok (.invokevirtual 84, 3) := dk_182 0 84 (dk_at dksX4_end_0 14 rfl rfl)
theorem dX4_end_17 : decode cX4_end 17 = .ok (.aload_n 0, 1) := dk_42 (dk_at dksX4_end_0 17 rfl rfl)
theorem dX4_end_18 : decode cX4_end 18 = .ok (.invokevirtual 24, 3) := dk_182 0 24 (dk_at dksX4_end_0 18 rfl rfl)
theorem dX4_end_21 : decode cX4_end 21 = .ok (.return_, 1) := dk_177 (dk_at dksX4_end_0 21 rfl rfl)
abbrev cX4_isSign : ByteArray := prog_10_method_6_code
def yX4_isSign : MethodName := ⟨RX4, "isSign", "(I)Z"⟩
def dkwX4_isSign_1 : List UInt8 := [4, 167, 0, 4, 3, 172]
abbrev dktX4_isSign_1 : List UInt8 := dkwX4_isSign_1 ++ []
def dkwX4_isSign_0 : List UInt8 := [42, 180, 0, 52, 7, 160, 0, 23, 42, 180, 0, 3, 180, 0, 34, 42, 180, 0, 46, 51, 27, 160, 0, 7]
abbrev dktX4_isSign_0 : List UInt8 := dkwX4_isSign_0 ++ dktX4_isSign_1
theorem dksX4_isSign_0 : cX4_isSign.data.toList.drop 0 = dktX4_isSign_0 := by decide +kernel
theorem dksX4_isSign_1 : cX4_isSign.data.toList.drop 24 = dktX4_isSign_1 := dk_seg dksX4_isSign_0 24 rfl rfl
theorem dX4_isSign_0 : decode cX4_isSign 0 = .ok (.aload_n 0, 1) := dk_42 (dk_at dksX4_isSign_0 0 rfl rfl)
theorem dX4_isSign_1 : decode cX4_isSign 1 = .ok (.getfield 52, 3) := dk_180 0 52 (dk_at dksX4_isSign_0 1 rfl rfl)
theorem dX4_isSign_4 : decode cX4_isSign 4 = .ok (.iconst 4, 1) := dk_7 (dk_at dksX4_isSign_0 4 rfl rfl)
theorem dX4_isSign_5 : decode cX4_isSign 5 = .ok (.if_icmp .ne 23, 3) := dk_160 0 23 (dk_at dksX4_isSign_0 5 rfl rfl)
theorem dX4_isSign_8 : decode cX4_isSign 8 = .ok (.aload_n 0, 1) := dk_42 (dk_at dksX4_isSign_0 8 rfl rfl)
theorem dX4_isSign_9 : decode cX4_isSign 9 = .ok (.getfield 3, 3) := dk_180 0 3 (dk_at dksX4_isSign_0 9 rfl rfl)
theorem dX4_isSign_12 : decode cX4_isSign 12 = .ok (.getfield 34, 3) := dk_180 0 34 (dk_at dksX4_isSign_0 12 rfl rfl)
theorem dX4_isSign_15 : decode cX4_isSign 15 = .ok (.aload_n 0, 1) := dk_42 (dk_at dksX4_isSign_0 15 rfl rfl)
theorem dX4_isSign_16 : decode cX4_isSign 16 = .ok (.getfield 46, 3) := dk_180 0 46 (dk_at dksX4_isSign_0 16 rfl rfl)
theorem dX4_isSign_19 : decode cX4_isSign 19 = .ok (.baload, 1) := dk_51 (dk_at dksX4_isSign_0 19 rfl rfl)
theorem dX4_isSign_20 : decode cX4_isSign 20 = .ok (.iload_n 1, 1) := dk_27 (dk_at dksX4_isSign_0 20 rfl rfl)
theorem dX4_isSign_21 : decode cX4_isSign 21 = .ok (.if_icmp .ne 7, 3) := dk_160 0 7 (dk_at dksX4_isSign_0 21 rfl rfl)
theorem dX4_isSign_24 : decode cX4_isSign 24 = .ok (.iconst 1, 1) := dk_4 (dk_at dksX4_isSign_1 0 rfl rfl)
theorem dX4_isSign_25 : decode cX4_isSign 25 = .ok (.goto 4, 3) := dk_167 0 4 (dk_at dksX4_isSign_1 1 rfl rfl)
theorem dX4_isSign_28 : decode cX4_isSign 28 = .ok (.iconst 0, 1) := dk_3 (dk_at dksX4_isSign_1 4 rfl rfl)
theorem dX4_isSign_29 : decode cX4_isSign 29 = .ok (.ireturn, 1) := dk_172 (dk_at dksX4_isSign_1 5 rfl rfl)
abbrev cX4_statement : ByteArray := prog_10_method_21_code
def yX4_statement : MethodName := ⟨RX4, "statement", "()V"⟩
def dkwX4_statement_7 : List UInt8 := [182, 0, 220, 167, 0, 16, 42, 182, 0, 223, 167, 0, 9, 42, 3, 4, 182, 0, 84, 177]
abbrev dktX4_statement_7 : List UInt8 := dkwX4_statement_7 ++ []
def dkwX4_statement_6 : List UInt8 := [42, 182, 0, 213, 167, 0, 37, 42, 182, 0, 216, 167, 0, 30, 42, 182, 0, 218, 167, 0, 23, 42]
abbrev dktX4_statement_6 : List UInt8 := dkwX4_statement_6 ++ dktX4_statement_7
def dkwX4_statement_5 : List UInt8 := [170, 0, 0, 0, 0, 0, 0, 71, 0, 0, 0, 0, 0, 0, 0, 4, 0, 0, 0, 36, 0, 0, 0, 43, 0, 0, 0, 50, 0, 0, 0, 57, 0, 0, 0, 64]
abbrev dktX4_statement_5 : List UInt8 := dkwX4_statement_5 ++ dktX4_statement_6
def dkwX4_statement_4 : List UInt8 := [153, 0, 19, 6, 61, 167, 0, 14, 43, 18, 211, 182, 0, 138, 153, 0, 5, 7, 61, 28]
abbrev dktX4_statement_4 : List UInt8 := dkwX4_statement_4 ++ dktX4_statement_5
def dkwX4_statement_3 : List UInt8 := [61, 167, 0, 42, 43, 18, 209, 182, 0, 138, 153, 0, 33, 5, 61, 167, 0, 28, 43, 18, 210, 182, 0, 138]
abbrev dktX4_statement_3 : List UInt8 := dkwX4_statement_3 ++ dktX4_statement_4
def dkwX4_statement_2 : List UInt8 := [43, 18, 205, 182, 0, 138, 153, 0, 61, 3, 61, 167, 0, 56, 43, 18, 207, 182, 0, 138, 153, 0, 47, 4]
abbrev dktX4_statement_2 : List UInt8 := dkwX4_statement_2 ++ dktX4_statement_3
def dkwX4_statement_1 : List UInt8 := [171, 0, 0, 0, 116, 0, 0, 0, 5, 0, 1, 188, 98, 0, 0, 0, 91, 0, 50, 175, 244, 0, 0, 0, 49, 0, 50, 199, 35, 0, 0, 0, 105, 5, 133, 35, 157, 0, 0, 0, 77, 5, 137, 174, 91, 0, 0, 0, 63]
abbrev dktX4_statement_1 : List UInt8 := dkwX4_statement_1 ++ dktX4_statement_2
def dkwX4_statement_0 : List UInt8 := [42, 182, 0, 159, 76, 2, 61, 43, 182, 0, 131]
abbrev dktX4_statement_0 : List UInt8 := dkwX4_statement_0 ++ dktX4_statement_1
theorem dksX4_statement_0 : cX4_statement.data.toList.drop 0 = dktX4_statement_0 := by decide +kernel
theorem dksX4_statement_1 : cX4_statement.data.toList.drop 11 = dktX4_statement_1 := dk_seg dksX4_statement_0 11 rfl rfl
theorem dksX4_statement_2 : cX4_statement.data.toList.drop 60 = dktX4_statement_2 := dk_seg dksX4_statement_1 49 rfl rfl
theorem dksX4_statement_3 : cX4_statement.data.toList.drop 84 = dktX4_statement_3 := dk_seg dksX4_statement_2 24 rfl rfl
theorem dksX4_statement_4 : cX4_statement.data.toList.drop 108 = dktX4_statement_4 := dk_seg dksX4_statement_3 24 rfl rfl
theorem dksX4_statement_5 : cX4_statement.data.toList.drop 128 = dktX4_statement_5 := dk_seg dksX4_statement_4 20 rfl rfl
theorem dksX4_statement_6 : cX4_statement.data.toList.drop 164 = dktX4_statement_6 := dk_seg dksX4_statement_5 36 rfl rfl
theorem dksX4_statement_7 : cX4_statement.data.toList.drop 186 = dktX4_statement_7 := dk_seg dksX4_statement_6 22 rfl rfl
theorem dX4_statement_0 : decode cX4_statement 0 = .ok (.aload_n 0, 1) := dk_42 (dk_at dksX4_statement_0 0 rfl rfl)
theorem dX4_statement_1 : decode cX4_statement 1 = .ok (.invokevirtual 159, 3) := dk_182 0 159 (dk_at dksX4_statement_0 1 rfl rfl)
theorem dX4_statement_4 : decode cX4_statement 4 = .ok (.astore_n 1, 1) := dk_76 (dk_at dksX4_statement_0 4 rfl rfl)
theorem dX4_statement_5 : decode cX4_statement 5 = .ok (.iconst (-1), 1) := dk_2 (dk_at dksX4_statement_0 5 rfl rfl)
theorem dX4_statement_6 : decode cX4_statement 6 = .ok (.istore_n 2, 1) := dk_61 (dk_at dksX4_statement_0 6 rfl rfl)
theorem dX4_statement_7 : decode cX4_statement 7 = .ok (.aload_n 1, 1) := dk_43 (dk_at dksX4_statement_0 7 rfl rfl)
theorem dX4_statement_8 : decode cX4_statement 8 = .ok (.invokevirtual 131, 3) := dk_182 0 131 (dk_at dksX4_statement_0 8 rfl rfl)
theorem dX4_statement_11 : decode cX4_statement 11 = .ok (.lookupswitch 116 #[(113762, 91), (3321844, 49), (3327779, 105), (92611485, 77), (92909147, 63)], 49) := by decide +kernel
theorem dX4_statement_60 : decode cX4_statement 60 = .ok (.aload_n 1, 1) := dk_43 (dk_at dksX4_statement_2 0 rfl rfl)
theorem dX4_statement_61 : decode cX4_statement 61 = .ok (.ldc 205, 2) := dk_18 205 (dk_at dksX4_statement_2 1 rfl rfl)
theorem dX4_statement_63 : decode cX4_statement 63 = .ok (.invokevirtual 138, 3) := dk_182 0 138 (dk_at dksX4_statement_2 3 rfl rfl)
theorem dX4_statement_66 : decode cX4_statement 66 = .ok (.ifCond .eq 61, 3) := dk_153 0 61 (dk_at dksX4_statement_2 6 rfl rfl)
theorem dX4_statement_69 : decode cX4_statement 69 = .ok (.iconst 0, 1) := dk_3 (dk_at dksX4_statement_2 9 rfl rfl)
theorem dX4_statement_70 : decode cX4_statement 70 = .ok (.istore_n 2, 1) := dk_61 (dk_at dksX4_statement_2 10 rfl rfl)
theorem dX4_statement_71 : decode cX4_statement 71 = .ok (.goto 56, 3) := dk_167 0 56 (dk_at dksX4_statement_2 11 rfl rfl)
theorem dX4_statement_74 : decode cX4_statement 74 = .ok (.aload_n 1, 1) := dk_43 (dk_at dksX4_statement_2 14 rfl rfl)
theorem dX4_statement_75 : decode cX4_statement 75 = .ok (.ldc 207, 2) := dk_18 207 (dk_at dksX4_statement_2 15 rfl rfl)
theorem dX4_statement_77 : decode cX4_statement 77 = .ok (.invokevirtual 138, 3) := dk_182 0 138 (dk_at dksX4_statement_2 17 rfl rfl)
theorem dX4_statement_80 : decode cX4_statement 80 = .ok (.ifCond .eq 47, 3) := dk_153 0 47 (dk_at dksX4_statement_2 20 rfl rfl)
theorem dX4_statement_83 : decode cX4_statement 83 = .ok (.iconst 1, 1) := dk_4 (dk_at dksX4_statement_2 23 rfl rfl)
theorem dX4_statement_84 : decode cX4_statement 84 = .ok (.istore_n 2, 1) := dk_61 (dk_at dksX4_statement_3 0 rfl rfl)
theorem dX4_statement_85 : decode cX4_statement 85 = .ok (.goto 42, 3) := dk_167 0 42 (dk_at dksX4_statement_3 1 rfl rfl)
theorem dX4_statement_88 : decode cX4_statement 88 = .ok (.aload_n 1, 1) := dk_43 (dk_at dksX4_statement_3 4 rfl rfl)
theorem dX4_statement_89 : decode cX4_statement 89 = .ok (.ldc 209, 2) := dk_18 209 (dk_at dksX4_statement_3 5 rfl rfl)
theorem dX4_statement_91 : decode cX4_statement 91 = .ok (.invokevirtual 138, 3) := dk_182 0 138 (dk_at dksX4_statement_3 7 rfl rfl)
theorem dX4_statement_94 : decode cX4_statement 94 = .ok (.ifCond .eq 33, 3) := dk_153 0 33 (dk_at dksX4_statement_3 10 rfl rfl)
theorem dX4_statement_97 : decode cX4_statement 97 = .ok (.iconst 2, 1) := dk_5 (dk_at dksX4_statement_3 13 rfl rfl)
theorem dX4_statement_98 : decode cX4_statement 98 = .ok (.istore_n 2, 1) := dk_61 (dk_at dksX4_statement_3 14 rfl rfl)
theorem dX4_statement_99 : decode cX4_statement 99 = .ok (.goto 28, 3) := dk_167 0 28 (dk_at dksX4_statement_3 15 rfl rfl)
theorem dX4_statement_102 : decode cX4_statement 102 = .ok (.aload_n 1, 1) := dk_43 (dk_at dksX4_statement_3 18 rfl rfl)
theorem dX4_statement_103 : decode cX4_statement 103 = .ok (.ldc 210, 2) := dk_18 210 (dk_at dksX4_statement_3 19 rfl rfl)
theorem dX4_statement_105 : decode cX4_statement 105 = .ok (.invokevirtual 138, 3) := dk_182 0 138 (dk_at dksX4_statement_3 21 rfl rfl)
theorem dX4_statement_108 : decode cX4_statement 108 = .ok (.ifCond .eq 19, 3) := dk_153 0 19 (dk_at dksX4_statement_4 0 rfl rfl)
theorem dX4_statement_111 : decode cX4_statement 111 = .ok (.iconst 3, 1) := dk_6 (dk_at dksX4_statement_4 3 rfl rfl)
theorem dX4_statement_112 : decode cX4_statement 112 = .ok (.istore_n 2, 1) := dk_61 (dk_at dksX4_statement_4 4 rfl rfl)
theorem dX4_statement_113 : decode cX4_statement 113 = .ok (.goto 14, 3) := dk_167 0 14 (dk_at dksX4_statement_4 5 rfl rfl)
theorem dX4_statement_116 : decode cX4_statement 116 = .ok (.aload_n 1, 1) := dk_43 (dk_at dksX4_statement_4 8 rfl rfl)
theorem dX4_statement_117 : decode cX4_statement 117 = .ok (.ldc 211, 2) := dk_18 211 (dk_at dksX4_statement_4 9 rfl rfl)
theorem dX4_statement_119 : decode cX4_statement 119 = .ok (.invokevirtual 138, 3) := dk_182 0 138 (dk_at dksX4_statement_4 11 rfl rfl)
theorem dX4_statement_122 : decode cX4_statement 122 = .ok (.ifCond .eq 5, 3) := dk_153 0 5 (dk_at dksX4_statement_4 14 rfl rfl)
theorem dX4_statement_125 : decode cX4_statement 125 = .ok (.iconst 4, 1) := dk_7 (dk_at dksX4_statement_4 17 rfl rfl)
theorem dX4_statement_126 : decode cX4_statement 126 = .ok (.istore_n 2, 1) := dk_61 (dk_at dksX4_statement_4 18 rfl rfl)
theorem dX4_statement_127 : decode cX4_statement 127 = .ok (.iload_n 2, 1) := dk_28 (dk_at dksX4_statement_4 19 rfl rfl)
theorem dX4_statement_128 : decode cX4_statement 128 = .ok (.tableswitch 71 0 4 #[36, 43, 50, 57, 64], 36) := by decide +kernel
theorem dX4_statement_164 : decode cX4_statement 164 = .ok (.aload_n 0, 1) := dk_42 (dk_at dksX4_statement_6 0 rfl rfl)
theorem dX4_statement_165 : decode cX4_statement 165 = .ok (.invokevirtual 213, 3) := dk_182 0 213 (dk_at dksX4_statement_6 1 rfl rfl)
theorem dX4_statement_168 : decode cX4_statement 168 = .ok (.goto 37, 3) := dk_167 0 37 (dk_at dksX4_statement_6 4 rfl rfl)
theorem dX4_statement_171 : decode cX4_statement 171 = .ok (.aload_n 0, 1) := dk_42 (dk_at dksX4_statement_6 7 rfl rfl)
theorem dX4_statement_172 : decode cX4_statement 172 = .ok (.invokevirtual 216, 3) := dk_182 0 216 (dk_at dksX4_statement_6 8 rfl rfl)
theorem dX4_statement_175 : decode cX4_statement 175 = .ok (.goto 30, 3) := dk_167 0 30 (dk_at dksX4_statement_6 11 rfl rfl)
theorem dX4_statement_178 : decode cX4_statement 178 = .ok (.aload_n 0, 1) := dk_42 (dk_at dksX4_statement_6 14 rfl rfl)
theorem dX4_statement_179 : decode cX4_statement 179 = .ok (.invokevirtual 218, 3) := dk_182 0 218 (dk_at dksX4_statement_6 15 rfl rfl)
theorem dX4_statement_182 : decode cX4_statement 182 = .ok (.goto 23, 3) := dk_167 0 23 (dk_at dksX4_statement_6 18 rfl rfl)
theorem dX4_statement_185 : decode cX4_statement 185 = .ok (.aload_n 0, 1) := dk_42 (dk_at dksX4_statement_6 21 rfl rfl)
theorem dX4_statement_186 : decode cX4_statement 186 = .ok (.invokevirtual 220, 3) := dk_182 0 220 (dk_at dksX4_statement_7 0 rfl rfl)
theorem dX4_statement_189 : decode cX4_statement 189 = .ok (.goto 16, 3) := dk_167 0 16 (dk_at dksX4_statement_7 3 rfl rfl)
theorem dX4_statement_192 : decode cX4_statement 192 = .ok (.aload_n 0, 1) := dk_42 (dk_at dksX4_statement_7 6 rfl rfl)
theorem dX4_statement_193 : decode cX4_statement 193 = .ok (.invokevirtual 223, 3) := dk_182 0 223 (dk_at dksX4_statement_7 7 rfl rfl)
theorem dX4_statement_196 : decode cX4_statement 196 = .ok (.goto 9, 3) := dk_167 0 9 (dk_at dksX4_statement_7 10 rfl rfl)
theorem dX4_statement_199 : decode cX4_statement 199 = .ok (.aload_n 0, 1) := dk_42 (dk_at dksX4_statement_7 13 rfl rfl)
theorem dX4_statement_200 : decode cX4_statement 200 = .ok (.iconst 0, 1) := dk_3 (dk_at dksX4_statement_7 14 rfl rfl)
theorem dX4_statement_201 : decode cX4_statement 201 = .ok (.iconst 1, 1) := dk_4 (dk_at dksX4_statement_7 15 rfl rfl)
theorem dX4_statement_202 : decode cX4_statement 202 = .ok (.invokevirtual 84, 3) := dk_182 0 84 (dk_at dksX4_statement_7 16 rfl rfl)
theorem dX4_statement_205 : decode cX4_statement 205 = .ok (.return_, 1) := dk_177 (dk_at dksX4_statement_7 19 rfl rfl)
abbrev cX4_dots : ByteArray := prog_10_method_12_code
def yX4_dots : MethodName := ⟨RX4, "dots", "()V"⟩
def dkwX4_dots_5 : List UInt8 := [31, 183, 0, 113, 185, 0, 116, 2, 0, 87, 42, 182, 0, 24, 42, 4, 182, 0, 120, 177]
abbrev dktX4_dots_5 : List UInt8 := dkwX4_dots_5 ++ []
def dkwX4_dots_4 : List UInt8 := [132, 3, 1, 167, 255, 216, 42, 180, 0, 20, 180, 0, 95, 187, 0, 111, 89, 42, 180, 0, 20, 180, 0, 108]
abbrev dktX4_dots_4 : List UInt8 := dkwX4_dots_4 ++ dktX4_dots_5
def dkwX4_dots_3 : List UInt8 := [180, 0, 34, 29, 51, 16, 35, 160, 0, 14, 10, 29, 42, 180, 0, 46, 100, 121, 167, 0, 4, 9, 129, 64]
abbrev dktX4_dots_3 : List UInt8 := dkwX4_dots_3 ++ dktX4_dots_4
def dkwX4_dots_2 : List UInt8 := [182, 0, 84, 9, 64, 42, 180, 0, 46, 62, 29, 42, 180, 0, 27, 162, 0, 38, 31, 42, 180, 0, 3]
abbrev dktX4_dots_2 : List UInt8 := dkwX4_dots_2 ++ dktX4_dots_3
def dkwX4_dots_1 : List UInt8 := [180, 0, 27, 42, 180, 0, 46, 100, 42, 180, 0, 20, 180, 0, 108, 160, 0, 7, 4, 167, 0, 4, 3, 6]
abbrev dktX4_dots_1 : List UInt8 := dkwX4_dots_1 ++ dktX4_dots_2
def dkwX4_dots_0 : List UInt8 := [42, 182, 0, 105, 42, 42, 180, 0, 52, 6, 160, 0, 7, 4, 167, 0, 4, 3, 4, 182, 0, 84, 42, 42]
abbrev dktX4_dots_0 : List UInt8 := dkwX4_dots_0 ++ dktX4_dots_1
theorem dksX4_dots_0 : cX4_dots.data.toList.drop 0 = dktX4_dots_0 := by decide +kernel
theorem dksX4_dots_1 : cX4_dots.data.toList.drop 24 = dktX4_dots_1 := dk_seg dksX4_dots_0 24 rfl rfl
theorem dksX4_dots_2 : cX4_dots.data.toList.drop 48 = dktX4_dots_2 := dk_seg dksX4_dots_1 24 rfl rfl
theorem dksX4_dots_3 : cX4_dots.data.toList.drop 71 = dktX4_dots_3 := dk_seg dksX4_dots_2 23 rfl rfl
theorem dksX4_dots_4 : cX4_dots.data.toList.drop 95 = dktX4_dots_4 := dk_seg dksX4_dots_3 24 rfl rfl
theorem dksX4_dots_5 : cX4_dots.data.toList.drop 119 = dktX4_dots_5 := dk_seg dksX4_dots_4 24 rfl rfl
theorem dX4_dots_0 : decode cX4_dots 0 = .ok (.aload_n 0, 1) := dk_42 (dk_at dksX4_dots_0 0 rfl rfl)
theorem dX4_dots_1 : decode cX4_dots 1 = .ok (.invokevirtual 105, 3) := dk_182 0 105 (dk_at dksX4_dots_0 1 rfl rfl)
theorem dX4_dots_4 : decode cX4_dots 4 = .ok (.aload_n 0, 1) := dk_42 (dk_at dksX4_dots_0 4 rfl rfl)
theorem dX4_dots_5 : decode cX4_dots 5 = .ok (.aload_n 0, 1) := dk_42 (dk_at dksX4_dots_0 5 rfl rfl)
theorem dX4_dots_6 : decode cX4_dots 6 = .ok (.getfield 52, 3) := dk_180 0 52 (dk_at dksX4_dots_0 6 rfl rfl)
theorem dX4_dots_9 : decode cX4_dots 9 = .ok (.iconst 3, 1) := dk_6 (dk_at dksX4_dots_0 9 rfl rfl)
theorem dX4_dots_10 : decode cX4_dots 10 = .ok (.if_icmp .ne 7, 3) := dk_160 0 7 (dk_at dksX4_dots_0 10 rfl rfl)
theorem dX4_dots_13 : decode cX4_dots 13 = .ok (.iconst 1, 1) := dk_4 (dk_at dksX4_dots_0 13 rfl rfl)
theorem dX4_dots_14 : decode cX4_dots 14 = .ok (.goto 4, 3) := dk_167 0 4 (dk_at dksX4_dots_0 14 rfl rfl)
theorem dX4_dots_17 : decode cX4_dots 17 = .ok (.iconst 0, 1) := dk_3 (dk_at dksX4_dots_0 17 rfl rfl)
theorem dX4_dots_18 : decode cX4_dots 18 = .ok (.iconst 1, 1) := dk_4 (dk_at dksX4_dots_0 18 rfl rfl)
theorem dX4_dots_19 : decode cX4_dots 19 = .ok (.invokevirtual 84, 3) := dk_182 0 84 (dk_at dksX4_dots_0 19 rfl rfl)
theorem dX4_dots_22 : decode cX4_dots 22 = .ok (.aload_n 0, 1) := dk_42 (dk_at dksX4_dots_0 22 rfl rfl)
theorem dX4_dots_23 : decode cX4_dots 23 = .ok (.aload_n 0, 1) := dk_42 (dk_at dksX4_dots_0 23 rfl rfl)
theorem dX4_dots_24 : decode cX4_dots 24 = .ok (.getfield 27, 3) := dk_180 0 27 (dk_at dksX4_dots_1 0 rfl rfl)
theorem dX4_dots_27 : decode cX4_dots 27 = .ok (.aload_n 0, 1) := dk_42 (dk_at dksX4_dots_1 3 rfl rfl)
theorem dX4_dots_28 : decode cX4_dots 28 = .ok (.getfield 46, 3) := dk_180 0 46 (dk_at dksX4_dots_1 4 rfl rfl)
theorem dX4_dots_31 : decode cX4_dots 31 = .ok (.isub, 1) := dk_100 (dk_at dksX4_dots_1 7 rfl rfl)
theorem dX4_dots_32 : decode cX4_dots 32 = .ok (.aload_n 0, 1) := dk_42 (dk_at dksX4_dots_1 8 rfl rfl)
theorem dX4_dots_33 : decode cX4_dots 33 = .ok (.getfield 20, 3) := dk_180 0 20 (dk_at dksX4_dots_1 9 rfl rfl)
theorem dX4_dots_36 : decode cX4_dots 36 = .ok (.getfield 108, 3) := dk_180 0 108 (dk_at dksX4_dots_1 12 rfl rfl)
theorem dX4_dots_39 : decode cX4_dots 39 = .ok (.if_icmp .ne 7, 3) := dk_160 0 7 (dk_at dksX4_dots_1 15 rfl rfl)
theorem dX4_dots_42 : decode cX4_dots 42 = .ok (.iconst 1, 1) := dk_4 (dk_at dksX4_dots_1 18 rfl rfl)
theorem dX4_dots_43 : decode cX4_dots 43 = .ok (.goto 4, 3) := dk_167 0 4 (dk_at dksX4_dots_1 19 rfl rfl)
theorem dX4_dots_46 : decode cX4_dots 46 = .ok (.iconst 0, 1) := dk_3 (dk_at dksX4_dots_1 22 rfl rfl)
theorem dX4_dots_47 : decode cX4_dots 47 = .ok (.iconst 3, 1) := dk_6 (dk_at dksX4_dots_1 23 rfl rfl)
theorem dX4_dots_48 : decode cX4_dots 48 = .ok (.invokevirtual 84, 3) := dk_182 0 84 (dk_at dksX4_dots_2 0 rfl rfl)
theorem dX4_dots_51 : decode cX4_dots 51 = .ok (.lconst 0, 1) := dk_9 (dk_at dksX4_dots_2 3 rfl rfl)
theorem dX4_dots_52 : decode cX4_dots 52 = .ok (.lstore_n 1, 1) := dk_64 (dk_at dksX4_dots_2 4 rfl rfl)
theorem dX4_dots_53 : decode cX4_dots 53 = .ok (.aload_n 0, 1) := dk_42 (dk_at dksX4_dots_2 5 rfl rfl)
theorem dX4_dots_54 : decode cX4_dots 54 = .ok (.getfield 46, 3) := dk_180 0 46 (dk_at dksX4_dots_2 6 rfl rfl)
theorem dX4_dots_57 : decode cX4_dots 57 = .ok (.istore_n 3, 1) := dk_62 (dk_at dksX4_dots_2 9 rfl rfl)
theorem dX4_dots_58 : decode cX4_dots 58 = .ok (.iload_n 3, 1) := dk_29 (dk_at dksX4_dots_2 10 rfl rfl)
theorem dX4_dots_59 : decode cX4_dots 59 = .ok (.aload_n 0, 1) := dk_42 (dk_at dksX4_dots_2 11 rfl rfl)
theorem dX4_dots_60 : decode cX4_dots 60 = .ok (.getfield 27, 3) := dk_180 0 27 (dk_at dksX4_dots_2 12 rfl rfl)
theorem dX4_dots_63 : decode cX4_dots 63 = .ok (.if_icmp .ge 38, 3) := dk_162 0 38 (dk_at dksX4_dots_2 15 rfl rfl)
theorem dX4_dots_66 : decode cX4_dots 66 = .ok (.lload_n 1, 1) := dk_31 (dk_at dksX4_dots_2 18 rfl rfl)
theorem dX4_dots_67 : decode cX4_dots 67 = .ok (.aload_n 0, 1) := dk_42 (dk_at dksX4_dots_2 19 rfl rfl)
theorem dX4_dots_68 : decode cX4_dots 68 = .ok (.getfield 3, 3) := dk_180 0 3 (dk_at dksX4_dots_2 20 rfl rfl)
theorem dX4_dots_71 : decode cX4_dots 71 = .ok (.getfield 34, 3) := dk_180 0 34 (dk_at dksX4_dots_3 0 rfl rfl)
theorem dX4_dots_74 : decode cX4_dots 74 = .ok (.iload_n 3, 1) := dk_29 (dk_at dksX4_dots_3 3 rfl rfl)
theorem dX4_dots_75 : decode cX4_dots 75 = .ok (.baload, 1) := dk_51 (dk_at dksX4_dots_3 4 rfl rfl)
theorem dX4_dots_76 : decode cX4_dots 76 = .ok (.bipush 35, 2) := dk_16 35 (dk_at dksX4_dots_3 5 rfl rfl)
theorem dX4_dots_78 : decode cX4_dots 78 = .ok (.if_icmp .ne 14, 3) := dk_160 0 14 (dk_at dksX4_dots_3 7 rfl rfl)
theorem dX4_dots_81 : decode cX4_dots 81 = .ok (.lconst 1, 1) := dk_10 (dk_at dksX4_dots_3 10 rfl rfl)
theorem dX4_dots_82 : decode cX4_dots 82 = .ok (.iload_n 3, 1) := dk_29 (dk_at dksX4_dots_3 11 rfl rfl)
theorem dX4_dots_83 : decode cX4_dots 83 = .ok (.aload_n 0, 1) := dk_42 (dk_at dksX4_dots_3 12 rfl rfl)
theorem dX4_dots_84 : decode cX4_dots 84 = .ok (.getfield 46, 3) := dk_180 0 46 (dk_at dksX4_dots_3 13 rfl rfl)
theorem dX4_dots_87 : decode cX4_dots 87 = .ok (.isub, 1) := dk_100 (dk_at dksX4_dots_3 16 rfl rfl)
theorem dX4_dots_88 : decode cX4_dots 88 = .ok (.lshl, 1) := dk_121 (dk_at dksX4_dots_3 17 rfl rfl)
theorem dX4_dots_89 : decode cX4_dots 89 = .ok (.goto 4, 3) := dk_167 0 4 (dk_at dksX4_dots_3 18 rfl rfl)
theorem dX4_dots_92 : decode cX4_dots 92 = .ok (.lconst 0, 1) := dk_9 (dk_at dksX4_dots_3 21 rfl rfl)
theorem dX4_dots_93 : decode cX4_dots 93 = .ok (.lor, 1) := dk_129 (dk_at dksX4_dots_3 22 rfl rfl)
theorem dX4_dots_94 : decode cX4_dots 94 = .ok (.lstore_n 1, 1) := dk_64 (dk_at dksX4_dots_3 23 rfl rfl)
theorem dX4_dots_95 : decode cX4_dots 95 = .ok (.iinc 3 1, 3) := dk_132 3 1 (dk_at dksX4_dots_4 0 rfl rfl)
theorem dX4_dots_98 : decode cX4_dots 98 = .ok (.goto (-40), 3) := dk_167 255 216 (dk_at dksX4_dots_4 3 rfl rfl)
theorem dX4_dots_101 : decode cX4_dots 101 = .ok (.aload_n 0, 1) := dk_42 (dk_at dksX4_dots_4 6 rfl rfl)
theorem dX4_dots_102 : decode cX4_dots 102 = .ok (.getfield 20, 3) := dk_180 0 20 (dk_at dksX4_dots_4 7 rfl rfl)
theorem dX4_dots_105 : decode cX4_dots 105 = .ok (.getfield 95, 3) := dk_180 0 95 (dk_at dksX4_dots_4 10 rfl rfl)
theorem dX4_dots_108 : decode cX4_dots 108 = .ok (.new 111, 3) := dk_187 0 111 (dk_at dksX4_dots_4 13 rfl rfl)
theorem dX4_dots_111 : decode cX4_dots 111 = .ok (.dup, 1) := dk_89 (dk_at dksX4_dots_4 16 rfl rfl)
theorem dX4_dots_112 : decode cX4_dots 112 = .ok (.aload_n 0, 1) := dk_42 (dk_at dksX4_dots_4 17 rfl rfl)
theorem dX4_dots_113 : decode cX4_dots 113 = .ok (.getfield 20, 3) := dk_180 0 20 (dk_at dksX4_dots_4 18 rfl rfl)
theorem dX4_dots_116 : decode cX4_dots 116 = .ok (.getfield 108, 3) := dk_180 0 108 (dk_at dksX4_dots_4 21 rfl rfl)
theorem dX4_dots_119 : decode cX4_dots 119 = .ok (.lload_n 1, 1) := dk_31 (dk_at dksX4_dots_5 0 rfl rfl)
theorem dX4_dots_120 : decode cX4_dots 120 = .ok (.invokespecial 113, 3) := dk_183 0 113 (dk_at dksX4_dots_5 1 rfl rfl)
theorem dX4_dots_123 : decode cX4_dots 123 = .ok (.invokeinterface 116 2, 5) := by decide +kernel
theorem dX4_dots_128 : decode cX4_dots 128 = .ok (.pop, 1) := dk_87 (dk_at dksX4_dots_5 9 rfl rfl)
theorem dX4_dots_129 : decode cX4_dots 129 = .ok (.aload_n 0, 1) := dk_42 (dk_at dksX4_dots_5 10 rfl rfl)
theorem dX4_dots_130 : decode cX4_dots 130 = .ok (.invokevirtual 24, 3) := dk_182 0 24 (dk_at dksX4_dots_5 11 rfl rfl)
theorem dX4_dots_133 : decode cX4_dots 133 = .ok (.aload_n 0, 1) := dk_42 (dk_at dksX4_dots_5 14 rfl rfl)
theorem dX4_dots_134 : decode cX4_dots 134 = .ok (.iconst 1, 1) := dk_4 (dk_at dksX4_dots_5 15 rfl rfl)
theorem dX4_dots_135 : decode cX4_dots 135 = .ok (.invokevirtual 120, 3) := dk_182 0 120 (dk_at dksX4_dots_5 16 rfl rfl)
theorem dX4_dots_138 : decode cX4_dots 138 = .ok (.return_, 1) := dk_177 (dk_at dksX4_dots_5 19 rfl rfl)
abbrev cX4_opens : ByteArray := prog_10_method_11_code
def yX4_opens : MethodName := ⟨RX4, "opens", "()V"⟩
def dkwX4_opens_1 : List UInt8 := [182, 0, 84, 42, 182, 0, 24, 177]
abbrev dktX4_opens_1 : List UInt8 := dkwX4_opens_1 ++ []
def dkwX4_opens_0 : List UInt8 := [42, 42, 180, 0, 20, 180, 0, 95, 185, 0, 99, 1, 0, 16, 20, 162, 0, 7, 4, 167, 0, 4, 3, 8]
abbrev dktX4_opens_0 : List UInt8 := dkwX4_opens_0 ++ dktX4_opens_1
theorem dksX4_opens_0 : cX4_opens.data.toList.drop 0 = dktX4_opens_0 := by decide +kernel
theorem dksX4_opens_1 : cX4_opens.data.toList.drop 24 = dktX4_opens_1 := dk_seg dksX4_opens_0 24 rfl rfl
theorem dX4_opens_0 : decode cX4_opens 0 = .ok (.aload_n 0, 1) := dk_42 (dk_at dksX4_opens_0 0 rfl rfl)
theorem dX4_opens_1 : decode cX4_opens 1 = .ok (.aload_n 0, 1) := dk_42 (dk_at dksX4_opens_0 1 rfl rfl)
theorem dX4_opens_2 : decode cX4_opens 2 = .ok (.getfield 20, 3) := dk_180 0 20 (dk_at dksX4_opens_0 2 rfl rfl)
theorem dX4_opens_5 : decode cX4_opens 5 = .ok (.getfield 95, 3) := dk_180 0 95 (dk_at dksX4_opens_0 5 rfl rfl)
theorem dX4_opens_8 : decode cX4_opens 8 = .ok (.invokeinterface 99 1, 5) := by decide +kernel
theorem dX4_opens_13 : decode cX4_opens 13 = .ok (.bipush 20, 2) := dk_16 20 (dk_at dksX4_opens_0 13 rfl rfl)
theorem dX4_opens_15 : decode cX4_opens 15 = .ok (.if_icmp .ge 7, 3) := dk_162 0 7 (dk_at dksX4_opens_0 15 rfl rfl)
theorem dX4_opens_18 : decode cX4_opens 18 = .ok (.iconst 1, 1) := dk_4 (dk_at dksX4_opens_0 18 rfl rfl)
theorem dX4_opens_19 : decode cX4_opens 19 = .ok (.goto 4, 3) := dk_167 0 4 (dk_at dksX4_opens_0 19 rfl rfl)
theorem dX4_opens_22 : decode cX4_opens 22 = .ok (.iconst 0, 1) := dk_3 (dk_at dksX4_opens_0 22 rfl rfl)
theorem dX4_opens_23 : decode cX4_opens 23 = .ok (.iconst 5, 1) := dk_8 (dk_at dksX4_opens_0 23 rfl rfl)
theorem dX4_opens_24 : decode cX4_opens 24 = .ok (.invokevirtual 84, 3) := dk_182 0 84 (dk_at dksX4_opens_1 0 rfl rfl)
theorem dX4_opens_27 : decode cX4_opens 27 = .ok (.aload_n 0, 1) := dk_42 (dk_at dksX4_opens_1 3 rfl rfl)
theorem dX4_opens_28 : decode cX4_opens 28 = .ok (.invokevirtual 24, 3) := dk_182 0 24 (dk_at dksX4_opens_1 4 rfl rfl)
theorem dX4_opens_31 : decode cX4_opens 31 = .ok (.return_, 1) := dk_177 (dk_at dksX4_opens_1 7 rfl rfl)
abbrev cX4_alone : ByteArray := prog_10_method_13_code
def yX4_alone : MethodName := ⟨RX4, "alone", "()V"⟩
def dkwX4_alone_6 : List UInt8 := [185, 0, 116, 2, 0, 87, 177]
abbrev dktX4_alone_6 : List UInt8 := dkwX4_alone_6 ++ []
def dkwX4_alone_5 : List UInt8 := [180, 0, 20, 180, 0, 95, 187, 0, 111, 89, 42, 180, 0, 20, 180, 0, 108, 33, 183, 0, 113]
abbrev dktX4_alone_5 : List UInt8 := dkwX4_alone_5 ++ dktX4_alone_6
def dkwX4_alone_4 : List UInt8 := [159, 255, 172, 42, 27, 42, 180, 0, 20, 180, 0, 108, 160, 0, 7, 4, 167, 0, 4, 3, 182, 0, 120, 42]
abbrev dktX4_alone_4 : List UInt8 := dkwX4_alone_4 ++ dktX4_alone_5
def dkwX4_alone_3 : List UInt8 := [184, 0, 124, 129, 66, 27, 21, 5, 96, 60, 4, 28, 100, 61, 42, 182, 0, 24, 42, 180, 0, 52, 5]
abbrev dktX4_alone_3 : List UInt8 := dkwX4_alone_3 ++ dktX4_alone_4
def dkwX4_alone_2 : List UInt8 := [163, 0, 7, 4, 167, 0, 4, 3, 7, 182, 0, 84, 28, 4, 160, 0, 14, 33, 27, 27, 21, 5, 96]
abbrev dktX4_alone_2 : List UInt8 := dkwX4_alone_2 ++ dktX4_alone_3
def dkwX4_alone_1 : List UInt8 := [42, 180, 0, 20, 180, 0, 108, 182, 0, 88, 54, 5, 42, 27, 21, 5, 96, 42, 180, 0, 20, 180, 0, 108]
abbrev dktX4_alone_1 : List UInt8 := dkwX4_alone_1 ++ dktX4_alone_2
def dkwX4_alone_0 : List UInt8 := [42, 182, 0, 105, 3, 60, 3, 61, 9, 66, 42, 27, 154, 0, 11, 28, 154, 0, 7, 3, 167, 0, 4, 4]
abbrev dktX4_alone_0 : List UInt8 := dkwX4_alone_0 ++ dktX4_alone_1
theorem dksX4_alone_0 : cX4_alone.data.toList.drop 0 = dktX4_alone_0 := by decide +kernel
theorem dksX4_alone_1 : cX4_alone.data.toList.drop 24 = dktX4_alone_1 := dk_seg dksX4_alone_0 24 rfl rfl
theorem dksX4_alone_2 : cX4_alone.data.toList.drop 48 = dktX4_alone_2 := dk_seg dksX4_alone_1 24 rfl rfl
theorem dksX4_alone_3 : cX4_alone.data.toList.drop 71 = dktX4_alone_3 := dk_seg dksX4_alone_2 23 rfl rfl
theorem dksX4_alone_4 : cX4_alone.data.toList.drop 94 = dktX4_alone_4 := dk_seg dksX4_alone_3 23 rfl rfl
theorem dksX4_alone_5 : cX4_alone.data.toList.drop 118 = dktX4_alone_5 := dk_seg dksX4_alone_4 24 rfl rfl
theorem dksX4_alone_6 : cX4_alone.data.toList.drop 139 = dktX4_alone_6 := dk_seg dksX4_alone_5 21 rfl rfl
theorem dX4_alone_0 : decode cX4_alone 0 = .ok (.aload_n 0, 1) := dk_42 (dk_at dksX4_alone_0 0 rfl rfl)
theorem dX4_alone_1 : decode cX4_alone 1 = .ok (.invokevirtual 105, 3) := dk_182 0 105 (dk_at dksX4_alone_0 1 rfl rfl)
theorem dX4_alone_4 : decode cX4_alone 4 = .ok (.iconst 0, 1) := dk_3 (dk_at dksX4_alone_0 4 rfl rfl)
theorem dX4_alone_5 : decode cX4_alone 5 = .ok (.istore_n 1, 1) := dk_60 (dk_at dksX4_alone_0 5 rfl rfl)
theorem dX4_alone_6 : decode cX4_alone 6 = .ok (.iconst 0, 1) := dk_3 (dk_at dksX4_alone_0 6 rfl rfl)
theorem dX4_alone_7 : decode cX4_alone 7 = .ok (.istore_n 2, 1) := dk_61 (dk_at dksX4_alone_0 7 rfl rfl)
theorem dX4_alone_8 : decode cX4_alone 8 = .ok (.lconst 0, 1) := dk_9 (dk_at dksX4_alone_0 8 rfl rfl)
theorem dX4_alone_9 : decode cX4_alone 9 = .ok (.lstore_n 3, 1) := dk_66 (dk_at dksX4_alone_0 9 rfl rfl)
theorem dX4_alone_10 : decode cX4_alone 10 = .ok (.aload_n 0, 1) := dk_42 (dk_at dksX4_alone_0 10 rfl rfl)
theorem dX4_alone_11 : decode cX4_alone 11 = .ok (.iload_n 1, 1) := dk_27 (dk_at dksX4_alone_0 11 rfl rfl)
theorem dX4_alone_12 : decode cX4_alone 12 = .ok (.ifCond .ne 11, 3) := dk_154 0 11 (dk_at dksX4_alone_0 12 rfl rfl)
theorem dX4_alone_15 : decode cX4_alone 15 = .ok (.iload_n 2, 1) := dk_28 (dk_at dksX4_alone_0 15 rfl rfl)
theorem dX4_alone_16 : decode cX4_alone 16 = .ok (.ifCond .ne 7, 3) := dk_154 0 7 (dk_at dksX4_alone_0 16 rfl rfl)
theorem dX4_alone_19 : decode cX4_alone 19 = .ok (.iconst 0, 1) := dk_3 (dk_at dksX4_alone_0 19 rfl rfl)
theorem dX4_alone_20 : decode cX4_alone 20 = .ok (.goto 4, 3) := dk_167 0 4 (dk_at dksX4_alone_0 20 rfl rfl)
theorem dX4_alone_23 : decode cX4_alone 23 = .ok (.iconst 1, 1) := dk_4 (dk_at dksX4_alone_0 23 rfl rfl)
theorem dX4_alone_24 : decode cX4_alone 24 = .ok (.aload_n 0, 1) := dk_42 (dk_at dksX4_alone_1 0 rfl rfl)
theorem dX4_alone_25 : decode cX4_alone 25 = .ok (.getfield 20, 3) := dk_180 0 20 (dk_at dksX4_alone_1 1 rfl rfl)
theorem dX4_alone_28 : decode cX4_alone 28 = .ok (.getfield 108, 3) := dk_180 0 108 (dk_at dksX4_alone_1 4 rfl rfl)
theorem dX4_alone_31 : decode cX4_alone 31 = .ok (.invokevirtual 88, 3) := dk_182 0 88 (dk_at dksX4_alone_1 7 rfl rfl)
theorem dX4_alone_34 : decode cX4_alone 34 = .ok (.istore 5, 2) := dk_54 5 (dk_at dksX4_alone_1 10 rfl rfl)
theorem dX4_alone_36 : decode cX4_alone 36 = .ok (.aload_n 0, 1) := dk_42 (dk_at dksX4_alone_1 12 rfl rfl)
theorem dX4_alone_37 : decode cX4_alone 37 = .ok (.iload_n 1, 1) := dk_27 (dk_at dksX4_alone_1 13 rfl rfl)
theorem dX4_alone_38 : decode cX4_alone 38 = .ok (.iload 5, 2) := dk_21 5 (dk_at dksX4_alone_1 14 rfl rfl)
theorem dX4_alone_40 : decode cX4_alone 40 = .ok (.iadd, 1) := dk_96 (dk_at dksX4_alone_1 16 rfl rfl)
theorem dX4_alone_41 : decode cX4_alone 41 = .ok (.aload_n 0, 1) := dk_42 (dk_at dksX4_alone_1 17 rfl rfl)
theorem dX4_alone_42 : decode cX4_alone 42 = .ok (.getfield 20, 3) := dk_180 0 20 (dk_at dksX4_alone_1 18 rfl rfl)
theorem dX4_alone_45 : decode cX4_alone 45 = .ok (.getfield 108, 3) := dk_180 0 108 (dk_at dksX4_alone_1 21 rfl rfl)
theorem dX4_alone_48 : decode cX4_alone 48 = .ok (.if_icmp .gt 7, 3) := dk_163 0 7 (dk_at dksX4_alone_2 0 rfl rfl)
theorem dX4_alone_51 : decode cX4_alone 51 = .ok (.iconst 1, 1) := dk_4 (dk_at dksX4_alone_2 3 rfl rfl)
theorem dX4_alone_52 : decode cX4_alone 52 = .ok (.goto 4, 3) := dk_167 0 4 (dk_at dksX4_alone_2 4 rfl rfl)
theorem dX4_alone_55 : decode cX4_alone 55 = .ok (.iconst 0, 1) := dk_3 (dk_at dksX4_alone_2 7 rfl rfl)
theorem dX4_alone_56 : decode cX4_alone 56 = .ok (.iconst 4, 1) := dk_7 (dk_at dksX4_alone_2 8 rfl rfl)
theorem dX4_alone_57 : decode cX4_alone 57 = .ok (.invokevirtual 84, 3) := dk_182 0 84 (dk_at dksX4_alone_2 9 rfl rfl)
theorem dX4_alone_60 : decode cX4_alone 60 = .ok (.iload_n 2, 1) := dk_28 (dk_at dksX4_alone_2 12 rfl rfl)
theorem dX4_alone_61 : decode cX4_alone 61 = .ok (.iconst 1, 1) := dk_4 (dk_at dksX4_alone_2 13 rfl rfl)
theorem dX4_alone_62 : decode cX4_alone 62 = .ok (.if_icmp .ne 14, 3) := dk_160 0 14 (dk_at dksX4_alone_2 14 rfl rfl)
theorem dX4_alone_65 : decode cX4_alone 65 = .ok (.lload_n 3, 1) := dk_33 (dk_at dksX4_alone_2 17 rfl rfl)
theorem dX4_alone_66 : decode cX4_alone 66 = .ok (.iload_n 1, 1) := dk_27 (dk_at dksX4_alone_2 18 rfl rfl)
theorem dX4_alone_67 : decode cX4_alone 67 = .ok (.iload_n 1, 1) := dk_27 (dk_at dksX4_alone_2 19 rfl rfl)
theorem dX4_alone_68 : decode cX4_alone 68 = .ok (.iload 5, 2) := dk_21 5 (dk_at dksX4_alone_2 20 rfl rfl)
theorem dX4_alone_70 : decode cX4_alone 70 = .ok (.iadd, 1) := dk_96 (dk_at dksX4_alone_2 22 rfl rfl)
theorem dX4_alone_71 : decode cX4_alone 71 = .ok (.invokestatic 124, 3) := dk_184 0 124 (dk_at dksX4_alone_3 0 rfl rfl)
theorem dX4_alone_74 : decode cX4_alone 74 = .ok (.lor, 1) := dk_129 (dk_at dksX4_alone_3 3 rfl rfl)
theorem dX4_alone_75 : decode cX4_alone 75 = .ok (.lstore_n 3, 1) := dk_66 (dk_at dksX4_alone_3 4 rfl rfl)
theorem dX4_alone_76 : decode cX4_alone 76 = .ok (.iload_n 1, 1) := dk_27 (dk_at dksX4_alone_3 5 rfl rfl)
theorem dX4_alone_77 : decode cX4_alone 77 = .ok (.iload 5, 2) := dk_21 5 (dk_at dksX4_alone_3 6 rfl rfl)
theorem dX4_alone_79 : decode cX4_alone 79 = .ok (.iadd, 1) := dk_96 (dk_at dksX4_alone_3 8 rfl rfl)
theorem dX4_alone_80 : decode cX4_alone 80 = .ok (.istore_n 1, 1) := dk_60 (dk_at dksX4_alone_3 9 rfl rfl)
theorem dX4_alone_81 : decode cX4_alone 81 = .ok (.iconst 1, 1) := dk_4 (dk_at dksX4_alone_3 10 rfl rfl)
theorem dX4_alone_82 : decode cX4_alone 82 = .ok (.iload_n 2, 1) := dk_28 (dk_at dksX4_alone_3 11 rfl rfl)
theorem dX4_alone_83 : decode cX4_alone 83 = .ok (.isub, 1) := dk_100 (dk_at dksX4_alone_3 12 rfl rfl)
theorem dX4_alone_84 : decode cX4_alone 84 = .ok (.istore_n 2, 1) := dk_61 (dk_at dksX4_alone_3 13 rfl rfl)
theorem dX4_alone_85 : decode cX4_alone 85 = .ok (.aload_n 0, 1) := dk_42 (dk_at dksX4_alone_3 14 rfl rfl)
theorem dX4_alone_86 : decode cX4_alone 86 = .ok (.invokevirtual 24, 3) := dk_182 0 24 (dk_at dksX4_alone_3 15 rfl rfl)
theorem dX4_alone_89 : decode cX4_alone 89 = .ok (.aload_n 0, 1) := dk_42 (dk_at dksX4_alone_3 18 rfl rfl)
theorem dX4_alone_90 : decode cX4_alone 90 = .ok (.getfield 52, 3) := dk_180 0 52 (dk_at dksX4_alone_3 19 rfl rfl)
theorem dX4_alone_93 : decode cX4_alone 93 = .ok (.iconst 2, 1) := dk_5 (dk_at dksX4_alone_3 22 rfl rfl)
theorem dX4_alone_94 : decode cX4_alone 94 = .ok (.if_icmp .eq (-84), 3) := dk_159 255 172 (dk_at dksX4_alone_4 0 rfl rfl)
theorem dX4_alone_97 : decode cX4_alone 97 = .ok (.aload_n 0, 1) := dk_42 (dk_at dksX4_alone_4 3 rfl rfl)
theorem dX4_alone_98 : decode cX4_alone 98 = .ok (.iload_n 1, 1) := dk_27 (dk_at dksX4_alone_4 4 rfl rfl)
theorem dX4_alone_99 : decode cX4_alone 99 = .ok (.aload_n 0, 1) := dk_42 (dk_at dksX4_alone_4 5 rfl rfl)
theorem dX4_alone_100 : decode cX4_alone 100 = .ok (.getfield 20, 3) := dk_180 0 20 (dk_at dksX4_alone_4 6 rfl rfl)
theorem dX4_alone_103 : decode cX4_alone 103 = .ok (.getfield 108, 3) := dk_180 0 108 (dk_at dksX4_alone_4 9 rfl rfl)
theorem dX4_alone_106 : decode cX4_alone 106 = .ok (.if_icmp .ne 7, 3) := dk_160 0 7 (dk_at dksX4_alone_4 12 rfl rfl)
theorem dX4_alone_109 : decode cX4_alone 109 = .ok (.iconst 1, 1) := dk_4 (dk_at dksX4_alone_4 15 rfl rfl)
theorem dX4_alone_110 : decode cX4_alone 110 = .ok (.goto 4, 3) := dk_167 0 4 (dk_at dksX4_alone_4 16 rfl rfl)
theorem dX4_alone_113 : decode cX4_alone 113 = .ok (.iconst 0, 1) := dk_3 (dk_at dksX4_alone_4 19 rfl rfl)
theorem dX4_alone_114 : decode cX4_alone 114 = .ok (.invokevirtual 120, 3) := dk_182 0 120 (dk_at dksX4_alone_4 20 rfl rfl)
theorem dX4_alone_117 : decode cX4_alone 117 = .ok (.aload_n 0, 1) := dk_42 (dk_at dksX4_alone_4 23 rfl rfl)
theorem dX4_alone_118 : decode cX4_alone 118 = .ok (.getfield 20, 3) := dk_180 0 20 (dk_at dksX4_alone_5 0 rfl rfl)
theorem dX4_alone_121 : decode cX4_alone 121 = .ok (.getfield 95, 3) := dk_180 0 95 (dk_at dksX4_alone_5 3 rfl rfl)
theorem dX4_alone_124 : decode cX4_alone 124 = .ok (.new 111, 3) := dk_187 0 111 (dk_at dksX4_alone_5 6 rfl rfl)
theorem dX4_alone_127 : decode cX4_alone 127 = .ok (.dup, 1) := dk_89 (dk_at dksX4_alone_5 9 rfl rfl)
theorem dX4_alone_128 : decode cX4_alone 128 = .ok (.aload_n 0, 1) := dk_42 (dk_at dksX4_alone_5 10 rfl rfl)
theorem dX4_alone_129 : decode cX4_alone 129 = .ok (.getfield 20, 3) := dk_180 0 20 (dk_at dksX4_alone_5 11 rfl rfl)
theorem dX4_alone_132 : decode cX4_alone 132 = .ok (.getfield 108, 3) := dk_180 0 108 (dk_at dksX4_alone_5 14 rfl rfl)
theorem dX4_alone_135 : decode cX4_alone 135 = .ok (.lload_n 3, 1) := dk_33 (dk_at dksX4_alone_5 17 rfl rfl)
theorem dX4_alone_136 : decode cX4_alone 136 = .ok (.invokespecial 113, 3) := dk_183 0 113 (dk_at dksX4_alone_5 18 rfl rfl)
theorem dX4_alone_139 : decode cX4_alone 139 = .ok (.invokeinterface 116 2, 5) := by decide +kernel
theorem dX4_alone_144 : decode cX4_alone 144 = .ok (.pop, 1) := dk_87 (dk_at dksX4_alone_6 5 rfl rfl)
theorem dX4_alone_145 : decode cX4_alone 145 = .ok (.return_, 1) := dk_177 (dk_at dksX4_alone_6 6 rfl rfl)
abbrev cX4_above : ByteArray := prog_10_method_18_code
def yX4_above : MethodName := ⟨RX4, "above", "()V"⟩
def dkwX4_above_5 : List UInt8 := [185, 0, 116, 2, 0, 87, 177]
abbrev dktX4_above_5 : List UInt8 := dkwX4_above_5 ++ []
def dkwX4_above_4 : List UInt8 := [167, 255, 194, 42, 43, 182, 0, 176, 182, 0, 120, 42, 180, 0, 20, 180, 0, 95, 43, 182, 0, 189]
abbrev dktX4_above_4 : List UInt8 := dkwX4_above_4 ++ dktX4_above_5
def dkwX4_above_3 : List UInt8 := [182, 0, 179, 43, 185, 0, 183, 2, 0, 154, 0, 13, 187, 0, 79, 89, 7, 28, 183, 0, 81, 191]
abbrev dktX4_above_3 : List UInt8 := dkwX4_above_3 ++ dktX4_above_4
def dkwX4_above_2 : List UInt8 := [154, 0, 7, 4, 167, 0, 4, 3, 7, 182, 0, 84, 42, 182, 0, 159, 78, 42, 182, 0, 24, 42, 45]
abbrev dktX4_above_2 : List UInt8 := dkwX4_above_2 ++ dktX4_above_3
def dkwX4_above_1 : List UInt8 := [182, 0, 166, 183, 0, 170, 76, 42, 182, 0, 173, 153, 0, 61, 42, 180, 0, 46, 61, 42, 43, 182, 0, 176]
abbrev dktX4_above_1 : List UInt8 := dkwX4_above_1 ++ dktX4_above_2
def dkwX4_above_0 : List UInt8 := [42, 182, 0, 105, 187, 0, 164, 89, 42, 180, 0, 20, 42, 180, 0, 20, 180, 0, 95, 185, 0, 99, 1, 0]
abbrev dktX4_above_0 : List UInt8 := dkwX4_above_0 ++ dktX4_above_1
theorem dksX4_above_0 : cX4_above.data.toList.drop 0 = dktX4_above_0 := by decide +kernel
theorem dksX4_above_1 : cX4_above.data.toList.drop 24 = dktX4_above_1 := dk_seg dksX4_above_0 24 rfl rfl
theorem dksX4_above_2 : cX4_above.data.toList.drop 48 = dktX4_above_2 := dk_seg dksX4_above_1 24 rfl rfl
theorem dksX4_above_3 : cX4_above.data.toList.drop 71 = dktX4_above_3 := dk_seg dksX4_above_2 23 rfl rfl
theorem dksX4_above_4 : cX4_above.data.toList.drop 93 = dktX4_above_4 := dk_seg dksX4_above_3 22 rfl rfl
theorem dksX4_above_5 : cX4_above.data.toList.drop 115 = dktX4_above_5 := dk_seg dksX4_above_4 22 rfl rfl
theorem dX4_above_0 : decode cX4_above 0 = .ok (.aload_n 0, 1) := dk_42 (dk_at dksX4_above_0 0 rfl rfl)
theorem dX4_above_1 : decode cX4_above 1 = .ok (.invokevirtual 105, 3) := dk_182 0 105 (dk_at dksX4_above_0 1 rfl rfl)
theorem dX4_above_4 : decode cX4_above 4 = .ok (.new 164, 3) := dk_187 0 164 (dk_at dksX4_above_0 4 rfl rfl)
theorem dX4_above_7 : decode cX4_above 7 = .ok (.dup, 1) := dk_89 (dk_at dksX4_above_0 7 rfl rfl)
theorem dX4_above_8 : decode cX4_above 8 = .ok (.aload_n 0, 1) := dk_42 (dk_at dksX4_above_0 8 rfl rfl)
theorem dX4_above_9 : decode cX4_above 9 = .ok (.getfield 20, 3) := dk_180 0 20 (dk_at dksX4_above_0 9 rfl rfl)
theorem dX4_above_12 : decode cX4_above 12 = .ok (.aload_n 0, 1) := dk_42 (dk_at dksX4_above_0 12 rfl rfl)
theorem dX4_above_13 : decode cX4_above 13 = .ok (.getfield 20, 3) := dk_180 0 20 (dk_at dksX4_above_0 13 rfl rfl)
theorem dX4_above_16 : decode cX4_above 16 = .ok (.getfield 95, 3) := dk_180 0 95 (dk_at dksX4_above_0 16 rfl rfl)
theorem dX4_above_19 : decode cX4_above 19 = .ok (.invokeinterface 99 1, 5) := by decide +kernel
theorem dX4_above_24 : decode cX4_above 24 = .ok (.invokevirtual 166, 3) := dk_182 0 166 (dk_at dksX4_above_1 0 rfl rfl)
theorem dX4_above_27 : decode cX4_above 27 = .ok (.invokespecial 170, 3) := dk_183 0 170 (dk_at dksX4_above_1 3 rfl rfl)
theorem dX4_above_30 : decode cX4_above 30 = .ok (.astore_n 1, 1) := dk_76 (dk_at dksX4_above_1 6 rfl rfl)
theorem dX4_above_31 : decode cX4_above 31 = .ok (.aload_n 0, 1) := dk_42 (dk_at dksX4_above_1 7 rfl rfl)
theorem dX4_above_32 : decode cX4_above 32 = .ok (.invokevirtual 173, 3) := dk_182 0 173 (dk_at dksX4_above_1 8 rfl rfl)
theorem dX4_above_35 : decode cX4_above 35 = .ok (.ifCond .eq 61, 3) := dk_153 0 61 (dk_at dksX4_above_1 11 rfl rfl)
theorem dX4_above_38 : decode cX4_above 38 = .ok (.aload_n 0, 1) := dk_42 (dk_at dksX4_above_1 14 rfl rfl)
theorem dX4_above_39 : decode cX4_above 39 = .ok (.getfield 46, 3) := dk_180 0 46 (dk_at dksX4_above_1 15 rfl rfl)
theorem dX4_above_42 : decode cX4_above 42 = .ok (.istore_n 2, 1) := dk_61 (dk_at dksX4_above_1 18 rfl rfl)
theorem dX4_above_43 : decode cX4_above 43 = .ok (.aload_n 0, 1) := dk_42 (dk_at dksX4_above_1 19 rfl rfl)
theorem dX4_above_44 : decode cX4_above 44 = .ok (.aload_n 1, 1) := dk_43 (dk_at dksX4_above_1 20 rfl rfl)
theorem dX4_above_45 : decode cX4_above 45 = .ok (.invokevirtual 176, 3) := dk_182 0 176 (dk_at dksX4_above_1 21 rfl rfl)
theorem dX4_above_48 : decode cX4_above 48 = .ok (.ifCond .ne 7, 3) := dk_154 0 7 (dk_at dksX4_above_2 0 rfl rfl)
theorem dX4_above_51 : decode cX4_above 51 = .ok (.iconst 1, 1) := dk_4 (dk_at dksX4_above_2 3 rfl rfl)
theorem dX4_above_52 : decode cX4_above 52 = .ok (.goto 4, 3) := dk_167 0 4 (dk_at dksX4_above_2 4 rfl rfl)
theorem dX4_above_55 : decode cX4_above 55 = .ok (.iconst 0, 1) := dk_3 (dk_at dksX4_above_2 7 rfl rfl)
theorem dX4_above_56 : decode cX4_above 56 = .ok (.iconst 4, 1) := dk_7 (dk_at dksX4_above_2 8 rfl rfl)
theorem dX4_above_57 : decode cX4_above 57 = .ok (.invokevirtual 84, 3) := dk_182 0 84 (dk_at dksX4_above_2 9 rfl rfl)
theorem dX4_above_60 : decode cX4_above 60 = .ok (.aload_n 0, 1) := dk_42 (dk_at dksX4_above_2 12 rfl rfl)
theorem dX4_above_61 : decode cX4_above 61 = .ok (.invokevirtual 159, 3) := dk_182 0 159 (dk_at dksX4_above_2 13 rfl rfl)
theorem dX4_above_64 : decode cX4_above 64 = .ok (.astore_n 3, 1) := dk_78 (dk_at dksX4_above_2 16 rfl rfl)
theorem dX4_above_65 : decode cX4_above 65 = .ok (.aload_n 0, 1) := dk_42 (dk_at dksX4_above_2 17 rfl rfl)
theorem dX4_above_66 : decode cX4_above 66 = .ok (.invokevirtual 24, 3) := dk_182 0 24 (dk_at dksX4_above_2 18 rfl rfl)
theorem dX4_above_69 : decode cX4_above 69 = .ok (.aload_n 0, 1) := dk_42 (dk_at dksX4_above_2 21 rfl rfl)
theorem dX4_above_70 : decode cX4_above 70 = .ok (.aload_n 3, 1) := dk_45 (dk_at dksX4_above_2 22 rfl rfl)
theorem dX4_above_71 : decode cX4_above 71 = .ok (.invokevirtual 179, 3) := dk_182 0 179 (dk_at dksX4_above_3 0 rfl rfl)
theorem dX4_above_74 : decode cX4_above 74 = .ok (.aload_n 1, 1) := dk_43 (dk_at dksX4_above_3 3 rfl rfl)
theorem dX4_above_75 : decode cX4_above 75 = .ok (.invokeinterface 183 2, 5) := by decide +kernel
theorem dX4_above_80 : decode cX4_above 80 = .ok (.ifCond .ne 13, 3) := dk_154 0 13 (dk_at dksX4_above_3 9 rfl rfl)
theorem dX4_above_83 : decode cX4_above 83 = .ok (.new 79, 3) := dk_187 0 79 (dk_at dksX4_above_3 12 rfl rfl)
theorem dX4_above_86 : decode cX4_above 86 = .ok (.dup, 1) := dk_89 (dk_at dksX4_above_3 15 rfl rfl)
theorem dX4_above_87 : decode cX4_above 87 = .ok (.iconst 4, 1) := dk_7 (dk_at dksX4_above_3 16 rfl rfl)
theorem dX4_above_88 : decode cX4_above 88 = .ok (.iload_n 2, 1) := dk_28 (dk_at dksX4_above_3 17 rfl rfl)
theorem dX4_above_89 : decode cX4_above 89 = .ok (.invokespecial 81, 3) := dk_183 0 81 (dk_at dksX4_above_3 18 rfl rfl)
theorem dX4_above_92 : decode cX4_above 92 = .ok (.athrow, 1) := dk_191 (dk_at dksX4_above_3 21 rfl rfl)
theorem dX4_above_93 : decode cX4_above 93 = .ok (.goto (-62), 3) := dk_167 255 194 (dk_at dksX4_above_4 0 rfl rfl)
theorem dX4_above_96 : decode cX4_above 96 = .ok (.aload_n 0, 1) := dk_42 (dk_at dksX4_above_4 3 rfl rfl)
theorem dX4_above_97 : decode cX4_above 97 = .ok (.aload_n 1, 1) := dk_43 (dk_at dksX4_above_4 4 rfl rfl)
theorem dX4_above_98 : decode cX4_above 98 = .ok (.invokevirtual 176, 3) := dk_182 0 176 (dk_at dksX4_above_4 5 rfl rfl)
theorem dX4_above_101 : decode cX4_above 101 = .ok (.invokevirtual 120, 3) := dk_182 0 120 (dk_at dksX4_above_4 8 rfl rfl)
theorem dX4_above_104 : decode cX4_above 104 = .ok (.aload_n 0, 1) := dk_42 (dk_at dksX4_above_4 11 rfl rfl)
theorem dX4_above_105 : decode cX4_above 105 = .ok (.getfield 20, 3) := dk_180 0 20 (dk_at dksX4_above_4 12 rfl rfl)
theorem dX4_above_108 : decode cX4_above 108 = .ok (.getfield 95, 3) := dk_180 0 95 (dk_at dksX4_above_4 15 rfl rfl)
theorem dX4_above_111 : decode cX4_above 111 = .ok (.aload_n 1, 1) := dk_43 (dk_at dksX4_above_4 18 rfl rfl)
theorem dX4_above_112 : decode cX4_above 112 = .ok (.invokevirtual 189, 3) := dk_182 0 189 (dk_at dksX4_above_4 19 rfl rfl)
theorem dX4_above_115 : decode cX4_above 115 = .ok (.invokeinterface 116 2, 5) := by decide +kernel
theorem dX4_above_120 : decode cX4_above 120 = .ok (.pop, 1) := dk_87 (dk_at dksX4_above_5 5 rfl rfl)
theorem dX4_above_121 : decode cX4_above 121 = .ok (.return_, 1) := dk_177 (dk_at dksX4_above_5 6 rfl rfl)
abbrev cX4_isMode : ByteArray := prog_10_method_17_code
def yX4_isMode : MethodName := ⟨RX4, "isMode", "()Z"⟩
def dkwX4_isMode_5 : List UInt8 := [4, 167, 0, 4, 3, 172]
abbrev dktX4_isMode_5 : List UInt8 := dkwX4_isMode_5 ++ []
def dkwX4_isMode_4 : List UInt8 := [170, 0, 0, 0, 0, 0, 0, 32, 0, 0, 0, 0, 0, 0, 0, 2, 0, 0, 0, 28, 0, 0, 0, 28, 0, 0, 0, 28]
abbrev dktX4_isMode_4 : List UInt8 := dkwX4_isMode_4 ++ dktX4_isMode_5
def dkwX4_isMode_3 : List UInt8 := [61, 167, 0, 14, 43, 18, 162, 182, 0, 138, 153, 0, 5, 5, 61, 28]
abbrev dktX4_isMode_3 : List UInt8 := dkwX4_isMode_3 ++ dktX4_isMode_4
def dkwX4_isMode_2 : List UInt8 := [43, 18, 136, 182, 0, 138, 153, 0, 33, 3, 61, 167, 0, 28, 43, 18, 141, 182, 0, 138, 153, 0, 19, 4]
abbrev dktX4_isMode_2 : List UInt8 := dkwX4_isMode_2 ++ dktX4_isMode_3
def dkwX4_isMode_1 : List UInt8 := [171, 0, 0, 0, 72, 0, 0, 0, 3, 0, 0, 0, 104, 0, 0, 0, 61, 0, 0, 0, 112, 0, 0, 0, 33, 0, 0, 0, 118, 0, 0, 0, 47]
abbrev dktX4_isMode_1 : List UInt8 := dkwX4_isMode_1 ++ dktX4_isMode_2
def dkwX4_isMode_0 : List UInt8 := [42, 182, 0, 159, 76, 2, 61, 43, 182, 0, 131]
abbrev dktX4_isMode_0 : List UInt8 := dkwX4_isMode_0 ++ dktX4_isMode_1
theorem dksX4_isMode_0 : cX4_isMode.data.toList.drop 0 = dktX4_isMode_0 := by decide +kernel
theorem dksX4_isMode_1 : cX4_isMode.data.toList.drop 11 = dktX4_isMode_1 := dk_seg dksX4_isMode_0 11 rfl rfl
theorem dksX4_isMode_2 : cX4_isMode.data.toList.drop 44 = dktX4_isMode_2 := dk_seg dksX4_isMode_1 33 rfl rfl
theorem dksX4_isMode_3 : cX4_isMode.data.toList.drop 68 = dktX4_isMode_3 := dk_seg dksX4_isMode_2 24 rfl rfl
theorem dksX4_isMode_4 : cX4_isMode.data.toList.drop 84 = dktX4_isMode_4 := dk_seg dksX4_isMode_3 16 rfl rfl
theorem dksX4_isMode_5 : cX4_isMode.data.toList.drop 112 = dktX4_isMode_5 := dk_seg dksX4_isMode_4 28 rfl rfl
theorem dX4_isMode_0 : decode cX4_isMode 0 = .ok (.aload_n 0, 1) := dk_42 (dk_at dksX4_isMode_0 0 rfl rfl)
theorem dX4_isMode_1 : decode cX4_isMode 1 = .ok (.invokevirtual 159, 3) := dk_182 0 159 (dk_at dksX4_isMode_0 1 rfl rfl)
theorem dX4_isMode_4 : decode cX4_isMode 4 = .ok (.astore_n 1, 1) := dk_76 (dk_at dksX4_isMode_0 4 rfl rfl)
theorem dX4_isMode_5 : decode cX4_isMode 5 = .ok (.iconst (-1), 1) := dk_2 (dk_at dksX4_isMode_0 5 rfl rfl)
theorem dX4_isMode_6 : decode cX4_isMode 6 = .ok (.istore_n 2, 1) := dk_61 (dk_at dksX4_isMode_0 6 rfl rfl)
theorem dX4_isMode_7 : decode cX4_isMode 7 = .ok (.aload_n 1, 1) := dk_43 (dk_at dksX4_isMode_0 7 rfl rfl)
theorem dX4_isMode_8 : decode cX4_isMode 8 = .ok (.invokevirtual 131, 3) := dk_182 0 131 (dk_at dksX4_isMode_0 8 rfl rfl)
theorem dX4_isMode_11 : decode cX4_isMode 11 = .ok (.lookupswitch 72 #[(104, 61), (112, 33), (118, 47)], 33) := by decide +kernel
theorem dX4_isMode_44 : decode cX4_isMode 44 = .ok (.aload_n 1, 1) := dk_43 (dk_at dksX4_isMode_2 0 rfl rfl)
theorem dX4_isMode_45 : decode cX4_isMode 45 = .ok (.ldc 136, 2) := dk_18 136 (dk_at dksX4_isMode_2 1 rfl rfl)
theorem dX4_isMode_47 : decode cX4_isMode 47 = .ok (.invokevirtual 138, 3) := dk_182 0 138 (dk_at dksX4_isMode_2 3 rfl rfl)
theorem dX4_isMode_50 : decode cX4_isMode 50 = .ok (.ifCond .eq 33, 3) := dk_153 0 33 (dk_at dksX4_isMode_2 6 rfl rfl)
theorem dX4_isMode_53 : decode cX4_isMode 53 = .ok (.iconst 0, 1) := dk_3 (dk_at dksX4_isMode_2 9 rfl rfl)
theorem dX4_isMode_54 : decode cX4_isMode 54 = .ok (.istore_n 2, 1) := dk_61 (dk_at dksX4_isMode_2 10 rfl rfl)
theorem dX4_isMode_55 : decode cX4_isMode 55 = .ok (.goto 28, 3) := dk_167 0 28 (dk_at dksX4_isMode_2 11 rfl rfl)
theorem dX4_isMode_58 : decode cX4_isMode 58 = .ok (.aload_n 1, 1) := dk_43 (dk_at dksX4_isMode_2 14 rfl rfl)
theorem dX4_isMode_59 : decode cX4_isMode 59 = .ok (.ldc 141, 2) := dk_18 141 (dk_at dksX4_isMode_2 15 rfl rfl)
theorem dX4_isMode_61 : decode cX4_isMode 61 = .ok (.invokevirtual 138, 3) := dk_182 0 138 (dk_at dksX4_isMode_2 17 rfl rfl)
theorem dX4_isMode_64 : decode cX4_isMode 64 = .ok (.ifCond .eq 19, 3) := dk_153 0 19 (dk_at dksX4_isMode_2 20 rfl rfl)
theorem dX4_isMode_67 : decode cX4_isMode 67 = .ok (.iconst 1, 1) := dk_4 (dk_at dksX4_isMode_2 23 rfl rfl)
theorem dX4_isMode_68 : decode cX4_isMode 68 = .ok (.istore_n 2, 1) := dk_61 (dk_at dksX4_isMode_3 0 rfl rfl)
theorem dX4_isMode_69 : decode cX4_isMode 69 = .ok (.goto 14, 3) := dk_167 0 14 (dk_at dksX4_isMode_3 1 rfl rfl)
theorem dX4_isMode_72 : decode cX4_isMode 72 = .ok (.aload_n 1, 1) := dk_43 (dk_at dksX4_isMode_3 4 rfl rfl)
theorem dX4_isMode_73 : decode cX4_isMode 73 = .ok (.ldc 162, 2) := dk_18 162 (dk_at dksX4_isMode_3 5 rfl rfl)
theorem dX4_isMode_75 : decode cX4_isMode 75 = .ok (.invokevirtual 138, 3) := dk_182 0 138 (dk_at dksX4_isMode_3 7 rfl rfl)
theorem dX4_isMode_78 : decode cX4_isMode 78 = .ok (.ifCond .eq 5, 3) := dk_153 0 5 (dk_at dksX4_isMode_3 10 rfl rfl)
theorem dX4_isMode_81 : decode cX4_isMode 81 = .ok (.iconst 2, 1) := dk_5 (dk_at dksX4_isMode_3 13 rfl rfl)
theorem dX4_isMode_82 : decode cX4_isMode 82 = .ok (.istore_n 2, 1) := dk_61 (dk_at dksX4_isMode_3 14 rfl rfl)
theorem dX4_isMode_83 : decode cX4_isMode 83 = .ok (.iload_n 2, 1) := dk_28 (dk_at dksX4_isMode_3 15 rfl rfl)
theorem dX4_isMode_84 : decode cX4_isMode 84 = .ok (.tableswitch 32 0 2 #[28, 28, 28], 28) := by decide +kernel
theorem dX4_isMode_112 : decode cX4_isMode 112 = .ok (.iconst 1, 1) := dk_4 (dk_at dksX4_isMode_5 0 rfl rfl)
theorem dX4_isMode_113 : decode cX4_isMode 113 = .ok (.goto 4, 3) := dk_167 0 4 (dk_at dksX4_isMode_5 1 rfl rfl)
theorem dX4_isMode_116 : decode cX4_isMode 116 = .ok (.iconst 0, 1) := dk_3 (dk_at dksX4_isMode_5 4 rfl rfl)
theorem dX4_isMode_117 : decode cX4_isMode 117 = .ok (.ireturn, 1) := dk_172 (dk_at dksX4_isMode_5 5 rfl rfl)
abbrev cX4_modeOf : ByteArray := prog_10_method_15_code
def yX4_modeOf : MethodName := ⟨RX4, "modeOf", "(Ljava/lang/String;)LDotRuns$Mode;"⟩
def dkwX4_modeOf_6 : List UInt8 := [42, 182, 0, 152, 176]
abbrev dktX4_modeOf_6 : List UInt8 := dkwX4_modeOf_6 ++ []
def dkwX4_modeOf_5 : List UInt8 := [187, 0, 143, 89, 183, 0, 145, 167, 0, 21, 187, 0, 146, 89, 42, 182, 0, 148, 183, 0, 151, 167, 0, 7]
abbrev dktX4_modeOf_5 : List UInt8 := dkwX4_modeOf_5 ++ dktX4_modeOf_6
def dkwX4_modeOf_4 : List UInt8 := [171, 0, 0, 0, 0, 50, 0, 0, 0, 2, 0, 0, 0, 0, 0, 0, 0, 26, 0, 0, 0, 1, 0, 0, 0, 36]
abbrev dktX4_modeOf_4 : List UInt8 := dkwX4_modeOf_4 ++ dktX4_modeOf_5
def dkwX4_modeOf_3 : List UInt8 := [62, 29]
abbrev dktX4_modeOf_3 : List UInt8 := dkwX4_modeOf_3 ++ dktX4_modeOf_4
def dkwX4_modeOf_2 : List UInt8 := [44, 18, 136, 182, 0, 138, 153, 0, 19, 3, 62, 167, 0, 14, 44, 18, 141, 182, 0, 138, 153, 0, 5, 4]
abbrev dktX4_modeOf_2 : List UInt8 := dkwX4_modeOf_2 ++ dktX4_modeOf_3
def dkwX4_modeOf_1 : List UInt8 := [171, 0, 0, 0, 0, 0, 0, 53, 0, 0, 0, 2, 0, 0, 0, 112, 0, 0, 0, 28, 0, 0, 0, 118, 0, 0, 0, 42]
abbrev dktX4_modeOf_1 : List UInt8 := dkwX4_modeOf_1 ++ dktX4_modeOf_2
def dkwX4_modeOf_0 : List UInt8 := [43, 77, 2, 62, 44, 182, 0, 131]
abbrev dktX4_modeOf_0 : List UInt8 := dkwX4_modeOf_0 ++ dktX4_modeOf_1
theorem dksX4_modeOf_0 : cX4_modeOf.data.toList.drop 0 = dktX4_modeOf_0 := by decide +kernel
theorem dksX4_modeOf_1 : cX4_modeOf.data.toList.drop 8 = dktX4_modeOf_1 := dk_seg dksX4_modeOf_0 8 rfl rfl
theorem dksX4_modeOf_2 : cX4_modeOf.data.toList.drop 36 = dktX4_modeOf_2 := dk_seg dksX4_modeOf_1 28 rfl rfl
theorem dksX4_modeOf_3 : cX4_modeOf.data.toList.drop 60 = dktX4_modeOf_3 := dk_seg dksX4_modeOf_2 24 rfl rfl
theorem dksX4_modeOf_4 : cX4_modeOf.data.toList.drop 62 = dktX4_modeOf_4 := dk_seg dksX4_modeOf_3 2 rfl rfl
theorem dksX4_modeOf_5 : cX4_modeOf.data.toList.drop 88 = dktX4_modeOf_5 := dk_seg dksX4_modeOf_4 26 rfl rfl
theorem dksX4_modeOf_6 : cX4_modeOf.data.toList.drop 112 = dktX4_modeOf_6 := dk_seg dksX4_modeOf_5 24 rfl rfl
theorem dX4_modeOf_0 : decode cX4_modeOf 0 = .ok (.aload_n 1, 1) := dk_43 (dk_at dksX4_modeOf_0 0 rfl rfl)
theorem dX4_modeOf_1 : decode cX4_modeOf 1 = .ok (.astore_n 2, 1) := dk_77 (dk_at dksX4_modeOf_0 1 rfl rfl)
theorem dX4_modeOf_2 : decode cX4_modeOf 2 = .ok (.iconst (-1), 1) := dk_2 (dk_at dksX4_modeOf_0 2 rfl rfl)
theorem dX4_modeOf_3 : decode cX4_modeOf 3 = .ok (.istore_n 3, 1) := dk_62 (dk_at dksX4_modeOf_0 3 rfl rfl)
theorem dX4_modeOf_4 : decode cX4_modeOf 4 = .ok (.aload_n 2, 1) := dk_44 (dk_at dksX4_modeOf_0 4 rfl rfl)
theorem dX4_modeOf_5 : decode cX4_modeOf 5 = .ok (.invokevirtual 131, 3) := dk_182 0 131 (dk_at dksX4_modeOf_0 5 rfl rfl)
theorem dX4_modeOf_8 : decode cX4_modeOf 8 = .ok (.lookupswitch 53 #[(112, 28), (118, 42)], 28) := by decide +kernel
theorem dX4_modeOf_36 : decode cX4_modeOf 36 = .ok (.aload_n 2, 1) := dk_44 (dk_at dksX4_modeOf_2 0 rfl rfl)
theorem dX4_modeOf_37 : decode cX4_modeOf 37 = .ok (.ldc 136, 2) := dk_18 136 (dk_at dksX4_modeOf_2 1 rfl rfl)
theorem dX4_modeOf_39 : decode cX4_modeOf 39 = .ok (.invokevirtual 138, 3) := dk_182 0 138 (dk_at dksX4_modeOf_2 3 rfl rfl)
theorem dX4_modeOf_42 : decode cX4_modeOf 42 = .ok (.ifCond .eq 19, 3) := dk_153 0 19 (dk_at dksX4_modeOf_2 6 rfl rfl)
theorem dX4_modeOf_45 : decode cX4_modeOf 45 = .ok (.iconst 0, 1) := dk_3 (dk_at dksX4_modeOf_2 9 rfl rfl)
theorem dX4_modeOf_46 : decode cX4_modeOf 46 = .ok (.istore_n 3, 1) := dk_62 (dk_at dksX4_modeOf_2 10 rfl rfl)
theorem dX4_modeOf_47 : decode cX4_modeOf 47 = .ok (.goto 14, 3) := dk_167 0 14 (dk_at dksX4_modeOf_2 11 rfl rfl)
theorem dX4_modeOf_50 : decode cX4_modeOf 50 = .ok (.aload_n 2, 1) := dk_44 (dk_at dksX4_modeOf_2 14 rfl rfl)
theorem dX4_modeOf_51 : decode cX4_modeOf 51 = .ok (.ldc 141, 2) := dk_18 141 (dk_at dksX4_modeOf_2 15 rfl rfl)
theorem dX4_modeOf_53 : decode cX4_modeOf 53 = .ok (.invokevirtual 138, 3) := dk_182 0 138 (dk_at dksX4_modeOf_2 17 rfl rfl)
theorem dX4_modeOf_56 : decode cX4_modeOf 56 = .ok (.ifCond .eq 5, 3) := dk_153 0 5 (dk_at dksX4_modeOf_2 20 rfl rfl)
theorem dX4_modeOf_59 : decode cX4_modeOf 59 = .ok (.iconst 1, 1) := dk_4 (dk_at dksX4_modeOf_2 23 rfl rfl)
theorem dX4_modeOf_60 : decode cX4_modeOf 60 = .ok (.istore_n 3, 1) := dk_62 (dk_at dksX4_modeOf_3 0 rfl rfl)
theorem dX4_modeOf_61 : decode cX4_modeOf 61 = .ok (.iload_n 3, 1) := dk_29 (dk_at dksX4_modeOf_3 1 rfl rfl)
theorem dX4_modeOf_62 : decode cX4_modeOf 62 = .ok (.lookupswitch 50 #[(0, 26), (1, 36)], 26) := by decide +kernel
theorem dX4_modeOf_88 : decode cX4_modeOf 88 = .ok (.new 143, 3) := dk_187 0 143 (dk_at dksX4_modeOf_5 0 rfl rfl)
theorem dX4_modeOf_91 : decode cX4_modeOf 91 = .ok (.dup, 1) := dk_89 (dk_at dksX4_modeOf_5 3 rfl rfl)
theorem dX4_modeOf_92 : decode cX4_modeOf 92 = .ok (.invokespecial 145, 3) := dk_183 0 145 (dk_at dksX4_modeOf_5 4 rfl rfl)
theorem dX4_modeOf_95 : decode cX4_modeOf 95 = .ok (.goto 21, 3) := dk_167 0 21 (dk_at dksX4_modeOf_5 7 rfl rfl)
theorem dX4_modeOf_98 : decode cX4_modeOf 98 = .ok (.new 146, 3) := dk_187 0 146 (dk_at dksX4_modeOf_5 10 rfl rfl)
theorem dX4_modeOf_101 : decode cX4_modeOf 101 = .ok (.dup, 1) := dk_89 (dk_at dksX4_modeOf_5 13 rfl rfl)
theorem dX4_modeOf_102 : decode cX4_modeOf 102 = .ok (.aload_n 0, 1) := dk_42 (dk_at dksX4_modeOf_5 14 rfl rfl)
theorem dX4_modeOf_103 : decode cX4_modeOf 103 = .ok (.invokevirtual 148, 3) := dk_182 0 148 (dk_at dksX4_modeOf_5 15 rfl rfl)
theorem dX4_modeOf_106 : decode cX4_modeOf 106 = .ok (.invokespecial 151, 3) := dk_183 0 151 (dk_at dksX4_modeOf_5 18 rfl rfl)
theorem dX4_modeOf_109 : decode cX4_modeOf 109 = .ok (.goto 7, 3) := dk_167 0 7 (dk_at dksX4_modeOf_5 21 rfl rfl)
theorem dX4_modeOf_112 : decode cX4_modeOf 112 = .ok (.aload_n 0, 1) := dk_42 (dk_at dksX4_modeOf_6 0 rfl rfl)
theorem dX4_modeOf_113 : decode cX4_modeOf 113 = .ok (.invokevirtual 152, 3) := dk_182 0 152 (dk_at dksX4_modeOf_6 1 rfl rfl)
theorem dX4_modeOf_116 : decode cX4_modeOf 116 = .ok (.areturn, 1) := dk_176 (dk_at dksX4_modeOf_6 4 rfl rfl)
abbrev cX4_signed : ByteArray := prog_10_method_14_code
def yX4_signed : MethodName := ⟨RX4, "signed", "()I"⟩
def dkwX4_signed_1 : List UInt8 := [153, 0, 8, 28, 116, 167, 0, 4, 28, 172]
abbrev dktX4_signed_1 : List UInt8 := dkwX4_signed_1 ++ []
def dkwX4_signed_0 : List UInt8 := [42, 16, 45, 182, 0, 91, 60, 27, 153, 0, 7, 42, 182, 0, 24, 42, 3, 6, 182, 0, 128, 61, 27]
abbrev dktX4_signed_0 : List UInt8 := dkwX4_signed_0 ++ dktX4_signed_1
theorem dksX4_signed_0 : cX4_signed.data.toList.drop 0 = dktX4_signed_0 := by decide +kernel
theorem dksX4_signed_1 : cX4_signed.data.toList.drop 23 = dktX4_signed_1 := dk_seg dksX4_signed_0 23 rfl rfl
theorem dX4_signed_0 : decode cX4_signed 0 = .ok (.aload_n 0, 1) := dk_42 (dk_at dksX4_signed_0 0 rfl rfl)
theorem dX4_signed_1 : decode cX4_signed 1 = .ok (.bipush 45, 2) := dk_16 45 (dk_at dksX4_signed_0 1 rfl rfl)
theorem dX4_signed_3 : decode cX4_signed 3 = .ok (.invokevirtual 91, 3) := dk_182 0 91 (dk_at dksX4_signed_0 3 rfl rfl)
theorem dX4_signed_6 : decode cX4_signed 6 = .ok (.istore_n 1, 1) := dk_60 (dk_at dksX4_signed_0 6 rfl rfl)
theorem dX4_signed_7 : decode cX4_signed 7 = .ok (.iload_n 1, 1) := dk_27 (dk_at dksX4_signed_0 7 rfl rfl)
theorem dX4_signed_8 : decode cX4_signed 8 = .ok (.ifCond .eq 7, 3) := dk_153 0 7 (dk_at dksX4_signed_0 8 rfl rfl)
theorem dX4_signed_11 : decode cX4_signed 11 = .ok (.aload_n 0, 1) := dk_42 (dk_at dksX4_signed_0 11 rfl rfl)
theorem dX4_signed_12 : decode cX4_signed 12 = .ok (.invokevirtual 24, 3) := dk_182 0 24 (dk_at dksX4_signed_0 12 rfl rfl)
theorem dX4_signed_15 : decode cX4_signed 15 = .ok (.aload_n 0, 1) := dk_42 (dk_at dksX4_signed_0 15 rfl rfl)
theorem dX4_signed_16 : decode cX4_signed 16 = .ok (.iconst 0, 1) := dk_3 (dk_at dksX4_signed_0 16 rfl rfl)
theorem dX4_signed_17 : decode cX4_signed 17 = .ok (.iconst 3, 1) := dk_6 (dk_at dksX4_signed_0 17 rfl rfl)
theorem dX4_signed_18 : decode cX4_signed 18 = .ok (.invokevirtual 128, 3) := dk_182 0 128 (dk_at dksX4_signed_0 18 rfl rfl)
theorem dX4_signed_21 : decode cX4_signed 21 = .ok (.istore_n 2, 1) := dk_61 (dk_at dksX4_signed_0 21 rfl rfl)
theorem dX4_signed_22 : decode cX4_signed 22 = .ok (.iload_n 1, 1) := dk_27 (dk_at dksX4_signed_0 22 rfl rfl)
theorem dX4_signed_23 : decode cX4_signed 23 = .ok (.ifCond .eq 8, 3) := dk_153 0 8 (dk_at dksX4_signed_1 0 rfl rfl)
theorem dX4_signed_26 : decode cX4_signed 26 = .ok (.iload_n 2, 1) := dk_28 (dk_at dksX4_signed_1 3 rfl rfl)
theorem dX4_signed_27 : decode cX4_signed 27 = .ok (.ineg, 1) := dk_116 (dk_at dksX4_signed_1 4 rfl rfl)
theorem dX4_signed_28 : decode cX4_signed 28 = .ok (.goto 4, 3) := dk_167 0 4 (dk_at dksX4_signed_1 5 rfl rfl)
theorem dX4_signed_31 : decode cX4_signed 31 = .ok (.iload_n 2, 1) := dk_28 (dk_at dksX4_signed_1 8 rfl rfl)
theorem dX4_signed_32 : decode cX4_signed 32 = .ok (.ireturn, 1) := dk_172 (dk_at dksX4_signed_1 9 rfl rfl)
abbrev cX4_horizontal : ByteArray := prog_10_method_16_code
def yX4_horizontal : MethodName := ⟨RX4, "horizontal", "()LDotRuns$Mode;"⟩
def dkwX4_horizontal_1 : List UInt8 := [180, 0, 108, 182, 0, 128, 183, 0, 158, 176]
abbrev dktX4_horizontal_1 : List UInt8 := dkwX4_horizontal_1 ++ []
def dkwX4_horizontal_0 : List UInt8 := [42, 3, 42, 180, 0, 20, 180, 0, 108, 182, 0, 128, 60, 187, 0, 156, 89, 27, 42, 3, 42, 180, 0, 20]
abbrev dktX4_horizontal_0 : List UInt8 := dkwX4_horizontal_0 ++ dktX4_horizontal_1
theorem dksX4_horizontal_0 : cX4_horizontal.data.toList.drop 0 = dktX4_horizontal_0 := by decide +kernel
theorem dksX4_horizontal_1 : cX4_horizontal.data.toList.drop 24 = dktX4_horizontal_1 := dk_seg dksX4_horizontal_0 24 rfl rfl
theorem dX4_horizontal_0 : decode cX4_horizontal 0 = .ok (.aload_n 0, 1) := dk_42 (dk_at dksX4_horizontal_0 0 rfl rfl)
theorem dX4_horizontal_1 : decode cX4_horizontal 1 = .ok (.iconst 0, 1) := dk_3 (dk_at dksX4_horizontal_0 1 rfl rfl)
theorem dX4_horizontal_2 : decode cX4_horizontal 2 = .ok (.aload_n 0, 1) := dk_42 (dk_at dksX4_horizontal_0 2 rfl rfl)
theorem dX4_horizontal_3 : decode cX4_horizontal 3 = .ok (.getfield 20, 3) := dk_180 0 20 (dk_at dksX4_horizontal_0 3 rfl rfl)
theorem dX4_horizontal_6 : decode cX4_horizontal 6 = .ok (.getfield 108, 3) := dk_180 0 108 (dk_at dksX4_horizontal_0 6 rfl rfl)
theorem dX4_horizontal_9 : decode cX4_horizontal 9 = .ok (.invokevirtual 128, 3) := dk_182 0 128 (dk_at dksX4_horizontal_0 9 rfl rfl)
theorem dX4_horizontal_12 : decode cX4_horizontal 12 = .ok (.istore_n 1, 1) := dk_60 (dk_at dksX4_horizontal_0 12 rfl rfl)
theorem dX4_horizontal_13 : decode cX4_horizontal 13 = .ok (.new 156, 3) := dk_187 0 156 (dk_at dksX4_horizontal_0 13 rfl rfl)
theorem dX4_horizontal_16 : decode cX4_horizontal 16 = .ok (.dup, 1) := dk_89 (dk_at dksX4_horizontal_0 16 rfl rfl)
theorem dX4_horizontal_17 : decode cX4_horizontal 17 = .ok (.iload_n 1, 1) := dk_27 (dk_at dksX4_horizontal_0 17 rfl rfl)
theorem dX4_horizontal_18 : decode cX4_horizontal 18 = .ok (.aload_n 0, 1) := dk_42 (dk_at dksX4_horizontal_0 18 rfl rfl)
theorem dX4_horizontal_19 : decode cX4_horizontal 19 = .ok (.iconst 0, 1) := dk_3 (dk_at dksX4_horizontal_0 19 rfl rfl)
theorem dX4_horizontal_20 : decode cX4_horizontal 20 = .ok (.aload_n 0, 1) := dk_42 (dk_at dksX4_horizontal_0 20 rfl rfl)
theorem dX4_horizontal_21 : decode cX4_horizontal 21 = .ok (.getfield 20, 3) := dk_180 0 20 (dk_at dksX4_horizontal_0 21 rfl rfl)
theorem dX4_horizontal_24 : decode cX4_horizontal 24 = .ok (.getfield 108, 3) := dk_180 0 108 (dk_at dksX4_horizontal_1 0 rfl rfl)
theorem dX4_horizontal_27 : decode cX4_horizontal 27 = .ok (.invokevirtual 128, 3) := dk_182 0 128 (dk_at dksX4_horizontal_1 3 rfl rfl)
theorem dX4_horizontal_30 : decode cX4_horizontal 30 = .ok (.invokespecial 158, 3) := dk_183 0 158 (dk_at dksX4_horizontal_1 6 rfl rfl)
theorem dX4_horizontal_33 : decode cX4_horizontal 33 = .ok (.areturn, 1) := dk_176 (dk_at dksX4_horizontal_1 9 rfl rfl)
abbrev cX4_setting : ByteArray := prog_10_method_19_code
def yX4_setting : MethodName := ⟨RX4, "setting", "()V"⟩
def dkwX4_setting_1 : List UInt8 := [46, 178, 0, 199, 27, 46, 182, 0, 128, 79, 42, 4, 182, 0, 120, 177]
abbrev dktX4_setting_1 : List UInt8 := dkwX4_setting_1 ++ []
def dkwX4_setting_0 : List UInt8 := [42, 182, 0, 24, 42, 3, 8, 182, 0, 128, 60, 42, 180, 0, 20, 180, 0, 192, 27, 42, 178, 0, 196, 27]
abbrev dktX4_setting_0 : List UInt8 := dkwX4_setting_0 ++ dktX4_setting_1
theorem dksX4_setting_0 : cX4_setting.data.toList.drop 0 = dktX4_setting_0 := by decide +kernel
theorem dksX4_setting_1 : cX4_setting.data.toList.drop 24 = dktX4_setting_1 := dk_seg dksX4_setting_0 24 rfl rfl
theorem dX4_setting_0 : decode cX4_setting 0 = .ok (.aload_n 0, 1) := dk_42 (dk_at dksX4_setting_0 0 rfl rfl)
theorem dX4_setting_1 : decode cX4_setting 1 = .ok (.invokevirtual 24, 3) := dk_182 0 24 (dk_at dksX4_setting_0 1 rfl rfl)
theorem dX4_setting_4 : decode cX4_setting 4 = .ok (.aload_n 0, 1) := dk_42 (dk_at dksX4_setting_0 4 rfl rfl)
theorem dX4_setting_5 : decode cX4_setting 5 = .ok (.iconst 0, 1) := dk_3 (dk_at dksX4_setting_0 5 rfl rfl)
theorem dX4_setting_6 : decode cX4_setting 6 = .ok (.iconst 5, 1) := dk_8 (dk_at dksX4_setting_0 6 rfl rfl)
theorem dX4_setting_7 : decode cX4_setting 7 = .ok (.invokevirtual 128, 3) := dk_182 0 128 (dk_at dksX4_setting_0 7 rfl rfl)
theorem dX4_setting_10 : decode cX4_setting 10 = .ok (.istore_n 1, 1) := dk_60 (dk_at dksX4_setting_0 10 rfl rfl)
theorem dX4_setting_11 : decode cX4_setting 11 = .ok (.aload_n 0, 1) := dk_42 (dk_at dksX4_setting_0 11 rfl rfl)
theorem dX4_setting_12 : decode cX4_setting 12 = .ok (.getfield 20, 3) := dk_180 0 20 (dk_at dksX4_setting_0 12 rfl rfl)
theorem dX4_setting_15 : decode cX4_setting 15 = .ok (.getfield 192, 3) := dk_180 0 192 (dk_at dksX4_setting_0 15 rfl rfl)
theorem dX4_setting_18 : decode cX4_setting 18 = .ok (.iload_n 1, 1) := dk_27 (dk_at dksX4_setting_0 18 rfl rfl)
theorem dX4_setting_19 : decode cX4_setting 19 = .ok (.aload_n 0, 1) := dk_42 (dk_at dksX4_setting_0 19 rfl rfl)
theorem dX4_setting_20 : decode cX4_setting 20 = .ok (.getstatic 196, 3) := dk_178 0 196 (dk_at dksX4_setting_0 20 rfl rfl)
theorem dX4_setting_23 : decode cX4_setting 23 = .ok (.iload_n 1, 1) := dk_27 (dk_at dksX4_setting_0 23 rfl rfl)
theorem dX4_setting_24 : decode cX4_setting 24 = .ok (.iaload, 1) := dk_46 (dk_at dksX4_setting_1 0 rfl rfl)
theorem dX4_setting_25 : decode cX4_setting 25 = .ok (.getstatic 199, 3) := dk_178 0 199 (dk_at dksX4_setting_1 1 rfl rfl)
theorem dX4_setting_28 : decode cX4_setting 28 = .ok (.iload_n 1, 1) := dk_27 (dk_at dksX4_setting_1 4 rfl rfl)
theorem dX4_setting_29 : decode cX4_setting 29 = .ok (.iaload, 1) := dk_46 (dk_at dksX4_setting_1 5 rfl rfl)
theorem dX4_setting_30 : decode cX4_setting 30 = .ok (.invokevirtual 128, 3) := dk_182 0 128 (dk_at dksX4_setting_1 6 rfl rfl)
theorem dX4_setting_33 : decode cX4_setting 33 = .ok (.iastore, 1) := dk_79 (dk_at dksX4_setting_1 9 rfl rfl)
theorem dX4_setting_34 : decode cX4_setting 34 = .ok (.aload_n 0, 1) := dk_42 (dk_at dksX4_setting_1 10 rfl rfl)
theorem dX4_setting_35 : decode cX4_setting 35 = .ok (.iconst 1, 1) := dk_4 (dk_at dksX4_setting_1 11 rfl rfl)
theorem dX4_setting_36 : decode cX4_setting 36 = .ok (.invokevirtual 120, 3) := dk_182 0 120 (dk_at dksX4_setting_1 12 rfl rfl)
theorem dX4_setting_39 : decode cX4_setting 39 = .ok (.return_, 1) := dk_177 (dk_at dksX4_setting_1 15 rfl rfl)
abbrev cX4_loss : ByteArray := prog_10_method_20_code
def yX4_loss : MethodName := ⟨RX4, "loss", "()V"⟩
def dkwX4_loss_1 : List UInt8 := [182, 0, 128, 79, 42, 4, 182, 0, 120, 177]
abbrev dktX4_loss_1 : List UInt8 := dkwX4_loss_1 ++ []
def dkwX4_loss_0 : List UInt8 := [42, 182, 0, 24, 42, 3, 16, 19, 182, 0, 128, 60, 42, 180, 0, 20, 180, 0, 202, 27, 42, 3, 8]
abbrev dktX4_loss_0 : List UInt8 := dkwX4_loss_0 ++ dktX4_loss_1
theorem dksX4_loss_0 : cX4_loss.data.toList.drop 0 = dktX4_loss_0 := by decide +kernel
theorem dksX4_loss_1 : cX4_loss.data.toList.drop 23 = dktX4_loss_1 := dk_seg dksX4_loss_0 23 rfl rfl
theorem dX4_loss_0 : decode cX4_loss 0 = .ok (.aload_n 0, 1) := dk_42 (dk_at dksX4_loss_0 0 rfl rfl)
theorem dX4_loss_1 : decode cX4_loss 1 = .ok (.invokevirtual 24, 3) := dk_182 0 24 (dk_at dksX4_loss_0 1 rfl rfl)
theorem dX4_loss_4 : decode cX4_loss 4 = .ok (.aload_n 0, 1) := dk_42 (dk_at dksX4_loss_0 4 rfl rfl)
theorem dX4_loss_5 : decode cX4_loss 5 = .ok (.iconst 0, 1) := dk_3 (dk_at dksX4_loss_0 5 rfl rfl)
theorem dX4_loss_6 : decode cX4_loss 6 = .ok (.bipush 19, 2) := dk_16 19 (dk_at dksX4_loss_0 6 rfl rfl)
theorem dX4_loss_8 : decode cX4_loss 8 = .ok (.invokevirtual 128, 3) := dk_182 0 128 (dk_at dksX4_loss_0 8 rfl rfl)
theorem dX4_loss_11 : decode cX4_loss 11 = .ok (.istore_n 1, 1) := dk_60 (dk_at dksX4_loss_0 11 rfl rfl)
theorem dX4_loss_12 : decode cX4_loss 12 = .ok (.aload_n 0, 1) := dk_42 (dk_at dksX4_loss_0 12 rfl rfl)
theorem dX4_loss_13 : decode cX4_loss 13 = .ok (.getfield 20, 3) := dk_180 0 20 (dk_at dksX4_loss_0 13 rfl rfl)
theorem dX4_loss_16 : decode cX4_loss 16 = .ok (.getfield 202, 3) := dk_180 0 202 (dk_at dksX4_loss_0 16 rfl rfl)
theorem dX4_loss_19 : decode cX4_loss 19 = .ok (.iload_n 1, 1) := dk_27 (dk_at dksX4_loss_0 19 rfl rfl)
theorem dX4_loss_20 : decode cX4_loss 20 = .ok (.aload_n 0, 1) := dk_42 (dk_at dksX4_loss_0 20 rfl rfl)
theorem dX4_loss_21 : decode cX4_loss 21 = .ok (.iconst 0, 1) := dk_3 (dk_at dksX4_loss_0 21 rfl rfl)
theorem dX4_loss_22 : decode cX4_loss 22 = .ok (.iconst 5, 1) := dk_8 (dk_at dksX4_loss_0 22 rfl rfl)
theorem dX4_loss_23 : decode cX4_loss 23 = .ok (.invokevirtual 128, 3) := dk_182 0 128 (dk_at dksX4_loss_1 0 rfl rfl)
theorem dX4_loss_26 : decode cX4_loss 26 = .ok (.iastore, 1) := dk_79 (dk_at dksX4_loss_1 3 rfl rfl)
theorem dX4_loss_27 : decode cX4_loss 27 = .ok (.aload_n 0, 1) := dk_42 (dk_at dksX4_loss_1 4 rfl rfl)
theorem dX4_loss_28 : decode cX4_loss 28 = .ok (.iconst 1, 1) := dk_4 (dk_at dksX4_loss_1 5 rfl rfl)
theorem dX4_loss_29 : decode cX4_loss 29 = .ok (.invokevirtual 120, 3) := dk_182 0 120 (dk_at dksX4_loss_1 6 rfl rfl)
theorem dX4_loss_32 : decode cX4_loss 32 = .ok (.return_, 1) := dk_177 (dk_at dksX4_loss_1 9 rfl rfl)
theorem q135 : (Jvm.Cond.initialized "DotRuns$Reader") ∈ lw_all := lw_g (lw_at lw_m1 25 rfl) rfl
theorem q529 : (Jvm.Cond.fieldLinkNest "DotRuns$Reader" (108 : Nat) "DotRuns$Page" "wide" "I" "DotRuns") ∈ lw_tbl := lw_at lw_m2 179 rfl
theorem q534 : (Jvm.Cond.fieldLinkNest "DotRuns$Reader" (192 : Nat) "DotRuns$Page" "set" "[I" "DotRuns") ∈ lw_tbl := lw_at lw_m2 184 rfl
theorem q538 : (Jvm.Cond.fieldLinkNest "DotRuns$Reader" (202 : Nat) "DotRuns$Page" "losses" "[I" "DotRuns") ∈ lw_tbl := lw_at lw_m2 188 rfl
theorem q542 : (Jvm.Cond.fieldLinkNest "DotRuns$Reader" (95 : Nat) "DotRuns$Page" "lines" "Ljava/util/List;" "DotRuns") ∈ lw_tbl := lw_at lw_m2 192 rfl
theorem q580 : (Jvm.Cond.fieldLinkNest "DotRuns$Reader" (34 : Nat) "DotRuns" "text" "[B" "DotRuns") ∈ lw_tbl := lw_at lw_m2 230 rfl
theorem q582 : (Jvm.Cond.fieldLinkNest "DotRuns$Reader" (31 : Nat) "DotRuns" "textLength" "I" "DotRuns") ∈ lw_tbl := lw_at lw_m2 232 rfl
theorem q920 : (Jvm.Cond.selects "DotRuns$Reader" ({ cls := "java/lang/Object", name := "getClass", desc := "()Ljava/lang/Class;" } : Jvm.MethodName) ({ cls := "java/lang/Object", name := "getClass", desc := "()Ljava/lang/Class;" } : Jvm.MethodName)) ∈ lw_all := lw_g (lw_at lw_m4 90 rfl) rfl
theorem q1293 : (Jvm.Cond.instantiable "DotRuns$Reader" (6 : Nat)) ∈ lw_all := lw_g (lw_at lw_m5 223 rfl) rfl
theorem q1295 : (Jvm.Cond.instanceMethod ({ cls := "DotRuns$Reader", name := "<init>", desc := "(LDotRuns;)V" } : Jvm.MethodName)) ∈ lw_all := lw_g (lw_at lw_m5 225 rfl) rfl
theorem q1296 : (Jvm.Cond.code ({ cls := "DotRuns$Reader", name := "<init>", desc := "(LDotRuns;)V" } : Jvm.MethodName) prog_10_method_1_code (2 : Nat) (Option.none : Option Jvm.ClassFile.FieldType)) ∈ lw_all := lw_g (lw_at lw_m5 226 rfl) rfl
theorem q1297 : (Jvm.Cond.methodLink "DotRuns$Reader" (9 : Nat) ({ cls := "java/lang/Object", name := "<init>", desc := "()V" } : Jvm.MethodName)) ∈ lw_all := lw_g (lw_at lw_m5 227 rfl) rfl
theorem q1298 : (Jvm.Cond.classLink "DotRuns$Reader" (15 : Nat) "DotRuns$Page") ∈ lw_all := lw_g (lw_at lw_m5 228 rfl) rfl
theorem q1299 : (Jvm.Cond.methodLink "DotRuns$Reader" (17 : Nat) ({ cls := "DotRuns$Page", name := "<init>", desc := "(I)V" } : Jvm.MethodName)) ∈ lw_all := lw_g (lw_at lw_m5 229 rfl) rfl
theorem q1300 : (Jvm.Cond.methodLink "DotRuns$Reader" (24 : Nat) ({ cls := "DotRuns$Reader", name := "next", desc := "()V" } : Jvm.MethodName)) ∈ lw_all := lw_g (lw_at lw_m5 230 rfl) rfl
theorem q1301 : (Jvm.Cond.privateMethod ({ cls := "DotRuns$Reader", name := "next", desc := "()V" } : Jvm.MethodName)) ∈ lw_tbl := lw_at lw_m5 231 rfl
theorem q1302 : (Jvm.Cond.instanceMethod ({ cls := "DotRuns$Reader", name := "next", desc := "()V" } : Jvm.MethodName)) ∈ lw_all := lw_g (lw_at lw_m5 232 rfl) rfl
theorem q1303 : (Jvm.Cond.code ({ cls := "DotRuns$Reader", name := "next", desc := "()V" } : Jvm.MethodName) prog_10_method_4_code (1 : Nat) (Option.none : Option Jvm.ClassFile.FieldType)) ∈ lw_all := lw_g (lw_at lw_m5 233 rfl) rfl
theorem q1304 : (Jvm.Cond.methodLink "DotRuns$Reader" (42 : Nat) ({ cls := "DotRuns$Reader", name := "isAt", desc := "(II)Z" } : Jvm.MethodName)) ∈ lw_all := lw_g (lw_at lw_m5 234 rfl) rfl
theorem q1305 : (Jvm.Cond.privateMethod ({ cls := "DotRuns$Reader", name := "isAt", desc := "(II)Z" } : Jvm.MethodName)) ∈ lw_tbl := lw_at lw_m5 235 rfl
theorem q1306 : (Jvm.Cond.instanceMethod ({ cls := "DotRuns$Reader", name := "isAt", desc := "(II)Z" } : Jvm.MethodName)) ∈ lw_all := lw_g (lw_at lw_m5 236 rfl) rfl
theorem q1307 : (Jvm.Cond.code ({ cls := "DotRuns$Reader", name := "isAt", desc := "(II)Z" } : Jvm.MethodName) prog_10_method_2_code (3 : Nat) (Option.some Jvm.ClassFile.FieldType.boolean)) ∈ lw_all := lw_g (lw_at lw_m5 237 rfl) rfl
theorem q1308 : (Jvm.Cond.methodLinkNest "DotRuns$Reader" (38 : Nat) ({ cls := "DotRuns", name := "isIn", desc := "(III)Z" } : Jvm.MethodName) "DotRuns") ∈ lw_tbl := lw_at lw_m5 238 rfl
theorem q1309 : (Jvm.Cond.constant "DotRuns$Reader" (55 : Nat) (100000 : Int32)) ∈ lw_all := lw_g (lw_at lw_m5 239 rfl) rfl
theorem q1310 : (Jvm.Cond.methodLink "DotRuns$Reader" (56 : Nat) ({ cls := "java/lang/Math", name := "min", desc := "(II)I" } : Jvm.MethodName)) ∈ lw_all := lw_g (lw_at lw_m6 0 rfl) rfl
theorem q1311 : (Jvm.Cond.methodLink "DotRuns$Reader" (62 : Nat) ({ cls := "DotRuns$Reader", name := "isDot", desc := "()Z" } : Jvm.MethodName)) ∈ lw_all := lw_g (lw_at lw_m6 1 rfl) rfl
theorem q1312 : (Jvm.Cond.privateMethod ({ cls := "DotRuns$Reader", name := "isDot", desc := "()Z" } : Jvm.MethodName)) ∈ lw_tbl := lw_at lw_m6 2 rfl
theorem q1313 : (Jvm.Cond.instanceMethod ({ cls := "DotRuns$Reader", name := "isDot", desc := "()Z" } : Jvm.MethodName)) ∈ lw_all := lw_g (lw_at lw_m6 3 rfl) rfl
theorem q1314 : (Jvm.Cond.code ({ cls := "DotRuns$Reader", name := "isDot", desc := "()Z" } : Jvm.MethodName) prog_10_method_3_code (1 : Nat) (Option.some Jvm.ClassFile.FieldType.boolean)) ∈ lw_all := lw_g (lw_at lw_m6 4 rfl) rfl
theorem q1315 : (Jvm.Cond.fieldLink "DotRuns$Reader" (20 : Nat) "DotRuns$Reader" "made" "LDotRuns$Page;") ∈ lw_all := lw_g (lw_at lw_m6 5 rfl) rfl
theorem q1316 : (Jvm.Cond.fieldLink "DotRuns$Reader" (27 : Nat) "DotRuns$Reader" "at" "I") ∈ lw_all := lw_g (lw_at lw_m6 6 rfl) rfl
theorem q1317 : (Jvm.Cond.fieldLink "DotRuns$Reader" (46 : Nat) "DotRuns$Reader" "begin" "I") ∈ lw_all := lw_g (lw_at lw_m6 7 rfl) rfl
theorem q1318 : (Jvm.Cond.fieldLink "DotRuns$Reader" (52 : Nat) "DotRuns$Reader" "kind" "I") ∈ lw_all := lw_g (lw_at lw_m6 8 rfl) rfl
theorem q1319 : (Jvm.Cond.fieldLink "DotRuns$Reader" (49 : Nat) "DotRuns$Reader" "number" "I") ∈ lw_all := lw_g (lw_at lw_m6 9 rfl) rfl
theorem q1320 : (Jvm.Cond.fieldLink "DotRuns$Reader" (3 : Nat) "DotRuns$Reader" "this$0" "LDotRuns;") ∈ lw_all := lw_g (lw_at lw_m6 10 rfl) rfl
theorem q1321 : (Jvm.Cond.lays "DotRuns$Reader" "DotRuns$Reader" "made" "LDotRuns$Page;") ∈ lw_all := lw_g (lw_at lw_m6 11 rfl) rfl
theorem q1322 : (Jvm.Cond.soleField "DotRuns$Reader" "made") ∈ lw_all := lw_g (lw_at lw_m6 12 rfl) rfl
theorem q1323 : (Jvm.Cond.lays "DotRuns$Reader" "DotRuns$Reader" "at" "I") ∈ lw_all := lw_g (lw_at lw_m6 13 rfl) rfl
theorem q1324 : (Jvm.Cond.soleField "DotRuns$Reader" "at") ∈ lw_all := lw_g (lw_at lw_m6 14 rfl) rfl
theorem q1325 : (Jvm.Cond.lays "DotRuns$Reader" "DotRuns$Reader" "begin" "I") ∈ lw_all := lw_g (lw_at lw_m6 15 rfl) rfl
theorem q1326 : (Jvm.Cond.soleField "DotRuns$Reader" "begin") ∈ lw_all := lw_g (lw_at lw_m6 16 rfl) rfl
theorem q1327 : (Jvm.Cond.lays "DotRuns$Reader" "DotRuns$Reader" "kind" "I") ∈ lw_all := lw_g (lw_at lw_m6 17 rfl) rfl
theorem q1328 : (Jvm.Cond.soleField "DotRuns$Reader" "kind") ∈ lw_all := lw_g (lw_at lw_m6 18 rfl) rfl
theorem q1329 : (Jvm.Cond.lays "DotRuns$Reader" "DotRuns$Reader" "number" "I") ∈ lw_all := lw_g (lw_at lw_m6 19 rfl) rfl
theorem q1330 : (Jvm.Cond.soleField "DotRuns$Reader" "number") ∈ lw_all := lw_g (lw_at lw_m6 20 rfl) rfl
theorem q1331 : (Jvm.Cond.laysFinal "DotRuns$Reader" "DotRuns$Reader" "this$0" "LDotRuns;") ∈ lw_all := lw_g (lw_at lw_m6 21 rfl) rfl
theorem q1332 : (Jvm.Cond.soleField "DotRuns$Reader" "this$0") ∈ lw_all := lw_g (lw_at lw_m6 22 rfl) rfl
theorem q1333 : (Jvm.Cond.superclass "DotRuns$Reader" "java/lang/Object") ∈ lw_all := lw_g (lw_at lw_m6 23 rfl) rfl
theorem q1335 : (Jvm.Cond.instanceMethod ({ cls := "DotRuns$Reader", name := "page", desc := "()LDotRuns$Page;" } : Jvm.MethodName)) ∈ lw_all := lw_g (lw_at lw_m6 25 rfl) rfl
theorem q1336 : (Jvm.Cond.selects "DotRuns$Reader" ({ cls := "DotRuns$Reader", name := "page", desc := "()LDotRuns$Page;" } : Jvm.MethodName) ({ cls := "DotRuns$Reader", name := "page", desc := "()LDotRuns$Page;" } : Jvm.MethodName)) ∈ lw_all := lw_g (lw_at lw_m6 26 rfl) rfl
theorem q1337 : (Jvm.Cond.code ({ cls := "DotRuns$Reader", name := "page", desc := "()LDotRuns$Page;" } : Jvm.MethodName) prog_10_method_22_code (1 : Nat) (Option.some (Jvm.ClassFile.FieldType.object "DotRuns$Page"))) ∈ lw_all := lw_g (lw_at lw_m6 27 rfl) rfl
theorem q1338 : (Jvm.Cond.methodLink "DotRuns$Reader" (159 : Nat) ({ cls := "DotRuns$Reader", name := "word", desc := "()Ljava/lang/String;" } : Jvm.MethodName)) ∈ lw_all := lw_g (lw_at lw_m6 28 rfl) rfl
theorem q1339 : (Jvm.Cond.privateMethod ({ cls := "DotRuns$Reader", name := "word", desc := "()Ljava/lang/String;" } : Jvm.MethodName)) ∈ lw_tbl := lw_at lw_m6 29 rfl
theorem q1340 : (Jvm.Cond.instanceMethod ({ cls := "DotRuns$Reader", name := "word", desc := "()Ljava/lang/String;" } : Jvm.MethodName)) ∈ lw_all := lw_g (lw_at lw_m6 30 rfl) rfl
theorem q1341 : (Jvm.Cond.code ({ cls := "DotRuns$Reader", name := "word", desc := "()Ljava/lang/String;" } : Jvm.MethodName) prog_10_method_5_code (3 : Nat) (Option.some (Jvm.ClassFile.FieldType.object "java/lang/String"))) ∈ lw_all := lw_g (lw_at lw_m6 31 rfl) rfl
theorem q1342 : (Jvm.Cond.stringRef "DotRuns$Reader" (66 : Nat) "") ∈ lw_tbl := lw_at lw_m6 32 rfl
theorem q1343 : (Jvm.Cond.classLink "DotRuns$Reader" (68 : Nat) "java/lang/StringBuilder") ∈ lw_all := lw_g (lw_at lw_m6 33 rfl) rfl
theorem q1344 : (Jvm.Cond.methodLink "DotRuns$Reader" (70 : Nat) ({ cls := "java/lang/StringBuilder", name := "<init>", desc := "()V" } : Jvm.MethodName)) ∈ lw_all := lw_g (lw_at lw_m6 34 rfl) rfl
theorem q1345 : (Jvm.Cond.methodLink "DotRuns$Reader" (71 : Nat) ({ cls := "java/lang/StringBuilder", name := "append", desc := "(C)Ljava/lang/StringBuilder;" } : Jvm.MethodName)) ∈ lw_all := lw_g (lw_at lw_m6 35 rfl) rfl
theorem q1362 : (Jvm.Cond.methodLink "DotRuns$Reader" (75 : Nat) ({ cls := "java/lang/StringBuilder", name := "toString", desc := "()Ljava/lang/String;" } : Jvm.MethodName)) ∈ lw_all := lw_g (lw_at lw_m6 52 rfl) rfl
theorem q1363 : (Jvm.Cond.stringRef "DotRuns$Reader" (225 : Nat) "wide") ∈ lw_tbl := lw_at lw_m6 53 rfl
theorem q1364 : (Jvm.Cond.methodLink "DotRuns$Reader" (138 : Nat) ({ cls := "java/lang/String", name := "equals", desc := "(Ljava/lang/Object;)Z" } : Jvm.MethodName)) ∈ lw_all := lw_g (lw_at lw_m6 54 rfl) rfl
theorem q1372 : (Jvm.Cond.methodLink "DotRuns$Reader" (128 : Nat) ({ cls := "DotRuns$Reader", name := "take", desc := "(II)I" } : Jvm.MethodName)) ∈ lw_all := lw_g (lw_at lw_m6 62 rfl) rfl
theorem q1373 : (Jvm.Cond.privateMethod ({ cls := "DotRuns$Reader", name := "take", desc := "(II)I" } : Jvm.MethodName)) ∈ lw_tbl := lw_at lw_m6 63 rfl
theorem q1374 : (Jvm.Cond.instanceMethod ({ cls := "DotRuns$Reader", name := "take", desc := "(II)I" } : Jvm.MethodName)) ∈ lw_all := lw_g (lw_at lw_m6 64 rfl) rfl
theorem q1375 : (Jvm.Cond.code ({ cls := "DotRuns$Reader", name := "take", desc := "(II)I" } : Jvm.MethodName) prog_10_method_9_code (4 : Nat) (Option.some Jvm.ClassFile.FieldType.int)) ∈ lw_all := lw_g (lw_at lw_m6 65 rfl) rfl
theorem q1376 : (Jvm.Cond.methodLink "DotRuns$Reader" (88 : Nat) ({ cls := "DotRuns$Reader", name := "look", desc := "(II)I" } : Jvm.MethodName)) ∈ lw_all := lw_g (lw_at lw_m6 66 rfl) rfl
theorem q1377 : (Jvm.Cond.privateMethod ({ cls := "DotRuns$Reader", name := "look", desc := "(II)I" } : Jvm.MethodName)) ∈ lw_tbl := lw_at lw_m6 67 rfl
theorem q1378 : (Jvm.Cond.instanceMethod ({ cls := "DotRuns$Reader", name := "look", desc := "(II)I" } : Jvm.MethodName)) ∈ lw_all := lw_g (lw_at lw_m6 68 rfl) rfl
theorem q1379 : (Jvm.Cond.code ({ cls := "DotRuns$Reader", name := "look", desc := "(II)I" } : Jvm.MethodName) prog_10_method_8_code (3 : Nat) (Option.some Jvm.ClassFile.FieldType.int)) ∈ lw_all := lw_g (lw_at lw_m6 69 rfl) rfl
theorem q1380 : (Jvm.Cond.methodLink "DotRuns$Reader" (84 : Nat) ({ cls := "DotRuns$Reader", name := "need", desc := "(ZI)V" } : Jvm.MethodName)) ∈ lw_all := lw_g (lw_at lw_m6 70 rfl) rfl
theorem q1381 : (Jvm.Cond.privateMethod ({ cls := "DotRuns$Reader", name := "need", desc := "(ZI)V" } : Jvm.MethodName)) ∈ lw_tbl := lw_at lw_m6 71 rfl
theorem q1382 : (Jvm.Cond.instanceMethod ({ cls := "DotRuns$Reader", name := "need", desc := "(ZI)V" } : Jvm.MethodName)) ∈ lw_all := lw_g (lw_at lw_m6 72 rfl) rfl
theorem q1383 : (Jvm.Cond.code ({ cls := "DotRuns$Reader", name := "need", desc := "(ZI)V" } : Jvm.MethodName) prog_10_method_7_code (3 : Nat) (Option.none : Option Jvm.ClassFile.FieldType)) ∈ lw_all := lw_g (lw_at lw_m6 73 rfl) rfl
theorem q1384 : (Jvm.Cond.classLink "DotRuns$Reader" (79 : Nat) "DotRuns$Fault") ∈ lw_all := lw_g (lw_at lw_m6 74 rfl) rfl
theorem q1393 : (Jvm.Cond.methodLink "DotRuns$Reader" (81 : Nat) ({ cls := "DotRuns$Fault", name := "<init>", desc := "(II)V" } : Jvm.MethodName)) ∈ lw_all := lw_g (lw_at lw_m6 83 rfl) rfl
theorem q1413 : (Jvm.Cond.methodLink "DotRuns$Reader" (120 : Nat) ({ cls := "DotRuns$Reader", name := "end", desc := "(Z)V" } : Jvm.MethodName)) ∈ lw_all := lw_g (lw_at lw_m6 103 rfl) rfl
theorem q1414 : (Jvm.Cond.privateMethod ({ cls := "DotRuns$Reader", name := "end", desc := "(Z)V" } : Jvm.MethodName)) ∈ lw_tbl := lw_at lw_m6 104 rfl
theorem q1415 : (Jvm.Cond.instanceMethod ({ cls := "DotRuns$Reader", name := "end", desc := "(Z)V" } : Jvm.MethodName)) ∈ lw_all := lw_g (lw_at lw_m6 105 rfl) rfl
theorem q1416 : (Jvm.Cond.code ({ cls := "DotRuns$Reader", name := "end", desc := "(Z)V" } : Jvm.MethodName) prog_10_method_10_code (2 : Nat) (Option.none : Option Jvm.ClassFile.FieldType)) ∈ lw_all := lw_g (lw_at lw_m6 106 rfl) rfl
theorem q1417 : (Jvm.Cond.methodLink "DotRuns$Reader" (91 : Nat) ({ cls := "DotRuns$Reader", name := "isSign", desc := "(I)Z" } : Jvm.MethodName)) ∈ lw_all := lw_g (lw_at lw_m6 107 rfl) rfl
theorem q1418 : (Jvm.Cond.privateMethod ({ cls := "DotRuns$Reader", name := "isSign", desc := "(I)Z" } : Jvm.MethodName)) ∈ lw_tbl := lw_at lw_m6 108 rfl
theorem q1419 : (Jvm.Cond.instanceMethod ({ cls := "DotRuns$Reader", name := "isSign", desc := "(I)Z" } : Jvm.MethodName)) ∈ lw_all := lw_g (lw_at lw_m6 109 rfl) rfl
theorem q1420 : (Jvm.Cond.code ({ cls := "DotRuns$Reader", name := "isSign", desc := "(I)Z" } : Jvm.MethodName) prog_10_method_6_code (2 : Nat) (Option.some Jvm.ClassFile.FieldType.boolean)) ∈ lw_all := lw_g (lw_at lw_m6 110 rfl) rfl
theorem q1421 : (Jvm.Cond.methodLink "DotRuns$Reader" (226 : Nat) ({ cls := "DotRuns$Reader", name := "statement", desc := "()V" } : Jvm.MethodName)) ∈ lw_all := lw_g (lw_at lw_m6 111 rfl) rfl
theorem q1422 : (Jvm.Cond.privateMethod ({ cls := "DotRuns$Reader", name := "statement", desc := "()V" } : Jvm.MethodName)) ∈ lw_tbl := lw_at lw_m6 112 rfl
theorem q1423 : (Jvm.Cond.instanceMethod ({ cls := "DotRuns$Reader", name := "statement", desc := "()V" } : Jvm.MethodName)) ∈ lw_all := lw_g (lw_at lw_m6 113 rfl) rfl
theorem q1424 : (Jvm.Cond.code ({ cls := "DotRuns$Reader", name := "statement", desc := "()V" } : Jvm.MethodName) prog_10_method_21_code (3 : Nat) (Option.none : Option Jvm.ClassFile.FieldType)) ∈ lw_all := lw_g (lw_at lw_m6 114 rfl) rfl
theorem q1425 : (Jvm.Cond.methodLink "DotRuns$Reader" (131 : Nat) ({ cls := "java/lang/String", name := "hashCode", desc := "()I" } : Jvm.MethodName)) ∈ lw_all := lw_g (lw_at lw_m6 115 rfl) rfl
theorem q1486 : (Jvm.Cond.stringRef "DotRuns$Reader" (205 : Nat) "line") ∈ lw_tbl := lw_at lw_m6 176 rfl
theorem q1487 : (Jvm.Cond.stringRef "DotRuns$Reader" (207 : Nat) "alone") ∈ lw_tbl := lw_at lw_m6 177 rfl
theorem q1488 : (Jvm.Cond.stringRef "DotRuns$Reader" (209 : Nat) "above") ∈ lw_tbl := lw_at lw_m6 178 rfl
theorem q1489 : (Jvm.Cond.stringRef "DotRuns$Reader" (210 : Nat) "set") ∈ lw_tbl := lw_at lw_m6 179 rfl
theorem q1490 : (Jvm.Cond.stringRef "DotRuns$Reader" (211 : Nat) "loss") ∈ lw_tbl := lw_at lw_m6 180 rfl
theorem q1491 : (Jvm.Cond.methodLink "DotRuns$Reader" (213 : Nat) ({ cls := "DotRuns$Reader", name := "dots", desc := "()V" } : Jvm.MethodName)) ∈ lw_all := lw_g (lw_at lw_m6 181 rfl) rfl
theorem q1492 : (Jvm.Cond.privateMethod ({ cls := "DotRuns$Reader", name := "dots", desc := "()V" } : Jvm.MethodName)) ∈ lw_tbl := lw_at lw_m6 182 rfl
theorem q1493 : (Jvm.Cond.instanceMethod ({ cls := "DotRuns$Reader", name := "dots", desc := "()V" } : Jvm.MethodName)) ∈ lw_all := lw_g (lw_at lw_m6 183 rfl) rfl
theorem q1494 : (Jvm.Cond.code ({ cls := "DotRuns$Reader", name := "dots", desc := "()V" } : Jvm.MethodName) prog_10_method_12_code (4 : Nat) (Option.none : Option Jvm.ClassFile.FieldType)) ∈ lw_all := lw_g (lw_at lw_m6 184 rfl) rfl
theorem q1495 : (Jvm.Cond.methodLink "DotRuns$Reader" (105 : Nat) ({ cls := "DotRuns$Reader", name := "opens", desc := "()V" } : Jvm.MethodName)) ∈ lw_all := lw_g (lw_at lw_m6 185 rfl) rfl
theorem q1496 : (Jvm.Cond.privateMethod ({ cls := "DotRuns$Reader", name := "opens", desc := "()V" } : Jvm.MethodName)) ∈ lw_tbl := lw_at lw_m6 186 rfl
theorem q1497 : (Jvm.Cond.instanceMethod ({ cls := "DotRuns$Reader", name := "opens", desc := "()V" } : Jvm.MethodName)) ∈ lw_all := lw_g (lw_at lw_m6 187 rfl) rfl
theorem q1498 : (Jvm.Cond.code ({ cls := "DotRuns$Reader", name := "opens", desc := "()V" } : Jvm.MethodName) prog_10_method_11_code (1 : Nat) (Option.none : Option Jvm.ClassFile.FieldType)) ∈ lw_all := lw_g (lw_at lw_m6 188 rfl) rfl
theorem q1499 : (Jvm.Cond.interfaceEntry "DotRuns$Reader" (99 : Nat)) ∈ lw_tbl := lw_at lw_m6 189 rfl
theorem q1500 : (Jvm.Cond.methodLink "DotRuns$Reader" (99 : Nat) ({ cls := "java/util/List", name := "size", desc := "()I" } : Jvm.MethodName)) ∈ lw_all := lw_g (lw_at lw_m6 190 rfl) rfl
theorem q1501 : (Jvm.Cond.classLink "DotRuns$Reader" (111 : Nat) "DotRuns$Line") ∈ lw_all := lw_g (lw_at lw_m6 191 rfl) rfl
theorem q1502 : (Jvm.Cond.methodLink "DotRuns$Reader" (113 : Nat) ({ cls := "DotRuns$Line", name := "<init>", desc := "(IJ)V" } : Jvm.MethodName)) ∈ lw_all := lw_g (lw_at lw_m6 192 rfl) rfl
theorem q1503 : (Jvm.Cond.interfaceEntry "DotRuns$Reader" (116 : Nat)) ∈ lw_tbl := lw_at lw_m6 193 rfl
theorem q1504 : (Jvm.Cond.methodLink "DotRuns$Reader" (116 : Nat) ({ cls := "java/util/List", name := "add", desc := "(Ljava/lang/Object;)Z" } : Jvm.MethodName)) ∈ lw_all := lw_g (lw_at lw_m6 194 rfl) rfl
theorem q1505 : (Jvm.Cond.methodLink "DotRuns$Reader" (216 : Nat) ({ cls := "DotRuns$Reader", name := "alone", desc := "()V" } : Jvm.MethodName)) ∈ lw_all := lw_g (lw_at lw_m6 195 rfl) rfl
theorem q1506 : (Jvm.Cond.privateMethod ({ cls := "DotRuns$Reader", name := "alone", desc := "()V" } : Jvm.MethodName)) ∈ lw_tbl := lw_at lw_m6 196 rfl
theorem q1507 : (Jvm.Cond.instanceMethod ({ cls := "DotRuns$Reader", name := "alone", desc := "()V" } : Jvm.MethodName)) ∈ lw_all := lw_g (lw_at lw_m6 197 rfl) rfl
theorem q1508 : (Jvm.Cond.code ({ cls := "DotRuns$Reader", name := "alone", desc := "()V" } : Jvm.MethodName) prog_10_method_13_code (6 : Nat) (Option.none : Option Jvm.ClassFile.FieldType)) ∈ lw_all := lw_g (lw_at lw_m6 198 rfl) rfl
theorem q1509 : (Jvm.Cond.methodLink "DotRuns$Reader" (124 : Nat) ({ cls := "DotRuns$Line", name := "ones", desc := "(II)J" } : Jvm.MethodName)) ∈ lw_all := lw_g (lw_at lw_m6 199 rfl) rfl
theorem q1510 : (Jvm.Cond.methodLink "DotRuns$Reader" (218 : Nat) ({ cls := "DotRuns$Reader", name := "above", desc := "()V" } : Jvm.MethodName)) ∈ lw_all := lw_g (lw_at lw_m6 200 rfl) rfl
theorem q1511 : (Jvm.Cond.privateMethod ({ cls := "DotRuns$Reader", name := "above", desc := "()V" } : Jvm.MethodName)) ∈ lw_tbl := lw_at lw_m6 201 rfl
theorem q1512 : (Jvm.Cond.instanceMethod ({ cls := "DotRuns$Reader", name := "above", desc := "()V" } : Jvm.MethodName)) ∈ lw_all := lw_g (lw_at lw_m6 202 rfl) rfl
theorem q1513 : (Jvm.Cond.code ({ cls := "DotRuns$Reader", name := "above", desc := "()V" } : Jvm.MethodName) prog_10_method_18_code (4 : Nat) (Option.none : Option Jvm.ClassFile.FieldType)) ∈ lw_all := lw_g (lw_at lw_m6 203 rfl) rfl
theorem q1514 : (Jvm.Cond.classLink "DotRuns$Reader" (164 : Nat) "DotRuns$Walk") ∈ lw_all := lw_g (lw_at lw_m6 204 rfl) rfl
theorem q1515 : (Jvm.Cond.methodLink "DotRuns$Reader" (166 : Nat) ({ cls := "DotRuns$Page", name := "above", desc := "(I)LDotRuns$Line;" } : Jvm.MethodName)) ∈ lw_all := lw_g (lw_at lw_m6 205 rfl) rfl
theorem q1516 : (Jvm.Cond.methodLink "DotRuns$Reader" (170 : Nat) ({ cls := "DotRuns$Walk", name := "<init>", desc := "(LDotRuns$Line;)V" } : Jvm.MethodName)) ∈ lw_all := lw_g (lw_at lw_m6 206 rfl) rfl
theorem q1517 : (Jvm.Cond.methodLink "DotRuns$Reader" (173 : Nat) ({ cls := "DotRuns$Reader", name := "isMode", desc := "()Z" } : Jvm.MethodName)) ∈ lw_all := lw_g (lw_at lw_m6 207 rfl) rfl
theorem q1518 : (Jvm.Cond.privateMethod ({ cls := "DotRuns$Reader", name := "isMode", desc := "()Z" } : Jvm.MethodName)) ∈ lw_tbl := lw_at lw_m6 208 rfl
theorem q1519 : (Jvm.Cond.instanceMethod ({ cls := "DotRuns$Reader", name := "isMode", desc := "()Z" } : Jvm.MethodName)) ∈ lw_all := lw_g (lw_at lw_m6 209 rfl) rfl
theorem q1520 : (Jvm.Cond.code ({ cls := "DotRuns$Reader", name := "isMode", desc := "()Z" } : Jvm.MethodName) prog_10_method_17_code (3 : Nat) (Option.some Jvm.ClassFile.FieldType.boolean)) ∈ lw_all := lw_g (lw_at lw_m6 210 rfl) rfl
theorem q1521 : (Jvm.Cond.stringRef "DotRuns$Reader" (136 : Nat) "p") ∈ lw_tbl := lw_at lw_m6 211 rfl
theorem q1522 : (Jvm.Cond.stringRef "DotRuns$Reader" (141 : Nat) "v") ∈ lw_tbl := lw_at lw_m6 212 rfl
theorem q1523 : (Jvm.Cond.stringRef "DotRuns$Reader" (162 : Nat) "h") ∈ lw_tbl := lw_at lw_m6 213 rfl
theorem q1524 : (Jvm.Cond.methodLink "DotRuns$Reader" (176 : Nat) ({ cls := "DotRuns$Walk", name := "isOver", desc := "()Z" } : Jvm.MethodName)) ∈ lw_all := lw_g (lw_at lw_m6 214 rfl) rfl
theorem q1525 : (Jvm.Cond.methodLink "DotRuns$Reader" (179 : Nat) ({ cls := "DotRuns$Reader", name := "modeOf", desc := "(Ljava/lang/String;)LDotRuns$Mode;" } : Jvm.MethodName)) ∈ lw_all := lw_g (lw_at lw_m6 215 rfl) rfl
theorem q1526 : (Jvm.Cond.privateMethod ({ cls := "DotRuns$Reader", name := "modeOf", desc := "(Ljava/lang/String;)LDotRuns$Mode;" } : Jvm.MethodName)) ∈ lw_tbl := lw_at lw_m6 216 rfl
theorem q1527 : (Jvm.Cond.instanceMethod ({ cls := "DotRuns$Reader", name := "modeOf", desc := "(Ljava/lang/String;)LDotRuns$Mode;" } : Jvm.MethodName)) ∈ lw_all := lw_g (lw_at lw_m6 217 rfl) rfl
theorem q1528 : (Jvm.Cond.code ({ cls := "DotRuns$Reader", name := "modeOf", desc := "(Ljava/lang/String;)LDotRuns$Mode;" } : Jvm.MethodName) prog_10_method_15_code (4 : Nat) (Option.some (Jvm.ClassFile.FieldType.object "DotRuns$Mode"))) ∈ lw_all := lw_g (lw_at lw_m6 218 rfl) rfl
theorem q1529 : (Jvm.Cond.classLink "DotRuns$Reader" (143 : Nat) "DotRuns$Pass") ∈ lw_all := lw_g (lw_at lw_m6 219 rfl) rfl
theorem q1530 : (Jvm.Cond.methodLinkNest "DotRuns$Reader" (145 : Nat) ({ cls := "DotRuns$Pass", name := "<init>", desc := "()V" } : Jvm.MethodName) "DotRuns") ∈ lw_tbl := lw_at lw_m6 220 rfl
theorem q1531 : (Jvm.Cond.classLink "DotRuns$Reader" (146 : Nat) "DotRuns$Vertical") ∈ lw_all := lw_g (lw_at lw_m6 221 rfl) rfl
theorem q1532 : (Jvm.Cond.methodLink "DotRuns$Reader" (148 : Nat) ({ cls := "DotRuns$Reader", name := "signed", desc := "()I" } : Jvm.MethodName)) ∈ lw_all := lw_g (lw_at lw_m6 222 rfl) rfl
theorem q1533 : (Jvm.Cond.privateMethod ({ cls := "DotRuns$Reader", name := "signed", desc := "()I" } : Jvm.MethodName)) ∈ lw_tbl := lw_at lw_m6 223 rfl
theorem q1534 : (Jvm.Cond.instanceMethod ({ cls := "DotRuns$Reader", name := "signed", desc := "()I" } : Jvm.MethodName)) ∈ lw_all := lw_g (lw_at lw_m6 224 rfl) rfl
theorem q1535 : (Jvm.Cond.code ({ cls := "DotRuns$Reader", name := "signed", desc := "()I" } : Jvm.MethodName) prog_10_method_14_code (3 : Nat) (Option.some Jvm.ClassFile.FieldType.int)) ∈ lw_all := lw_g (lw_at lw_m6 225 rfl) rfl
theorem q1536 : (Jvm.Cond.methodLink "DotRuns$Reader" (151 : Nat) ({ cls := "DotRuns$Vertical", name := "<init>", desc := "(I)V" } : Jvm.MethodName)) ∈ lw_all := lw_g (lw_at lw_m6 226 rfl) rfl
theorem q1537 : (Jvm.Cond.methodLink "DotRuns$Reader" (152 : Nat) ({ cls := "DotRuns$Reader", name := "horizontal", desc := "()LDotRuns$Mode;" } : Jvm.MethodName)) ∈ lw_all := lw_g (lw_at lw_m6 227 rfl) rfl
theorem q1538 : (Jvm.Cond.privateMethod ({ cls := "DotRuns$Reader", name := "horizontal", desc := "()LDotRuns$Mode;" } : Jvm.MethodName)) ∈ lw_tbl := lw_at lw_m6 228 rfl
theorem q1539 : (Jvm.Cond.instanceMethod ({ cls := "DotRuns$Reader", name := "horizontal", desc := "()LDotRuns$Mode;" } : Jvm.MethodName)) ∈ lw_all := lw_g (lw_at lw_m6 229 rfl) rfl
theorem q1540 : (Jvm.Cond.code ({ cls := "DotRuns$Reader", name := "horizontal", desc := "()LDotRuns$Mode;" } : Jvm.MethodName) prog_10_method_16_code (2 : Nat) (Option.some (Jvm.ClassFile.FieldType.object "DotRuns$Mode"))) ∈ lw_all := lw_g (lw_at lw_m6 230 rfl) rfl
theorem q1541 : (Jvm.Cond.classLink "DotRuns$Reader" (156 : Nat) "DotRuns$Horizontal") ∈ lw_all := lw_g (lw_at lw_m6 231 rfl) rfl
theorem q1542 : (Jvm.Cond.methodLink "DotRuns$Reader" (158 : Nat) ({ cls := "DotRuns$Horizontal", name := "<init>", desc := "(II)V" } : Jvm.MethodName)) ∈ lw_all := lw_g (lw_at lw_m6 232 rfl) rfl
theorem q1543 : (Jvm.Cond.interfaceEntry "DotRuns$Reader" (183 : Nat)) ∈ lw_tbl := lw_at lw_m6 233 rfl
theorem q1544 : (Jvm.Cond.methodLink "DotRuns$Reader" (183 : Nat) ({ cls := "DotRuns$Mode", name := "goes", desc := "(LDotRuns$Walk;)Z" } : Jvm.MethodName)) ∈ lw_all := lw_g (lw_at lw_m6 234 rfl) rfl
theorem q1545 : (Jvm.Cond.methodLink "DotRuns$Reader" (189 : Nat) ({ cls := "DotRuns$Walk", name := "made", desc := "()LDotRuns$Line;" } : Jvm.MethodName)) ∈ lw_all := lw_g (lw_at lw_m6 235 rfl) rfl
theorem q1546 : (Jvm.Cond.methodLink "DotRuns$Reader" (220 : Nat) ({ cls := "DotRuns$Reader", name := "setting", desc := "()V" } : Jvm.MethodName)) ∈ lw_all := lw_g (lw_at lw_m6 236 rfl) rfl
theorem q1547 : (Jvm.Cond.privateMethod ({ cls := "DotRuns$Reader", name := "setting", desc := "()V" } : Jvm.MethodName)) ∈ lw_tbl := lw_at lw_m6 237 rfl
theorem q1548 : (Jvm.Cond.instanceMethod ({ cls := "DotRuns$Reader", name := "setting", desc := "()V" } : Jvm.MethodName)) ∈ lw_all := lw_g (lw_at lw_m6 238 rfl) rfl
theorem q1549 : (Jvm.Cond.code ({ cls := "DotRuns$Reader", name := "setting", desc := "()V" } : Jvm.MethodName) prog_10_method_19_code (2 : Nat) (Option.none : Option Jvm.ClassFile.FieldType)) ∈ lw_all := lw_g (lw_at lw_m6 239 rfl) rfl
theorem q1550 : (Jvm.Cond.fieldLinkNest "DotRuns$Reader" (196 : Nat) "DotRuns" "LEAST" "[I" "DotRuns") ∈ lw_tbl := lw_at lw_m7 0 rfl
theorem q1552 : (Jvm.Cond.fieldLinkNest "DotRuns$Reader" (199 : Nat) "DotRuns" "GREATEST" "[I" "DotRuns") ∈ lw_tbl := lw_at lw_m7 2 rfl
theorem q1553 : (Jvm.Cond.methodLink "DotRuns$Reader" (223 : Nat) ({ cls := "DotRuns$Reader", name := "loss", desc := "()V" } : Jvm.MethodName)) ∈ lw_all := lw_g (lw_at lw_m7 3 rfl) rfl
theorem q1554 : (Jvm.Cond.privateMethod ({ cls := "DotRuns$Reader", name := "loss", desc := "()V" } : Jvm.MethodName)) ∈ lw_tbl := lw_at lw_m7 4 rfl
theorem q1555 : (Jvm.Cond.instanceMethod ({ cls := "DotRuns$Reader", name := "loss", desc := "()V" } : Jvm.MethodName)) ∈ lw_all := lw_g (lw_at lw_m7 5 rfl) rfl
theorem q1556 : (Jvm.Cond.code ({ cls := "DotRuns$Reader", name := "loss", desc := "()V" } : Jvm.MethodName) prog_10_method_20_code (2 : Nat) (Option.none : Option Jvm.ClassFile.FieldType)) ∈ lw_all := lw_g (lw_at lw_m7 6 rfl) rfl
theorem q2783 : (Jvm.Cond.castable "DotRuns$Reader" "java/lang/Object") ∈ lw_tbl := lw_at lw_m12 33 rfl
theorem in_X4 : ∀ w ∈ wsX40, w ∈ lw_all := lw_in wsX40 [1321, 1323, 1325, 1327, 1329, 1331] (by decide +kernel) (by decide +kernel)

/-! DotRuns$Fault -/
set_option maxRecDepth 100000
def RX5 : String := "DotRuns$Fault"
def TX5 : u_T := fun k => match k with
  | 0 => ("java/lang/Throwable", "cause", "Ljava/lang/Throwable;", false)
  | 1 => ("java/lang/Throwable", "stackTrace", "[Ljava/lang/StackTraceElement;", false)
  | 2 => ("java/lang/Throwable", "suppressedExceptions", "Ljava/util/List;", false)
  | 3 => ("java/lang/Throwable", "detailMessage", "Ljava/lang/String;", false)
  | 4 => ("java/lang/Throwable", "backtrace", "Ljava/lang/Object;", false)
  | 5 => ("java/lang/Throwable", "depth", "I", false)
  | 6 => ("DotRuns$Fault", "code", "I", true)
  | _ => ("DotRuns$Fault", "place", "I", true)
def tyX5 : Nat → FieldType := fun k => match k with
  | 0 => .object "java/lang/Throwable"
  | 1 => .array (.object "java/lang/StackTraceElement")
  | 2 => .object "java/util/List"
  | 3 => .object "java/lang/String"
  | 4 => .object "java/lang/Object"
  | 5 => .int
  | 6 => .int
  | _ => .int
abbrev wsX50 : List Cond := u_ws RX5 TX5 8
theorem nmX5 : ∀ a, a < 8 → ∀ b, b < 8 → a ≠ b → (TX5 a).2.1 ≠ (TX5 b).2.1 := by decide +kernel
theorem tyX5_ok : ∀ k, k < 8 → parseFieldDescriptor (TX5 k).2.2.1 = some (tyX5 k) := by decide +kernel
abbrev cX5_init : ByteArray := prog_4_method_1_code
def yX5_init : MethodName := ⟨RX5, "<init>", "(II)V"⟩
def dkwX5_init_0 : List UInt8 := [42, 18, 1, 1, 3, 3, 183, 0, 3, 42, 27, 181, 0, 9, 42, 28, 181, 0, 15, 177]
abbrev dktX5_init_0 : List UInt8 := dkwX5_init_0 ++ []
theorem dksX5_init_0 : cX5_init.data.toList.drop 0 = dktX5_init_0 := by decide +kernel
theorem dX5_init_0 : decode cX5_init 0 = .ok (.aload_n 0, 1) := dk_42 (dk_at dksX5_init_0 0 rfl rfl)
theorem dX5_init_1 : decode cX5_init 1 = .ok (.ldc 1, 2) := dk_18 1 (dk_at dksX5_init_0 1 rfl rfl)
theorem dX5_init_3 : decode cX5_init 3 = .ok (.aconst_null, 1) := dk_1 (dk_at dksX5_init_0 3 rfl rfl)
theorem dX5_init_4 : decode cX5_init 4 = .ok (.iconst 0, 1) := dk_3 (dk_at dksX5_init_0 4 rfl rfl)
theorem dX5_init_5 : decode cX5_init 5 = .ok (.iconst 0, 1) := dk_3 (dk_at dksX5_init_0 5 rfl rfl)
theorem dX5_init_6 : decode cX5_init 6 = .ok (.invokespecial 3, 3) := dk_183 0 3 (dk_at dksX5_init_0 6 rfl rfl)
theorem dX5_init_9 : decode cX5_init 9 = .ok (.aload_n 0, 1) := dk_42 (dk_at dksX5_init_0 9 rfl rfl)
theorem dX5_init_10 : decode cX5_init 10 = .ok (.iload_n 1, 1) := dk_27 (dk_at dksX5_init_0 10 rfl rfl)
theorem dX5_init_11 : decode cX5_init 11 = .ok (.putfield 9, 3) := dk_181 0 9 (dk_at dksX5_init_0 11 rfl rfl)
theorem dX5_init_14 : decode cX5_init 14 = .ok (.aload_n 0, 1) := dk_42 (dk_at dksX5_init_0 14 rfl rfl)
theorem dX5_init_15 : decode cX5_init 15 = .ok (.iload_n 2, 1) := dk_28 (dk_at dksX5_init_0 15 rfl rfl)
theorem dX5_init_16 : decode cX5_init 16 = .ok (.putfield 15, 3) := dk_181 0 15 (dk_at dksX5_init_0 16 rfl rfl)
theorem dX5_init_19 : decode cX5_init 19 = .ok (.return_, 1) := dk_177 (dk_at dksX5_init_0 19 rfl rfl)
theorem q136 : (Jvm.Cond.initialized "DotRuns$Fault") ∈ lw_all := lw_g (lw_at lw_m1 26 rfl) rfl
theorem q228 : (Jvm.Cond.selects "DotRuns$Fault" ({ cls := "java/lang/Throwable", name := "fillInStackTrace", desc := "()Ljava/lang/Throwable;" } : Jvm.MethodName) ({ cls := "java/lang/Throwable", name := "fillInStackTrace", desc := "()Ljava/lang/Throwable;" } : Jvm.MethodName)) ∈ lw_all := lw_g (lw_at lw_m1 118 rfl) rfl
theorem q915 : (Jvm.Cond.selects "DotRuns$Fault" ({ cls := "java/lang/Object", name := "getClass", desc := "()Ljava/lang/Class;" } : Jvm.MethodName) ({ cls := "java/lang/Object", name := "getClass", desc := "()Ljava/lang/Class;" } : Jvm.MethodName)) ∈ lw_all := lw_g (lw_at lw_m4 85 rfl) rfl
theorem q1385 : (Jvm.Cond.instantiable "DotRuns$Fault" (8 : Nat)) ∈ lw_all := lw_g (lw_at lw_m6 75 rfl) rfl
theorem q1386 : (Jvm.Cond.castable "DotRuns$Fault" "DotRuns$Fault") ∈ lw_tbl := lw_at lw_m6 76 rfl
theorem q1387 : (Jvm.Cond.selects "DotRuns$Fault" ({ cls := "java/lang/Throwable", name := "fillInStackTrace", desc := "(I)Ljava/lang/Throwable;" } : Jvm.MethodName) ({ cls := "java/lang/Throwable", name := "fillInStackTrace", desc := "(I)Ljava/lang/Throwable;" } : Jvm.MethodName)) ∈ lw_all := lw_g (lw_at lw_m6 77 rfl) rfl
theorem q1388 : (Jvm.Cond.lays "DotRuns$Fault" "java/lang/Throwable" "cause" "Ljava/lang/Throwable;") ∈ lw_all := lw_g (lw_at lw_m6 78 rfl) rfl
theorem q1389 : (Jvm.Cond.lays "DotRuns$Fault" "java/lang/Throwable" "stackTrace" "[Ljava/lang/StackTraceElement;") ∈ lw_all := lw_g (lw_at lw_m6 79 rfl) rfl
theorem q1390 : (Jvm.Cond.lays "DotRuns$Fault" "java/lang/Throwable" "suppressedExceptions" "Ljava/util/List;") ∈ lw_all := lw_g (lw_at lw_m6 80 rfl) rfl
theorem q1391 : (Jvm.Cond.lays "DotRuns$Fault" "java/lang/Throwable" "detailMessage" "Ljava/lang/String;") ∈ lw_all := lw_g (lw_at lw_m6 81 rfl) rfl
theorem q1392 : (Jvm.Cond.lays "DotRuns$Fault" "java/lang/Throwable" "backtrace" "Ljava/lang/Object;") ∈ lw_all := lw_g (lw_at lw_m6 82 rfl) rfl
theorem q1394 : (Jvm.Cond.instanceMethod ({ cls := "DotRuns$Fault", name := "<init>", desc := "(II)V" } : Jvm.MethodName)) ∈ lw_all := lw_g (lw_at lw_m6 84 rfl) rfl
theorem q1395 : (Jvm.Cond.code ({ cls := "DotRuns$Fault", name := "<init>", desc := "(II)V" } : Jvm.MethodName) prog_4_method_1_code (3 : Nat) (Option.none : Option Jvm.ClassFile.FieldType)) ∈ lw_all := lw_g (lw_at lw_m6 85 rfl) rfl
theorem q1396 : (Jvm.Cond.stringRef "DotRuns$Fault" (1 : Nat) "a fault") ∈ lw_tbl := lw_at lw_m6 86 rfl
theorem q1397 : (Jvm.Cond.methodLink "DotRuns$Fault" (3 : Nat) ({ cls := "java/lang/Exception", name := "<init>", desc := "(Ljava/lang/String;Ljava/lang/Throwable;ZZ)V" } : Jvm.MethodName)) ∈ lw_all := lw_g (lw_at lw_m6 87 rfl) rfl
theorem q1403 : (Jvm.Cond.fieldLink "DotRuns$Fault" (9 : Nat) "DotRuns$Fault" "code" "I") ∈ lw_all := lw_g (lw_at lw_m6 93 rfl) rfl
theorem q1405 : (Jvm.Cond.fieldLink "DotRuns$Fault" (15 : Nat) "DotRuns$Fault" "place" "I") ∈ lw_all := lw_g (lw_at lw_m6 95 rfl) rfl
theorem q1407 : (Jvm.Cond.laysFinal "DotRuns$Fault" "DotRuns$Fault" "code" "I") ∈ lw_all := lw_g (lw_at lw_m6 97 rfl) rfl
theorem q1408 : (Jvm.Cond.soleField "DotRuns$Fault" "code") ∈ lw_all := lw_g (lw_at lw_m6 98 rfl) rfl
theorem q1409 : (Jvm.Cond.laysFinal "DotRuns$Fault" "DotRuns$Fault" "place" "I") ∈ lw_all := lw_g (lw_at lw_m6 99 rfl) rfl
theorem q1410 : (Jvm.Cond.soleField "DotRuns$Fault" "place") ∈ lw_all := lw_g (lw_at lw_m6 100 rfl) rfl
theorem q1411 : (Jvm.Cond.lays "DotRuns$Fault" "java/lang/Throwable" "depth" "I") ∈ lw_all := lw_g (lw_at lw_m6 101 rfl) rfl
theorem q1412 : (Jvm.Cond.superclass "DotRuns$Fault" "java/lang/Exception") ∈ lw_all := lw_g (lw_at lw_m6 102 rfl) rfl
theorem q2784 : (Jvm.Cond.castable "DotRuns$Fault" "java/lang/Object") ∈ lw_tbl := lw_at lw_m12 34 rfl
theorem in_X5 : ∀ w ∈ wsX50, w ∈ lw_all := lw_in wsX50 [1388, 1389, 1390, 1391, 1392, 1411, 1407, 1409] (by decide +kernel) (by decide +kernel)

/-! DotRuns$Line -/
set_option maxRecDepth 100000
def RX6 : String := "DotRuns$Line"
def TX6 : u_T := fun k => match k with
  | 0 => ("DotRuns$Line", "wide", "I", true)
  | _ => ("DotRuns$Line", "bits", "J", true)
def tyX6 : Nat → FieldType := fun k => match k with
  | 0 => .int
  | _ => .long
abbrev wsX60 : List Cond := u_ws RX6 TX6 2
theorem nmX6 : ∀ a, a < 2 → ∀ b, b < 2 → a ≠ b → (TX6 a).2.1 ≠ (TX6 b).2.1 := by decide +kernel
theorem tyX6_ok : ∀ k, k < 2 → parseFieldDescriptor (TX6 k).2.2.1 = some (tyX6 k) := by decide +kernel
abbrev cX6_init : ByteArray := prog_6_method_2_code
def yX6_init : MethodName := ⟨RX6, "<init>", "(I)V"⟩
def dkwX6_init_0 : List UInt8 := [42, 27, 9, 183, 0, 19, 177]
abbrev dktX6_init_0 : List UInt8 := dkwX6_init_0 ++ []
theorem dksX6_init_0 : cX6_init.data.toList.drop 0 = dktX6_init_0 := by decide +kernel
theorem dX6_init_0 : decode cX6_init 0 = .ok (.aload_n 0, 1) := dk_42 (dk_at dksX6_init_0 0 rfl rfl)
theorem dX6_init_1 : decode cX6_init 1 = .ok (.iload_n 1, 1) := dk_27 (dk_at dksX6_init_0 1 rfl rfl)
theorem dX6_init_2 : decode cX6_init 2 = .ok (.lconst 0, 1) := dk_9 (dk_at dksX6_init_0 2 rfl rfl)
theorem dX6_init_3 : decode cX6_init 3 = .ok (.invokespecial 19, 3) := dk_183 0 19 (dk_at dksX6_init_0 3 rfl rfl)
theorem dX6_init_6 : decode cX6_init 6 = .ok (.return_, 1) := dk_177 (dk_at dksX6_init_0 6 rfl rfl)
abbrev cX6_init_2 : ByteArray := prog_6_method_1_code
def yX6_init_2 : MethodName := ⟨RX6, "<init>", "(IJ)V"⟩
def dkwX6_init_2_0 : List UInt8 := [42, 183, 0, 3, 42, 27, 181, 0, 9, 42, 32, 181, 0, 15, 177]
abbrev dktX6_init_2_0 : List UInt8 := dkwX6_init_2_0 ++ []
theorem dksX6_init_2_0 : cX6_init_2.data.toList.drop 0 = dktX6_init_2_0 := by decide +kernel
theorem dX6_init_2_0 : decode cX6_init_2 0 = .ok (.aload_n 0, 1) := dk_42 (dk_at dksX6_init_2_0 0 rfl rfl)
theorem dX6_init_2_1 : decode cX6_init_2 1 = .ok (.invokespecial 3, 3) := dk_183 0 3 (dk_at dksX6_init_2_0 1 rfl rfl)
theorem dX6_init_2_4 : decode cX6_init_2 4 = .ok (.aload_n 0, 1) := dk_42 (dk_at dksX6_init_2_0 4 rfl rfl)
theorem dX6_init_2_5 : decode cX6_init_2 5 = .ok (.iload_n 1, 1) := dk_27 (dk_at dksX6_init_2_0 5 rfl rfl)
theorem dX6_init_2_6 : decode cX6_init_2 6 = .ok (.putfield 9, 3) := dk_181 0 9 (dk_at dksX6_init_2_0 6 rfl rfl)
theorem dX6_init_2_9 : decode cX6_init_2 9 = .ok (.aload_n 0, 1) := dk_42 (dk_at dksX6_init_2_0 9 rfl rfl)
theorem dX6_init_2_10 : decode cX6_init_2 10 = .ok (.lload_n 2, 1) := dk_32 (dk_at dksX6_init_2_0 10 rfl rfl)
theorem dX6_init_2_11 : decode cX6_init_2 11 = .ok (.putfield 15, 3) := dk_181 0 15 (dk_at dksX6_init_2_0 11 rfl rfl)
theorem dX6_init_2_14 : decode cX6_init_2 14 = .ok (.return_, 1) := dk_177 (dk_at dksX6_init_2_0 14 rfl rfl)
abbrev cX6_find : ByteArray := prog_6_method_5_code
def yX6_find : MethodName := ⟨RX6, "find", "(II)I"⟩
def dkwX6_find_1 : List UInt8 := [167, 255, 236, 29, 172]
abbrev dktX6_find_1 : List UInt8 := dkwX6_find_1 ++ []
def dkwX6_find_0 : List UInt8 := [27, 62, 29, 42, 180, 0, 9, 162, 0, 18, 42, 29, 182, 0, 22, 28, 159, 0, 9, 132, 3, 1]
abbrev dktX6_find_0 : List UInt8 := dkwX6_find_0 ++ dktX6_find_1
theorem dksX6_find_0 : cX6_find.data.toList.drop 0 = dktX6_find_0 := by decide +kernel
theorem dksX6_find_1 : cX6_find.data.toList.drop 22 = dktX6_find_1 := dk_seg dksX6_find_0 22 rfl rfl
theorem dX6_find_0 : decode cX6_find 0 = .ok (.iload_n 1, 1) := dk_27 (dk_at dksX6_find_0 0 rfl rfl)
theorem dX6_find_1 : decode cX6_find 1 = .ok (.istore_n 3, 1) := dk_62 (dk_at dksX6_find_0 1 rfl rfl)
theorem dX6_find_2 : decode cX6_find 2 = .ok (.iload_n 3, 1) := dk_29 (dk_at dksX6_find_0 2 rfl rfl)
theorem dX6_find_3 : decode cX6_find 3 = .ok (.aload_n 0, 1) := dk_42 (dk_at dksX6_find_0 3 rfl rfl)
theorem dX6_find_4 : decode cX6_find 4 = .ok (.getfield 9, 3) := dk_180 0 9 (dk_at dksX6_find_0 4 rfl rfl)
theorem dX6_find_7 : decode cX6_find 7 = .ok (.if_icmp .ge 18, 3) := dk_162 0 18 (dk_at dksX6_find_0 7 rfl rfl)
theorem dX6_find_10 : decode cX6_find 10 = .ok (.aload_n 0, 1) := dk_42 (dk_at dksX6_find_0 10 rfl rfl)
theorem dX6_find_11 : decode cX6_find 11 = .ok (.iload_n 3, 1) := dk_29 (dk_at dksX6_find_0 11 rfl rfl)
theorem dX6_find_12 : decode cX6_find 12 = .ok (.invokevirtual 22, 3) := dk_182 0 22 (dk_at dksX6_find_0 12 rfl rfl)
theorem dX6_find_15 : decode cX6_find 15 = .ok (.iload_n 2, 1) := dk_28 (dk_at dksX6_find_0 15 rfl rfl)
theorem dX6_find_16 : decode cX6_find 16 = .ok (.if_icmp .eq 9, 3) := dk_159 0 9 (dk_at dksX6_find_0 16 rfl rfl)
theorem dX6_find_19 : decode cX6_find 19 = .ok (.iinc 3 1, 3) := dk_132 3 1 (dk_at dksX6_find_0 19 rfl rfl)
theorem dX6_find_22 : decode cX6_find 22 = .ok (.goto (-20), 3) := dk_167 255 236 (dk_at dksX6_find_1 0 rfl rfl)
theorem dX6_find_25 : decode cX6_find 25 = .ok (.iload_n 3, 1) := dk_29 (dk_at dksX6_find_1 3 rfl rfl)
theorem dX6_find_26 : decode cX6_find 26 = .ok (.ireturn, 1) := dk_172 (dk_at dksX6_find_1 4 rfl rfl)
abbrev cX6_dot : ByteArray := prog_6_method_3_code
def yX6_dot : MethodName := ⟨RX6, "dot", "(I)I"⟩
def dkwX6_dot_0 : List UInt8 := [27, 156, 0, 7, 3, 167, 0, 12, 42, 180, 0, 15, 27, 125, 10, 127, 136, 172]
abbrev dktX6_dot_0 : List UInt8 := dkwX6_dot_0 ++ []
theorem dksX6_dot_0 : cX6_dot.data.toList.drop 0 = dktX6_dot_0 := by decide +kernel
theorem dX6_dot_0 : decode cX6_dot 0 = .ok (.iload_n 1, 1) := dk_27 (dk_at dksX6_dot_0 0 rfl rfl)
theorem dX6_dot_1 : decode cX6_dot 1 = .ok (.ifCond .ge 7, 3) := dk_156 0 7 (dk_at dksX6_dot_0 1 rfl rfl)
theorem dX6_dot_4 : decode cX6_dot 4 = .ok (.iconst 0, 1) := dk_3 (dk_at dksX6_dot_0 4 rfl rfl)
theorem dX6_dot_5 : decode cX6_dot 5 = .ok (.goto 12, 3) := dk_167 0 12 (dk_at dksX6_dot_0 5 rfl rfl)
theorem dX6_dot_8 : decode cX6_dot 8 = .ok (.aload_n 0, 1) := dk_42 (dk_at dksX6_dot_0 8 rfl rfl)
theorem dX6_dot_9 : decode cX6_dot 9 = .ok (.getfield 15, 3) := dk_180 0 15 (dk_at dksX6_dot_0 9 rfl rfl)
theorem dX6_dot_12 : decode cX6_dot 12 = .ok (.iload_n 1, 1) := dk_27 (dk_at dksX6_dot_0 12 rfl rfl)
theorem dX6_dot_13 : decode cX6_dot 13 = .ok (.lushr, 1) := dk_125 (dk_at dksX6_dot_0 13 rfl rfl)
theorem dX6_dot_14 : decode cX6_dot 14 = .ok (.lconst 1, 1) := dk_10 (dk_at dksX6_dot_0 14 rfl rfl)
theorem dX6_dot_15 : decode cX6_dot 15 = .ok (.land, 1) := dk_127 (dk_at dksX6_dot_0 15 rfl rfl)
theorem dX6_dot_16 : decode cX6_dot 16 = .ok (.l2i, 1) := dk_136 (dk_at dksX6_dot_0 16 rfl rfl)
theorem dX6_dot_17 : decode cX6_dot 17 = .ok (.ireturn, 1) := dk_172 (dk_at dksX6_dot_0 17 rfl rfl)
abbrev cX6_change : ByteArray := prog_6_method_6_code
def yX6_change : MethodName := ⟨RX6, "change", "(II)I"⟩
def dkwX6_change_2 : List UInt8 := [172]
abbrev dktX6_change_2 : List UInt8 := dkwX6_change_2 ++ []
def dkwX6_change_1 : List UInt8 := [153, 0, 17, 28, 2, 159, 0, 18, 42, 29, 182, 0, 22, 28, 159, 0, 9, 132, 3, 1, 167, 255, 223, 29]
abbrev dktX6_change_1 : List UInt8 := dkwX6_change_1 ++ dktX6_change_2
def dkwX6_change_0 : List UInt8 := [27, 42, 180, 0, 9, 184, 0, 26, 62, 29, 42, 180, 0, 9, 162, 0, 31, 42, 29, 182, 0, 32]
abbrev dktX6_change_0 : List UInt8 := dkwX6_change_0 ++ dktX6_change_1
theorem dksX6_change_0 : cX6_change.data.toList.drop 0 = dktX6_change_0 := by decide +kernel
theorem dksX6_change_1 : cX6_change.data.toList.drop 22 = dktX6_change_1 := dk_seg dksX6_change_0 22 rfl rfl
theorem dksX6_change_2 : cX6_change.data.toList.drop 46 = dktX6_change_2 := dk_seg dksX6_change_1 24 rfl rfl
theorem dX6_change_0 : decode cX6_change 0 = .ok (.iload_n 1, 1) := dk_27 (dk_at dksX6_change_0 0 rfl rfl)
theorem dX6_change_1 : decode cX6_change 1 = .ok (.aload_n 0, 1) := dk_42 (dk_at dksX6_change_0 1 rfl rfl)
theorem dX6_change_2 : decode cX6_change 2 = .ok (.getfield 9, 3) := dk_180 0 9 (dk_at dksX6_change_0 2 rfl rfl)
theorem dX6_change_5 : decode cX6_change 5 = .ok (.invokestatic 26, 3) := dk_184 0 26 (dk_at dksX6_change_0 5 rfl rfl)
theorem dX6_change_8 : decode cX6_change 8 = .ok (.istore_n 3, 1) := dk_62 (dk_at dksX6_change_0 8 rfl rfl)
theorem dX6_change_9 : decode cX6_change 9 = .ok (.iload_n 3, 1) := dk_29 (dk_at dksX6_change_0 9 rfl rfl)
theorem dX6_change_10 : decode cX6_change 10 = .ok (.aload_n 0, 1) := dk_42 (dk_at dksX6_change_0 10 rfl rfl)
theorem dX6_change_11 : decode cX6_change 11 = .ok (.getfield 9, 3) := dk_180 0 9 (dk_at dksX6_change_0 11 rfl rfl)
theorem dX6_change_14 : decode cX6_change 14 = .ok (.if_icmp .ge 31, 3) := dk_162 0 31 (dk_at dksX6_change_0 14 rfl rfl)
theorem dX6_change_17 : decode cX6_change 17 = .ok (.aload_n 0, 1) := dk_42 (dk_at dksX6_change_0 17 rfl rfl)
theorem dX6_change_18 : decode cX6_change 18 = .ok (.iload_n 3, 1) := dk_29 (dk_at dksX6_change_0 18 rfl rfl)
theorem dX6_change_19 : decode cX6_change 19 = .ok (.invokevirtual 32, 3) := dk_182 0 32 (dk_at dksX6_change_0 19 rfl rfl)
theorem dX6_change_22 : decode cX6_change 22 = .ok (.ifCond .eq 17, 3) := dk_153 0 17 (dk_at dksX6_change_1 0 rfl rfl)
theorem dX6_change_25 : decode cX6_change 25 = .ok (.iload_n 2, 1) := dk_28 (dk_at dksX6_change_1 3 rfl rfl)
theorem dX6_change_26 : decode cX6_change 26 = .ok (.iconst (-1), 1) := dk_2 (dk_at dksX6_change_1 4 rfl rfl)
theorem dX6_change_27 : decode cX6_change 27 = .ok (.if_icmp .eq 18, 3) := dk_159 0 18 (dk_at dksX6_change_1 5 rfl rfl)
theorem dX6_change_30 : decode cX6_change 30 = .ok (.aload_n 0, 1) := dk_42 (dk_at dksX6_change_1 8 rfl rfl)
theorem dX6_change_31 : decode cX6_change 31 = .ok (.iload_n 3, 1) := dk_29 (dk_at dksX6_change_1 9 rfl rfl)
theorem dX6_change_32 : decode cX6_change 32 = .ok (.invokevirtual 22, 3) := dk_182 0 22 (dk_at dksX6_change_1 10 rfl rfl)
theorem dX6_change_35 : decode cX6_change 35 = .ok (.iload_n 2, 1) := dk_28 (dk_at dksX6_change_1 13 rfl rfl)
theorem dX6_change_36 : decode cX6_change 36 = .ok (.if_icmp .eq 9, 3) := dk_159 0 9 (dk_at dksX6_change_1 14 rfl rfl)
theorem dX6_change_39 : decode cX6_change 39 = .ok (.iinc 3 1, 3) := dk_132 3 1 (dk_at dksX6_change_1 17 rfl rfl)
theorem dX6_change_42 : decode cX6_change 42 = .ok (.goto (-33), 3) := dk_167 255 223 (dk_at dksX6_change_1 20 rfl rfl)
theorem dX6_change_45 : decode cX6_change 45 = .ok (.iload_n 3, 1) := dk_29 (dk_at dksX6_change_1 23 rfl rfl)
theorem dX6_change_46 : decode cX6_change 46 = .ok (.ireturn, 1) := dk_172 (dk_at dksX6_change_2 0 rfl rfl)
abbrev cX6_isChange : ByteArray := prog_6_method_4_code
def yX6_isChange : MethodName := ⟨RX6, "isChange", "(I)Z"⟩
def dkwX6_isChange_0 : List UInt8 := [42, 27, 182, 0, 22, 42, 27, 4, 100, 182, 0, 22, 159, 0, 7, 4, 167, 0, 4, 3, 172]
abbrev dktX6_isChange_0 : List UInt8 := dkwX6_isChange_0 ++ []
theorem dksX6_isChange_0 : cX6_isChange.data.toList.drop 0 = dktX6_isChange_0 := by decide +kernel
theorem dX6_isChange_0 : decode cX6_isChange 0 = .ok (.aload_n 0, 1) := dk_42 (dk_at dksX6_isChange_0 0 rfl rfl)
theorem dX6_isChange_1 : decode cX6_isChange 1 = .ok (.iload_n 1, 1) := dk_27 (dk_at dksX6_isChange_0 1 rfl rfl)
theorem dX6_isChange_2 : decode cX6_isChange 2 = .ok (.invokevirtual 22, 3) := dk_182 0 22 (dk_at dksX6_isChange_0 2 rfl rfl)
theorem dX6_isChange_5 : decode cX6_isChange 5 = .ok (.aload_n 0, 1) := dk_42 (dk_at dksX6_isChange_0 5 rfl rfl)
theorem dX6_isChange_6 : decode cX6_isChange 6 = .ok (.iload_n 1, 1) := dk_27 (dk_at dksX6_isChange_0 6 rfl rfl)
theorem dX6_isChange_7 : decode cX6_isChange 7 = .ok (.iconst 1, 1) := dk_4 (dk_at dksX6_isChange_0 7 rfl rfl)
theorem dX6_isChange_8 : decode cX6_isChange 8 = .ok (.isub, 1) := dk_100 (dk_at dksX6_isChange_0 8 rfl rfl)
theorem dX6_isChange_9 : decode cX6_isChange 9 = .ok (.invokevirtual 22, 3) := dk_182 0 22 (dk_at dksX6_isChange_0 9 rfl rfl)
theorem dX6_isChange_12 : decode cX6_isChange 12 = .ok (.if_icmp .eq 7, 3) := dk_159 0 7 (dk_at dksX6_isChange_0 12 rfl rfl)
theorem dX6_isChange_15 : decode cX6_isChange 15 = .ok (.iconst 1, 1) := dk_4 (dk_at dksX6_isChange_0 15 rfl rfl)
theorem dX6_isChange_16 : decode cX6_isChange 16 = .ok (.goto 4, 3) := dk_167 0 4 (dk_at dksX6_isChange_0 16 rfl rfl)
theorem dX6_isChange_19 : decode cX6_isChange 19 = .ok (.iconst 0, 1) := dk_3 (dk_at dksX6_isChange_0 19 rfl rfl)
theorem dX6_isChange_20 : decode cX6_isChange 20 = .ok (.ireturn, 1) := dk_172 (dk_at dksX6_isChange_0 20 rfl rfl)
abbrev cX6_ones : ByteArray := prog_6_method_9_code
def yX6_ones : MethodName := ⟨RX6, "ones", "(II)J"⟩
def dkwX6_ones_0 : List UInt8 := [10, 27, 121, 10, 26, 121, 101, 173]
abbrev dktX6_ones_0 : List UInt8 := dkwX6_ones_0 ++ []
theorem dksX6_ones_0 : cX6_ones.data.toList.drop 0 = dktX6_ones_0 := by decide +kernel
theorem dX6_ones_0 : decode cX6_ones 0 = .ok (.lconst 1, 1) := dk_10 (dk_at dksX6_ones_0 0 rfl rfl)
theorem dX6_ones_1 : decode cX6_ones 1 = .ok (.iload_n 1, 1) := dk_27 (dk_at dksX6_ones_0 1 rfl rfl)
theorem dX6_ones_2 : decode cX6_ones 2 = .ok (.lshl, 1) := dk_121 (dk_at dksX6_ones_0 2 rfl rfl)
theorem dX6_ones_3 : decode cX6_ones 3 = .ok (.lconst 1, 1) := dk_10 (dk_at dksX6_ones_0 3 rfl rfl)
theorem dX6_ones_4 : decode cX6_ones 4 = .ok (.iload_n 0, 1) := dk_26 (dk_at dksX6_ones_0 4 rfl rfl)
theorem dX6_ones_5 : decode cX6_ones 5 = .ok (.lshl, 1) := dk_121 (dk_at dksX6_ones_0 5 rfl rfl)
theorem dX6_ones_6 : decode cX6_ones 6 = .ok (.lsub, 1) := dk_101 (dk_at dksX6_ones_0 6 rfl rfl)
theorem dX6_ones_7 : decode cX6_ones 7 = .ok (.lreturn, 1) := dk_173 (dk_at dksX6_ones_0 7 rfl rfl)
abbrev cX6_isLike : ByteArray := prog_6_method_13_code
def yX6_isLike : MethodName := ⟨RX6, "isLike", "(LDotRuns$Line;)Z"⟩
def dkwX6_isLike_0 : List UInt8 := [42, 180, 0, 15, 43, 180, 0, 15, 148, 154, 0, 7, 4, 167, 0, 4, 3, 172]
abbrev dktX6_isLike_0 : List UInt8 := dkwX6_isLike_0 ++ []
theorem dksX6_isLike_0 : cX6_isLike.data.toList.drop 0 = dktX6_isLike_0 := by decide +kernel
theorem dX6_isLike_0 : decode cX6_isLike 0 = .ok (.aload_n 0, 1) := dk_42 (dk_at dksX6_isLike_0 0 rfl rfl)
theorem dX6_isLike_1 : decode cX6_isLike 1 = .ok (.getfield 15, 3) := dk_180 0 15 (dk_at dksX6_isLike_0 1 rfl rfl)
theorem dX6_isLike_4 : decode cX6_isLike 4 = .ok (.aload_n 1, 1) := dk_43 (dk_at dksX6_isLike_0 4 rfl rfl)
theorem dX6_isLike_5 : decode cX6_isLike 5 = .ok (.getfield 15, 3) := dk_180 0 15 (dk_at dksX6_isLike_0 5 rfl rfl)
theorem dX6_isLike_8 : decode cX6_isLike 8 = .ok (.lcmp, 1) := dk_148 (dk_at dksX6_isLike_0 8 rfl rfl)
theorem dX6_isLike_9 : decode cX6_isLike 9 = .ok (.ifCond .ne 7, 3) := dk_154 0 7 (dk_at dksX6_isLike_0 9 rfl rfl)
theorem dX6_isLike_12 : decode cX6_isLike 12 = .ok (.iconst 1, 1) := dk_4 (dk_at dksX6_isLike_0 12 rfl rfl)
theorem dX6_isLike_13 : decode cX6_isLike 13 = .ok (.goto 4, 3) := dk_167 0 4 (dk_at dksX6_isLike_0 13 rfl rfl)
theorem dX6_isLike_16 : decode cX6_isLike 16 = .ok (.iconst 0, 1) := dk_3 (dk_at dksX6_isLike_0 16 rfl rfl)
theorem dX6_isLike_17 : decode cX6_isLike 17 = .ok (.ireturn, 1) := dk_172 (dk_at dksX6_isLike_0 17 rfl rfl)
abbrev cX6_wrong : ByteArray := prog_6_method_12_code
def yX6_wrong : MethodName := ⟨RX6, "wrong", "(LDotRuns$Line;)I"⟩
def dkwX6_wrong_0 : List UInt8 := [42, 180, 0, 15, 43, 180, 0, 15, 131, 184, 0, 36, 172]
abbrev dktX6_wrong_0 : List UInt8 := dkwX6_wrong_0 ++ []
theorem dksX6_wrong_0 : cX6_wrong.data.toList.drop 0 = dktX6_wrong_0 := by decide +kernel
theorem dX6_wrong_0 : decode cX6_wrong 0 = .ok (.aload_n 0, 1) := dk_42 (dk_at dksX6_wrong_0 0 rfl rfl)
theorem dX6_wrong_1 : decode cX6_wrong 1 = .ok (.getfield 15, 3) := dk_180 0 15 (dk_at dksX6_wrong_0 1 rfl rfl)
theorem dX6_wrong_4 : decode cX6_wrong 4 = .ok (.aload_n 1, 1) := dk_43 (dk_at dksX6_wrong_0 4 rfl rfl)
theorem dX6_wrong_5 : decode cX6_wrong 5 = .ok (.getfield 15, 3) := dk_180 0 15 (dk_at dksX6_wrong_0 5 rfl rfl)
theorem dX6_wrong_8 : decode cX6_wrong 8 = .ok (.lxor, 1) := dk_131 (dk_at dksX6_wrong_0 8 rfl rfl)
theorem dX6_wrong_9 : decode cX6_wrong 9 = .ok (.invokestatic 36, 3) := dk_184 0 36 (dk_at dksX6_wrong_0 9 rfl rfl)
theorem dX6_wrong_12 : decode cX6_wrong 12 = .ok (.ireturn, 1) := dk_172 (dk_at dksX6_wrong_0 12 rfl rfl)
abbrev cX6_black : ByteArray := prog_6_method_7_code
def yX6_black : MethodName := ⟨RX6, "black", "()I"⟩
def dkwX6_black_0 : List UInt8 := [42, 180, 0, 15, 184, 0, 36, 172]
abbrev dktX6_black_0 : List UInt8 := dkwX6_black_0 ++ []
theorem dksX6_black_0 : cX6_black.data.toList.drop 0 = dktX6_black_0 := by decide +kernel
theorem dX6_black_0 : decode cX6_black 0 = .ok (.aload_n 0, 1) := dk_42 (dk_at dksX6_black_0 0 rfl rfl)
theorem dX6_black_1 : decode cX6_black 1 = .ok (.getfield 15, 3) := dk_180 0 15 (dk_at dksX6_black_0 1 rfl rfl)
theorem dX6_black_4 : decode cX6_black 4 = .ok (.invokestatic 36, 3) := dk_184 0 36 (dk_at dksX6_black_0 4 rfl rfl)
theorem dX6_black_7 : decode cX6_black 7 = .ok (.ireturn, 1) := dk_172 (dk_at dksX6_black_0 7 rfl rfl)
abbrev cX6_changes : ByteArray := prog_6_method_8_code
def yX6_changes : MethodName := ⟨RX6, "changes", "()I"⟩
def dkwX6_changes_1 : List UInt8 := [132, 2, 1, 167, 255, 234, 27, 172]
abbrev dktX6_changes_1 : List UInt8 := dkwX6_changes_1 ++ []
def dkwX6_changes_0 : List UInt8 := [3, 60, 3, 61, 28, 42, 180, 0, 9, 162, 0, 20, 27, 42, 28, 182, 0, 32, 184, 0, 42, 96, 60]
abbrev dktX6_changes_0 : List UInt8 := dkwX6_changes_0 ++ dktX6_changes_1
theorem dksX6_changes_0 : cX6_changes.data.toList.drop 0 = dktX6_changes_0 := by decide +kernel
theorem dksX6_changes_1 : cX6_changes.data.toList.drop 23 = dktX6_changes_1 := dk_seg dksX6_changes_0 23 rfl rfl
theorem dX6_changes_0 : decode cX6_changes 0 = .ok (.iconst 0, 1) := dk_3 (dk_at dksX6_changes_0 0 rfl rfl)
theorem dX6_changes_1 : decode cX6_changes 1 = .ok (.istore_n 1, 1) := dk_60 (dk_at dksX6_changes_0 1 rfl rfl)
theorem dX6_changes_2 : decode cX6_changes 2 = .ok (.iconst 0, 1) := dk_3 (dk_at dksX6_changes_0 2 rfl rfl)
theorem dX6_changes_3 : decode cX6_changes 3 = .ok (.istore_n 2, 1) := dk_61 (dk_at dksX6_changes_0 3 rfl rfl)
theorem dX6_changes_4 : decode cX6_changes 4 = .ok (.iload_n 2, 1) := dk_28 (dk_at dksX6_changes_0 4 rfl rfl)
theorem dX6_changes_5 : decode cX6_changes 5 = .ok (.aload_n 0, 1) := dk_42 (dk_at dksX6_changes_0 5 rfl rfl)
theorem dX6_changes_6 : decode cX6_changes 6 = .ok (.getfield 9, 3) := dk_180 0 9 (dk_at dksX6_changes_0 6 rfl rfl)
theorem dX6_changes_9 : decode cX6_changes 9 = .ok (.if_icmp .ge 20, 3) := dk_162 0 20 (dk_at dksX6_changes_0 9 rfl rfl)
theorem dX6_changes_12 : decode cX6_changes 12 = .ok (.iload_n 1, 1) := dk_27 (dk_at dksX6_changes_0 12 rfl rfl)
theorem dX6_changes_13 : decode cX6_changes 13 = .ok (.aload_n 0, 1) := dk_42 (dk_at dksX6_changes_0 13 rfl rfl)
theorem dX6_changes_14 : decode cX6_changes 14 = .ok (.iload_n 2, 1) := dk_28 (dk_at dksX6_changes_0 14 rfl rfl)
theorem dX6_changes_15 : decode cX6_changes 15 = .ok (.invokevirtual 32, 3) := dk_182 0 32 (dk_at dksX6_changes_0 15 rfl rfl)
theorem dX6_changes_18 : decode cX6_changes 18 = .ok (.invokestatic 42, 3) := dk_184 0 42 (dk_at dksX6_changes_0 18 rfl rfl)
theorem dX6_changes_21 : decode cX6_changes 21 = .ok (.iadd, 1) := dk_96 (dk_at dksX6_changes_0 21 rfl rfl)
theorem dX6_changes_22 : decode cX6_changes 22 = .ok (.istore_n 1, 1) := dk_60 (dk_at dksX6_changes_0 22 rfl rfl)
theorem dX6_changes_23 : decode cX6_changes 23 = .ok (.iinc 2 1, 3) := dk_132 2 1 (dk_at dksX6_changes_1 0 rfl rfl)
theorem dX6_changes_26 : decode cX6_changes 26 = .ok (.goto (-22), 3) := dk_167 255 234 (dk_at dksX6_changes_1 3 rfl rfl)
theorem dX6_changes_29 : decode cX6_changes 29 = .ok (.iload_n 1, 1) := dk_27 (dk_at dksX6_changes_1 6 rfl rfl)
theorem dX6_changes_30 : decode cX6_changes 30 = .ok (.ireturn, 1) := dk_172 (dk_at dksX6_changes_1 7 rfl rfl)
abbrev cX6_painted : ByteArray := prog_6_method_10_code
def yX6_painted : MethodName := ⟨RX6, "painted", "(III)LDotRuns$Line;"⟩
def dkwX6_painted_1 : List UInt8 := [167, 0, 17, 42, 180, 0, 15, 27, 28, 184, 0, 46, 20, 0, 50, 131, 127, 183, 0, 19, 176]
abbrev dktX6_painted_1 : List UInt8 := dkwX6_painted_1 ++ []
def dkwX6_painted_0 : List UInt8 := [187, 0, 10, 89, 42, 180, 0, 9, 29, 4, 160, 0, 16, 42, 180, 0, 15, 27, 28, 184, 0, 46, 129]
abbrev dktX6_painted_0 : List UInt8 := dkwX6_painted_0 ++ dktX6_painted_1
theorem dksX6_painted_0 : cX6_painted.data.toList.drop 0 = dktX6_painted_0 := by decide +kernel
theorem dksX6_painted_1 : cX6_painted.data.toList.drop 23 = dktX6_painted_1 := dk_seg dksX6_painted_0 23 rfl rfl
theorem dX6_painted_0 : decode cX6_painted 0 = .ok (.new 10, 3) := dk_187 0 10 (dk_at dksX6_painted_0 0 rfl rfl)
theorem dX6_painted_3 : decode cX6_painted 3 = .ok (.dup, 1) := dk_89 (dk_at dksX6_painted_0 3 rfl rfl)
theorem dX6_painted_4 : decode cX6_painted 4 = .ok (.aload_n 0, 1) := dk_42 (dk_at dksX6_painted_0 4 rfl rfl)
theorem dX6_painted_5 : decode cX6_painted 5 = .ok (.getfield 9, 3) := dk_180 0 9 (dk_at dksX6_painted_0 5 rfl rfl)
theorem dX6_painted_8 : decode cX6_painted 8 = .ok (.iload_n 3, 1) := dk_29 (dk_at dksX6_painted_0 8 rfl rfl)
theorem dX6_painted_9 : decode cX6_painted 9 = .ok (.iconst 1, 1) := dk_4 (dk_at dksX6_painted_0 9 rfl rfl)
theorem dX6_painted_10 : decode cX6_painted 10 = .ok (.if_icmp .ne 16, 3) := dk_160 0 16 (dk_at dksX6_painted_0 10 rfl rfl)
theorem dX6_painted_13 : decode cX6_painted 13 = .ok (.aload_n 0, 1) := dk_42 (dk_at dksX6_painted_0 13 rfl rfl)
theorem dX6_painted_14 : decode cX6_painted 14 = .ok (.getfield 15, 3) := dk_180 0 15 (dk_at dksX6_painted_0 14 rfl rfl)
theorem dX6_painted_17 : decode cX6_painted 17 = .ok (.iload_n 1, 1) := dk_27 (dk_at dksX6_painted_0 17 rfl rfl)
theorem dX6_painted_18 : decode cX6_painted 18 = .ok (.iload_n 2, 1) := dk_28 (dk_at dksX6_painted_0 18 rfl rfl)
theorem dX6_painted_19 : decode cX6_painted 19 = .ok (.invokestatic 46, 3) := dk_184 0 46 (dk_at dksX6_painted_0 19 rfl rfl)
theorem dX6_painted_22 : decode cX6_painted 22 = .ok (.lor, 1) := dk_129 (dk_at dksX6_painted_0 22 rfl rfl)
theorem dX6_painted_23 : decode cX6_painted 23 = .ok (.goto 17, 3) := dk_167 0 17 (dk_at dksX6_painted_1 0 rfl rfl)
theorem dX6_painted_26 : decode cX6_painted 26 = .ok (.aload_n 0, 1) := dk_42 (dk_at dksX6_painted_1 3 rfl rfl)
theorem dX6_painted_27 : decode cX6_painted 27 = .ok (.getfield 15, 3) := dk_180 0 15 (dk_at dksX6_painted_1 4 rfl rfl)
theorem dX6_painted_30 : decode cX6_painted 30 = .ok (.iload_n 1, 1) := dk_27 (dk_at dksX6_painted_1 7 rfl rfl)
theorem dX6_painted_31 : decode cX6_painted 31 = .ok (.iload_n 2, 1) := dk_28 (dk_at dksX6_painted_1 8 rfl rfl)
theorem dX6_painted_32 : decode cX6_painted 32 = .ok (.invokestatic 46, 3) := dk_184 0 46 (dk_at dksX6_painted_1 9 rfl rfl)
theorem dX6_painted_35 : decode cX6_painted 35 = .ok (.ldc2_w 50, 3) := dk_20 0 50 (dk_at dksX6_painted_1 12 rfl rfl)
theorem dX6_painted_38 : decode cX6_painted 38 = .ok (.lxor, 1) := dk_131 (dk_at dksX6_painted_1 15 rfl rfl)
theorem dX6_painted_39 : decode cX6_painted 39 = .ok (.land, 1) := dk_127 (dk_at dksX6_painted_1 16 rfl rfl)
theorem dX6_painted_40 : decode cX6_painted 40 = .ok (.invokespecial 19, 3) := dk_183 0 19 (dk_at dksX6_painted_1 17 rfl rfl)
theorem dX6_painted_43 : decode cX6_painted 43 = .ok (.areturn, 1) := dk_176 (dk_at dksX6_painted_1 20 rfl rfl)
abbrev cX6_shifted : ByteArray := prog_6_method_11_code
def yX6_shifted : MethodName := ⟨RX6, "shifted", "(I)LDotRuns$Line;"⟩
def dkwX6_shifted_1 : List UInt8 := [180, 0, 15, 27, 116, 125, 3, 42, 180, 0, 9, 184, 0, 46, 127, 183, 0, 19, 176]
abbrev dktX6_shifted_1 : List UInt8 := dkwX6_shifted_1 ++ []
def dkwX6_shifted_0 : List UInt8 := [187, 0, 10, 89, 42, 180, 0, 9, 27, 155, 0, 12, 42, 180, 0, 15, 27, 121, 167, 0, 10, 42]
abbrev dktX6_shifted_0 : List UInt8 := dkwX6_shifted_0 ++ dktX6_shifted_1
theorem dksX6_shifted_0 : cX6_shifted.data.toList.drop 0 = dktX6_shifted_0 := by decide +kernel
theorem dksX6_shifted_1 : cX6_shifted.data.toList.drop 22 = dktX6_shifted_1 := dk_seg dksX6_shifted_0 22 rfl rfl
theorem dX6_shifted_0 : decode cX6_shifted 0 = .ok (.new 10, 3) := dk_187 0 10 (dk_at dksX6_shifted_0 0 rfl rfl)
theorem dX6_shifted_3 : decode cX6_shifted 3 = .ok (.dup, 1) := dk_89 (dk_at dksX6_shifted_0 3 rfl rfl)
theorem dX6_shifted_4 : decode cX6_shifted 4 = .ok (.aload_n 0, 1) := dk_42 (dk_at dksX6_shifted_0 4 rfl rfl)
theorem dX6_shifted_5 : decode cX6_shifted 5 = .ok (.getfield 9, 3) := dk_180 0 9 (dk_at dksX6_shifted_0 5 rfl rfl)
theorem dX6_shifted_8 : decode cX6_shifted 8 = .ok (.iload_n 1, 1) := dk_27 (dk_at dksX6_shifted_0 8 rfl rfl)
theorem dX6_shifted_9 : decode cX6_shifted 9 = .ok (.ifCond .lt 12, 3) := dk_155 0 12 (dk_at dksX6_shifted_0 9 rfl rfl)
theorem dX6_shifted_12 : decode cX6_shifted 12 = .ok (.aload_n 0, 1) := dk_42 (dk_at dksX6_shifted_0 12 rfl rfl)
theorem dX6_shifted_13 : decode cX6_shifted 13 = .ok (.getfield 15, 3) := dk_180 0 15 (dk_at dksX6_shifted_0 13 rfl rfl)
theorem dX6_shifted_16 : decode cX6_shifted 16 = .ok (.iload_n 1, 1) := dk_27 (dk_at dksX6_shifted_0 16 rfl rfl)
theorem dX6_shifted_17 : decode cX6_shifted 17 = .ok (.lshl, 1) := dk_121 (dk_at dksX6_shifted_0 17 rfl rfl)
theorem dX6_shifted_18 : decode cX6_shifted 18 = .ok (.goto 10, 3) := dk_167 0 10 (dk_at dksX6_shifted_0 18 rfl rfl)
theorem dX6_shifted_21 : decode cX6_shifted 21 = .ok (.aload_n 0, 1) := dk_42 (dk_at dksX6_shifted_0 21 rfl rfl)
theorem dX6_shifted_22 : decode cX6_shifted 22 = .ok (.getfield 15, 3) := dk_180 0 15 (dk_at dksX6_shifted_1 0 rfl rfl)
theorem dX6_shifted_25 : decode cX6_shifted 25 = .ok (.iload_n 1, 1) := dk_27 (dk_at dksX6_shifted_1 3 rfl rfl)
theorem dX6_shifted_26 : decode cX6_shifted 26 = .ok (.ineg, 1) := dk_116 (dk_at dksX6_shifted_1 4 rfl rfl)
theorem dX6_shifted_27 : decode cX6_shifted 27 = .ok (.lushr, 1) := dk_125 (dk_at dksX6_shifted_1 5 rfl rfl)
theorem dX6_shifted_28 : decode cX6_shifted 28 = .ok (.iconst 0, 1) := dk_3 (dk_at dksX6_shifted_1 6 rfl rfl)
theorem dX6_shifted_29 : decode cX6_shifted 29 = .ok (.aload_n 0, 1) := dk_42 (dk_at dksX6_shifted_1 7 rfl rfl)
theorem dX6_shifted_30 : decode cX6_shifted 30 = .ok (.getfield 9, 3) := dk_180 0 9 (dk_at dksX6_shifted_1 8 rfl rfl)
theorem dX6_shifted_33 : decode cX6_shifted 33 = .ok (.invokestatic 46, 3) := dk_184 0 46 (dk_at dksX6_shifted_1 11 rfl rfl)
theorem dX6_shifted_36 : decode cX6_shifted 36 = .ok (.land, 1) := dk_127 (dk_at dksX6_shifted_1 14 rfl rfl)
theorem dX6_shifted_37 : decode cX6_shifted 37 = .ok (.invokespecial 19, 3) := dk_183 0 19 (dk_at dksX6_shifted_1 15 rfl rfl)
theorem dX6_shifted_40 : decode cX6_shifted 40 = .ok (.areturn, 1) := dk_176 (dk_at dksX6_shifted_1 18 rfl rfl)
abbrev cX6_length : ByteArray := prog_6_method_14_code
def yX6_length : MethodName := ⟨RX6, "length", "()I"⟩
theorem dX6_length_0 : decode cX6_length 0 = .ok (.aload_n 0, 1) := by decide +kernel
theorem dX6_length_1 : decode cX6_length 1 = .ok (.getfield 9, 3) := by decide +kernel
theorem dX6_length_4 : decode cX6_length 4 = .ok (.ireturn, 1) := by decide +kernel
abbrev cX6_charAt : ByteArray := prog_6_method_15_code
def yX6_charAt : MethodName := ⟨RX6, "charAt", "(I)C"⟩
def dkwX6_charAt_0 : List UInt8 := [42, 27, 182, 0, 22, 4, 160, 0, 8, 16, 35, 167, 0, 5, 16, 46, 172]
abbrev dktX6_charAt_0 : List UInt8 := dkwX6_charAt_0 ++ []
theorem dksX6_charAt_0 : cX6_charAt.data.toList.drop 0 = dktX6_charAt_0 := by decide +kernel
theorem dX6_charAt_0 : decode cX6_charAt 0 = .ok (.aload_n 0, 1) := dk_42 (dk_at dksX6_charAt_0 0 rfl rfl)
theorem dX6_charAt_1 : decode cX6_charAt 1 = .ok (.iload_n 1, 1) := dk_27 (dk_at dksX6_charAt_0 1 rfl rfl)
theorem dX6_charAt_2 : decode cX6_charAt 2 = .ok (.invokevirtual 22, 3) := dk_182 0 22 (dk_at dksX6_charAt_0 2 rfl rfl)
theorem dX6_charAt_5 : decode cX6_charAt 5 = .ok (.iconst 1, 1) := dk_4 (dk_at dksX6_charAt_0 5 rfl rfl)
theorem dX6_charAt_6 : decode cX6_charAt 6 = .ok (.if_icmp .ne 8, 3) := dk_160 0 8 (dk_at dksX6_charAt_0 6 rfl rfl)
theorem dX6_charAt_9 : decode cX6_charAt 9 = .ok (.bipush 35, 2) := dk_16 35 (dk_at dksX6_charAt_0 9 rfl rfl)
theorem dX6_charAt_11 : decode cX6_charAt 11 = .ok (.goto 5, 3) := dk_167 0 5 (dk_at dksX6_charAt_0 11 rfl rfl)
theorem dX6_charAt_14 : decode cX6_charAt 14 = .ok (.bipush 46, 2) := dk_16 46 (dk_at dksX6_charAt_0 14 rfl rfl)
theorem dX6_charAt_16 : decode cX6_charAt 16 = .ok (.ireturn, 1) := dk_172 (dk_at dksX6_charAt_0 16 rfl rfl)
theorem q137 : (Jvm.Cond.initialized "DotRuns$Line") ∈ lw_all := lw_g (lw_at lw_m1 27 rfl) rfl
theorem q676 : (Jvm.Cond.instantiable "DotRuns$Line" (2 : Nat)) ∈ lw_all := lw_g (lw_at lw_m3 86 rfl) rfl
theorem q678 : (Jvm.Cond.instanceMethod ({ cls := "DotRuns$Line", name := "<init>", desc := "(I)V" } : Jvm.MethodName)) ∈ lw_all := lw_g (lw_at lw_m3 88 rfl) rfl
theorem q679 : (Jvm.Cond.code ({ cls := "DotRuns$Line", name := "<init>", desc := "(I)V" } : Jvm.MethodName) prog_6_method_2_code (2 : Nat) (Option.none : Option Jvm.ClassFile.FieldType)) ∈ lw_all := lw_g (lw_at lw_m3 89 rfl) rfl
theorem q680 : (Jvm.Cond.methodLink "DotRuns$Line" (19 : Nat) ({ cls := "DotRuns$Line", name := "<init>", desc := "(IJ)V" } : Jvm.MethodName)) ∈ lw_all := lw_g (lw_at lw_m3 90 rfl) rfl
theorem q681 : (Jvm.Cond.instanceMethod ({ cls := "DotRuns$Line", name := "<init>", desc := "(IJ)V" } : Jvm.MethodName)) ∈ lw_all := lw_g (lw_at lw_m3 91 rfl) rfl
theorem q682 : (Jvm.Cond.code ({ cls := "DotRuns$Line", name := "<init>", desc := "(IJ)V" } : Jvm.MethodName) prog_6_method_1_code (4 : Nat) (Option.none : Option Jvm.ClassFile.FieldType)) ∈ lw_all := lw_g (lw_at lw_m3 92 rfl) rfl
theorem q683 : (Jvm.Cond.methodLink "DotRuns$Line" (3 : Nat) ({ cls := "java/lang/Object", name := "<init>", desc := "()V" } : Jvm.MethodName)) ∈ lw_all := lw_g (lw_at lw_m3 93 rfl) rfl
theorem q684 : (Jvm.Cond.fieldLink "DotRuns$Line" (9 : Nat) "DotRuns$Line" "wide" "I") ∈ lw_all := lw_g (lw_at lw_m3 94 rfl) rfl
theorem q688 : (Jvm.Cond.fieldLink "DotRuns$Line" (15 : Nat) "DotRuns$Line" "bits" "J") ∈ lw_all := lw_g (lw_at lw_m3 98 rfl) rfl
theorem q690 : (Jvm.Cond.laysFinal "DotRuns$Line" "DotRuns$Line" "wide" "I") ∈ lw_all := lw_g (lw_at lw_m3 100 rfl) rfl
theorem q691 : (Jvm.Cond.soleField "DotRuns$Line" "wide") ∈ lw_all := lw_g (lw_at lw_m3 101 rfl) rfl
theorem q692 : (Jvm.Cond.laysFinal "DotRuns$Line" "DotRuns$Line" "bits" "J") ∈ lw_all := lw_g (lw_at lw_m3 102 rfl) rfl
theorem q693 : (Jvm.Cond.soleField "DotRuns$Line" "bits") ∈ lw_all := lw_g (lw_at lw_m3 103 rfl) rfl
theorem q694 : (Jvm.Cond.superclass "DotRuns$Line" "java/lang/Object") ∈ lw_all := lw_g (lw_at lw_m3 104 rfl) rfl
theorem q722 : (Jvm.Cond.instanceMethod ({ cls := "DotRuns$Line", name := "find", desc := "(II)I" } : Jvm.MethodName)) ∈ lw_all := lw_g (lw_at lw_m3 132 rfl) rfl
theorem q723 : (Jvm.Cond.selects "DotRuns$Line" ({ cls := "DotRuns$Line", name := "find", desc := "(II)I" } : Jvm.MethodName) ({ cls := "DotRuns$Line", name := "find", desc := "(II)I" } : Jvm.MethodName)) ∈ lw_all := lw_g (lw_at lw_m3 133 rfl) rfl
theorem q724 : (Jvm.Cond.code ({ cls := "DotRuns$Line", name := "find", desc := "(II)I" } : Jvm.MethodName) prog_6_method_5_code (4 : Nat) (Option.some Jvm.ClassFile.FieldType.int)) ∈ lw_all := lw_g (lw_at lw_m3 134 rfl) rfl
theorem q725 : (Jvm.Cond.methodLink "DotRuns$Line" (22 : Nat) ({ cls := "DotRuns$Line", name := "dot", desc := "(I)I" } : Jvm.MethodName)) ∈ lw_all := lw_g (lw_at lw_m3 135 rfl) rfl
theorem q726 : (Jvm.Cond.instanceMethod ({ cls := "DotRuns$Line", name := "dot", desc := "(I)I" } : Jvm.MethodName)) ∈ lw_all := lw_g (lw_at lw_m3 136 rfl) rfl
theorem q727 : (Jvm.Cond.selects "DotRuns$Line" ({ cls := "DotRuns$Line", name := "dot", desc := "(I)I" } : Jvm.MethodName) ({ cls := "DotRuns$Line", name := "dot", desc := "(I)I" } : Jvm.MethodName)) ∈ lw_all := lw_g (lw_at lw_m3 137 rfl) rfl
theorem q728 : (Jvm.Cond.code ({ cls := "DotRuns$Line", name := "dot", desc := "(I)I" } : Jvm.MethodName) prog_6_method_3_code (2 : Nat) (Option.some Jvm.ClassFile.FieldType.int)) ∈ lw_all := lw_g (lw_at lw_m3 138 rfl) rfl
theorem q782 : (Jvm.Cond.instanceMethod ({ cls := "DotRuns$Line", name := "change", desc := "(II)I" } : Jvm.MethodName)) ∈ lw_all := lw_g (lw_at lw_m3 192 rfl) rfl
theorem q783 : (Jvm.Cond.selects "DotRuns$Line" ({ cls := "DotRuns$Line", name := "change", desc := "(II)I" } : Jvm.MethodName) ({ cls := "DotRuns$Line", name := "change", desc := "(II)I" } : Jvm.MethodName)) ∈ lw_all := lw_g (lw_at lw_m3 193 rfl) rfl
theorem q784 : (Jvm.Cond.code ({ cls := "DotRuns$Line", name := "change", desc := "(II)I" } : Jvm.MethodName) prog_6_method_6_code (4 : Nat) (Option.some Jvm.ClassFile.FieldType.int)) ∈ lw_all := lw_g (lw_at lw_m3 194 rfl) rfl
theorem q785 : (Jvm.Cond.methodLink "DotRuns$Line" (26 : Nat) ({ cls := "java/lang/Math", name := "min", desc := "(II)I" } : Jvm.MethodName)) ∈ lw_all := lw_g (lw_at lw_m3 195 rfl) rfl
theorem q786 : (Jvm.Cond.methodLink "DotRuns$Line" (32 : Nat) ({ cls := "DotRuns$Line", name := "isChange", desc := "(I)Z" } : Jvm.MethodName)) ∈ lw_all := lw_g (lw_at lw_m3 196 rfl) rfl
theorem q787 : (Jvm.Cond.instanceMethod ({ cls := "DotRuns$Line", name := "isChange", desc := "(I)Z" } : Jvm.MethodName)) ∈ lw_all := lw_g (lw_at lw_m3 197 rfl) rfl
theorem q788 : (Jvm.Cond.selects "DotRuns$Line" ({ cls := "DotRuns$Line", name := "isChange", desc := "(I)Z" } : Jvm.MethodName) ({ cls := "DotRuns$Line", name := "isChange", desc := "(I)Z" } : Jvm.MethodName)) ∈ lw_all := lw_g (lw_at lw_m3 198 rfl) rfl
theorem q789 : (Jvm.Cond.code ({ cls := "DotRuns$Line", name := "isChange", desc := "(I)Z" } : Jvm.MethodName) prog_6_method_4_code (2 : Nat) (Option.some Jvm.ClassFile.FieldType.boolean)) ∈ lw_all := lw_g (lw_at lw_m3 199 rfl) rfl
theorem q853 : (Jvm.Cond.static ({ cls := "DotRuns$Line", name := "ones", desc := "(II)J" } : Jvm.MethodName)) ∈ lw_all := lw_g (lw_at lw_m4 23 rfl) rfl
theorem q854 : (Jvm.Cond.code ({ cls := "DotRuns$Line", name := "ones", desc := "(II)J" } : Jvm.MethodName) prog_6_method_9_code (2 : Nat) (Option.some Jvm.ClassFile.FieldType.long)) ∈ lw_all := lw_g (lw_at lw_m4 24 rfl) rfl
theorem q917 : (Jvm.Cond.selects "DotRuns$Line" ({ cls := "java/lang/Object", name := "getClass", desc := "()Ljava/lang/Class;" } : Jvm.MethodName) ({ cls := "java/lang/Object", name := "getClass", desc := "()Ljava/lang/Class;" } : Jvm.MethodName)) ∈ lw_all := lw_g (lw_at lw_m4 87 rfl) rfl
theorem q1151 : (Jvm.Cond.instanceMethod ({ cls := "DotRuns$Line", name := "isLike", desc := "(LDotRuns$Line;)Z" } : Jvm.MethodName)) ∈ lw_all := lw_g (lw_at lw_m5 81 rfl) rfl
theorem q1152 : (Jvm.Cond.selects "DotRuns$Line" ({ cls := "DotRuns$Line", name := "isLike", desc := "(LDotRuns$Line;)Z" } : Jvm.MethodName) ({ cls := "DotRuns$Line", name := "isLike", desc := "(LDotRuns$Line;)Z" } : Jvm.MethodName)) ∈ lw_all := lw_g (lw_at lw_m5 82 rfl) rfl
theorem q1153 : (Jvm.Cond.code ({ cls := "DotRuns$Line", name := "isLike", desc := "(LDotRuns$Line;)Z" } : Jvm.MethodName) prog_6_method_13_code (2 : Nat) (Option.some Jvm.ClassFile.FieldType.boolean)) ∈ lw_all := lw_g (lw_at lw_m5 83 rfl) rfl
theorem q1216 : (Jvm.Cond.instanceMethod ({ cls := "DotRuns$Line", name := "wrong", desc := "(LDotRuns$Line;)I" } : Jvm.MethodName)) ∈ lw_all := lw_g (lw_at lw_m5 146 rfl) rfl
theorem q1217 : (Jvm.Cond.selects "DotRuns$Line" ({ cls := "DotRuns$Line", name := "wrong", desc := "(LDotRuns$Line;)I" } : Jvm.MethodName) ({ cls := "DotRuns$Line", name := "wrong", desc := "(LDotRuns$Line;)I" } : Jvm.MethodName)) ∈ lw_all := lw_g (lw_at lw_m5 147 rfl) rfl
theorem q1218 : (Jvm.Cond.code ({ cls := "DotRuns$Line", name := "wrong", desc := "(LDotRuns$Line;)I" } : Jvm.MethodName) prog_6_method_12_code (2 : Nat) (Option.some Jvm.ClassFile.FieldType.int)) ∈ lw_all := lw_g (lw_at lw_m5 148 rfl) rfl
theorem q1219 : (Jvm.Cond.methodLink "DotRuns$Line" (36 : Nat) ({ cls := "java/lang/Long", name := "bitCount", desc := "(J)I" } : Jvm.MethodName)) ∈ lw_all := lw_g (lw_at lw_m5 149 rfl) rfl
theorem q1652 : (Jvm.Cond.instanceMethod ({ cls := "DotRuns$Line", name := "black", desc := "()I" } : Jvm.MethodName)) ∈ lw_all := lw_g (lw_at lw_m7 102 rfl) rfl
theorem q1653 : (Jvm.Cond.selects "DotRuns$Line" ({ cls := "DotRuns$Line", name := "black", desc := "()I" } : Jvm.MethodName) ({ cls := "DotRuns$Line", name := "black", desc := "()I" } : Jvm.MethodName)) ∈ lw_all := lw_g (lw_at lw_m7 103 rfl) rfl
theorem q1654 : (Jvm.Cond.code ({ cls := "DotRuns$Line", name := "black", desc := "()I" } : Jvm.MethodName) prog_6_method_7_code (1 : Nat) (Option.some Jvm.ClassFile.FieldType.int)) ∈ lw_all := lw_g (lw_at lw_m7 104 rfl) rfl
theorem q1670 : (Jvm.Cond.instanceMethod ({ cls := "DotRuns$Line", name := "changes", desc := "()I" } : Jvm.MethodName)) ∈ lw_all := lw_g (lw_at lw_m7 120 rfl) rfl
theorem q1671 : (Jvm.Cond.selects "DotRuns$Line" ({ cls := "DotRuns$Line", name := "changes", desc := "()I" } : Jvm.MethodName) ({ cls := "DotRuns$Line", name := "changes", desc := "()I" } : Jvm.MethodName)) ∈ lw_all := lw_g (lw_at lw_m7 121 rfl) rfl
theorem q1672 : (Jvm.Cond.code ({ cls := "DotRuns$Line", name := "changes", desc := "()I" } : Jvm.MethodName) prog_6_method_8_code (3 : Nat) (Option.some Jvm.ClassFile.FieldType.int)) ∈ lw_all := lw_g (lw_at lw_m7 122 rfl) rfl
theorem q1673 : (Jvm.Cond.methodLinkNest "DotRuns$Line" (42 : Nat) ({ cls := "DotRuns", name := "bit", desc := "(Z)I" } : Jvm.MethodName) "DotRuns") ∈ lw_tbl := lw_at lw_m7 123 rfl
theorem q1888 : (Jvm.Cond.instanceMethod ({ cls := "DotRuns$Line", name := "painted", desc := "(III)LDotRuns$Line;" } : Jvm.MethodName)) ∈ lw_all := lw_g (lw_at lw_m8 98 rfl) rfl
theorem q1889 : (Jvm.Cond.selects "DotRuns$Line" ({ cls := "DotRuns$Line", name := "painted", desc := "(III)LDotRuns$Line;" } : Jvm.MethodName) ({ cls := "DotRuns$Line", name := "painted", desc := "(III)LDotRuns$Line;" } : Jvm.MethodName)) ∈ lw_all := lw_g (lw_at lw_m8 99 rfl) rfl
theorem q1890 : (Jvm.Cond.code ({ cls := "DotRuns$Line", name := "painted", desc := "(III)LDotRuns$Line;" } : Jvm.MethodName) prog_6_method_10_code (4 : Nat) (Option.some (Jvm.ClassFile.FieldType.object "DotRuns$Line"))) ∈ lw_all := lw_g (lw_at lw_m8 100 rfl) rfl
theorem q1891 : (Jvm.Cond.classLink "DotRuns$Line" (10 : Nat) "DotRuns$Line") ∈ lw_all := lw_g (lw_at lw_m8 101 rfl) rfl
theorem q1892 : (Jvm.Cond.methodLink "DotRuns$Line" (46 : Nat) ({ cls := "DotRuns$Line", name := "ones", desc := "(II)J" } : Jvm.MethodName)) ∈ lw_all := lw_g (lw_at lw_m8 102 rfl) rfl
theorem q1893 : (Jvm.Cond.constantLong "DotRuns$Line" (50 : Nat) (-1 : Int64)) ∈ lw_all := lw_g (lw_at lw_m8 103 rfl) rfl
theorem q1911 : (Jvm.Cond.instanceMethod ({ cls := "DotRuns$Line", name := "shifted", desc := "(I)LDotRuns$Line;" } : Jvm.MethodName)) ∈ lw_all := lw_g (lw_at lw_m8 121 rfl) rfl
theorem q1912 : (Jvm.Cond.selects "DotRuns$Line" ({ cls := "DotRuns$Line", name := "shifted", desc := "(I)LDotRuns$Line;" } : Jvm.MethodName) ({ cls := "DotRuns$Line", name := "shifted", desc := "(I)LDotRuns$Line;" } : Jvm.MethodName)) ∈ lw_all := lw_g (lw_at lw_m8 122 rfl) rfl
theorem q1913 : (Jvm.Cond.code ({ cls := "DotRuns$Line", name := "shifted", desc := "(I)LDotRuns$Line;" } : Jvm.MethodName) prog_6_method_11_code (2 : Nat) (Option.some (Jvm.ClassFile.FieldType.object "DotRuns$Line"))) ∈ lw_all := lw_g (lw_at lw_m8 123 rfl) rfl
theorem q2120 : (Jvm.Cond.castable "DotRuns$Line" "java/lang/CharSequence") ∈ lw_tbl := lw_at lw_m9 90 rfl
theorem q2121 : (Jvm.Cond.selects "DotRuns$Line" ({ cls := "java/lang/CharSequence", name := "length", desc := "()I" } : Jvm.MethodName) ({ cls := "DotRuns$Line", name := "length", desc := "()I" } : Jvm.MethodName)) ∈ lw_all := lw_g (lw_at lw_m9 91 rfl) rfl
theorem q2122 : (Jvm.Cond.unhidden "DotRuns$Line" "length" "()I") ∈ lw_tbl := lw_at lw_m9 92 rfl
theorem q2123 : (Jvm.Cond.instanceMethod ({ cls := "DotRuns$Line", name := "length", desc := "()I" } : Jvm.MethodName)) ∈ lw_all := lw_g (lw_at lw_m9 93 rfl) rfl
theorem q2124 : (Jvm.Cond.publicMethod ({ cls := "DotRuns$Line", name := "length", desc := "()I" } : Jvm.MethodName)) ∈ lw_tbl := lw_at lw_m9 94 rfl
theorem q2125 : (Jvm.Cond.code ({ cls := "DotRuns$Line", name := "length", desc := "()I" } : Jvm.MethodName) prog_6_method_14_code (1 : Nat) (Option.some Jvm.ClassFile.FieldType.int)) ∈ lw_all := lw_g (lw_at lw_m9 95 rfl) rfl
theorem q2138 : (Jvm.Cond.selects "DotRuns$Line" ({ cls := "java/lang/CharSequence", name := "charAt", desc := "(I)C" } : Jvm.MethodName) ({ cls := "DotRuns$Line", name := "charAt", desc := "(I)C" } : Jvm.MethodName)) ∈ lw_all := lw_g (lw_at lw_m9 108 rfl) rfl
theorem q2139 : (Jvm.Cond.unhidden "DotRuns$Line" "charAt" "(I)C") ∈ lw_tbl := lw_at lw_m9 109 rfl
theorem q2140 : (Jvm.Cond.instanceMethod ({ cls := "DotRuns$Line", name := "charAt", desc := "(I)C" } : Jvm.MethodName)) ∈ lw_all := lw_g (lw_at lw_m9 110 rfl) rfl
theorem q2141 : (Jvm.Cond.publicMethod ({ cls := "DotRuns$Line", name := "charAt", desc := "(I)C" } : Jvm.MethodName)) ∈ lw_tbl := lw_at lw_m9 111 rfl
theorem q2142 : (Jvm.Cond.code ({ cls := "DotRuns$Line", name := "charAt", desc := "(I)C" } : Jvm.MethodName) prog_6_method_15_code (2 : Nat) (Option.some Jvm.ClassFile.FieldType.char)) ∈ lw_all := lw_g (lw_at lw_m9 112 rfl) rfl
theorem q2774 : (Jvm.Cond.castable "DotRuns$Line" "java/lang/Object") ∈ lw_tbl := lw_at lw_m12 24 rfl
theorem in_X6 : ∀ w ∈ wsX60, w ∈ lw_all := lw_in wsX60 [690, 692] (by decide +kernel) (by decide +kernel)

/-! DotRuns$Walk -/
set_option maxRecDepth 100000
def RX7 : String := "DotRuns$Walk"
def TX7 : u_T := fun k => match k with
  | 0 => ("DotRuns$Walk", "above", "LDotRuns$Line;", true)
  | 1 => ("DotRuns$Walk", "bits", "J", false)
  | 2 => ("DotRuns$Walk", "place", "I", false)
  | _ => ("DotRuns$Walk", "colour", "I", false)
def tyX7 : Nat → FieldType := fun k => match k with
  | 0 => .object "DotRuns$Line"
  | 1 => .long
  | 2 => .int
  | _ => .int
abbrev wsX70 : List Cond := u_ws RX7 TX7 4
theorem nmX7 : ∀ a, a < 4 → ∀ b, b < 4 → a ≠ b → (TX7 a).2.1 ≠ (TX7 b).2.1 := by decide +kernel
theorem tyX7_ok : ∀ k, k < 4 → parseFieldDescriptor (TX7 k).2.2.1 = some (tyX7 k) := by decide +kernel
abbrev cX7_init : ByteArray := prog_16_method_1_code
def yX7_init : MethodName := ⟨RX7, "<init>", "(LDotRuns$Line;)V"⟩
def dkwX7_init_0 : List UInt8 := [42, 183, 0, 3, 42, 2, 181, 0, 9, 42, 43, 181, 0, 15, 177]
abbrev dktX7_init_0 : List UInt8 := dkwX7_init_0 ++ []
theorem dksX7_init_0 : cX7_init.data.toList.drop 0 = dktX7_init_0 := by decide +kernel
theorem dX7_init_0 : decode cX7_init 0 = .ok (.aload_n 0, 1) := dk_42 (dk_at dksX7_init_0 0 rfl rfl)
theorem dX7_init_1 : decode cX7_init 1 = .ok (.invokespecial 3, 3) := dk_183 0 3 (dk_at dksX7_init_0 1 rfl rfl)
theorem dX7_init_4 : decode cX7_init 4 = .ok (.aload_n 0, 1) := dk_42 (dk_at dksX7_init_0 4 rfl rfl)
theorem dX7_init_5 : decode cX7_init 5 = .ok (.iconst (-1), 1) := dk_2 (dk_at dksX7_init_0 5 rfl rfl)
theorem dX7_init_6 : decode cX7_init 6 = .ok (.putfield 9, 3) := dk_181 0 9 (dk_at dksX7_init_0 6 rfl rfl)
theorem dX7_init_9 : decode cX7_init 9 = .ok (.aload_n 0, 1) := dk_42 (dk_at dksX7_init_0 9 rfl rfl)
theorem dX7_init_10 : decode cX7_init 10 = .ok (.aload_n 1, 1) := dk_43 (dk_at dksX7_init_0 10 rfl rfl)
theorem dX7_init_11 : decode cX7_init 11 = .ok (.putfield 15, 3) := dk_181 0 15 (dk_at dksX7_init_0 11 rfl rfl)
theorem dX7_init_14 : decode cX7_init 14 = .ok (.return_, 1) := dk_177 (dk_at dksX7_init_0 14 rfl rfl)
abbrev cX7_isOver : ByteArray := prog_16_method_8_code
def yX7_isOver : MethodName := ⟨RX7, "isOver", "()Z"⟩
def dkwX7_isOver_0 : List UInt8 := [42, 180, 0, 9, 42, 182, 0, 50, 160, 0, 7, 4, 167, 0, 4, 3, 172]
abbrev dktX7_isOver_0 : List UInt8 := dkwX7_isOver_0 ++ []
theorem dksX7_isOver_0 : cX7_isOver.data.toList.drop 0 = dktX7_isOver_0 := by decide +kernel
theorem dX7_isOver_0 : decode cX7_isOver 0 = .ok (.aload_n 0, 1) := dk_42 (dk_at dksX7_isOver_0 0 rfl rfl)
theorem dX7_isOver_1 : decode cX7_isOver 1 = .ok (.getfield 9, 3) := dk_180 0 9 (dk_at dksX7_isOver_0 1 rfl rfl)
theorem dX7_isOver_4 : decode cX7_isOver 4 = .ok (.aload_n 0, 1) := dk_42 (dk_at dksX7_isOver_0 4 rfl rfl)
theorem dX7_isOver_5 : decode cX7_isOver 5 = .ok (.invokevirtual 50, 3) := dk_182 0 50 (dk_at dksX7_isOver_0 5 rfl rfl)
theorem dX7_isOver_8 : decode cX7_isOver 8 = .ok (.if_icmp .ne 7, 3) := dk_160 0 7 (dk_at dksX7_isOver_0 8 rfl rfl)
theorem dX7_isOver_11 : decode cX7_isOver 11 = .ok (.iconst 1, 1) := dk_4 (dk_at dksX7_isOver_0 11 rfl rfl)
theorem dX7_isOver_12 : decode cX7_isOver 12 = .ok (.goto 4, 3) := dk_167 0 4 (dk_at dksX7_isOver_0 12 rfl rfl)
theorem dX7_isOver_15 : decode cX7_isOver 15 = .ok (.iconst 0, 1) := dk_3 (dk_at dksX7_isOver_0 15 rfl rfl)
theorem dX7_isOver_16 : decode cX7_isOver 16 = .ok (.ireturn, 1) := dk_172 (dk_at dksX7_isOver_0 16 rfl rfl)
abbrev cX7_wide : ByteArray := prog_16_method_3_code
def yX7_wide : MethodName := ⟨RX7, "wide", "()I"⟩
def dkwX7_wide_0 : List UInt8 := [42, 180, 0, 15, 180, 0, 21, 172]
abbrev dktX7_wide_0 : List UInt8 := dkwX7_wide_0 ++ []
theorem dksX7_wide_0 : cX7_wide.data.toList.drop 0 = dktX7_wide_0 := by decide +kernel
theorem dX7_wide_0 : decode cX7_wide 0 = .ok (.aload_n 0, 1) := dk_42 (dk_at dksX7_wide_0 0 rfl rfl)
theorem dX7_wide_1 : decode cX7_wide 1 = .ok (.getfield 15, 3) := dk_180 0 15 (dk_at dksX7_wide_0 1 rfl rfl)
theorem dX7_wide_4 : decode cX7_wide 4 = .ok (.getfield 21, 3) := dk_180 0 21 (dk_at dksX7_wide_0 4 rfl rfl)
theorem dX7_wide_7 : decode cX7_wide 7 = .ok (.ireturn, 1) := dk_172 (dk_at dksX7_wide_0 7 rfl rfl)
abbrev cX7_other : ByteArray := prog_16_method_5_code
def yX7_other : MethodName := ⟨RX7, "other", "()I"⟩
def dkwX7_other_0 : List UInt8 := [4, 42, 180, 0, 37, 100, 172]
abbrev dktX7_other_0 : List UInt8 := dkwX7_other_0 ++ []
theorem dksX7_other_0 : cX7_other.data.toList.drop 0 = dktX7_other_0 := by decide +kernel
theorem dX7_other_0 : decode cX7_other 0 = .ok (.iconst 1, 1) := dk_4 (dk_at dksX7_other_0 0 rfl rfl)
theorem dX7_other_1 : decode cX7_other 1 = .ok (.aload_n 0, 1) := dk_42 (dk_at dksX7_other_0 1 rfl rfl)
theorem dX7_other_2 : decode cX7_other 2 = .ok (.getfield 37, 3) := dk_180 0 37 (dk_at dksX7_other_0 2 rfl rfl)
theorem dX7_other_5 : decode cX7_other 5 = .ok (.isub, 1) := dk_100 (dk_at dksX7_other_0 5 rfl rfl)
theorem dX7_other_6 : decode cX7_other 6 = .ok (.ireturn, 1) := dk_172 (dk_at dksX7_other_0 6 rfl rfl)
abbrev cX7_changeAbove : ByteArray := prog_16_method_6_code
def yX7_changeAbove : MethodName := ⟨RX7, "changeAbove", "()I"⟩
def dkwX7_changeAbove_0 : List UInt8 := [42, 180, 0, 15, 42, 180, 0, 9, 4, 96, 42, 182, 0, 40, 182, 0, 44, 172]
abbrev dktX7_changeAbove_0 : List UInt8 := dkwX7_changeAbove_0 ++ []
theorem dksX7_changeAbove_0 : cX7_changeAbove.data.toList.drop 0 = dktX7_changeAbove_0 := by decide +kernel
theorem dX7_changeAbove_0 : decode cX7_changeAbove 0 = .ok (.aload_n 0, 1) := dk_42 (dk_at dksX7_changeAbove_0 0 rfl rfl)
theorem dX7_changeAbove_1 : decode cX7_changeAbove 1 = .ok (.getfield 15, 3) := dk_180 0 15 (dk_at dksX7_changeAbove_0 1 rfl rfl)
theorem dX7_changeAbove_4 : decode cX7_changeAbove 4 = .ok (.aload_n 0, 1) := dk_42 (dk_at dksX7_changeAbove_0 4 rfl rfl)
theorem dX7_changeAbove_5 : decode cX7_changeAbove 5 = .ok (.getfield 9, 3) := dk_180 0 9 (dk_at dksX7_changeAbove_0 5 rfl rfl)
theorem dX7_changeAbove_8 : decode cX7_changeAbove 8 = .ok (.iconst 1, 1) := dk_4 (dk_at dksX7_changeAbove_0 8 rfl rfl)
theorem dX7_changeAbove_9 : decode cX7_changeAbove 9 = .ok (.iadd, 1) := dk_96 (dk_at dksX7_changeAbove_0 9 rfl rfl)
theorem dX7_changeAbove_10 : decode cX7_changeAbove 10 = .ok (.aload_n 0, 1) := dk_42 (dk_at dksX7_changeAbove_0 10 rfl rfl)
theorem dX7_changeAbove_11 : decode cX7_changeAbove 11 = .ok (.invokevirtual 40, 3) := dk_182 0 40 (dk_at dksX7_changeAbove_0 11 rfl rfl)
theorem dX7_changeAbove_14 : decode cX7_changeAbove 14 = .ok (.invokevirtual 44, 3) := dk_182 0 44 (dk_at dksX7_changeAbove_0 14 rfl rfl)
theorem dX7_changeAbove_17 : decode cX7_changeAbove 17 = .ok (.ireturn, 1) := dk_172 (dk_at dksX7_changeAbove_0 17 rfl rfl)
abbrev cX7_nextAbove : ByteArray := prog_16_method_7_code
def yX7_nextAbove : MethodName := ⟨RX7, "nextAbove", "()I"⟩
def dkwX7_nextAbove_0 : List UInt8 := [42, 180, 0, 15, 42, 182, 0, 47, 4, 96, 2, 182, 0, 44, 172]
abbrev dktX7_nextAbove_0 : List UInt8 := dkwX7_nextAbove_0 ++ []
theorem dksX7_nextAbove_0 : cX7_nextAbove.data.toList.drop 0 = dktX7_nextAbove_0 := by decide +kernel
theorem dX7_nextAbove_0 : decode cX7_nextAbove 0 = .ok (.aload_n 0, 1) := dk_42 (dk_at dksX7_nextAbove_0 0 rfl rfl)
theorem dX7_nextAbove_1 : decode cX7_nextAbove 1 = .ok (.getfield 15, 3) := dk_180 0 15 (dk_at dksX7_nextAbove_0 1 rfl rfl)
theorem dX7_nextAbove_4 : decode cX7_nextAbove 4 = .ok (.aload_n 0, 1) := dk_42 (dk_at dksX7_nextAbove_0 4 rfl rfl)
theorem dX7_nextAbove_5 : decode cX7_nextAbove 5 = .ok (.invokevirtual 47, 3) := dk_182 0 47 (dk_at dksX7_nextAbove_0 5 rfl rfl)
theorem dX7_nextAbove_8 : decode cX7_nextAbove 8 = .ok (.iconst 1, 1) := dk_4 (dk_at dksX7_nextAbove_0 8 rfl rfl)
theorem dX7_nextAbove_9 : decode cX7_nextAbove 9 = .ok (.iadd, 1) := dk_96 (dk_at dksX7_nextAbove_0 9 rfl rfl)
theorem dX7_nextAbove_10 : decode cX7_nextAbove 10 = .ok (.iconst (-1), 1) := dk_2 (dk_at dksX7_nextAbove_0 10 rfl rfl)
theorem dX7_nextAbove_11 : decode cX7_nextAbove 11 = .ok (.invokevirtual 44, 3) := dk_182 0 44 (dk_at dksX7_nextAbove_0 11 rfl rfl)
theorem dX7_nextAbove_14 : decode cX7_nextAbove 14 = .ok (.ireturn, 1) := dk_172 (dk_at dksX7_nextAbove_0 14 rfl rfl)
abbrev cX7_start : ByteArray := prog_16_method_4_code
def yX7_start : MethodName := ⟨RX7, "start", "()I"⟩
def dkwX7_start_0 : List UInt8 := [42, 180, 0, 9, 3, 184, 0, 31, 172]
abbrev dktX7_start_0 : List UInt8 := dkwX7_start_0 ++ []
theorem dksX7_start_0 : cX7_start.data.toList.drop 0 = dktX7_start_0 := by decide +kernel
theorem dX7_start_0 : decode cX7_start 0 = .ok (.aload_n 0, 1) := dk_42 (dk_at dksX7_start_0 0 rfl rfl)
theorem dX7_start_1 : decode cX7_start 1 = .ok (.getfield 9, 3) := dk_180 0 9 (dk_at dksX7_start_0 1 rfl rfl)
theorem dX7_start_4 : decode cX7_start 4 = .ok (.iconst 0, 1) := dk_3 (dk_at dksX7_start_0 4 rfl rfl)
theorem dX7_start_5 : decode cX7_start 5 = .ok (.invokestatic 31, 3) := dk_184 0 31 (dk_at dksX7_start_0 5 rfl rfl)
theorem dX7_start_8 : decode cX7_start 8 = .ok (.ireturn, 1) := dk_172 (dk_at dksX7_start_0 8 rfl rfl)
abbrev cX7_paints : ByteArray := prog_16_method_9_code
def yX7_paints : MethodName := ⟨RX7, "paints", "(II)V"⟩
def dkwX7_paints_1 : List UInt8 := [184, 0, 55, 129, 181, 0, 24, 177]
abbrev dktX7_paints_1 : List UInt8 := dkwX7_paints_1 ++ []
def dkwX7_paints_0 : List UInt8 := [27, 42, 182, 0, 52, 164, 0, 25, 28, 4, 160, 0, 20, 42, 89, 180, 0, 24, 42, 182, 0, 52, 27]
abbrev dktX7_paints_0 : List UInt8 := dkwX7_paints_0 ++ dktX7_paints_1
theorem dksX7_paints_0 : cX7_paints.data.toList.drop 0 = dktX7_paints_0 := by decide +kernel
theorem dksX7_paints_1 : cX7_paints.data.toList.drop 23 = dktX7_paints_1 := dk_seg dksX7_paints_0 23 rfl rfl
theorem dX7_paints_0 : decode cX7_paints 0 = .ok (.iload_n 1, 1) := dk_27 (dk_at dksX7_paints_0 0 rfl rfl)
theorem dX7_paints_1 : decode cX7_paints 1 = .ok (.aload_n 0, 1) := dk_42 (dk_at dksX7_paints_0 1 rfl rfl)
theorem dX7_paints_2 : decode cX7_paints 2 = .ok (.invokevirtual 52, 3) := dk_182 0 52 (dk_at dksX7_paints_0 2 rfl rfl)
theorem dX7_paints_5 : decode cX7_paints 5 = .ok (.if_icmp .le 25, 3) := dk_164 0 25 (dk_at dksX7_paints_0 5 rfl rfl)
theorem dX7_paints_8 : decode cX7_paints 8 = .ok (.iload_n 2, 1) := dk_28 (dk_at dksX7_paints_0 8 rfl rfl)
theorem dX7_paints_9 : decode cX7_paints 9 = .ok (.iconst 1, 1) := dk_4 (dk_at dksX7_paints_0 9 rfl rfl)
theorem dX7_paints_10 : decode cX7_paints 10 = .ok (.if_icmp .ne 20, 3) := dk_160 0 20 (dk_at dksX7_paints_0 10 rfl rfl)
theorem dX7_paints_13 : decode cX7_paints 13 = .ok (.aload_n 0, 1) := dk_42 (dk_at dksX7_paints_0 13 rfl rfl)
theorem dX7_paints_14 : decode cX7_paints 14 = .ok (.dup, 1) := dk_89 (dk_at dksX7_paints_0 14 rfl rfl)
theorem dX7_paints_15 : decode cX7_paints 15 = .ok (.getfield 24, 3) := dk_180 0 24 (dk_at dksX7_paints_0 15 rfl rfl)
theorem dX7_paints_18 : decode cX7_paints 18 = .ok (.aload_n 0, 1) := dk_42 (dk_at dksX7_paints_0 18 rfl rfl)
theorem dX7_paints_19 : decode cX7_paints 19 = .ok (.invokevirtual 52, 3) := dk_182 0 52 (dk_at dksX7_paints_0 19 rfl rfl)
theorem dX7_paints_22 : decode cX7_paints 22 = .ok (.iload_n 1, 1) := dk_27 (dk_at dksX7_paints_0 22 rfl rfl)
theorem dX7_paints_23 : decode cX7_paints 23 = .ok (.invokestatic 55, 3) := dk_184 0 55 (dk_at dksX7_paints_1 0 rfl rfl)
theorem dX7_paints_26 : decode cX7_paints 26 = .ok (.lor, 1) := dk_129 (dk_at dksX7_paints_1 3 rfl rfl)
theorem dX7_paints_27 : decode cX7_paints 27 = .ok (.putfield 24, 3) := dk_181 0 24 (dk_at dksX7_paints_1 4 rfl rfl)
theorem dX7_paints_30 : decode cX7_paints 30 = .ok (.return_, 1) := dk_177 (dk_at dksX7_paints_1 7 rfl rfl)
abbrev cX7_goesTo : ByteArray := prog_16_method_10_code
def yX7_goesTo : MethodName := ⟨RX7, "goesTo", "(I)V"⟩
def dkwX7_goesTo_0 : List UInt8 := [42, 27, 181, 0, 9, 177]
abbrev dktX7_goesTo_0 : List UInt8 := dkwX7_goesTo_0 ++ []
theorem dksX7_goesTo_0 : cX7_goesTo.data.toList.drop 0 = dktX7_goesTo_0 := by decide +kernel
theorem dX7_goesTo_0 : decode cX7_goesTo 0 = .ok (.aload_n 0, 1) := dk_42 (dk_at dksX7_goesTo_0 0 rfl rfl)
theorem dX7_goesTo_1 : decode cX7_goesTo 1 = .ok (.iload_n 1, 1) := dk_27 (dk_at dksX7_goesTo_0 1 rfl rfl)
theorem dX7_goesTo_2 : decode cX7_goesTo 2 = .ok (.putfield 9, 3) := dk_181 0 9 (dk_at dksX7_goesTo_0 2 rfl rfl)
theorem dX7_goesTo_5 : decode cX7_goesTo 5 = .ok (.return_, 1) := dk_177 (dk_at dksX7_goesTo_0 5 rfl rfl)
abbrev cX7_turns : ByteArray := prog_16_method_11_code
def yX7_turns : MethodName := ⟨RX7, "turns", "()V"⟩
def dkwX7_turns_0 : List UInt8 := [42, 42, 182, 0, 40, 181, 0, 37, 177]
abbrev dktX7_turns_0 : List UInt8 := dkwX7_turns_0 ++ []
theorem dksX7_turns_0 : cX7_turns.data.toList.drop 0 = dktX7_turns_0 := by decide +kernel
theorem dX7_turns_0 : decode cX7_turns 0 = .ok (.aload_n 0, 1) := dk_42 (dk_at dksX7_turns_0 0 rfl rfl)
theorem dX7_turns_1 : decode cX7_turns 1 = .ok (.aload_n 0, 1) := dk_42 (dk_at dksX7_turns_0 1 rfl rfl)
theorem dX7_turns_2 : decode cX7_turns 2 = .ok (.invokevirtual 40, 3) := dk_182 0 40 (dk_at dksX7_turns_0 2 rfl rfl)
theorem dX7_turns_5 : decode cX7_turns 5 = .ok (.putfield 37, 3) := dk_181 0 37 (dk_at dksX7_turns_0 5 rfl rfl)
theorem dX7_turns_8 : decode cX7_turns 8 = .ok (.return_, 1) := dk_177 (dk_at dksX7_turns_0 8 rfl rfl)
abbrev cX7_made : ByteArray := prog_16_method_2_code
def yX7_made : MethodName := ⟨RX7, "made", "()LDotRuns$Line;"⟩
def dkwX7_made_0 : List UInt8 := [187, 0, 19, 89, 42, 180, 0, 15, 180, 0, 21, 42, 180, 0, 24, 183, 0, 28, 176]
abbrev dktX7_made_0 : List UInt8 := dkwX7_made_0 ++ []
theorem dksX7_made_0 : cX7_made.data.toList.drop 0 = dktX7_made_0 := by decide +kernel
theorem dX7_made_0 : decode cX7_made 0 = .ok (.new 19, 3) := dk_187 0 19 (dk_at dksX7_made_0 0 rfl rfl)
theorem dX7_made_3 : decode cX7_made 3 = .ok (.dup, 1) := dk_89 (dk_at dksX7_made_0 3 rfl rfl)
theorem dX7_made_4 : decode cX7_made 4 = .ok (.aload_n 0, 1) := dk_42 (dk_at dksX7_made_0 4 rfl rfl)
theorem dX7_made_5 : decode cX7_made 5 = .ok (.getfield 15, 3) := dk_180 0 15 (dk_at dksX7_made_0 5 rfl rfl)
theorem dX7_made_8 : decode cX7_made 8 = .ok (.getfield 21, 3) := dk_180 0 21 (dk_at dksX7_made_0 8 rfl rfl)
theorem dX7_made_11 : decode cX7_made 11 = .ok (.aload_n 0, 1) := dk_42 (dk_at dksX7_made_0 11 rfl rfl)
theorem dX7_made_12 : decode cX7_made 12 = .ok (.getfield 24, 3) := dk_180 0 24 (dk_at dksX7_made_0 12 rfl rfl)
theorem dX7_made_15 : decode cX7_made 15 = .ok (.invokespecial 28, 3) := dk_183 0 28 (dk_at dksX7_made_0 15 rfl rfl)
theorem dX7_made_18 : decode cX7_made 18 = .ok (.areturn, 1) := dk_176 (dk_at dksX7_made_0 18 rfl rfl)
theorem q138 : (Jvm.Cond.initialized "DotRuns$Walk") ∈ lw_all := lw_g (lw_at lw_m1 28 rfl) rfl
theorem q685 : (Jvm.Cond.fieldLinkNest "DotRuns$Walk" (21 : Nat) "DotRuns$Line" "wide" "I" "DotRuns") ∈ lw_tbl := lw_at lw_m3 95 rfl
theorem q734 : (Jvm.Cond.instantiable "DotRuns$Walk" (4 : Nat)) ∈ lw_all := lw_g (lw_at lw_m3 144 rfl) rfl
theorem q736 : (Jvm.Cond.instanceMethod ({ cls := "DotRuns$Walk", name := "<init>", desc := "(LDotRuns$Line;)V" } : Jvm.MethodName)) ∈ lw_all := lw_g (lw_at lw_m3 146 rfl) rfl
theorem q737 : (Jvm.Cond.code ({ cls := "DotRuns$Walk", name := "<init>", desc := "(LDotRuns$Line;)V" } : Jvm.MethodName) prog_16_method_1_code (2 : Nat) (Option.none : Option Jvm.ClassFile.FieldType)) ∈ lw_all := lw_g (lw_at lw_m3 147 rfl) rfl
theorem q738 : (Jvm.Cond.methodLink "DotRuns$Walk" (3 : Nat) ({ cls := "java/lang/Object", name := "<init>", desc := "()V" } : Jvm.MethodName)) ∈ lw_all := lw_g (lw_at lw_m3 148 rfl) rfl
theorem q739 : (Jvm.Cond.fieldLink "DotRuns$Walk" (15 : Nat) "DotRuns$Walk" "above" "LDotRuns$Line;") ∈ lw_all := lw_g (lw_at lw_m3 149 rfl) rfl
theorem q740 : (Jvm.Cond.fieldLink "DotRuns$Walk" (24 : Nat) "DotRuns$Walk" "bits" "J") ∈ lw_all := lw_g (lw_at lw_m3 150 rfl) rfl
theorem q741 : (Jvm.Cond.fieldLink "DotRuns$Walk" (9 : Nat) "DotRuns$Walk" "place" "I") ∈ lw_all := lw_g (lw_at lw_m3 151 rfl) rfl
theorem q747 : (Jvm.Cond.fieldLink "DotRuns$Walk" (37 : Nat) "DotRuns$Walk" "colour" "I") ∈ lw_all := lw_g (lw_at lw_m3 157 rfl) rfl
theorem q751 : (Jvm.Cond.laysFinal "DotRuns$Walk" "DotRuns$Walk" "above" "LDotRuns$Line;") ∈ lw_all := lw_g (lw_at lw_m3 161 rfl) rfl
theorem q752 : (Jvm.Cond.soleField "DotRuns$Walk" "above") ∈ lw_all := lw_g (lw_at lw_m3 162 rfl) rfl
theorem q753 : (Jvm.Cond.lays "DotRuns$Walk" "DotRuns$Walk" "bits" "J") ∈ lw_all := lw_g (lw_at lw_m3 163 rfl) rfl
theorem q754 : (Jvm.Cond.soleField "DotRuns$Walk" "bits") ∈ lw_all := lw_g (lw_at lw_m3 164 rfl) rfl
theorem q755 : (Jvm.Cond.lays "DotRuns$Walk" "DotRuns$Walk" "place" "I") ∈ lw_all := lw_g (lw_at lw_m3 165 rfl) rfl
theorem q756 : (Jvm.Cond.soleField "DotRuns$Walk" "place") ∈ lw_all := lw_g (lw_at lw_m3 166 rfl) rfl
theorem q757 : (Jvm.Cond.lays "DotRuns$Walk" "DotRuns$Walk" "colour" "I") ∈ lw_all := lw_g (lw_at lw_m3 167 rfl) rfl
theorem q758 : (Jvm.Cond.soleField "DotRuns$Walk" "colour") ∈ lw_all := lw_g (lw_at lw_m3 168 rfl) rfl
theorem q759 : (Jvm.Cond.superclass "DotRuns$Walk" "java/lang/Object") ∈ lw_all := lw_g (lw_at lw_m3 169 rfl) rfl
theorem q761 : (Jvm.Cond.instanceMethod ({ cls := "DotRuns$Walk", name := "isOver", desc := "()Z" } : Jvm.MethodName)) ∈ lw_all := lw_g (lw_at lw_m3 171 rfl) rfl
theorem q762 : (Jvm.Cond.selects "DotRuns$Walk" ({ cls := "DotRuns$Walk", name := "isOver", desc := "()Z" } : Jvm.MethodName) ({ cls := "DotRuns$Walk", name := "isOver", desc := "()Z" } : Jvm.MethodName)) ∈ lw_all := lw_g (lw_at lw_m3 172 rfl) rfl
theorem q763 : (Jvm.Cond.code ({ cls := "DotRuns$Walk", name := "isOver", desc := "()Z" } : Jvm.MethodName) prog_16_method_8_code (1 : Nat) (Option.some Jvm.ClassFile.FieldType.boolean)) ∈ lw_all := lw_g (lw_at lw_m3 173 rfl) rfl
theorem q764 : (Jvm.Cond.methodLink "DotRuns$Walk" (50 : Nat) ({ cls := "DotRuns$Walk", name := "wide", desc := "()I" } : Jvm.MethodName)) ∈ lw_all := lw_g (lw_at lw_m3 174 rfl) rfl
theorem q765 : (Jvm.Cond.instanceMethod ({ cls := "DotRuns$Walk", name := "wide", desc := "()I" } : Jvm.MethodName)) ∈ lw_all := lw_g (lw_at lw_m3 175 rfl) rfl
theorem q766 : (Jvm.Cond.selects "DotRuns$Walk" ({ cls := "DotRuns$Walk", name := "wide", desc := "()I" } : Jvm.MethodName) ({ cls := "DotRuns$Walk", name := "wide", desc := "()I" } : Jvm.MethodName)) ∈ lw_all := lw_g (lw_at lw_m3 176 rfl) rfl
theorem q767 : (Jvm.Cond.code ({ cls := "DotRuns$Walk", name := "wide", desc := "()I" } : Jvm.MethodName) prog_16_method_3_code (1 : Nat) (Option.some Jvm.ClassFile.FieldType.int)) ∈ lw_all := lw_g (lw_at lw_m3 177 rfl) rfl
theorem q772 : (Jvm.Cond.instanceMethod ({ cls := "DotRuns$Walk", name := "other", desc := "()I" } : Jvm.MethodName)) ∈ lw_all := lw_g (lw_at lw_m3 182 rfl) rfl
theorem q773 : (Jvm.Cond.selects "DotRuns$Walk" ({ cls := "DotRuns$Walk", name := "other", desc := "()I" } : Jvm.MethodName) ({ cls := "DotRuns$Walk", name := "other", desc := "()I" } : Jvm.MethodName)) ∈ lw_all := lw_g (lw_at lw_m3 183 rfl) rfl
theorem q774 : (Jvm.Cond.code ({ cls := "DotRuns$Walk", name := "other", desc := "()I" } : Jvm.MethodName) prog_16_method_5_code (1 : Nat) (Option.some Jvm.ClassFile.FieldType.int)) ∈ lw_all := lw_g (lw_at lw_m3 184 rfl) rfl
theorem q777 : (Jvm.Cond.instanceMethod ({ cls := "DotRuns$Walk", name := "changeAbove", desc := "()I" } : Jvm.MethodName)) ∈ lw_all := lw_g (lw_at lw_m3 187 rfl) rfl
theorem q778 : (Jvm.Cond.selects "DotRuns$Walk" ({ cls := "DotRuns$Walk", name := "changeAbove", desc := "()I" } : Jvm.MethodName) ({ cls := "DotRuns$Walk", name := "changeAbove", desc := "()I" } : Jvm.MethodName)) ∈ lw_all := lw_g (lw_at lw_m3 188 rfl) rfl
theorem q779 : (Jvm.Cond.code ({ cls := "DotRuns$Walk", name := "changeAbove", desc := "()I" } : Jvm.MethodName) prog_16_method_6_code (1 : Nat) (Option.some Jvm.ClassFile.FieldType.int)) ∈ lw_all := lw_g (lw_at lw_m3 189 rfl) rfl
theorem q780 : (Jvm.Cond.methodLink "DotRuns$Walk" (40 : Nat) ({ cls := "DotRuns$Walk", name := "other", desc := "()I" } : Jvm.MethodName)) ∈ lw_all := lw_g (lw_at lw_m3 190 rfl) rfl
theorem q781 : (Jvm.Cond.methodLink "DotRuns$Walk" (44 : Nat) ({ cls := "DotRuns$Line", name := "change", desc := "(II)I" } : Jvm.MethodName)) ∈ lw_all := lw_g (lw_at lw_m3 191 rfl) rfl
theorem q791 : (Jvm.Cond.instanceMethod ({ cls := "DotRuns$Walk", name := "nextAbove", desc := "()I" } : Jvm.MethodName)) ∈ lw_all := lw_g (lw_at lw_m3 201 rfl) rfl
theorem q792 : (Jvm.Cond.selects "DotRuns$Walk" ({ cls := "DotRuns$Walk", name := "nextAbove", desc := "()I" } : Jvm.MethodName) ({ cls := "DotRuns$Walk", name := "nextAbove", desc := "()I" } : Jvm.MethodName)) ∈ lw_all := lw_g (lw_at lw_m3 202 rfl) rfl
theorem q793 : (Jvm.Cond.code ({ cls := "DotRuns$Walk", name := "nextAbove", desc := "()I" } : Jvm.MethodName) prog_16_method_7_code (1 : Nat) (Option.some Jvm.ClassFile.FieldType.int)) ∈ lw_all := lw_g (lw_at lw_m3 203 rfl) rfl
theorem q794 : (Jvm.Cond.methodLink "DotRuns$Walk" (47 : Nat) ({ cls := "DotRuns$Walk", name := "changeAbove", desc := "()I" } : Jvm.MethodName)) ∈ lw_all := lw_g (lw_at lw_m3 204 rfl) rfl
theorem q818 : (Jvm.Cond.instanceMethod ({ cls := "DotRuns$Walk", name := "start", desc := "()I" } : Jvm.MethodName)) ∈ lw_all := lw_g (lw_at lw_m3 228 rfl) rfl
theorem q819 : (Jvm.Cond.selects "DotRuns$Walk" ({ cls := "DotRuns$Walk", name := "start", desc := "()I" } : Jvm.MethodName) ({ cls := "DotRuns$Walk", name := "start", desc := "()I" } : Jvm.MethodName)) ∈ lw_all := lw_g (lw_at lw_m3 229 rfl) rfl
theorem q820 : (Jvm.Cond.code ({ cls := "DotRuns$Walk", name := "start", desc := "()I" } : Jvm.MethodName) prog_16_method_4_code (1 : Nat) (Option.some Jvm.ClassFile.FieldType.int)) ∈ lw_all := lw_g (lw_at lw_m3 230 rfl) rfl
theorem q821 : (Jvm.Cond.methodLink "DotRuns$Walk" (31 : Nat) ({ cls := "java/lang/Math", name := "max", desc := "(II)I" } : Jvm.MethodName)) ∈ lw_all := lw_g (lw_at lw_m3 231 rfl) rfl
theorem q848 : (Jvm.Cond.instanceMethod ({ cls := "DotRuns$Walk", name := "paints", desc := "(II)V" } : Jvm.MethodName)) ∈ lw_all := lw_g (lw_at lw_m4 18 rfl) rfl
theorem q849 : (Jvm.Cond.selects "DotRuns$Walk" ({ cls := "DotRuns$Walk", name := "paints", desc := "(II)V" } : Jvm.MethodName) ({ cls := "DotRuns$Walk", name := "paints", desc := "(II)V" } : Jvm.MethodName)) ∈ lw_all := lw_g (lw_at lw_m4 19 rfl) rfl
theorem q850 : (Jvm.Cond.code ({ cls := "DotRuns$Walk", name := "paints", desc := "(II)V" } : Jvm.MethodName) prog_16_method_9_code (3 : Nat) (Option.none : Option Jvm.ClassFile.FieldType)) ∈ lw_all := lw_g (lw_at lw_m4 20 rfl) rfl
theorem q851 : (Jvm.Cond.methodLink "DotRuns$Walk" (52 : Nat) ({ cls := "DotRuns$Walk", name := "start", desc := "()I" } : Jvm.MethodName)) ∈ lw_all := lw_g (lw_at lw_m4 21 rfl) rfl
theorem q852 : (Jvm.Cond.methodLink "DotRuns$Walk" (55 : Nat) ({ cls := "DotRuns$Line", name := "ones", desc := "(II)J" } : Jvm.MethodName)) ∈ lw_all := lw_g (lw_at lw_m4 22 rfl) rfl
theorem q856 : (Jvm.Cond.instanceMethod ({ cls := "DotRuns$Walk", name := "goesTo", desc := "(I)V" } : Jvm.MethodName)) ∈ lw_all := lw_g (lw_at lw_m4 26 rfl) rfl
theorem q857 : (Jvm.Cond.selects "DotRuns$Walk" ({ cls := "DotRuns$Walk", name := "goesTo", desc := "(I)V" } : Jvm.MethodName) ({ cls := "DotRuns$Walk", name := "goesTo", desc := "(I)V" } : Jvm.MethodName)) ∈ lw_all := lw_g (lw_at lw_m4 27 rfl) rfl
theorem q858 : (Jvm.Cond.code ({ cls := "DotRuns$Walk", name := "goesTo", desc := "(I)V" } : Jvm.MethodName) prog_16_method_10_code (2 : Nat) (Option.none : Option Jvm.ClassFile.FieldType)) ∈ lw_all := lw_g (lw_at lw_m4 28 rfl) rfl
theorem q880 : (Jvm.Cond.instanceMethod ({ cls := "DotRuns$Walk", name := "turns", desc := "()V" } : Jvm.MethodName)) ∈ lw_all := lw_g (lw_at lw_m4 50 rfl) rfl
theorem q881 : (Jvm.Cond.selects "DotRuns$Walk" ({ cls := "DotRuns$Walk", name := "turns", desc := "()V" } : Jvm.MethodName) ({ cls := "DotRuns$Walk", name := "turns", desc := "()V" } : Jvm.MethodName)) ∈ lw_all := lw_g (lw_at lw_m4 51 rfl) rfl
theorem q882 : (Jvm.Cond.code ({ cls := "DotRuns$Walk", name := "turns", desc := "()V" } : Jvm.MethodName) prog_16_method_11_code (1 : Nat) (Option.none : Option Jvm.ClassFile.FieldType)) ∈ lw_all := lw_g (lw_at lw_m4 52 rfl) rfl
theorem q924 : (Jvm.Cond.selects "DotRuns$Walk" ({ cls := "java/lang/Object", name := "getClass", desc := "()Ljava/lang/Class;" } : Jvm.MethodName) ({ cls := "java/lang/Object", name := "getClass", desc := "()Ljava/lang/Class;" } : Jvm.MethodName)) ∈ lw_all := lw_g (lw_at lw_m4 94 rfl) rfl
theorem q1145 : (Jvm.Cond.instanceMethod ({ cls := "DotRuns$Walk", name := "made", desc := "()LDotRuns$Line;" } : Jvm.MethodName)) ∈ lw_all := lw_g (lw_at lw_m5 75 rfl) rfl
theorem q1146 : (Jvm.Cond.selects "DotRuns$Walk" ({ cls := "DotRuns$Walk", name := "made", desc := "()LDotRuns$Line;" } : Jvm.MethodName) ({ cls := "DotRuns$Walk", name := "made", desc := "()LDotRuns$Line;" } : Jvm.MethodName)) ∈ lw_all := lw_g (lw_at lw_m5 76 rfl) rfl
theorem q1147 : (Jvm.Cond.code ({ cls := "DotRuns$Walk", name := "made", desc := "()LDotRuns$Line;" } : Jvm.MethodName) prog_16_method_2_code (1 : Nat) (Option.some (Jvm.ClassFile.FieldType.object "DotRuns$Line"))) ∈ lw_all := lw_g (lw_at lw_m5 77 rfl) rfl
theorem q1148 : (Jvm.Cond.classLink "DotRuns$Walk" (19 : Nat) "DotRuns$Line") ∈ lw_all := lw_g (lw_at lw_m5 78 rfl) rfl
theorem q1149 : (Jvm.Cond.methodLink "DotRuns$Walk" (28 : Nat) ({ cls := "DotRuns$Line", name := "<init>", desc := "(IJ)V" } : Jvm.MethodName)) ∈ lw_all := lw_g (lw_at lw_m5 79 rfl) rfl
theorem q2786 : (Jvm.Cond.castable "DotRuns$Walk" "java/lang/Object") ∈ lw_tbl := lw_at lw_m12 36 rfl
theorem in_X7 : ∀ w ∈ wsX70, w ∈ lw_all := lw_in wsX70 [751, 753, 755, 757] (by decide +kernel) (by decide +kernel)

/-! DotRuns$Pass -/
set_option maxRecDepth 100000
def RX8 : String := "DotRuns$Pass"
abbrev cX8_init : ByteArray := prog_9_method_1_code
def yX8_init : MethodName := ⟨RX8, "<init>", "()V"⟩
theorem dX8_init_0 : decode cX8_init 0 = .ok (.aload_n 0, 1) := by decide +kernel
theorem dX8_init_1 : decode cX8_init 1 = .ok (.invokespecial 1, 3) := by decide +kernel
theorem dX8_init_4 : decode cX8_init 4 = .ok (.return_, 1) := by decide +kernel
abbrev cX8_goes : ByteArray := prog_9_method_7_code
def yX8_goes : MethodName := ⟨RX8, "goes", "(LDotRuns$Walk;)Z"⟩
def dkwX8_goes_0 : List UInt8 := [43, 182, 0, 7, 61, 43, 28, 43, 180, 0, 13, 182, 0, 17, 43, 28, 182, 0, 21, 4, 172]
abbrev dktX8_goes_0 : List UInt8 := dkwX8_goes_0 ++ []
theorem dksX8_goes_0 : cX8_goes.data.toList.drop 0 = dktX8_goes_0 := by decide +kernel
theorem dX8_goes_0 : decode cX8_goes 0 = .ok (.aload_n 1, 1) := dk_43 (dk_at dksX8_goes_0 0 rfl rfl)
theorem dX8_goes_1 : decode cX8_goes 1 = .ok (.invokevirtual 7, 3) := dk_182 0 7 (dk_at dksX8_goes_0 1 rfl rfl)
theorem dX8_goes_4 : decode cX8_goes 4 = .ok (.istore_n 2, 1) := dk_61 (dk_at dksX8_goes_0 4 rfl rfl)
theorem dX8_goes_5 : decode cX8_goes 5 = .ok (.aload_n 1, 1) := dk_43 (dk_at dksX8_goes_0 5 rfl rfl)
theorem dX8_goes_6 : decode cX8_goes 6 = .ok (.iload_n 2, 1) := dk_28 (dk_at dksX8_goes_0 6 rfl rfl)
theorem dX8_goes_7 : decode cX8_goes 7 = .ok (.aload_n 1, 1) := dk_43 (dk_at dksX8_goes_0 7 rfl rfl)
theorem dX8_goes_8 : decode cX8_goes 8 = .ok (.getfield 13, 3) := dk_180 0 13 (dk_at dksX8_goes_0 8 rfl rfl)
theorem dX8_goes_11 : decode cX8_goes 11 = .ok (.invokevirtual 17, 3) := dk_182 0 17 (dk_at dksX8_goes_0 11 rfl rfl)
theorem dX8_goes_14 : decode cX8_goes 14 = .ok (.aload_n 1, 1) := dk_43 (dk_at dksX8_goes_0 14 rfl rfl)
theorem dX8_goes_15 : decode cX8_goes 15 = .ok (.iload_n 2, 1) := dk_28 (dk_at dksX8_goes_0 15 rfl rfl)
theorem dX8_goes_16 : decode cX8_goes 16 = .ok (.invokevirtual 21, 3) := dk_182 0 21 (dk_at dksX8_goes_0 16 rfl rfl)
theorem dX8_goes_19 : decode cX8_goes 19 = .ok (.iconst 1, 1) := dk_4 (dk_at dksX8_goes_0 19 rfl rfl)
theorem dX8_goes_20 : decode cX8_goes 20 = .ok (.ireturn, 1) := dk_172 (dk_at dksX8_goes_0 20 rfl rfl)
abbrev cX8_sort : ByteArray := prog_9_method_2_code
def yX8_sort : MethodName := ⟨RX8, "sort", "()I"⟩
theorem dX8_sort_0 : decode cX8_sort 0 = .ok (.iconst 0, 1) := by decide +kernel
theorem dX8_sort_1 : decode cX8_sort 1 = .ok (.ireturn, 1) := by decide +kernel
abbrev cX8_many : ByteArray := prog_9_method_4_code
def yX8_many : MethodName := ⟨RX8, "many", "()I"⟩
theorem dX8_many_0 : decode cX8_many 0 = .ok (.iconst 0, 1) := by decide +kernel
theorem dX8_many_1 : decode cX8_many 1 = .ok (.ireturn, 1) := by decide +kernel
abbrev cX8_number : ByteArray := prog_9_method_5_code
def yX8_number : MethodName := ⟨RX8, "number", "(I)I"⟩
theorem dX8_number_0 : decode cX8_number 0 = .ok (.iconst 0, 1) := by decide +kernel
theorem dX8_number_1 : decode cX8_number 1 = .ok (.ireturn, 1) := by decide +kernel
abbrev cX8_bits : ByteArray := prog_9_method_6_code
def yX8_bits : MethodName := ⟨RX8, "bits", "()I"⟩
theorem dX8_bits_0 : decode cX8_bits 0 = .ok (.iconst 4, 1) := by decide +kernel
theorem dX8_bits_1 : decode cX8_bits 1 = .ok (.ireturn, 1) := by decide +kernel
abbrev cX8_letter : ByteArray := prog_9_method_3_code
def yX8_letter : MethodName := ⟨RX8, "letter", "()C"⟩
theorem dX8_letter_0 : decode cX8_letter 0 = .ok (.bipush 112, 2) := by decide +kernel
theorem dX8_letter_2 : decode cX8_letter 2 = .ok (.ireturn, 1) := by decide +kernel
theorem q140 : (Jvm.Cond.initialized "DotRuns$Pass") ∈ lw_all := lw_g (lw_at lw_m1 30 rfl) rfl
theorem q748 : (Jvm.Cond.fieldLinkNest "DotRuns$Pass" (13 : Nat) "DotRuns$Walk" "colour" "I" "DotRuns") ∈ lw_tbl := lw_at lw_m3 158 rfl
theorem q796 : (Jvm.Cond.instantiable "DotRuns$Pass" (0 : Nat)) ∈ lw_all := lw_g (lw_at lw_m3 206 rfl) rfl
theorem q798 : (Jvm.Cond.instanceMethod ({ cls := "DotRuns$Pass", name := "<init>", desc := "()V" } : Jvm.MethodName)) ∈ lw_all := lw_g (lw_at lw_m3 208 rfl) rfl
theorem q799 : (Jvm.Cond.code ({ cls := "DotRuns$Pass", name := "<init>", desc := "()V" } : Jvm.MethodName) prog_9_method_1_code (1 : Nat) (Option.none : Option Jvm.ClassFile.FieldType)) ∈ lw_all := lw_g (lw_at lw_m3 209 rfl) rfl
theorem q800 : (Jvm.Cond.methodLink "DotRuns$Pass" (1 : Nat) ({ cls := "java/lang/Object", name := "<init>", desc := "()V" } : Jvm.MethodName)) ∈ lw_all := lw_g (lw_at lw_m3 210 rfl) rfl
theorem q801 : (Jvm.Cond.superclass "DotRuns$Pass" "java/lang/Object") ∈ lw_all := lw_g (lw_at lw_m3 211 rfl) rfl
theorem q860 : (Jvm.Cond.castable "DotRuns$Pass" "DotRuns$Mode") ∈ lw_tbl := lw_at lw_m4 30 rfl
theorem q861 : (Jvm.Cond.selects "DotRuns$Pass" ({ cls := "DotRuns$Mode", name := "goes", desc := "(LDotRuns$Walk;)Z" } : Jvm.MethodName) ({ cls := "DotRuns$Pass", name := "goes", desc := "(LDotRuns$Walk;)Z" } : Jvm.MethodName)) ∈ lw_all := lw_g (lw_at lw_m4 31 rfl) rfl
theorem q862 : (Jvm.Cond.unhidden "DotRuns$Pass" "goes" "(LDotRuns$Walk;)Z") ∈ lw_tbl := lw_at lw_m4 32 rfl
theorem q863 : (Jvm.Cond.instanceMethod ({ cls := "DotRuns$Pass", name := "goes", desc := "(LDotRuns$Walk;)Z" } : Jvm.MethodName)) ∈ lw_all := lw_g (lw_at lw_m4 33 rfl) rfl
theorem q864 : (Jvm.Cond.publicMethod ({ cls := "DotRuns$Pass", name := "goes", desc := "(LDotRuns$Walk;)Z" } : Jvm.MethodName)) ∈ lw_tbl := lw_at lw_m4 34 rfl
theorem q865 : (Jvm.Cond.code ({ cls := "DotRuns$Pass", name := "goes", desc := "(LDotRuns$Walk;)Z" } : Jvm.MethodName) prog_9_method_7_code (3 : Nat) (Option.some Jvm.ClassFile.FieldType.boolean)) ∈ lw_all := lw_g (lw_at lw_m4 35 rfl) rfl
theorem q866 : (Jvm.Cond.methodLink "DotRuns$Pass" (7 : Nat) ({ cls := "DotRuns$Walk", name := "nextAbove", desc := "()I" } : Jvm.MethodName)) ∈ lw_all := lw_g (lw_at lw_m4 36 rfl) rfl
theorem q867 : (Jvm.Cond.methodLink "DotRuns$Pass" (17 : Nat) ({ cls := "DotRuns$Walk", name := "paints", desc := "(II)V" } : Jvm.MethodName)) ∈ lw_all := lw_g (lw_at lw_m4 37 rfl) rfl
theorem q868 : (Jvm.Cond.methodLink "DotRuns$Pass" (21 : Nat) ({ cls := "DotRuns$Walk", name := "goesTo", desc := "(I)V" } : Jvm.MethodName)) ∈ lw_all := lw_g (lw_at lw_m4 38 rfl) rfl
theorem q919 : (Jvm.Cond.selects "DotRuns$Pass" ({ cls := "java/lang/Object", name := "getClass", desc := "()Ljava/lang/Class;" } : Jvm.MethodName) ({ cls := "java/lang/Object", name := "getClass", desc := "()Ljava/lang/Class;" } : Jvm.MethodName)) ∈ lw_all := lw_g (lw_at lw_m4 89 rfl) rfl
theorem q953 : (Jvm.Cond.selects "DotRuns$Pass" ({ cls := "DotRuns$Mode", name := "sort", desc := "()I" } : Jvm.MethodName) ({ cls := "DotRuns$Pass", name := "sort", desc := "()I" } : Jvm.MethodName)) ∈ lw_all := lw_g (lw_at lw_m4 123 rfl) rfl
theorem q954 : (Jvm.Cond.unhidden "DotRuns$Pass" "sort" "()I") ∈ lw_tbl := lw_at lw_m4 124 rfl
theorem q955 : (Jvm.Cond.instanceMethod ({ cls := "DotRuns$Pass", name := "sort", desc := "()I" } : Jvm.MethodName)) ∈ lw_all := lw_g (lw_at lw_m4 125 rfl) rfl
theorem q956 : (Jvm.Cond.publicMethod ({ cls := "DotRuns$Pass", name := "sort", desc := "()I" } : Jvm.MethodName)) ∈ lw_tbl := lw_at lw_m4 126 rfl
theorem q957 : (Jvm.Cond.code ({ cls := "DotRuns$Pass", name := "sort", desc := "()I" } : Jvm.MethodName) prog_9_method_2_code (1 : Nat) (Option.some Jvm.ClassFile.FieldType.int)) ∈ lw_all := lw_g (lw_at lw_m4 127 rfl) rfl
theorem q983 : (Jvm.Cond.castable "DotRuns$Pass" "DotRuns$Told") ∈ lw_tbl := lw_at lw_m4 153 rfl
theorem q984 : (Jvm.Cond.selects "DotRuns$Pass" ({ cls := "DotRuns$Told", name := "many", desc := "()I" } : Jvm.MethodName) ({ cls := "DotRuns$Pass", name := "many", desc := "()I" } : Jvm.MethodName)) ∈ lw_all := lw_g (lw_at lw_m4 154 rfl) rfl
theorem q985 : (Jvm.Cond.unhidden "DotRuns$Pass" "many" "()I") ∈ lw_tbl := lw_at lw_m4 155 rfl
theorem q986 : (Jvm.Cond.instanceMethod ({ cls := "DotRuns$Pass", name := "many", desc := "()I" } : Jvm.MethodName)) ∈ lw_all := lw_g (lw_at lw_m4 156 rfl) rfl
theorem q987 : (Jvm.Cond.publicMethod ({ cls := "DotRuns$Pass", name := "many", desc := "()I" } : Jvm.MethodName)) ∈ lw_tbl := lw_at lw_m4 157 rfl
theorem q988 : (Jvm.Cond.code ({ cls := "DotRuns$Pass", name := "many", desc := "()I" } : Jvm.MethodName) prog_9_method_4_code (1 : Nat) (Option.some Jvm.ClassFile.FieldType.int)) ∈ lw_all := lw_g (lw_at lw_m4 158 rfl) rfl
theorem q1010 : (Jvm.Cond.selects "DotRuns$Pass" ({ cls := "DotRuns$Told", name := "number", desc := "(I)I" } : Jvm.MethodName) ({ cls := "DotRuns$Pass", name := "number", desc := "(I)I" } : Jvm.MethodName)) ∈ lw_all := lw_g (lw_at lw_m4 180 rfl) rfl
theorem q1011 : (Jvm.Cond.unhidden "DotRuns$Pass" "number" "(I)I") ∈ lw_tbl := lw_at lw_m4 181 rfl
theorem q1012 : (Jvm.Cond.instanceMethod ({ cls := "DotRuns$Pass", name := "number", desc := "(I)I" } : Jvm.MethodName)) ∈ lw_all := lw_g (lw_at lw_m4 182 rfl) rfl
theorem q1013 : (Jvm.Cond.publicMethod ({ cls := "DotRuns$Pass", name := "number", desc := "(I)I" } : Jvm.MethodName)) ∈ lw_tbl := lw_at lw_m4 183 rfl
theorem q1014 : (Jvm.Cond.code ({ cls := "DotRuns$Pass", name := "number", desc := "(I)I" } : Jvm.MethodName) prog_9_method_5_code (2 : Nat) (Option.some Jvm.ClassFile.FieldType.int)) ∈ lw_all := lw_g (lw_at lw_m4 184 rfl) rfl
theorem q1028 : (Jvm.Cond.selects "DotRuns$Pass" ({ cls := "DotRuns$Told", name := "bits", desc := "()I" } : Jvm.MethodName) ({ cls := "DotRuns$Pass", name := "bits", desc := "()I" } : Jvm.MethodName)) ∈ lw_all := lw_g (lw_at lw_m4 198 rfl) rfl
theorem q1029 : (Jvm.Cond.unhidden "DotRuns$Pass" "bits" "()I") ∈ lw_tbl := lw_at lw_m4 199 rfl
theorem q1030 : (Jvm.Cond.instanceMethod ({ cls := "DotRuns$Pass", name := "bits", desc := "()I" } : Jvm.MethodName)) ∈ lw_all := lw_g (lw_at lw_m4 200 rfl) rfl
theorem q1031 : (Jvm.Cond.publicMethod ({ cls := "DotRuns$Pass", name := "bits", desc := "()I" } : Jvm.MethodName)) ∈ lw_tbl := lw_at lw_m4 201 rfl
theorem q1032 : (Jvm.Cond.code ({ cls := "DotRuns$Pass", name := "bits", desc := "()I" } : Jvm.MethodName) prog_9_method_6_code (1 : Nat) (Option.some Jvm.ClassFile.FieldType.int)) ∈ lw_all := lw_g (lw_at lw_m4 202 rfl) rfl
theorem q2095 : (Jvm.Cond.selects "DotRuns$Pass" ({ cls := "DotRuns$Mode", name := "letter", desc := "()C" } : Jvm.MethodName) ({ cls := "DotRuns$Pass", name := "letter", desc := "()C" } : Jvm.MethodName)) ∈ lw_all := lw_g (lw_at lw_m9 65 rfl) rfl
theorem q2096 : (Jvm.Cond.unhidden "DotRuns$Pass" "letter" "()C") ∈ lw_tbl := lw_at lw_m9 66 rfl
theorem q2097 : (Jvm.Cond.instanceMethod ({ cls := "DotRuns$Pass", name := "letter", desc := "()C" } : Jvm.MethodName)) ∈ lw_all := lw_g (lw_at lw_m9 67 rfl) rfl
theorem q2098 : (Jvm.Cond.publicMethod ({ cls := "DotRuns$Pass", name := "letter", desc := "()C" } : Jvm.MethodName)) ∈ lw_tbl := lw_at lw_m9 68 rfl
theorem q2099 : (Jvm.Cond.code ({ cls := "DotRuns$Pass", name := "letter", desc := "()C" } : Jvm.MethodName) prog_9_method_3_code (1 : Nat) (Option.some Jvm.ClassFile.FieldType.char)) ∈ lw_all := lw_g (lw_at lw_m9 69 rfl) rfl
theorem q2787 : (Jvm.Cond.castable "DotRuns$Pass" "java/lang/Object") ∈ lw_tbl := lw_at lw_m12 37 rfl

/-! DotRuns$Vertical -/
set_option maxRecDepth 100000
def RX9 : String := "DotRuns$Vertical"
def TX9 : u_T := fun k => match k with
  | _ => ("DotRuns$Vertical", "by", "I", true)
def tyX9 : Nat → FieldType := fun k => match k with
  | _ => .int
abbrev wsX90 : List Cond := u_ws RX9 TX9 1
theorem nmX9 : ∀ a, a < 1 → ∀ b, b < 1 → a ≠ b → (TX9 a).2.1 ≠ (TX9 b).2.1 := by decide +kernel
theorem tyX9_ok : ∀ k, k < 1 → parseFieldDescriptor (TX9 k).2.2.1 = some (tyX9 k) := by decide +kernel
abbrev cX9_init : ByteArray := prog_15_method_1_code
def yX9_init : MethodName := ⟨RX9, "<init>", "(I)V"⟩
def dkwX9_init_0 : List UInt8 := [42, 183, 0, 1, 42, 27, 181, 0, 7, 177]
abbrev dktX9_init_0 : List UInt8 := dkwX9_init_0 ++ []
theorem dksX9_init_0 : cX9_init.data.toList.drop 0 = dktX9_init_0 := by decide +kernel
theorem dX9_init_0 : decode cX9_init 0 = .ok (.aload_n 0, 1) := dk_42 (dk_at dksX9_init_0 0 rfl rfl)
theorem dX9_init_1 : decode cX9_init 1 = .ok (.invokespecial 1, 3) := dk_183 0 1 (dk_at dksX9_init_0 1 rfl rfl)
theorem dX9_init_4 : decode cX9_init 4 = .ok (.aload_n 0, 1) := dk_42 (dk_at dksX9_init_0 4 rfl rfl)
theorem dX9_init_5 : decode cX9_init 5 = .ok (.iload_n 1, 1) := dk_27 (dk_at dksX9_init_0 5 rfl rfl)
theorem dX9_init_6 : decode cX9_init 6 = .ok (.putfield 7, 3) := dk_181 0 7 (dk_at dksX9_init_0 6 rfl rfl)
theorem dX9_init_9 : decode cX9_init 9 = .ok (.return_, 1) := dk_177 (dk_at dksX9_init_0 9 rfl rfl)
abbrev cX9_goes : ByteArray := prog_15_method_7_code
def yX9_goes : MethodName := ⟨RX9, "goes", "(LDotRuns$Walk;)Z"⟩
def dkwX9_goes_2 : List UInt8 := [172]
abbrev dktX9_goes_2 : List UInt8 := dkwX9_goes_2 ++ []
def dkwX9_goes_1 : List UInt8 := [164, 0, 5, 3, 172, 43, 28, 43, 180, 0, 31, 182, 0, 34, 43, 28, 182, 0, 38, 43, 182, 0, 42, 4]
abbrev dktX9_goes_1 : List UInt8 := dkwX9_goes_1 ++ dktX9_goes_2
def dkwX9_goes_0 : List UInt8 := [43, 182, 0, 19, 42, 180, 0, 7, 96, 61, 28, 43, 180, 0, 25, 164, 0, 11, 28, 43, 182, 0, 28]
abbrev dktX9_goes_0 : List UInt8 := dkwX9_goes_0 ++ dktX9_goes_1
theorem dksX9_goes_0 : cX9_goes.data.toList.drop 0 = dktX9_goes_0 := by decide +kernel
theorem dksX9_goes_1 : cX9_goes.data.toList.drop 23 = dktX9_goes_1 := dk_seg dksX9_goes_0 23 rfl rfl
theorem dksX9_goes_2 : cX9_goes.data.toList.drop 47 = dktX9_goes_2 := dk_seg dksX9_goes_1 24 rfl rfl
theorem dX9_goes_0 : decode cX9_goes 0 = .ok (.aload_n 1, 1) := dk_43 (dk_at dksX9_goes_0 0 rfl rfl)
theorem dX9_goes_1 : decode cX9_goes 1 = .ok (.invokevirtual 19, 3) := dk_182 0 19 (dk_at dksX9_goes_0 1 rfl rfl)
theorem dX9_goes_4 : decode cX9_goes 4 = .ok (.aload_n 0, 1) := dk_42 (dk_at dksX9_goes_0 4 rfl rfl)
theorem dX9_goes_5 : decode cX9_goes 5 = .ok (.getfield 7, 3) := dk_180 0 7 (dk_at dksX9_goes_0 5 rfl rfl)
theorem dX9_goes_8 : decode cX9_goes 8 = .ok (.iadd, 1) := dk_96 (dk_at dksX9_goes_0 8 rfl rfl)
theorem dX9_goes_9 : decode cX9_goes 9 = .ok (.istore_n 2, 1) := dk_61 (dk_at dksX9_goes_0 9 rfl rfl)
theorem dX9_goes_10 : decode cX9_goes 10 = .ok (.iload_n 2, 1) := dk_28 (dk_at dksX9_goes_0 10 rfl rfl)
theorem dX9_goes_11 : decode cX9_goes 11 = .ok (.aload_n 1, 1) := dk_43 (dk_at dksX9_goes_0 11 rfl rfl)
theorem dX9_goes_12 : decode cX9_goes 12 = .ok (.getfield 25, 3) := dk_180 0 25 (dk_at dksX9_goes_0 12 rfl rfl)
theorem dX9_goes_15 : decode cX9_goes 15 = .ok (.if_icmp .le 11, 3) := dk_164 0 11 (dk_at dksX9_goes_0 15 rfl rfl)
theorem dX9_goes_18 : decode cX9_goes 18 = .ok (.iload_n 2, 1) := dk_28 (dk_at dksX9_goes_0 18 rfl rfl)
theorem dX9_goes_19 : decode cX9_goes 19 = .ok (.aload_n 1, 1) := dk_43 (dk_at dksX9_goes_0 19 rfl rfl)
theorem dX9_goes_20 : decode cX9_goes 20 = .ok (.invokevirtual 28, 3) := dk_182 0 28 (dk_at dksX9_goes_0 20 rfl rfl)
theorem dX9_goes_23 : decode cX9_goes 23 = .ok (.if_icmp .le 5, 3) := dk_164 0 5 (dk_at dksX9_goes_1 0 rfl rfl)
theorem dX9_goes_26 : decode cX9_goes 26 = .ok (.iconst 0, 1) := dk_3 (dk_at dksX9_goes_1 3 rfl rfl)
theorem dX9_goes_27 : decode cX9_goes 27 = .ok (.ireturn, 1) := dk_172 (dk_at dksX9_goes_1 4 rfl rfl)
theorem dX9_goes_28 : decode cX9_goes 28 = .ok (.aload_n 1, 1) := dk_43 (dk_at dksX9_goes_1 5 rfl rfl)
theorem dX9_goes_29 : decode cX9_goes 29 = .ok (.iload_n 2, 1) := dk_28 (dk_at dksX9_goes_1 6 rfl rfl)
theorem dX9_goes_30 : decode cX9_goes 30 = .ok (.aload_n 1, 1) := dk_43 (dk_at dksX9_goes_1 7 rfl rfl)
theorem dX9_goes_31 : decode cX9_goes 31 = .ok (.getfield 31, 3) := dk_180 0 31 (dk_at dksX9_goes_1 8 rfl rfl)
theorem dX9_goes_34 : decode cX9_goes 34 = .ok (.invokevirtual 34, 3) := dk_182 0 34 (dk_at dksX9_goes_1 11 rfl rfl)
theorem dX9_goes_37 : decode cX9_goes 37 = .ok (.aload_n 1, 1) := dk_43 (dk_at dksX9_goes_1 14 rfl rfl)
theorem dX9_goes_38 : decode cX9_goes 38 = .ok (.iload_n 2, 1) := dk_28 (dk_at dksX9_goes_1 15 rfl rfl)
theorem dX9_goes_39 : decode cX9_goes 39 = .ok (.invokevirtual 38, 3) := dk_182 0 38 (dk_at dksX9_goes_1 16 rfl rfl)
theorem dX9_goes_42 : decode cX9_goes 42 = .ok (.aload_n 1, 1) := dk_43 (dk_at dksX9_goes_1 19 rfl rfl)
theorem dX9_goes_43 : decode cX9_goes 43 = .ok (.invokevirtual 42, 3) := dk_182 0 42 (dk_at dksX9_goes_1 20 rfl rfl)
theorem dX9_goes_46 : decode cX9_goes 46 = .ok (.iconst 1, 1) := dk_4 (dk_at dksX9_goes_1 23 rfl rfl)
theorem dX9_goes_47 : decode cX9_goes 47 = .ok (.ireturn, 1) := dk_172 (dk_at dksX9_goes_2 0 rfl rfl)
abbrev cX9_sort : ByteArray := prog_15_method_2_code
def yX9_sort : MethodName := ⟨RX9, "sort", "()I"⟩
theorem dX9_sort_0 : decode cX9_sort 0 = .ok (.iconst 1, 1) := by decide +kernel
theorem dX9_sort_1 : decode cX9_sort 1 = .ok (.ireturn, 1) := by decide +kernel
abbrev cX9_many : ByteArray := prog_15_method_4_code
def yX9_many : MethodName := ⟨RX9, "many", "()I"⟩
theorem dX9_many_0 : decode cX9_many 0 = .ok (.iconst 1, 1) := by decide +kernel
theorem dX9_many_1 : decode cX9_many 1 = .ok (.ireturn, 1) := by decide +kernel
abbrev cX9_number : ByteArray := prog_15_method_5_code
def yX9_number : MethodName := ⟨RX9, "number", "(I)I"⟩
def dkwX9_number_0 : List UInt8 := [27, 154, 0, 10, 42, 180, 0, 7, 167, 0, 4, 3, 172]
abbrev dktX9_number_0 : List UInt8 := dkwX9_number_0 ++ []
theorem dksX9_number_0 : cX9_number.data.toList.drop 0 = dktX9_number_0 := by decide +kernel
theorem dX9_number_0 : decode cX9_number 0 = .ok (.iload_n 1, 1) := dk_27 (dk_at dksX9_number_0 0 rfl rfl)
theorem dX9_number_1 : decode cX9_number 1 = .ok (.ifCond .ne 10, 3) := dk_154 0 10 (dk_at dksX9_number_0 1 rfl rfl)
theorem dX9_number_4 : decode cX9_number 4 = .ok (.aload_n 0, 1) := dk_42 (dk_at dksX9_number_0 4 rfl rfl)
theorem dX9_number_5 : decode cX9_number 5 = .ok (.getfield 7, 3) := dk_180 0 7 (dk_at dksX9_number_0 5 rfl rfl)
theorem dX9_number_8 : decode cX9_number 8 = .ok (.goto 4, 3) := dk_167 0 4 (dk_at dksX9_number_0 8 rfl rfl)
theorem dX9_number_11 : decode cX9_number 11 = .ok (.iconst 0, 1) := dk_3 (dk_at dksX9_number_0 11 rfl rfl)
theorem dX9_number_12 : decode cX9_number 12 = .ok (.ireturn, 1) := dk_172 (dk_at dksX9_number_0 12 rfl rfl)
abbrev cX9_bits : ByteArray := prog_15_method_6_code
def yX9_bits : MethodName := ⟨RX9, "bits", "()I"⟩
def dkwX9_bits_2 : List UInt8 := [4, 167, 0, 14, 6, 167, 0, 10, 16, 6, 167, 0, 5, 16, 7, 172]
abbrev dktX9_bits_2 : List UInt8 := dkwX9_bits_2 ++ []
def dkwX9_bits_1 : List UInt8 := [170, 0, 0, 0, 38, 0, 0, 0, 0, 0, 0, 0, 2, 0, 0, 0, 25, 0, 0, 0, 29, 0, 0, 0, 33]
abbrev dktX9_bits_1 : List UInt8 := dkwX9_bits_1 ++ dktX9_bits_2
def dkwX9_bits_0 : List UInt8 := [42, 180, 0, 7, 184, 0, 13]
abbrev dktX9_bits_0 : List UInt8 := dkwX9_bits_0 ++ dktX9_bits_1
theorem dksX9_bits_0 : cX9_bits.data.toList.drop 0 = dktX9_bits_0 := by decide +kernel
theorem dksX9_bits_1 : cX9_bits.data.toList.drop 7 = dktX9_bits_1 := dk_seg dksX9_bits_0 7 rfl rfl
theorem dksX9_bits_2 : cX9_bits.data.toList.drop 32 = dktX9_bits_2 := dk_seg dksX9_bits_1 25 rfl rfl
theorem dX9_bits_0 : decode cX9_bits 0 = .ok (.aload_n 0, 1) := dk_42 (dk_at dksX9_bits_0 0 rfl rfl)
theorem dX9_bits_1 : decode cX9_bits 1 = .ok (.getfield 7, 3) := dk_180 0 7 (dk_at dksX9_bits_0 1 rfl rfl)
theorem dX9_bits_4 : decode cX9_bits 4 = .ok (.invokestatic 13, 3) := dk_184 0 13 (dk_at dksX9_bits_0 4 rfl rfl)
theorem dX9_bits_7 : decode cX9_bits 7 = .ok (.tableswitch 38 0 2 #[25, 29, 33], 25) := by decide +kernel
theorem dX9_bits_32 : decode cX9_bits 32 = .ok (.iconst 1, 1) := dk_4 (dk_at dksX9_bits_2 0 rfl rfl)
theorem dX9_bits_33 : decode cX9_bits 33 = .ok (.goto 14, 3) := dk_167 0 14 (dk_at dksX9_bits_2 1 rfl rfl)
theorem dX9_bits_36 : decode cX9_bits 36 = .ok (.iconst 3, 1) := dk_6 (dk_at dksX9_bits_2 4 rfl rfl)
theorem dX9_bits_37 : decode cX9_bits 37 = .ok (.goto 10, 3) := dk_167 0 10 (dk_at dksX9_bits_2 5 rfl rfl)
theorem dX9_bits_40 : decode cX9_bits 40 = .ok (.bipush 6, 2) := dk_16 6 (dk_at dksX9_bits_2 8 rfl rfl)
theorem dX9_bits_42 : decode cX9_bits 42 = .ok (.goto 5, 3) := dk_167 0 5 (dk_at dksX9_bits_2 10 rfl rfl)
theorem dX9_bits_45 : decode cX9_bits 45 = .ok (.bipush 7, 2) := dk_16 7 (dk_at dksX9_bits_2 13 rfl rfl)
theorem dX9_bits_47 : decode cX9_bits 47 = .ok (.ireturn, 1) := dk_172 (dk_at dksX9_bits_2 15 rfl rfl)
abbrev cX9_letter : ByteArray := prog_15_method_3_code
def yX9_letter : MethodName := ⟨RX9, "letter", "()C"⟩
theorem dX9_letter_0 : decode cX9_letter 0 = .ok (.bipush 118, 2) := by decide +kernel
theorem dX9_letter_2 : decode cX9_letter 2 = .ok (.ireturn, 1) := by decide +kernel
theorem q141 : (Jvm.Cond.initialized "DotRuns$Vertical") ∈ lw_all := lw_g (lw_at lw_m1 31 rfl) rfl
theorem q744 : (Jvm.Cond.fieldLinkNest "DotRuns$Vertical" (25 : Nat) "DotRuns$Walk" "place" "I" "DotRuns") ∈ lw_tbl := lw_at lw_m3 154 rfl
theorem q749 : (Jvm.Cond.fieldLinkNest "DotRuns$Vertical" (31 : Nat) "DotRuns$Walk" "colour" "I" "DotRuns") ∈ lw_tbl := lw_at lw_m3 159 rfl
theorem q806 : (Jvm.Cond.instantiable "DotRuns$Vertical" (1 : Nat)) ∈ lw_all := lw_g (lw_at lw_m3 216 rfl) rfl
theorem q808 : (Jvm.Cond.instanceMethod ({ cls := "DotRuns$Vertical", name := "<init>", desc := "(I)V" } : Jvm.MethodName)) ∈ lw_all := lw_g (lw_at lw_m3 218 rfl) rfl
theorem q809 : (Jvm.Cond.code ({ cls := "DotRuns$Vertical", name := "<init>", desc := "(I)V" } : Jvm.MethodName) prog_15_method_1_code (2 : Nat) (Option.none : Option Jvm.ClassFile.FieldType)) ∈ lw_all := lw_g (lw_at lw_m3 219 rfl) rfl
theorem q810 : (Jvm.Cond.methodLink "DotRuns$Vertical" (1 : Nat) ({ cls := "java/lang/Object", name := "<init>", desc := "()V" } : Jvm.MethodName)) ∈ lw_all := lw_g (lw_at lw_m3 220 rfl) rfl
theorem q811 : (Jvm.Cond.fieldLink "DotRuns$Vertical" (7 : Nat) "DotRuns$Vertical" "by" "I") ∈ lw_all := lw_g (lw_at lw_m3 221 rfl) rfl
theorem q812 : (Jvm.Cond.laysFinal "DotRuns$Vertical" "DotRuns$Vertical" "by" "I") ∈ lw_all := lw_g (lw_at lw_m3 222 rfl) rfl
theorem q813 : (Jvm.Cond.soleField "DotRuns$Vertical" "by") ∈ lw_all := lw_g (lw_at lw_m3 223 rfl) rfl
theorem q814 : (Jvm.Cond.superclass "DotRuns$Vertical" "java/lang/Object") ∈ lw_all := lw_g (lw_at lw_m3 224 rfl) rfl
theorem q869 : (Jvm.Cond.castable "DotRuns$Vertical" "DotRuns$Mode") ∈ lw_tbl := lw_at lw_m4 39 rfl
theorem q870 : (Jvm.Cond.selects "DotRuns$Vertical" ({ cls := "DotRuns$Mode", name := "goes", desc := "(LDotRuns$Walk;)Z" } : Jvm.MethodName) ({ cls := "DotRuns$Vertical", name := "goes", desc := "(LDotRuns$Walk;)Z" } : Jvm.MethodName)) ∈ lw_all := lw_g (lw_at lw_m4 40 rfl) rfl
theorem q871 : (Jvm.Cond.unhidden "DotRuns$Vertical" "goes" "(LDotRuns$Walk;)Z") ∈ lw_tbl := lw_at lw_m4 41 rfl
theorem q872 : (Jvm.Cond.instanceMethod ({ cls := "DotRuns$Vertical", name := "goes", desc := "(LDotRuns$Walk;)Z" } : Jvm.MethodName)) ∈ lw_all := lw_g (lw_at lw_m4 42 rfl) rfl
theorem q873 : (Jvm.Cond.publicMethod ({ cls := "DotRuns$Vertical", name := "goes", desc := "(LDotRuns$Walk;)Z" } : Jvm.MethodName)) ∈ lw_tbl := lw_at lw_m4 43 rfl
theorem q874 : (Jvm.Cond.code ({ cls := "DotRuns$Vertical", name := "goes", desc := "(LDotRuns$Walk;)Z" } : Jvm.MethodName) prog_15_method_7_code (3 : Nat) (Option.some Jvm.ClassFile.FieldType.boolean)) ∈ lw_all := lw_g (lw_at lw_m4 44 rfl) rfl
theorem q875 : (Jvm.Cond.methodLink "DotRuns$Vertical" (19 : Nat) ({ cls := "DotRuns$Walk", name := "changeAbove", desc := "()I" } : Jvm.MethodName)) ∈ lw_all := lw_g (lw_at lw_m4 45 rfl) rfl
theorem q876 : (Jvm.Cond.methodLink "DotRuns$Vertical" (28 : Nat) ({ cls := "DotRuns$Walk", name := "wide", desc := "()I" } : Jvm.MethodName)) ∈ lw_all := lw_g (lw_at lw_m4 46 rfl) rfl
theorem q877 : (Jvm.Cond.methodLink "DotRuns$Vertical" (34 : Nat) ({ cls := "DotRuns$Walk", name := "paints", desc := "(II)V" } : Jvm.MethodName)) ∈ lw_all := lw_g (lw_at lw_m4 47 rfl) rfl
theorem q878 : (Jvm.Cond.methodLink "DotRuns$Vertical" (38 : Nat) ({ cls := "DotRuns$Walk", name := "goesTo", desc := "(I)V" } : Jvm.MethodName)) ∈ lw_all := lw_g (lw_at lw_m4 48 rfl) rfl
theorem q879 : (Jvm.Cond.methodLink "DotRuns$Vertical" (42 : Nat) ({ cls := "DotRuns$Walk", name := "turns", desc := "()V" } : Jvm.MethodName)) ∈ lw_all := lw_g (lw_at lw_m4 49 rfl) rfl
theorem q923 : (Jvm.Cond.selects "DotRuns$Vertical" ({ cls := "java/lang/Object", name := "getClass", desc := "()Ljava/lang/Class;" } : Jvm.MethodName) ({ cls := "java/lang/Object", name := "getClass", desc := "()Ljava/lang/Class;" } : Jvm.MethodName)) ∈ lw_all := lw_g (lw_at lw_m4 93 rfl) rfl
theorem q958 : (Jvm.Cond.selects "DotRuns$Vertical" ({ cls := "DotRuns$Mode", name := "sort", desc := "()I" } : Jvm.MethodName) ({ cls := "DotRuns$Vertical", name := "sort", desc := "()I" } : Jvm.MethodName)) ∈ lw_all := lw_g (lw_at lw_m4 128 rfl) rfl
theorem q959 : (Jvm.Cond.unhidden "DotRuns$Vertical" "sort" "()I") ∈ lw_tbl := lw_at lw_m4 129 rfl
theorem q960 : (Jvm.Cond.instanceMethod ({ cls := "DotRuns$Vertical", name := "sort", desc := "()I" } : Jvm.MethodName)) ∈ lw_all := lw_g (lw_at lw_m4 130 rfl) rfl
theorem q961 : (Jvm.Cond.publicMethod ({ cls := "DotRuns$Vertical", name := "sort", desc := "()I" } : Jvm.MethodName)) ∈ lw_tbl := lw_at lw_m4 131 rfl
theorem q962 : (Jvm.Cond.code ({ cls := "DotRuns$Vertical", name := "sort", desc := "()I" } : Jvm.MethodName) prog_15_method_2_code (1 : Nat) (Option.some Jvm.ClassFile.FieldType.int)) ∈ lw_all := lw_g (lw_at lw_m4 132 rfl) rfl
theorem q995 : (Jvm.Cond.castable "DotRuns$Vertical" "DotRuns$Told") ∈ lw_tbl := lw_at lw_m4 165 rfl
theorem q996 : (Jvm.Cond.selects "DotRuns$Vertical" ({ cls := "DotRuns$Told", name := "many", desc := "()I" } : Jvm.MethodName) ({ cls := "DotRuns$Vertical", name := "many", desc := "()I" } : Jvm.MethodName)) ∈ lw_all := lw_g (lw_at lw_m4 166 rfl) rfl
theorem q997 : (Jvm.Cond.unhidden "DotRuns$Vertical" "many" "()I") ∈ lw_tbl := lw_at lw_m4 167 rfl
theorem q998 : (Jvm.Cond.instanceMethod ({ cls := "DotRuns$Vertical", name := "many", desc := "()I" } : Jvm.MethodName)) ∈ lw_all := lw_g (lw_at lw_m4 168 rfl) rfl
theorem q999 : (Jvm.Cond.publicMethod ({ cls := "DotRuns$Vertical", name := "many", desc := "()I" } : Jvm.MethodName)) ∈ lw_tbl := lw_at lw_m4 169 rfl
theorem q1000 : (Jvm.Cond.code ({ cls := "DotRuns$Vertical", name := "many", desc := "()I" } : Jvm.MethodName) prog_15_method_4_code (1 : Nat) (Option.some Jvm.ClassFile.FieldType.int)) ∈ lw_all := lw_g (lw_at lw_m4 170 rfl) rfl
theorem q1020 : (Jvm.Cond.selects "DotRuns$Vertical" ({ cls := "DotRuns$Told", name := "number", desc := "(I)I" } : Jvm.MethodName) ({ cls := "DotRuns$Vertical", name := "number", desc := "(I)I" } : Jvm.MethodName)) ∈ lw_all := lw_g (lw_at lw_m4 190 rfl) rfl
theorem q1021 : (Jvm.Cond.unhidden "DotRuns$Vertical" "number" "(I)I") ∈ lw_tbl := lw_at lw_m4 191 rfl
theorem q1022 : (Jvm.Cond.instanceMethod ({ cls := "DotRuns$Vertical", name := "number", desc := "(I)I" } : Jvm.MethodName)) ∈ lw_all := lw_g (lw_at lw_m4 192 rfl) rfl
theorem q1023 : (Jvm.Cond.publicMethod ({ cls := "DotRuns$Vertical", name := "number", desc := "(I)I" } : Jvm.MethodName)) ∈ lw_tbl := lw_at lw_m4 193 rfl
theorem q1024 : (Jvm.Cond.code ({ cls := "DotRuns$Vertical", name := "number", desc := "(I)I" } : Jvm.MethodName) prog_15_method_5_code (2 : Nat) (Option.some Jvm.ClassFile.FieldType.int)) ∈ lw_all := lw_g (lw_at lw_m4 194 rfl) rfl
theorem q1033 : (Jvm.Cond.selects "DotRuns$Vertical" ({ cls := "DotRuns$Told", name := "bits", desc := "()I" } : Jvm.MethodName) ({ cls := "DotRuns$Vertical", name := "bits", desc := "()I" } : Jvm.MethodName)) ∈ lw_all := lw_g (lw_at lw_m4 203 rfl) rfl
theorem q1034 : (Jvm.Cond.unhidden "DotRuns$Vertical" "bits" "()I") ∈ lw_tbl := lw_at lw_m4 204 rfl
theorem q1035 : (Jvm.Cond.instanceMethod ({ cls := "DotRuns$Vertical", name := "bits", desc := "()I" } : Jvm.MethodName)) ∈ lw_all := lw_g (lw_at lw_m4 205 rfl) rfl
theorem q1036 : (Jvm.Cond.publicMethod ({ cls := "DotRuns$Vertical", name := "bits", desc := "()I" } : Jvm.MethodName)) ∈ lw_tbl := lw_at lw_m4 206 rfl
theorem q1037 : (Jvm.Cond.code ({ cls := "DotRuns$Vertical", name := "bits", desc := "()I" } : Jvm.MethodName) prog_15_method_6_code (1 : Nat) (Option.some Jvm.ClassFile.FieldType.int)) ∈ lw_all := lw_g (lw_at lw_m4 207 rfl) rfl
theorem q1038 : (Jvm.Cond.methodLink "DotRuns$Vertical" (13 : Nat) ({ cls := "java/lang/Math", name := "abs", desc := "(I)I" } : Jvm.MethodName)) ∈ lw_all := lw_g (lw_at lw_m4 208 rfl) rfl
theorem q2100 : (Jvm.Cond.selects "DotRuns$Vertical" ({ cls := "DotRuns$Mode", name := "letter", desc := "()C" } : Jvm.MethodName) ({ cls := "DotRuns$Vertical", name := "letter", desc := "()C" } : Jvm.MethodName)) ∈ lw_all := lw_g (lw_at lw_m9 70 rfl) rfl
theorem q2101 : (Jvm.Cond.unhidden "DotRuns$Vertical" "letter" "()C") ∈ lw_tbl := lw_at lw_m9 71 rfl
theorem q2102 : (Jvm.Cond.instanceMethod ({ cls := "DotRuns$Vertical", name := "letter", desc := "()C" } : Jvm.MethodName)) ∈ lw_all := lw_g (lw_at lw_m9 72 rfl) rfl
theorem q2103 : (Jvm.Cond.publicMethod ({ cls := "DotRuns$Vertical", name := "letter", desc := "()C" } : Jvm.MethodName)) ∈ lw_tbl := lw_at lw_m9 73 rfl
theorem q2104 : (Jvm.Cond.code ({ cls := "DotRuns$Vertical", name := "letter", desc := "()C" } : Jvm.MethodName) prog_15_method_3_code (1 : Nat) (Option.some Jvm.ClassFile.FieldType.char)) ∈ lw_all := lw_g (lw_at lw_m9 74 rfl) rfl
theorem q2788 : (Jvm.Cond.castable "DotRuns$Vertical" "java/lang/Object") ∈ lw_tbl := lw_at lw_m12 38 rfl
theorem in_X9 : ∀ w ∈ wsX90, w ∈ lw_all := lw_in wsX90 [812] (by decide +kernel) (by decide +kernel)

/-! DotRuns$Horizontal -/
set_option maxRecDepth 100000
def RX10 : String := "DotRuns$Horizontal"
def TX10 : u_T := fun k => match k with
  | 0 => ("DotRuns$Horizontal", "one", "I", true)
  | _ => ("DotRuns$Horizontal", "two", "I", true)
def tyX10 : Nat → FieldType := fun k => match k with
  | 0 => .int
  | _ => .int
abbrev wsX100 : List Cond := u_ws RX10 TX10 2
theorem nmX10 : ∀ a, a < 2 → ∀ b, b < 2 → a ≠ b → (TX10 a).2.1 ≠ (TX10 b).2.1 := by decide +kernel
theorem tyX10_ok : ∀ k, k < 2 → parseFieldDescriptor (TX10 k).2.2.1 = some (tyX10 k) := by decide +kernel
abbrev cX10_init : ByteArray := prog_5_method_1_code
def yX10_init : MethodName := ⟨RX10, "<init>", "(II)V"⟩
def dkwX10_init_0 : List UInt8 := [42, 183, 0, 1, 42, 27, 181, 0, 7, 42, 28, 181, 0, 13, 177]
abbrev dktX10_init_0 : List UInt8 := dkwX10_init_0 ++ []
theorem dksX10_init_0 : cX10_init.data.toList.drop 0 = dktX10_init_0 := by decide +kernel
theorem dX10_init_0 : decode cX10_init 0 = .ok (.aload_n 0, 1) := dk_42 (dk_at dksX10_init_0 0 rfl rfl)
theorem dX10_init_1 : decode cX10_init 1 = .ok (.invokespecial 1, 3) := dk_183 0 1 (dk_at dksX10_init_0 1 rfl rfl)
theorem dX10_init_4 : decode cX10_init 4 = .ok (.aload_n 0, 1) := dk_42 (dk_at dksX10_init_0 4 rfl rfl)
theorem dX10_init_5 : decode cX10_init 5 = .ok (.iload_n 1, 1) := dk_27 (dk_at dksX10_init_0 5 rfl rfl)
theorem dX10_init_6 : decode cX10_init 6 = .ok (.putfield 7, 3) := dk_181 0 7 (dk_at dksX10_init_0 6 rfl rfl)
theorem dX10_init_9 : decode cX10_init 9 = .ok (.aload_n 0, 1) := dk_42 (dk_at dksX10_init_0 9 rfl rfl)
theorem dX10_init_10 : decode cX10_init 10 = .ok (.iload_n 2, 1) := dk_28 (dk_at dksX10_init_0 10 rfl rfl)
theorem dX10_init_11 : decode cX10_init 11 = .ok (.putfield 13, 3) := dk_181 0 13 (dk_at dksX10_init_0 11 rfl rfl)
theorem dX10_init_14 : decode cX10_init 14 = .ok (.return_, 1) := dk_177 (dk_at dksX10_init_0 14 rfl rfl)
abbrev cX10_goes : ByteArray := prog_5_method_7_code
def yX10_goes : MethodName := ⟨RX10, "goes", "(LDotRuns$Walk;)Z"⟩
def dkwX10_goes_2 : List UInt8 := [182, 0, 40, 43, 29, 43, 182, 0, 44, 182, 0, 36, 43, 29, 182, 0, 40, 4, 172]
abbrev dktX10_goes_2 : List UInt8 := dkwX10_goes_2 ++ []
def dkwX10_goes_1 : List UInt8 := [164, 0, 11, 29, 43, 182, 0, 30, 164, 0, 5, 3, 172, 43, 28, 43, 180, 0, 33, 182, 0, 36, 43, 28]
abbrev dktX10_goes_1 : List UInt8 := dkwX10_goes_1 ++ dktX10_goes_2
def dkwX10_goes_0 : List UInt8 := [43, 182, 0, 22, 42, 180, 0, 7, 96, 61, 28, 42, 180, 0, 13, 96, 62, 29, 43, 180, 0, 27]
abbrev dktX10_goes_0 : List UInt8 := dkwX10_goes_0 ++ dktX10_goes_1
theorem dksX10_goes_0 : cX10_goes.data.toList.drop 0 = dktX10_goes_0 := by decide +kernel
theorem dksX10_goes_1 : cX10_goes.data.toList.drop 22 = dktX10_goes_1 := dk_seg dksX10_goes_0 22 rfl rfl
theorem dksX10_goes_2 : cX10_goes.data.toList.drop 46 = dktX10_goes_2 := dk_seg dksX10_goes_1 24 rfl rfl
theorem dX10_goes_0 : decode cX10_goes 0 = .ok (.aload_n 1, 1) := dk_43 (dk_at dksX10_goes_0 0 rfl rfl)
theorem dX10_goes_1 : decode cX10_goes 1 = .ok (.invokevirtual 22, 3) := dk_182 0 22 (dk_at dksX10_goes_0 1 rfl rfl)
theorem dX10_goes_4 : decode cX10_goes 4 = .ok (.aload_n 0, 1) := dk_42 (dk_at dksX10_goes_0 4 rfl rfl)
theorem dX10_goes_5 : decode cX10_goes 5 = .ok (.getfield 7, 3) := dk_180 0 7 (dk_at dksX10_goes_0 5 rfl rfl)
theorem dX10_goes_8 : decode cX10_goes 8 = .ok (.iadd, 1) := dk_96 (dk_at dksX10_goes_0 8 rfl rfl)
theorem dX10_goes_9 : decode cX10_goes 9 = .ok (.istore_n 2, 1) := dk_61 (dk_at dksX10_goes_0 9 rfl rfl)
theorem dX10_goes_10 : decode cX10_goes 10 = .ok (.iload_n 2, 1) := dk_28 (dk_at dksX10_goes_0 10 rfl rfl)
theorem dX10_goes_11 : decode cX10_goes 11 = .ok (.aload_n 0, 1) := dk_42 (dk_at dksX10_goes_0 11 rfl rfl)
theorem dX10_goes_12 : decode cX10_goes 12 = .ok (.getfield 13, 3) := dk_180 0 13 (dk_at dksX10_goes_0 12 rfl rfl)
theorem dX10_goes_15 : decode cX10_goes 15 = .ok (.iadd, 1) := dk_96 (dk_at dksX10_goes_0 15 rfl rfl)
theorem dX10_goes_16 : decode cX10_goes 16 = .ok (.istore_n 3, 1) := dk_62 (dk_at dksX10_goes_0 16 rfl rfl)
theorem dX10_goes_17 : decode cX10_goes 17 = .ok (.iload_n 3, 1) := dk_29 (dk_at dksX10_goes_0 17 rfl rfl)
theorem dX10_goes_18 : decode cX10_goes 18 = .ok (.aload_n 1, 1) := dk_43 (dk_at dksX10_goes_0 18 rfl rfl)
theorem dX10_goes_19 : decode cX10_goes 19 = .ok (.getfield 27, 3) := dk_180 0 27 (dk_at dksX10_goes_0 19 rfl rfl)
theorem dX10_goes_22 : decode cX10_goes 22 = .ok (.if_icmp .le 11, 3) := dk_164 0 11 (dk_at dksX10_goes_1 0 rfl rfl)
theorem dX10_goes_25 : decode cX10_goes 25 = .ok (.iload_n 3, 1) := dk_29 (dk_at dksX10_goes_1 3 rfl rfl)
theorem dX10_goes_26 : decode cX10_goes 26 = .ok (.aload_n 1, 1) := dk_43 (dk_at dksX10_goes_1 4 rfl rfl)
theorem dX10_goes_27 : decode cX10_goes 27 = .ok (.invokevirtual 30, 3) := dk_182 0 30 (dk_at dksX10_goes_1 5 rfl rfl)
theorem dX10_goes_30 : decode cX10_goes 30 = .ok (.if_icmp .le 5, 3) := dk_164 0 5 (dk_at dksX10_goes_1 8 rfl rfl)
theorem dX10_goes_33 : decode cX10_goes 33 = .ok (.iconst 0, 1) := dk_3 (dk_at dksX10_goes_1 11 rfl rfl)
theorem dX10_goes_34 : decode cX10_goes 34 = .ok (.ireturn, 1) := dk_172 (dk_at dksX10_goes_1 12 rfl rfl)
theorem dX10_goes_35 : decode cX10_goes 35 = .ok (.aload_n 1, 1) := dk_43 (dk_at dksX10_goes_1 13 rfl rfl)
theorem dX10_goes_36 : decode cX10_goes 36 = .ok (.iload_n 2, 1) := dk_28 (dk_at dksX10_goes_1 14 rfl rfl)
theorem dX10_goes_37 : decode cX10_goes 37 = .ok (.aload_n 1, 1) := dk_43 (dk_at dksX10_goes_1 15 rfl rfl)
theorem dX10_goes_38 : decode cX10_goes 38 = .ok (.getfield 33, 3) := dk_180 0 33 (dk_at dksX10_goes_1 16 rfl rfl)
theorem dX10_goes_41 : decode cX10_goes 41 = .ok (.invokevirtual 36, 3) := dk_182 0 36 (dk_at dksX10_goes_1 19 rfl rfl)
theorem dX10_goes_44 : decode cX10_goes 44 = .ok (.aload_n 1, 1) := dk_43 (dk_at dksX10_goes_1 22 rfl rfl)
theorem dX10_goes_45 : decode cX10_goes 45 = .ok (.iload_n 2, 1) := dk_28 (dk_at dksX10_goes_1 23 rfl rfl)
theorem dX10_goes_46 : decode cX10_goes 46 = .ok (.invokevirtual 40, 3) := dk_182 0 40 (dk_at dksX10_goes_2 0 rfl rfl)
theorem dX10_goes_49 : decode cX10_goes 49 = .ok (.aload_n 1, 1) := dk_43 (dk_at dksX10_goes_2 3 rfl rfl)
theorem dX10_goes_50 : decode cX10_goes 50 = .ok (.iload_n 3, 1) := dk_29 (dk_at dksX10_goes_2 4 rfl rfl)
theorem dX10_goes_51 : decode cX10_goes 51 = .ok (.aload_n 1, 1) := dk_43 (dk_at dksX10_goes_2 5 rfl rfl)
theorem dX10_goes_52 : decode cX10_goes 52 = .ok (.invokevirtual 44, 3) := dk_182 0 44 (dk_at dksX10_goes_2 6 rfl rfl)
theorem dX10_goes_55 : decode cX10_goes 55 = .ok (.invokevirtual 36, 3) := dk_182 0 36 (dk_at dksX10_goes_2 9 rfl rfl)
theorem dX10_goes_58 : decode cX10_goes 58 = .ok (.aload_n 1, 1) := dk_43 (dk_at dksX10_goes_2 12 rfl rfl)
theorem dX10_goes_59 : decode cX10_goes 59 = .ok (.iload_n 3, 1) := dk_29 (dk_at dksX10_goes_2 13 rfl rfl)
theorem dX10_goes_60 : decode cX10_goes 60 = .ok (.invokevirtual 40, 3) := dk_182 0 40 (dk_at dksX10_goes_2 14 rfl rfl)
theorem dX10_goes_63 : decode cX10_goes 63 = .ok (.iconst 1, 1) := dk_4 (dk_at dksX10_goes_2 17 rfl rfl)
theorem dX10_goes_64 : decode cX10_goes 64 = .ok (.ireturn, 1) := dk_172 (dk_at dksX10_goes_2 18 rfl rfl)
abbrev cX10_sort : ByteArray := prog_5_method_2_code
def yX10_sort : MethodName := ⟨RX10, "sort", "()I"⟩
theorem dX10_sort_0 : decode cX10_sort 0 = .ok (.iconst 2, 1) := by decide +kernel
theorem dX10_sort_1 : decode cX10_sort 1 = .ok (.ireturn, 1) := by decide +kernel
abbrev cX10_bits : ByteArray := prog_5_method_6_code
def yX10_bits : MethodName := ⟨RX10, "bits", "()I"⟩
def dkwX10_bits_0 : List UInt8 := [6, 42, 183, 0, 16, 96, 172]
abbrev dktX10_bits_0 : List UInt8 := dkwX10_bits_0 ++ []
theorem dksX10_bits_0 : cX10_bits.data.toList.drop 0 = dktX10_bits_0 := by decide +kernel
theorem dX10_bits_0 : decode cX10_bits 0 = .ok (.iconst 3, 1) := dk_6 (dk_at dksX10_bits_0 0 rfl rfl)
theorem dX10_bits_1 : decode cX10_bits 1 = .ok (.aload_n 0, 1) := dk_42 (dk_at dksX10_bits_0 1 rfl rfl)
theorem dX10_bits_2 : decode cX10_bits 2 = .ok (.invokespecial 16, 3) := dk_183 0 16 (dk_at dksX10_bits_0 2 rfl rfl)
theorem dX10_bits_5 : decode cX10_bits 5 = .ok (.iadd, 1) := dk_96 (dk_at dksX10_bits_0 5 rfl rfl)
theorem dX10_bits_6 : decode cX10_bits 6 = .ok (.ireturn, 1) := dk_172 (dk_at dksX10_bits_0 6 rfl rfl)
abbrev cX10_many : ByteArray := prog_5_method_4_code
def yX10_many : MethodName := ⟨RX10, "many", "()I"⟩
theorem dX10_many_0 : decode cX10_many 0 = .ok (.iconst 2, 1) := by decide +kernel
theorem dX10_many_1 : decode cX10_many 1 = .ok (.ireturn, 1) := by decide +kernel
abbrev cX10_number : ByteArray := prog_5_method_5_code
def yX10_number : MethodName := ⟨RX10, "number", "(I)I"⟩
def dkwX10_number_0 : List UInt8 := [27, 154, 0, 10, 42, 180, 0, 7, 167, 0, 7, 42, 180, 0, 13, 172]
abbrev dktX10_number_0 : List UInt8 := dkwX10_number_0 ++ []
theorem dksX10_number_0 : cX10_number.data.toList.drop 0 = dktX10_number_0 := by decide +kernel
theorem dX10_number_0 : decode cX10_number 0 = .ok (.iload_n 1, 1) := dk_27 (dk_at dksX10_number_0 0 rfl rfl)
theorem dX10_number_1 : decode cX10_number 1 = .ok (.ifCond .ne 10, 3) := dk_154 0 10 (dk_at dksX10_number_0 1 rfl rfl)
theorem dX10_number_4 : decode cX10_number 4 = .ok (.aload_n 0, 1) := dk_42 (dk_at dksX10_number_0 4 rfl rfl)
theorem dX10_number_5 : decode cX10_number 5 = .ok (.getfield 7, 3) := dk_180 0 7 (dk_at dksX10_number_0 5 rfl rfl)
theorem dX10_number_8 : decode cX10_number 8 = .ok (.goto 7, 3) := dk_167 0 7 (dk_at dksX10_number_0 8 rfl rfl)
theorem dX10_number_11 : decode cX10_number 11 = .ok (.aload_n 0, 1) := dk_42 (dk_at dksX10_number_0 11 rfl rfl)
theorem dX10_number_12 : decode cX10_number 12 = .ok (.getfield 13, 3) := dk_180 0 13 (dk_at dksX10_number_0 12 rfl rfl)
theorem dX10_number_15 : decode cX10_number 15 = .ok (.ireturn, 1) := dk_172 (dk_at dksX10_number_0 15 rfl rfl)
abbrev cX10_letter : ByteArray := prog_5_method_3_code
def yX10_letter : MethodName := ⟨RX10, "letter", "()C"⟩
theorem dX10_letter_0 : decode cX10_letter 0 = .ok (.bipush 104, 2) := by decide +kernel
theorem dX10_letter_2 : decode cX10_letter 2 = .ok (.ireturn, 1) := by decide +kernel
theorem q142 : (Jvm.Cond.initialized "DotRuns$Horizontal") ∈ lw_all := lw_g (lw_at lw_m1 32 rfl) rfl
theorem q745 : (Jvm.Cond.fieldLinkNest "DotRuns$Horizontal" (27 : Nat) "DotRuns$Walk" "place" "I" "DotRuns") ∈ lw_tbl := lw_at lw_m3 155 rfl
theorem q750 : (Jvm.Cond.fieldLinkNest "DotRuns$Horizontal" (33 : Nat) "DotRuns$Walk" "colour" "I" "DotRuns") ∈ lw_tbl := lw_at lw_m3 160 rfl
theorem q816 : (Jvm.Cond.instantiable "DotRuns$Horizontal" (2 : Nat)) ∈ lw_all := lw_g (lw_at lw_m3 226 rfl) rfl
theorem q825 : (Jvm.Cond.instanceMethod ({ cls := "DotRuns$Horizontal", name := "<init>", desc := "(II)V" } : Jvm.MethodName)) ∈ lw_all := lw_g (lw_at lw_m3 235 rfl) rfl
theorem q826 : (Jvm.Cond.code ({ cls := "DotRuns$Horizontal", name := "<init>", desc := "(II)V" } : Jvm.MethodName) prog_5_method_1_code (3 : Nat) (Option.none : Option Jvm.ClassFile.FieldType)) ∈ lw_all := lw_g (lw_at lw_m3 236 rfl) rfl
theorem q827 : (Jvm.Cond.methodLink "DotRuns$Horizontal" (1 : Nat) ({ cls := "java/lang/Object", name := "<init>", desc := "()V" } : Jvm.MethodName)) ∈ lw_all := lw_g (lw_at lw_m3 237 rfl) rfl
theorem q828 : (Jvm.Cond.fieldLink "DotRuns$Horizontal" (7 : Nat) "DotRuns$Horizontal" "one" "I") ∈ lw_all := lw_g (lw_at lw_m3 238 rfl) rfl
theorem q829 : (Jvm.Cond.fieldLink "DotRuns$Horizontal" (13 : Nat) "DotRuns$Horizontal" "two" "I") ∈ lw_all := lw_g (lw_at lw_m3 239 rfl) rfl
theorem q830 : (Jvm.Cond.laysFinal "DotRuns$Horizontal" "DotRuns$Horizontal" "one" "I") ∈ lw_all := lw_g (lw_at lw_m4 0 rfl) rfl
theorem q831 : (Jvm.Cond.soleField "DotRuns$Horizontal" "one") ∈ lw_all := lw_g (lw_at lw_m4 1 rfl) rfl
theorem q832 : (Jvm.Cond.laysFinal "DotRuns$Horizontal" "DotRuns$Horizontal" "two" "I") ∈ lw_all := lw_g (lw_at lw_m4 2 rfl) rfl
theorem q833 : (Jvm.Cond.soleField "DotRuns$Horizontal" "two") ∈ lw_all := lw_g (lw_at lw_m4 3 rfl) rfl
theorem q834 : (Jvm.Cond.superclass "DotRuns$Horizontal" "java/lang/Object") ∈ lw_all := lw_g (lw_at lw_m4 4 rfl) rfl
theorem q839 : (Jvm.Cond.castable "DotRuns$Horizontal" "DotRuns$Mode") ∈ lw_tbl := lw_at lw_m4 9 rfl
theorem q840 : (Jvm.Cond.selects "DotRuns$Horizontal" ({ cls := "DotRuns$Mode", name := "goes", desc := "(LDotRuns$Walk;)Z" } : Jvm.MethodName) ({ cls := "DotRuns$Horizontal", name := "goes", desc := "(LDotRuns$Walk;)Z" } : Jvm.MethodName)) ∈ lw_all := lw_g (lw_at lw_m4 10 rfl) rfl
theorem q841 : (Jvm.Cond.unhidden "DotRuns$Horizontal" "goes" "(LDotRuns$Walk;)Z") ∈ lw_tbl := lw_at lw_m4 11 rfl
theorem q842 : (Jvm.Cond.instanceMethod ({ cls := "DotRuns$Horizontal", name := "goes", desc := "(LDotRuns$Walk;)Z" } : Jvm.MethodName)) ∈ lw_all := lw_g (lw_at lw_m4 12 rfl) rfl
theorem q843 : (Jvm.Cond.publicMethod ({ cls := "DotRuns$Horizontal", name := "goes", desc := "(LDotRuns$Walk;)Z" } : Jvm.MethodName)) ∈ lw_tbl := lw_at lw_m4 13 rfl
theorem q844 : (Jvm.Cond.code ({ cls := "DotRuns$Horizontal", name := "goes", desc := "(LDotRuns$Walk;)Z" } : Jvm.MethodName) prog_5_method_7_code (4 : Nat) (Option.some Jvm.ClassFile.FieldType.boolean)) ∈ lw_all := lw_g (lw_at lw_m4 14 rfl) rfl
theorem q845 : (Jvm.Cond.methodLink "DotRuns$Horizontal" (22 : Nat) ({ cls := "DotRuns$Walk", name := "start", desc := "()I" } : Jvm.MethodName)) ∈ lw_all := lw_g (lw_at lw_m4 15 rfl) rfl
theorem q846 : (Jvm.Cond.methodLink "DotRuns$Horizontal" (30 : Nat) ({ cls := "DotRuns$Walk", name := "wide", desc := "()I" } : Jvm.MethodName)) ∈ lw_all := lw_g (lw_at lw_m4 16 rfl) rfl
theorem q847 : (Jvm.Cond.methodLink "DotRuns$Horizontal" (36 : Nat) ({ cls := "DotRuns$Walk", name := "paints", desc := "(II)V" } : Jvm.MethodName)) ∈ lw_all := lw_g (lw_at lw_m4 17 rfl) rfl
theorem q855 : (Jvm.Cond.methodLink "DotRuns$Horizontal" (40 : Nat) ({ cls := "DotRuns$Walk", name := "goesTo", desc := "(I)V" } : Jvm.MethodName)) ∈ lw_all := lw_g (lw_at lw_m4 25 rfl) rfl
theorem q859 : (Jvm.Cond.methodLink "DotRuns$Horizontal" (44 : Nat) ({ cls := "DotRuns$Walk", name := "other", desc := "()I" } : Jvm.MethodName)) ∈ lw_all := lw_g (lw_at lw_m4 29 rfl) rfl
theorem q916 : (Jvm.Cond.selects "DotRuns$Horizontal" ({ cls := "java/lang/Object", name := "getClass", desc := "()Ljava/lang/Class;" } : Jvm.MethodName) ({ cls := "java/lang/Object", name := "getClass", desc := "()Ljava/lang/Class;" } : Jvm.MethodName)) ∈ lw_all := lw_g (lw_at lw_m4 86 rfl) rfl
theorem q948 : (Jvm.Cond.selects "DotRuns$Horizontal" ({ cls := "DotRuns$Mode", name := "sort", desc := "()I" } : Jvm.MethodName) ({ cls := "DotRuns$Horizontal", name := "sort", desc := "()I" } : Jvm.MethodName)) ∈ lw_all := lw_g (lw_at lw_m4 118 rfl) rfl
theorem q949 : (Jvm.Cond.unhidden "DotRuns$Horizontal" "sort" "()I") ∈ lw_tbl := lw_at lw_m4 119 rfl
theorem q950 : (Jvm.Cond.instanceMethod ({ cls := "DotRuns$Horizontal", name := "sort", desc := "()I" } : Jvm.MethodName)) ∈ lw_all := lw_g (lw_at lw_m4 120 rfl) rfl
theorem q951 : (Jvm.Cond.publicMethod ({ cls := "DotRuns$Horizontal", name := "sort", desc := "()I" } : Jvm.MethodName)) ∈ lw_tbl := lw_at lw_m4 121 rfl
theorem q952 : (Jvm.Cond.code ({ cls := "DotRuns$Horizontal", name := "sort", desc := "()I" } : Jvm.MethodName) prog_5_method_2_code (1 : Nat) (Option.some Jvm.ClassFile.FieldType.int)) ∈ lw_all := lw_g (lw_at lw_m4 122 rfl) rfl
theorem q966 : (Jvm.Cond.selects "DotRuns$Horizontal" ({ cls := "DotRuns$Told", name := "bits", desc := "()I" } : Jvm.MethodName) ({ cls := "DotRuns$Horizontal", name := "bits", desc := "()I" } : Jvm.MethodName)) ∈ lw_all := lw_g (lw_at lw_m4 136 rfl) rfl
theorem q967 : (Jvm.Cond.unhidden "DotRuns$Horizontal" "bits" "()I") ∈ lw_tbl := lw_at lw_m4 137 rfl
theorem q968 : (Jvm.Cond.instanceMethod ({ cls := "DotRuns$Horizontal", name := "bits", desc := "()I" } : Jvm.MethodName)) ∈ lw_all := lw_g (lw_at lw_m4 138 rfl) rfl
theorem q969 : (Jvm.Cond.publicMethod ({ cls := "DotRuns$Horizontal", name := "bits", desc := "()I" } : Jvm.MethodName)) ∈ lw_tbl := lw_at lw_m4 139 rfl
theorem q970 : (Jvm.Cond.code ({ cls := "DotRuns$Horizontal", name := "bits", desc := "()I" } : Jvm.MethodName) prog_5_method_6_code (1 : Nat) (Option.some Jvm.ClassFile.FieldType.int)) ∈ lw_all := lw_g (lw_at lw_m4 140 rfl) rfl
theorem q977 : (Jvm.Cond.castable "DotRuns$Horizontal" "DotRuns$Told") ∈ lw_tbl := lw_at lw_m4 147 rfl
theorem q978 : (Jvm.Cond.selects "DotRuns$Horizontal" ({ cls := "DotRuns$Told", name := "many", desc := "()I" } : Jvm.MethodName) ({ cls := "DotRuns$Horizontal", name := "many", desc := "()I" } : Jvm.MethodName)) ∈ lw_all := lw_g (lw_at lw_m4 148 rfl) rfl
theorem q979 : (Jvm.Cond.unhidden "DotRuns$Horizontal" "many" "()I") ∈ lw_tbl := lw_at lw_m4 149 rfl
theorem q980 : (Jvm.Cond.instanceMethod ({ cls := "DotRuns$Horizontal", name := "many", desc := "()I" } : Jvm.MethodName)) ∈ lw_all := lw_g (lw_at lw_m4 150 rfl) rfl
theorem q981 : (Jvm.Cond.publicMethod ({ cls := "DotRuns$Horizontal", name := "many", desc := "()I" } : Jvm.MethodName)) ∈ lw_tbl := lw_at lw_m4 151 rfl
theorem q982 : (Jvm.Cond.code ({ cls := "DotRuns$Horizontal", name := "many", desc := "()I" } : Jvm.MethodName) prog_5_method_4_code (1 : Nat) (Option.some Jvm.ClassFile.FieldType.int)) ∈ lw_all := lw_g (lw_at lw_m4 152 rfl) rfl
theorem q1005 : (Jvm.Cond.selects "DotRuns$Horizontal" ({ cls := "DotRuns$Told", name := "number", desc := "(I)I" } : Jvm.MethodName) ({ cls := "DotRuns$Horizontal", name := "number", desc := "(I)I" } : Jvm.MethodName)) ∈ lw_all := lw_g (lw_at lw_m4 175 rfl) rfl
theorem q1006 : (Jvm.Cond.unhidden "DotRuns$Horizontal" "number" "(I)I") ∈ lw_tbl := lw_at lw_m4 176 rfl
theorem q1007 : (Jvm.Cond.instanceMethod ({ cls := "DotRuns$Horizontal", name := "number", desc := "(I)I" } : Jvm.MethodName)) ∈ lw_all := lw_g (lw_at lw_m4 177 rfl) rfl
theorem q1008 : (Jvm.Cond.publicMethod ({ cls := "DotRuns$Horizontal", name := "number", desc := "(I)I" } : Jvm.MethodName)) ∈ lw_tbl := lw_at lw_m4 178 rfl
theorem q1009 : (Jvm.Cond.code ({ cls := "DotRuns$Horizontal", name := "number", desc := "(I)I" } : Jvm.MethodName) prog_5_method_5_code (2 : Nat) (Option.some Jvm.ClassFile.FieldType.int)) ∈ lw_all := lw_g (lw_at lw_m4 179 rfl) rfl
theorem q2090 : (Jvm.Cond.selects "DotRuns$Horizontal" ({ cls := "DotRuns$Mode", name := "letter", desc := "()C" } : Jvm.MethodName) ({ cls := "DotRuns$Horizontal", name := "letter", desc := "()C" } : Jvm.MethodName)) ∈ lw_all := lw_g (lw_at lw_m9 60 rfl) rfl
theorem q2091 : (Jvm.Cond.unhidden "DotRuns$Horizontal" "letter" "()C") ∈ lw_tbl := lw_at lw_m9 61 rfl
theorem q2092 : (Jvm.Cond.instanceMethod ({ cls := "DotRuns$Horizontal", name := "letter", desc := "()C" } : Jvm.MethodName)) ∈ lw_all := lw_g (lw_at lw_m9 62 rfl) rfl
theorem q2093 : (Jvm.Cond.publicMethod ({ cls := "DotRuns$Horizontal", name := "letter", desc := "()C" } : Jvm.MethodName)) ∈ lw_tbl := lw_at lw_m9 63 rfl
theorem q2094 : (Jvm.Cond.code ({ cls := "DotRuns$Horizontal", name := "letter", desc := "()C" } : Jvm.MethodName) prog_5_method_3_code (1 : Nat) (Option.some Jvm.ClassFile.FieldType.char)) ∈ lw_all := lw_g (lw_at lw_m9 64 rfl) rfl
theorem q2789 : (Jvm.Cond.castable "DotRuns$Horizontal" "java/lang/Object") ∈ lw_tbl := lw_at lw_m12 39 rfl
theorem in_X10 : ∀ w ∈ wsX100, w ∈ lw_all := lw_in wsX100 [830, 832] (by decide +kernel) (by decide +kernel)

/-! DotRuns$Code -/
set_option maxRecDepth 100000
def RX11 : String := "DotRuns$Code"
def TX11 : u_T := fun k => match k with
  | 0 => ("DotRuns$Code", "runs", "LDotRuns$Runs;", true)
  | 1 => ("DotRuns$Code", "modes", "Ljava/util/List;", true)
  | 2 => ("DotRuns$Code", "places", "[I", true)
  | 3 => ("DotRuns$Code", "sorts", "[I", true)
  | 4 => ("DotRuns$Code", "alone", "I", true)
  | _ => ("DotRuns$Code", "byAbove", "I", true)
def tyX11 : Nat → FieldType := fun k => match k with
  | 0 => .object "DotRuns$Runs"
  | 1 => .object "java/util/List"
  | 2 => .array .int
  | 3 => .array .int
  | 4 => .int
  | _ => .int
abbrev wsX110 : List Cond := u_ws RX11 TX11 6
theorem nmX11 : ∀ a, a < 6 → ∀ b, b < 6 → a ≠ b → (TX11 a).2.1 ≠ (TX11 b).2.1 := by decide +kernel
theorem tyX11_ok : ∀ k, k < 6 → parseFieldDescriptor (TX11 k).2.2.1 = some (tyX11 k) := by decide +kernel
abbrev cX11_init : ByteArray := prog_3_method_1_code
def yX11_init : MethodName := ⟨RX11, "<init>", "(LDotRuns$Line;LDotRuns$Line;)V"⟩
def dkwX11_init_6 : List UInt8 := [181, 0, 75, 42, 21, 4, 181, 0, 78, 177]
abbrev dktX11_init_6 : List UInt8 := dkwX11_init_6 ++ []
def dkwX11_init_5 : List UInt8 := [21, 4, 25, 5, 185, 0, 71, 1, 0, 96, 54, 4, 167, 255, 174, 42, 42, 180, 0, 31, 182, 0, 74]
abbrev dktX11_init_5 : List UInt8 := dkwX11_init_5 ++ dktX11_init_6
def dkwX11_init_4 : List UInt8 := [25, 5, 185, 0, 64, 2, 0, 87, 42, 180, 0, 22, 25, 5, 185, 0, 68, 1, 0, 92, 46, 4, 96, 79]
abbrev dktX11_init_4 : List UInt8 := dkwX11_init_4 ++ dktX11_init_5
def dkwX11_init_3 : List UInt8 := [54, 6, 42, 180, 0, 18, 42, 180, 0, 12, 185, 0, 54, 1, 0, 45, 180, 0, 60, 79, 42, 180, 0, 12]
abbrev dktX11_init_3 : List UInt8 := dkwX11_init_3 ++ dktX11_init_4
def dkwX11_init_2 : List UInt8 := [54, 4, 45, 182, 0, 40, 154, 0, 81, 45, 43, 184, 0, 44, 58, 5, 25, 5, 45, 185, 0, 50, 2, 0]
abbrev dktX11_init_2 : List UInt8 := dkwX11_init_2 ++ dktX11_init_3
def dkwX11_init_1 : List UInt8 := [6, 188, 10, 181, 0, 22, 42, 43, 184, 0, 25, 181, 0, 31, 187, 0, 35, 89, 44, 183, 0, 37, 78, 3]
abbrev dktX11_init_1 : List UInt8 := dkwX11_init_1 ++ dktX11_init_2
def dkwX11_init_0 : List UInt8 := [42, 183, 0, 3, 42, 187, 0, 9, 89, 183, 0, 11, 181, 0, 12, 42, 16, 41, 188, 10, 181, 0, 18, 42]
abbrev dktX11_init_0 : List UInt8 := dkwX11_init_0 ++ dktX11_init_1
theorem dksX11_init_0 : cX11_init.data.toList.drop 0 = dktX11_init_0 := by decide +kernel
theorem dksX11_init_1 : cX11_init.data.toList.drop 24 = dktX11_init_1 := dk_seg dksX11_init_0 24 rfl rfl
theorem dksX11_init_2 : cX11_init.data.toList.drop 48 = dktX11_init_2 := dk_seg dksX11_init_1 24 rfl rfl
theorem dksX11_init_3 : cX11_init.data.toList.drop 72 = dktX11_init_3 := dk_seg dksX11_init_2 24 rfl rfl
theorem dksX11_init_4 : cX11_init.data.toList.drop 96 = dktX11_init_4 := dk_seg dksX11_init_3 24 rfl rfl
theorem dksX11_init_5 : cX11_init.data.toList.drop 120 = dktX11_init_5 := dk_seg dksX11_init_4 24 rfl rfl
theorem dksX11_init_6 : cX11_init.data.toList.drop 143 = dktX11_init_6 := dk_seg dksX11_init_5 23 rfl rfl
theorem dX11_init_0 : decode cX11_init 0 = .ok (.aload_n 0, 1) := dk_42 (dk_at dksX11_init_0 0 rfl rfl)
theorem dX11_init_1 : decode cX11_init 1 = .ok (.invokespecial 3, 3) := dk_183 0 3 (dk_at dksX11_init_0 1 rfl rfl)
theorem dX11_init_4 : decode cX11_init 4 = .ok (.aload_n 0, 1) := dk_42 (dk_at dksX11_init_0 4 rfl rfl)
theorem dX11_init_5 : decode cX11_init 5 = .ok (.new 9, 3) := dk_187 0 9 (dk_at dksX11_init_0 5 rfl rfl)
theorem dX11_init_8 : decode cX11_init 8 = .ok (.dup, 1) := dk_89 (dk_at dksX11_init_0 8 rfl rfl)
theorem dX11_init_9 : decode cX11_init 9 = .ok (.invokespecial 11, 3) := dk_183 0 11 (dk_at dksX11_init_0 9 rfl rfl)
theorem dX11_init_12 : decode cX11_init 12 = .ok (.putfield 12, 3) := dk_181 0 12 (dk_at dksX11_init_0 12 rfl rfl)
theorem dX11_init_15 : decode cX11_init 15 = .ok (.aload_n 0, 1) := dk_42 (dk_at dksX11_init_0 15 rfl rfl)
theorem dX11_init_16 : decode cX11_init 16 = .ok (.bipush 41, 2) := dk_16 41 (dk_at dksX11_init_0 16 rfl rfl)
theorem dX11_init_18 : decode cX11_init 18 = .ok (.newarray .int, 2) := dk_188_10 (dk_at dksX11_init_0 18 rfl rfl)
theorem dX11_init_20 : decode cX11_init 20 = .ok (.putfield 18, 3) := dk_181 0 18 (dk_at dksX11_init_0 20 rfl rfl)
theorem dX11_init_23 : decode cX11_init 23 = .ok (.aload_n 0, 1) := dk_42 (dk_at dksX11_init_0 23 rfl rfl)
theorem dX11_init_24 : decode cX11_init 24 = .ok (.iconst 3, 1) := dk_6 (dk_at dksX11_init_1 0 rfl rfl)
theorem dX11_init_25 : decode cX11_init 25 = .ok (.newarray .int, 2) := dk_188_10 (dk_at dksX11_init_1 1 rfl rfl)
theorem dX11_init_27 : decode cX11_init 27 = .ok (.putfield 22, 3) := dk_181 0 22 (dk_at dksX11_init_1 3 rfl rfl)
theorem dX11_init_30 : decode cX11_init 30 = .ok (.aload_n 0, 1) := dk_42 (dk_at dksX11_init_1 6 rfl rfl)
theorem dX11_init_31 : decode cX11_init 31 = .ok (.aload_n 1, 1) := dk_43 (dk_at dksX11_init_1 7 rfl rfl)
theorem dX11_init_32 : decode cX11_init 32 = .ok (.invokestatic 25, 3) := dk_184 0 25 (dk_at dksX11_init_1 8 rfl rfl)
theorem dX11_init_35 : decode cX11_init 35 = .ok (.putfield 31, 3) := dk_181 0 31 (dk_at dksX11_init_1 11 rfl rfl)
theorem dX11_init_38 : decode cX11_init 38 = .ok (.new 35, 3) := dk_187 0 35 (dk_at dksX11_init_1 14 rfl rfl)
theorem dX11_init_41 : decode cX11_init 41 = .ok (.dup, 1) := dk_89 (dk_at dksX11_init_1 17 rfl rfl)
theorem dX11_init_42 : decode cX11_init 42 = .ok (.aload_n 2, 1) := dk_44 (dk_at dksX11_init_1 18 rfl rfl)
theorem dX11_init_43 : decode cX11_init 43 = .ok (.invokespecial 37, 3) := dk_183 0 37 (dk_at dksX11_init_1 19 rfl rfl)
theorem dX11_init_46 : decode cX11_init 46 = .ok (.astore_n 3, 1) := dk_78 (dk_at dksX11_init_1 22 rfl rfl)
theorem dX11_init_47 : decode cX11_init 47 = .ok (.iconst 0, 1) := dk_3 (dk_at dksX11_init_1 23 rfl rfl)
theorem dX11_init_48 : decode cX11_init 48 = .ok (.istore 4, 2) := dk_54 4 (dk_at dksX11_init_2 0 rfl rfl)
theorem dX11_init_50 : decode cX11_init 50 = .ok (.aload_n 3, 1) := dk_45 (dk_at dksX11_init_2 2 rfl rfl)
theorem dX11_init_51 : decode cX11_init 51 = .ok (.invokevirtual 40, 3) := dk_182 0 40 (dk_at dksX11_init_2 3 rfl rfl)
theorem dX11_init_54 : decode cX11_init 54 = .ok (.ifCond .ne 81, 3) := dk_154 0 81 (dk_at dksX11_init_2 6 rfl rfl)
theorem dX11_init_57 : decode cX11_init 57 = .ok (.aload_n 3, 1) := dk_45 (dk_at dksX11_init_2 9 rfl rfl)
theorem dX11_init_58 : decode cX11_init 58 = .ok (.aload_n 1, 1) := dk_43 (dk_at dksX11_init_2 10 rfl rfl)
theorem dX11_init_59 : decode cX11_init 59 = .ok (.invokestatic 44, 3) := dk_184 0 44 (dk_at dksX11_init_2 11 rfl rfl)
theorem dX11_init_62 : decode cX11_init 62 = .ok (.astore 5, 2) := dk_58 5 (dk_at dksX11_init_2 14 rfl rfl)
theorem dX11_init_64 : decode cX11_init 64 = .ok (.aload 5, 2) := dk_25 5 (dk_at dksX11_init_2 16 rfl rfl)
theorem dX11_init_66 : decode cX11_init 66 = .ok (.aload_n 3, 1) := dk_45 (dk_at dksX11_init_2 18 rfl rfl)
theorem dX11_init_67 : decode cX11_init 67 = .ok (.invokeinterface 50 2, 5) := by decide +kernel
theorem dX11_init_72 : decode cX11_init 72 = .ok (.istore 6, 2) := dk_54 6 (dk_at dksX11_init_3 0 rfl rfl)
theorem dX11_init_74 : decode cX11_init 74 = .ok (.aload_n 0, 1) := dk_42 (dk_at dksX11_init_3 2 rfl rfl)
theorem dX11_init_75 : decode cX11_init 75 = .ok (.getfield 18, 3) := dk_180 0 18 (dk_at dksX11_init_3 3 rfl rfl)
theorem dX11_init_78 : decode cX11_init 78 = .ok (.aload_n 0, 1) := dk_42 (dk_at dksX11_init_3 6 rfl rfl)
theorem dX11_init_79 : decode cX11_init 79 = .ok (.getfield 12, 3) := dk_180 0 12 (dk_at dksX11_init_3 7 rfl rfl)
theorem dX11_init_82 : decode cX11_init 82 = .ok (.invokeinterface 54 1, 5) := by decide +kernel
theorem dX11_init_87 : decode cX11_init 87 = .ok (.aload_n 3, 1) := dk_45 (dk_at dksX11_init_3 15 rfl rfl)
theorem dX11_init_88 : decode cX11_init 88 = .ok (.getfield 60, 3) := dk_180 0 60 (dk_at dksX11_init_3 16 rfl rfl)
theorem dX11_init_91 : decode cX11_init 91 = .ok (.iastore, 1) := dk_79 (dk_at dksX11_init_3 19 rfl rfl)
theorem dX11_init_92 : decode cX11_init 92 = .ok (.aload_n 0, 1) := dk_42 (dk_at dksX11_init_3 20 rfl rfl)
theorem dX11_init_93 : decode cX11_init 93 = .ok (.getfield 12, 3) := dk_180 0 12 (dk_at dksX11_init_3 21 rfl rfl)
theorem dX11_init_96 : decode cX11_init 96 = .ok (.aload 5, 2) := dk_25 5 (dk_at dksX11_init_4 0 rfl rfl)
theorem dX11_init_98 : decode cX11_init 98 = .ok (.invokeinterface 64 2, 5) := by decide +kernel
theorem dX11_init_103 : decode cX11_init 103 = .ok (.pop, 1) := dk_87 (dk_at dksX11_init_4 7 rfl rfl)
theorem dX11_init_104 : decode cX11_init 104 = .ok (.aload_n 0, 1) := dk_42 (dk_at dksX11_init_4 8 rfl rfl)
theorem dX11_init_105 : decode cX11_init 105 = .ok (.getfield 22, 3) := dk_180 0 22 (dk_at dksX11_init_4 9 rfl rfl)
theorem dX11_init_108 : decode cX11_init 108 = .ok (.aload 5, 2) := dk_25 5 (dk_at dksX11_init_4 12 rfl rfl)
theorem dX11_init_110 : decode cX11_init 110 = .ok (.invokeinterface 68 1, 5) := by decide +kernel
theorem dX11_init_115 : decode cX11_init 115 = .ok (.dup2, 1) := dk_92 (dk_at dksX11_init_4 19 rfl rfl)
theorem dX11_init_116 : decode cX11_init 116 = .ok (.iaload, 1) := dk_46 (dk_at dksX11_init_4 20 rfl rfl)
theorem dX11_init_117 : decode cX11_init 117 = .ok (.iconst 1, 1) := dk_4 (dk_at dksX11_init_4 21 rfl rfl)
theorem dX11_init_118 : decode cX11_init 118 = .ok (.iadd, 1) := dk_96 (dk_at dksX11_init_4 22 rfl rfl)
theorem dX11_init_119 : decode cX11_init 119 = .ok (.iastore, 1) := dk_79 (dk_at dksX11_init_4 23 rfl rfl)
theorem dX11_init_120 : decode cX11_init 120 = .ok (.iload 4, 2) := dk_21 4 (dk_at dksX11_init_5 0 rfl rfl)
theorem dX11_init_122 : decode cX11_init 122 = .ok (.aload 5, 2) := dk_25 5 (dk_at dksX11_init_5 2 rfl rfl)
theorem dX11_init_124 : decode cX11_init 124 = .ok (.invokeinterface 71 1, 5) := by decide +kernel
theorem dX11_init_129 : decode cX11_init 129 = .ok (.iadd, 1) := dk_96 (dk_at dksX11_init_5 9 rfl rfl)
theorem dX11_init_130 : decode cX11_init 130 = .ok (.istore 4, 2) := dk_54 4 (dk_at dksX11_init_5 10 rfl rfl)
theorem dX11_init_132 : decode cX11_init 132 = .ok (.goto (-82), 3) := dk_167 255 174 (dk_at dksX11_init_5 12 rfl rfl)
theorem dX11_init_135 : decode cX11_init 135 = .ok (.aload_n 0, 1) := dk_42 (dk_at dksX11_init_5 15 rfl rfl)
theorem dX11_init_136 : decode cX11_init 136 = .ok (.aload_n 0, 1) := dk_42 (dk_at dksX11_init_5 16 rfl rfl)
theorem dX11_init_137 : decode cX11_init 137 = .ok (.getfield 31, 3) := dk_180 0 31 (dk_at dksX11_init_5 17 rfl rfl)
theorem dX11_init_140 : decode cX11_init 140 = .ok (.invokevirtual 74, 3) := dk_182 0 74 (dk_at dksX11_init_5 20 rfl rfl)
theorem dX11_init_143 : decode cX11_init 143 = .ok (.putfield 75, 3) := dk_181 0 75 (dk_at dksX11_init_6 0 rfl rfl)
theorem dX11_init_146 : decode cX11_init 146 = .ok (.aload_n 0, 1) := dk_42 (dk_at dksX11_init_6 3 rfl rfl)
theorem dX11_init_147 : decode cX11_init 147 = .ok (.iload 4, 2) := dk_21 4 (dk_at dksX11_init_6 4 rfl rfl)
theorem dX11_init_149 : decode cX11_init 149 = .ok (.putfield 78, 3) := dk_181 0 78 (dk_at dksX11_init_6 6 rfl rfl)
theorem dX11_init_152 : decode cX11_init 152 = .ok (.return_, 1) := dk_177 (dk_at dksX11_init_6 9 rfl rfl)
abbrev cX11_read : ByteArray := prog_3_method_2_code
def yX11_read : MethodName := ⟨RX11, "read", "(LDotRuns$Line;)LDotRuns$Line;"⟩
def dkwX11_read_3 : List UInt8 := [153, 0, 10, 44, 182, 0, 93, 167, 0, 4, 1, 176]
abbrev dktX11_read_3 : List UInt8 := dkwX11_read_3 ++ []
def dkwX11_read_2 : List UInt8 := [154, 0, 14, 25, 4, 44, 185, 0, 50, 2, 0, 154, 0, 5, 1, 176, 167, 255, 216, 44, 182, 0, 40]
abbrev dktX11_read_2 : List UInt8 := dkwX11_read_2 ++ dktX11_read_3
def dkwX11_read_1 : List UInt8 := [185, 0, 85, 1, 0, 153, 0, 37, 45, 185, 0, 90, 1, 0, 192, 0, 45, 58, 4, 44, 182, 0, 40]
abbrev dktX11_read_1 : List UInt8 := dkwX11_read_1 ++ dktX11_read_2
def dkwX11_read_0 : List UInt8 := [187, 0, 35, 89, 43, 183, 0, 37, 77, 42, 180, 0, 12, 185, 0, 81, 1, 0, 78, 45]
abbrev dktX11_read_0 : List UInt8 := dkwX11_read_0 ++ dktX11_read_1
theorem dksX11_read_0 : cX11_read.data.toList.drop 0 = dktX11_read_0 := by decide +kernel
theorem dksX11_read_1 : cX11_read.data.toList.drop 20 = dktX11_read_1 := dk_seg dksX11_read_0 20 rfl rfl
theorem dksX11_read_2 : cX11_read.data.toList.drop 43 = dktX11_read_2 := dk_seg dksX11_read_1 23 rfl rfl
theorem dksX11_read_3 : cX11_read.data.toList.drop 66 = dktX11_read_3 := dk_seg dksX11_read_2 23 rfl rfl
theorem dX11_read_0 : decode cX11_read 0 = .ok (.new 35, 3) := dk_187 0 35 (dk_at dksX11_read_0 0 rfl rfl)
theorem dX11_read_3 : decode cX11_read 3 = .ok (.dup, 1) := dk_89 (dk_at dksX11_read_0 3 rfl rfl)
theorem dX11_read_4 : decode cX11_read 4 = .ok (.aload_n 1, 1) := dk_43 (dk_at dksX11_read_0 4 rfl rfl)
theorem dX11_read_5 : decode cX11_read 5 = .ok (.invokespecial 37, 3) := dk_183 0 37 (dk_at dksX11_read_0 5 rfl rfl)
theorem dX11_read_8 : decode cX11_read 8 = .ok (.astore_n 2, 1) := dk_77 (dk_at dksX11_read_0 8 rfl rfl)
theorem dX11_read_9 : decode cX11_read 9 = .ok (.aload_n 0, 1) := dk_42 (dk_at dksX11_read_0 9 rfl rfl)
theorem dX11_read_10 : decode cX11_read 10 = .ok (.getfield 12, 3) := dk_180 0 12 (dk_at dksX11_read_0 10 rfl rfl)
theorem dX11_read_13 : decode cX11_read 13 = .ok (.invokeinterface 81 1, 5) := by decide +kernel
theorem dX11_read_18 : decode cX11_read 18 = .ok (.astore_n 3, 1) := dk_78 (dk_at dksX11_read_0 18 rfl rfl)
theorem dX11_read_19 : decode cX11_read 19 = .ok (.aload_n 3, 1) := dk_45 (dk_at dksX11_read_0 19 rfl rfl)
theorem dX11_read_20 : decode cX11_read 20 = .ok (.invokeinterface 85 1, 5) := by decide +kernel
theorem dX11_read_25 : decode cX11_read 25 = .ok (.ifCond .eq 37, 3) := dk_153 0 37 (dk_at dksX11_read_1 5 rfl rfl)
theorem dX11_read_28 : decode cX11_read 28 = .ok (.aload_n 3, 1) := dk_45 (dk_at dksX11_read_1 8 rfl rfl)
theorem dX11_read_29 : decode cX11_read 29 = .ok (.invokeinterface 90 1, 5) := by decide +kernel
theorem dX11_read_34 : decode cX11_read 34 = .ok (.checkcast 45, 3) := dk_192 0 45 (dk_at dksX11_read_1 14 rfl rfl)
theorem dX11_read_37 : decode cX11_read 37 = .ok (.astore 4, 2) := dk_58 4 (dk_at dksX11_read_1 17 rfl rfl)
theorem dX11_read_39 : decode cX11_read 39 = .ok (.aload_n 2, 1) := dk_44 (dk_at dksX11_read_1 19 rfl rfl)
theorem dX11_read_40 : decode cX11_read 40 = .ok (.invokevirtual 40, 3) := dk_182 0 40 (dk_at dksX11_read_1 20 rfl rfl)
theorem dX11_read_43 : decode cX11_read 43 = .ok (.ifCond .ne 14, 3) := dk_154 0 14 (dk_at dksX11_read_2 0 rfl rfl)
theorem dX11_read_46 : decode cX11_read 46 = .ok (.aload 4, 2) := dk_25 4 (dk_at dksX11_read_2 3 rfl rfl)
theorem dX11_read_48 : decode cX11_read 48 = .ok (.aload_n 2, 1) := dk_44 (dk_at dksX11_read_2 5 rfl rfl)
theorem dX11_read_49 : decode cX11_read 49 = .ok (.invokeinterface 50 2, 5) := by decide +kernel
theorem dX11_read_54 : decode cX11_read 54 = .ok (.ifCond .ne 5, 3) := dk_154 0 5 (dk_at dksX11_read_2 11 rfl rfl)
theorem dX11_read_57 : decode cX11_read 57 = .ok (.aconst_null, 1) := dk_1 (dk_at dksX11_read_2 14 rfl rfl)
theorem dX11_read_58 : decode cX11_read 58 = .ok (.areturn, 1) := dk_176 (dk_at dksX11_read_2 15 rfl rfl)
theorem dX11_read_59 : decode cX11_read 59 = .ok (.goto (-40), 3) := dk_167 255 216 (dk_at dksX11_read_2 16 rfl rfl)
theorem dX11_read_62 : decode cX11_read 62 = .ok (.aload_n 2, 1) := dk_44 (dk_at dksX11_read_2 19 rfl rfl)
theorem dX11_read_63 : decode cX11_read 63 = .ok (.invokevirtual 40, 3) := dk_182 0 40 (dk_at dksX11_read_2 20 rfl rfl)
theorem dX11_read_66 : decode cX11_read 66 = .ok (.ifCond .eq 10, 3) := dk_153 0 10 (dk_at dksX11_read_3 0 rfl rfl)
theorem dX11_read_69 : decode cX11_read 69 = .ok (.aload_n 2, 1) := dk_44 (dk_at dksX11_read_3 3 rfl rfl)
theorem dX11_read_70 : decode cX11_read 70 = .ok (.invokevirtual 93, 3) := dk_182 0 93 (dk_at dksX11_read_3 4 rfl rfl)
theorem dX11_read_73 : decode cX11_read 73 = .ok (.goto 4, 3) := dk_167 0 4 (dk_at dksX11_read_3 7 rfl rfl)
theorem dX11_read_76 : decode cX11_read 76 = .ok (.aconst_null, 1) := dk_1 (dk_at dksX11_read_3 10 rfl rfl)
theorem dX11_read_77 : decode cX11_read 77 = .ok (.areturn, 1) := dk_176 (dk_at dksX11_read_3 11 rfl rfl)
theorem q144 : (Jvm.Cond.initialized "DotRuns$Code") ∈ lw_all := lw_g (lw_at lw_m1 34 rfl) rfl
theorem q651 : (Jvm.Cond.instantiable "DotRuns$Code" (6 : Nat)) ∈ lw_all := lw_g (lw_at lw_m3 61 rfl) rfl
theorem q696 : (Jvm.Cond.instanceMethod ({ cls := "DotRuns$Code", name := "<init>", desc := "(LDotRuns$Line;LDotRuns$Line;)V" } : Jvm.MethodName)) ∈ lw_all := lw_g (lw_at lw_m3 106 rfl) rfl
theorem q697 : (Jvm.Cond.code ({ cls := "DotRuns$Code", name := "<init>", desc := "(LDotRuns$Line;LDotRuns$Line;)V" } : Jvm.MethodName) prog_3_method_1_code (7 : Nat) (Option.none : Option Jvm.ClassFile.FieldType)) ∈ lw_all := lw_g (lw_at lw_m3 107 rfl) rfl
theorem q698 : (Jvm.Cond.methodLink "DotRuns$Code" (3 : Nat) ({ cls := "java/lang/Object", name := "<init>", desc := "()V" } : Jvm.MethodName)) ∈ lw_all := lw_g (lw_at lw_m3 108 rfl) rfl
theorem q699 : (Jvm.Cond.classLink "DotRuns$Code" (9 : Nat) "java/util/ArrayList") ∈ lw_all := lw_g (lw_at lw_m3 109 rfl) rfl
theorem q700 : (Jvm.Cond.methodLink "DotRuns$Code" (11 : Nat) ({ cls := "java/util/ArrayList", name := "<init>", desc := "()V" } : Jvm.MethodName)) ∈ lw_all := lw_g (lw_at lw_m3 110 rfl) rfl
theorem q705 : (Jvm.Cond.methodLink "DotRuns$Code" (25 : Nat) ({ cls := "DotRuns$Runs", name := "of", desc := "(LDotRuns$Line;)LDotRuns$Runs;" } : Jvm.MethodName)) ∈ lw_all := lw_g (lw_at lw_m3 115 rfl) rfl
theorem q733 : (Jvm.Cond.classLink "DotRuns$Code" (35 : Nat) "DotRuns$Walk") ∈ lw_all := lw_g (lw_at lw_m3 143 rfl) rfl
theorem q735 : (Jvm.Cond.methodLink "DotRuns$Code" (37 : Nat) ({ cls := "DotRuns$Walk", name := "<init>", desc := "(LDotRuns$Line;)V" } : Jvm.MethodName)) ∈ lw_all := lw_g (lw_at lw_m3 145 rfl) rfl
theorem q742 : (Jvm.Cond.fieldLinkNest "DotRuns$Code" (60 : Nat) "DotRuns$Walk" "place" "I" "DotRuns") ∈ lw_tbl := lw_at lw_m3 152 rfl
theorem q760 : (Jvm.Cond.methodLink "DotRuns$Code" (40 : Nat) ({ cls := "DotRuns$Walk", name := "isOver", desc := "()Z" } : Jvm.MethodName)) ∈ lw_all := lw_g (lw_at lw_m3 170 rfl) rfl
theorem q768 : (Jvm.Cond.methodLink "DotRuns$Code" (44 : Nat) ({ cls := "DotRuns$Mode", name := "next", desc := "(LDotRuns$Walk;LDotRuns$Line;)LDotRuns$Mode;" } : Jvm.MethodName)) ∈ lw_all := lw_g (lw_at lw_m3 178 rfl) rfl
theorem q835 : (Jvm.Cond.interfaceEntry "DotRuns$Code" (50 : Nat)) ∈ lw_tbl := lw_at lw_m4 5 rfl
theorem q836 : (Jvm.Cond.methodLink "DotRuns$Code" (50 : Nat) ({ cls := "DotRuns$Mode", name := "goes", desc := "(LDotRuns$Walk;)Z" } : Jvm.MethodName)) ∈ lw_all := lw_g (lw_at lw_m4 6 rfl) rfl
theorem q883 : (Jvm.Cond.interfaceEntry "DotRuns$Code" (54 : Nat)) ∈ lw_tbl := lw_at lw_m4 53 rfl
theorem q884 : (Jvm.Cond.methodLink "DotRuns$Code" (54 : Nat) ({ cls := "java/util/List", name := "size", desc := "()I" } : Jvm.MethodName)) ∈ lw_all := lw_g (lw_at lw_m4 54 rfl) rfl
theorem q885 : (Jvm.Cond.interfaceEntry "DotRuns$Code" (64 : Nat)) ∈ lw_tbl := lw_at lw_m4 55 rfl
theorem q886 : (Jvm.Cond.methodLink "DotRuns$Code" (64 : Nat) ({ cls := "java/util/List", name := "add", desc := "(Ljava/lang/Object;)Z" } : Jvm.MethodName)) ∈ lw_all := lw_g (lw_at lw_m4 56 rfl) rfl
theorem q914 : (Jvm.Cond.selects "DotRuns$Code" ({ cls := "java/lang/Object", name := "getClass", desc := "()Ljava/lang/Class;" } : Jvm.MethodName) ({ cls := "java/lang/Object", name := "getClass", desc := "()Ljava/lang/Class;" } : Jvm.MethodName)) ∈ lw_all := lw_g (lw_at lw_m4 84 rfl) rfl
theorem q944 : (Jvm.Cond.interfaceEntry "DotRuns$Code" (68 : Nat)) ∈ lw_tbl := lw_at lw_m4 114 rfl
theorem q945 : (Jvm.Cond.methodLink "DotRuns$Code" (68 : Nat) ({ cls := "DotRuns$Mode", name := "sort", desc := "()I" } : Jvm.MethodName)) ∈ lw_all := lw_g (lw_at lw_m4 115 rfl) rfl
theorem q963 : (Jvm.Cond.interfaceEntry "DotRuns$Code" (71 : Nat)) ∈ lw_tbl := lw_at lw_m4 133 rfl
theorem q1042 : (Jvm.Cond.fieldLink "DotRuns$Code" (31 : Nat) "DotRuns$Code" "runs" "LDotRuns$Runs;") ∈ lw_all := lw_g (lw_at lw_m4 212 rfl) rfl
theorem q1044 : (Jvm.Cond.fieldLink "DotRuns$Code" (12 : Nat) "DotRuns$Code" "modes" "Ljava/util/List;") ∈ lw_all := lw_g (lw_at lw_m4 214 rfl) rfl
theorem q1046 : (Jvm.Cond.fieldLink "DotRuns$Code" (18 : Nat) "DotRuns$Code" "places" "[I") ∈ lw_all := lw_g (lw_at lw_m4 216 rfl) rfl
theorem q1048 : (Jvm.Cond.fieldLink "DotRuns$Code" (22 : Nat) "DotRuns$Code" "sorts" "[I") ∈ lw_all := lw_g (lw_at lw_m4 218 rfl) rfl
theorem q1050 : (Jvm.Cond.fieldLink "DotRuns$Code" (75 : Nat) "DotRuns$Code" "alone" "I") ∈ lw_all := lw_g (lw_at lw_m4 220 rfl) rfl
theorem q1053 : (Jvm.Cond.fieldLink "DotRuns$Code" (78 : Nat) "DotRuns$Code" "byAbove" "I") ∈ lw_all := lw_g (lw_at lw_m4 223 rfl) rfl
theorem q1056 : (Jvm.Cond.laysFinal "DotRuns$Code" "DotRuns$Code" "runs" "LDotRuns$Runs;") ∈ lw_all := lw_g (lw_at lw_m4 226 rfl) rfl
theorem q1057 : (Jvm.Cond.soleField "DotRuns$Code" "runs") ∈ lw_all := lw_g (lw_at lw_m4 227 rfl) rfl
theorem q1058 : (Jvm.Cond.laysFinal "DotRuns$Code" "DotRuns$Code" "modes" "Ljava/util/List;") ∈ lw_all := lw_g (lw_at lw_m4 228 rfl) rfl
theorem q1059 : (Jvm.Cond.soleField "DotRuns$Code" "modes") ∈ lw_all := lw_g (lw_at lw_m4 229 rfl) rfl
theorem q1060 : (Jvm.Cond.laysFinal "DotRuns$Code" "DotRuns$Code" "places" "[I") ∈ lw_all := lw_g (lw_at lw_m4 230 rfl) rfl
theorem q1061 : (Jvm.Cond.soleField "DotRuns$Code" "places") ∈ lw_all := lw_g (lw_at lw_m4 231 rfl) rfl
theorem q1062 : (Jvm.Cond.laysFinal "DotRuns$Code" "DotRuns$Code" "sorts" "[I") ∈ lw_all := lw_g (lw_at lw_m4 232 rfl) rfl
theorem q1063 : (Jvm.Cond.soleField "DotRuns$Code" "sorts") ∈ lw_all := lw_g (lw_at lw_m4 233 rfl) rfl
theorem q1064 : (Jvm.Cond.laysFinal "DotRuns$Code" "DotRuns$Code" "alone" "I") ∈ lw_all := lw_g (lw_at lw_m4 234 rfl) rfl
theorem q1065 : (Jvm.Cond.soleField "DotRuns$Code" "alone") ∈ lw_all := lw_g (lw_at lw_m4 235 rfl) rfl
theorem q1066 : (Jvm.Cond.laysFinal "DotRuns$Code" "DotRuns$Code" "byAbove" "I") ∈ lw_all := lw_g (lw_at lw_m4 236 rfl) rfl
theorem q1067 : (Jvm.Cond.soleField "DotRuns$Code" "byAbove") ∈ lw_all := lw_g (lw_at lw_m4 237 rfl) rfl
theorem q1068 : (Jvm.Cond.superclass "DotRuns$Code" "java/lang/Object") ∈ lw_all := lw_g (lw_at lw_m4 238 rfl) rfl
theorem q1089 : (Jvm.Cond.instanceMethod ({ cls := "DotRuns$Code", name := "read", desc := "(LDotRuns$Line;)LDotRuns$Line;" } : Jvm.MethodName)) ∈ lw_all := lw_g (lw_at lw_m5 19 rfl) rfl
theorem q1090 : (Jvm.Cond.selects "DotRuns$Code" ({ cls := "DotRuns$Code", name := "read", desc := "(LDotRuns$Line;)LDotRuns$Line;" } : Jvm.MethodName) ({ cls := "DotRuns$Code", name := "read", desc := "(LDotRuns$Line;)LDotRuns$Line;" } : Jvm.MethodName)) ∈ lw_all := lw_g (lw_at lw_m5 20 rfl) rfl
theorem q1091 : (Jvm.Cond.code ({ cls := "DotRuns$Code", name := "read", desc := "(LDotRuns$Line;)LDotRuns$Line;" } : Jvm.MethodName) prog_3_method_2_code (5 : Nat) (Option.some (Jvm.ClassFile.FieldType.object "DotRuns$Line"))) ∈ lw_all := lw_g (lw_at lw_m5 21 rfl) rfl
theorem q1092 : (Jvm.Cond.interfaceEntry "DotRuns$Code" (81 : Nat)) ∈ lw_tbl := lw_at lw_m5 22 rfl
theorem q1093 : (Jvm.Cond.methodLink "DotRuns$Code" (81 : Nat) ({ cls := "java/util/List", name := "iterator", desc := "()Ljava/util/Iterator;" } : Jvm.MethodName)) ∈ lw_all := lw_g (lw_at lw_m5 23 rfl) rfl
theorem q1120 : (Jvm.Cond.interfaceEntry "DotRuns$Code" (85 : Nat)) ∈ lw_tbl := lw_at lw_m5 50 rfl
theorem q1121 : (Jvm.Cond.methodLink "DotRuns$Code" (85 : Nat) ({ cls := "java/util/Iterator", name := "hasNext", desc := "()Z" } : Jvm.MethodName)) ∈ lw_all := lw_g (lw_at lw_m5 51 rfl) rfl
theorem q1130 : (Jvm.Cond.interfaceEntry "DotRuns$Code" (90 : Nat)) ∈ lw_tbl := lw_at lw_m5 60 rfl
theorem q1131 : (Jvm.Cond.methodLink "DotRuns$Code" (90 : Nat) ({ cls := "java/util/Iterator", name := "next", desc := "()Ljava/lang/Object;" } : Jvm.MethodName)) ∈ lw_all := lw_g (lw_at lw_m5 61 rfl) rfl
theorem q1143 : (Jvm.Cond.classLink "DotRuns$Code" (45 : Nat) "DotRuns$Mode") ∈ lw_all := lw_g (lw_at lw_m5 73 rfl) rfl
theorem q1144 : (Jvm.Cond.methodLink "DotRuns$Code" (93 : Nat) ({ cls := "DotRuns$Walk", name := "made", desc := "()LDotRuns$Line;" } : Jvm.MethodName)) ∈ lw_all := lw_g (lw_at lw_m5 74 rfl) rfl
theorem q2790 : (Jvm.Cond.castable "DotRuns$Code" "java/lang/Object") ∈ lw_tbl := lw_at lw_m12 40 rfl
theorem in_X11 : ∀ w ∈ wsX110, w ∈ lw_all := lw_in wsX110 [1056, 1058, 1060, 1062, 1064, 1066] (by decide +kernel) (by decide +kernel)

/-! DotRuns$Runs -/
set_option maxRecDepth 100000
def RX12 : String := "DotRuns$Runs"
def TX12 : u_T := fun k => match k with
  | 0 => ("DotRuns$Runs", "runs", "[I", true)
  | _ => ("DotRuns$Runs", "many", "I", false)
def tyX12 : Nat → FieldType := fun k => match k with
  | 0 => .array .int
  | _ => .int
abbrev wsX120 : List Cond := u_ws RX12 TX12 2
theorem nmX12 : ∀ a, a < 2 → ∀ b, b < 2 → a ≠ b → (TX12 a).2.1 ≠ (TX12 b).2.1 := by decide +kernel
theorem tyX12_ok : ∀ k, k < 2 → parseFieldDescriptor (TX12 k).2.2.1 = some (tyX12 k) := by decide +kernel
abbrev cX12_of : ByteArray := prog_11_method_2_code
def yX12_of : MethodName := ⟨RX12, "of", "(LDotRuns$Line;)LDotRuns$Runs;"⟩
def dkwX12_of_2 : List UInt8 := [43, 176]
abbrev dktX12_of_2 : List UInt8 := dkwX12_of_2 ++ []
def dkwX12_of_1 : List UInt8 := [100, 182, 0, 22, 54, 4, 43, 21, 4, 28, 100, 182, 0, 26, 21, 4, 61, 4, 29, 100, 62, 167, 255, 223]
abbrev dktX12_of_1 : List UInt8 := dkwX12_of_1 ++ dktX12_of_2
def dkwX12_of_0 : List UInt8 := [187, 0, 10, 89, 183, 0, 15, 76, 3, 61, 3, 62, 28, 42, 180, 0, 16, 162, 0, 31, 42, 28, 4, 29]
abbrev dktX12_of_0 : List UInt8 := dkwX12_of_0 ++ dktX12_of_1
theorem dksX12_of_0 : cX12_of.data.toList.drop 0 = dktX12_of_0 := by decide +kernel
theorem dksX12_of_1 : cX12_of.data.toList.drop 24 = dktX12_of_1 := dk_seg dksX12_of_0 24 rfl rfl
theorem dksX12_of_2 : cX12_of.data.toList.drop 48 = dktX12_of_2 := dk_seg dksX12_of_1 24 rfl rfl
theorem dX12_of_0 : decode cX12_of 0 = .ok (.new 10, 3) := dk_187 0 10 (dk_at dksX12_of_0 0 rfl rfl)
theorem dX12_of_3 : decode cX12_of 3 = .ok (.dup, 1) := dk_89 (dk_at dksX12_of_0 3 rfl rfl)
theorem dX12_of_4 : decode cX12_of 4 = .ok (.invokespecial 15, 3) := dk_183 0 15 (dk_at dksX12_of_0 4 rfl rfl)
theorem dX12_of_7 : decode cX12_of 7 = .ok (.astore_n 1, 1) := dk_76 (dk_at dksX12_of_0 7 rfl rfl)
theorem dX12_of_8 : decode cX12_of 8 = .ok (.iconst 0, 1) := dk_3 (dk_at dksX12_of_0 8 rfl rfl)
theorem dX12_of_9 : decode cX12_of 9 = .ok (.istore_n 2, 1) := dk_61 (dk_at dksX12_of_0 9 rfl rfl)
theorem dX12_of_10 : decode cX12_of 10 = .ok (.iconst 0, 1) := dk_3 (dk_at dksX12_of_0 10 rfl rfl)
theorem dX12_of_11 : decode cX12_of 11 = .ok (.istore_n 3, 1) := dk_62 (dk_at dksX12_of_0 11 rfl rfl)
theorem dX12_of_12 : decode cX12_of 12 = .ok (.iload_n 2, 1) := dk_28 (dk_at dksX12_of_0 12 rfl rfl)
theorem dX12_of_13 : decode cX12_of 13 = .ok (.aload_n 0, 1) := dk_42 (dk_at dksX12_of_0 13 rfl rfl)
theorem dX12_of_14 : decode cX12_of 14 = .ok (.getfield 16, 3) := dk_180 0 16 (dk_at dksX12_of_0 14 rfl rfl)
theorem dX12_of_17 : decode cX12_of 17 = .ok (.if_icmp .ge 31, 3) := dk_162 0 31 (dk_at dksX12_of_0 17 rfl rfl)
theorem dX12_of_20 : decode cX12_of 20 = .ok (.aload_n 0, 1) := dk_42 (dk_at dksX12_of_0 20 rfl rfl)
theorem dX12_of_21 : decode cX12_of 21 = .ok (.iload_n 2, 1) := dk_28 (dk_at dksX12_of_0 21 rfl rfl)
theorem dX12_of_22 : decode cX12_of 22 = .ok (.iconst 1, 1) := dk_4 (dk_at dksX12_of_0 22 rfl rfl)
theorem dX12_of_23 : decode cX12_of 23 = .ok (.iload_n 3, 1) := dk_29 (dk_at dksX12_of_0 23 rfl rfl)
theorem dX12_of_24 : decode cX12_of 24 = .ok (.isub, 1) := dk_100 (dk_at dksX12_of_1 0 rfl rfl)
theorem dX12_of_25 : decode cX12_of 25 = .ok (.invokevirtual 22, 3) := dk_182 0 22 (dk_at dksX12_of_1 1 rfl rfl)
theorem dX12_of_28 : decode cX12_of 28 = .ok (.istore 4, 2) := dk_54 4 (dk_at dksX12_of_1 4 rfl rfl)
theorem dX12_of_30 : decode cX12_of 30 = .ok (.aload_n 1, 1) := dk_43 (dk_at dksX12_of_1 6 rfl rfl)
theorem dX12_of_31 : decode cX12_of 31 = .ok (.iload 4, 2) := dk_21 4 (dk_at dksX12_of_1 7 rfl rfl)
theorem dX12_of_33 : decode cX12_of 33 = .ok (.iload_n 2, 1) := dk_28 (dk_at dksX12_of_1 9 rfl rfl)
theorem dX12_of_34 : decode cX12_of 34 = .ok (.isub, 1) := dk_100 (dk_at dksX12_of_1 10 rfl rfl)
theorem dX12_of_35 : decode cX12_of 35 = .ok (.invokevirtual 26, 3) := dk_182 0 26 (dk_at dksX12_of_1 11 rfl rfl)
theorem dX12_of_38 : decode cX12_of 38 = .ok (.iload 4, 2) := dk_21 4 (dk_at dksX12_of_1 14 rfl rfl)
theorem dX12_of_40 : decode cX12_of 40 = .ok (.istore_n 2, 1) := dk_61 (dk_at dksX12_of_1 16 rfl rfl)
theorem dX12_of_41 : decode cX12_of 41 = .ok (.iconst 1, 1) := dk_4 (dk_at dksX12_of_1 17 rfl rfl)
theorem dX12_of_42 : decode cX12_of 42 = .ok (.iload_n 3, 1) := dk_29 (dk_at dksX12_of_1 18 rfl rfl)
theorem dX12_of_43 : decode cX12_of 43 = .ok (.isub, 1) := dk_100 (dk_at dksX12_of_1 19 rfl rfl)
theorem dX12_of_44 : decode cX12_of 44 = .ok (.istore_n 3, 1) := dk_62 (dk_at dksX12_of_1 20 rfl rfl)
theorem dX12_of_45 : decode cX12_of 45 = .ok (.goto (-33), 3) := dk_167 255 223 (dk_at dksX12_of_1 21 rfl rfl)
theorem dX12_of_48 : decode cX12_of 48 = .ok (.aload_n 1, 1) := dk_43 (dk_at dksX12_of_2 0 rfl rfl)
theorem dX12_of_49 : decode cX12_of 49 = .ok (.areturn, 1) := dk_176 (dk_at dksX12_of_2 1 rfl rfl)
abbrev cX12_init : ByteArray := prog_11_method_1_code
def yX12_init : MethodName := ⟨RX12, "<init>", "()V"⟩
def dkwX12_init_0 : List UInt8 := [42, 183, 0, 3, 42, 16, 41, 188, 10, 181, 0, 9, 177]
abbrev dktX12_init_0 : List UInt8 := dkwX12_init_0 ++ []
theorem dksX12_init_0 : cX12_init.data.toList.drop 0 = dktX12_init_0 := by decide +kernel
theorem dX12_init_0 : decode cX12_init 0 = .ok (.aload_n 0, 1) := dk_42 (dk_at dksX12_init_0 0 rfl rfl)
theorem dX12_init_1 : decode cX12_init 1 = .ok (.invokespecial 3, 3) := dk_183 0 3 (dk_at dksX12_init_0 1 rfl rfl)
theorem dX12_init_4 : decode cX12_init 4 = .ok (.aload_n 0, 1) := dk_42 (dk_at dksX12_init_0 4 rfl rfl)
theorem dX12_init_5 : decode cX12_init 5 = .ok (.bipush 41, 2) := dk_16 41 (dk_at dksX12_init_0 5 rfl rfl)
theorem dX12_init_7 : decode cX12_init 7 = .ok (.newarray .int, 2) := dk_188_10 (dk_at dksX12_init_0 7 rfl rfl)
theorem dX12_init_9 : decode cX12_init 9 = .ok (.putfield 9, 3) := dk_181 0 9 (dk_at dksX12_init_0 9 rfl rfl)
theorem dX12_init_12 : decode cX12_init 12 = .ok (.return_, 1) := dk_177 (dk_at dksX12_init_0 12 rfl rfl)
abbrev cX12_adds : ByteArray := prog_11_method_3_code
def yX12_adds : MethodName := ⟨RX12, "adds", "(I)V"⟩
def dkwX12_adds_0 : List UInt8 := [42, 180, 0, 9, 42, 180, 0, 30, 27, 79, 42, 89, 180, 0, 30, 4, 96, 181, 0, 30, 177]
abbrev dktX12_adds_0 : List UInt8 := dkwX12_adds_0 ++ []
theorem dksX12_adds_0 : cX12_adds.data.toList.drop 0 = dktX12_adds_0 := by decide +kernel
theorem dX12_adds_0 : decode cX12_adds 0 = .ok (.aload_n 0, 1) := dk_42 (dk_at dksX12_adds_0 0 rfl rfl)
theorem dX12_adds_1 : decode cX12_adds 1 = .ok (.getfield 9, 3) := dk_180 0 9 (dk_at dksX12_adds_0 1 rfl rfl)
theorem dX12_adds_4 : decode cX12_adds 4 = .ok (.aload_n 0, 1) := dk_42 (dk_at dksX12_adds_0 4 rfl rfl)
theorem dX12_adds_5 : decode cX12_adds 5 = .ok (.getfield 30, 3) := dk_180 0 30 (dk_at dksX12_adds_0 5 rfl rfl)
theorem dX12_adds_8 : decode cX12_adds 8 = .ok (.iload_n 1, 1) := dk_27 (dk_at dksX12_adds_0 8 rfl rfl)
theorem dX12_adds_9 : decode cX12_adds 9 = .ok (.iastore, 1) := dk_79 (dk_at dksX12_adds_0 9 rfl rfl)
theorem dX12_adds_10 : decode cX12_adds 10 = .ok (.aload_n 0, 1) := dk_42 (dk_at dksX12_adds_0 10 rfl rfl)
theorem dX12_adds_11 : decode cX12_adds 11 = .ok (.dup, 1) := dk_89 (dk_at dksX12_adds_0 11 rfl rfl)
theorem dX12_adds_12 : decode cX12_adds 12 = .ok (.getfield 30, 3) := dk_180 0 30 (dk_at dksX12_adds_0 12 rfl rfl)
theorem dX12_adds_15 : decode cX12_adds 15 = .ok (.iconst 1, 1) := dk_4 (dk_at dksX12_adds_0 15 rfl rfl)
theorem dX12_adds_16 : decode cX12_adds 16 = .ok (.iadd, 1) := dk_96 (dk_at dksX12_adds_0 16 rfl rfl)
theorem dX12_adds_17 : decode cX12_adds 17 = .ok (.putfield 30, 3) := dk_181 0 30 (dk_at dksX12_adds_0 17 rfl rfl)
theorem dX12_adds_20 : decode cX12_adds 20 = .ok (.return_, 1) := dk_177 (dk_at dksX12_adds_0 20 rfl rfl)
abbrev cX12_many : ByteArray := prog_11_method_4_code
def yX12_many : MethodName := ⟨RX12, "many", "()I"⟩
theorem dX12_many_0 : decode cX12_many 0 = .ok (.aload_n 0, 1) := by decide +kernel
theorem dX12_many_1 : decode cX12_many 1 = .ok (.getfield 30, 3) := by decide +kernel
theorem dX12_many_4 : decode cX12_many 4 = .ok (.ireturn, 1) := by decide +kernel
abbrev cX12_number : ByteArray := prog_11_method_5_code
def yX12_number : MethodName := ⟨RX12, "number", "(I)I"⟩
def dkwX12_number_0 : List UInt8 := [42, 180, 0, 9, 27, 46, 172]
abbrev dktX12_number_0 : List UInt8 := dkwX12_number_0 ++ []
theorem dksX12_number_0 : cX12_number.data.toList.drop 0 = dktX12_number_0 := by decide +kernel
theorem dX12_number_0 : decode cX12_number 0 = .ok (.aload_n 0, 1) := dk_42 (dk_at dksX12_number_0 0 rfl rfl)
theorem dX12_number_1 : decode cX12_number 1 = .ok (.getfield 9, 3) := dk_180 0 9 (dk_at dksX12_number_0 1 rfl rfl)
theorem dX12_number_4 : decode cX12_number 4 = .ok (.iload_n 1, 1) := dk_27 (dk_at dksX12_number_0 4 rfl rfl)
theorem dX12_number_5 : decode cX12_number 5 = .ok (.iaload, 1) := dk_46 (dk_at dksX12_number_0 5 rfl rfl)
theorem dX12_number_6 : decode cX12_number 6 = .ok (.ireturn, 1) := dk_172 (dk_at dksX12_number_0 6 rfl rfl)
theorem q145 : (Jvm.Cond.initialized "DotRuns$Runs") ∈ lw_all := lw_g (lw_at lw_m1 35 rfl) rfl
theorem q686 : (Jvm.Cond.fieldLinkNest "DotRuns$Runs" (16 : Nat) "DotRuns$Line" "wide" "I" "DotRuns") ∈ lw_tbl := lw_at lw_m3 96 rfl
theorem q706 : (Jvm.Cond.static ({ cls := "DotRuns$Runs", name := "of", desc := "(LDotRuns$Line;)LDotRuns$Runs;" } : Jvm.MethodName)) ∈ lw_all := lw_g (lw_at lw_m3 116 rfl) rfl
theorem q707 : (Jvm.Cond.code ({ cls := "DotRuns$Runs", name := "of", desc := "(LDotRuns$Line;)LDotRuns$Runs;" } : Jvm.MethodName) prog_11_method_2_code (5 : Nat) (Option.some (Jvm.ClassFile.FieldType.object "DotRuns$Runs"))) ∈ lw_all := lw_g (lw_at lw_m3 117 rfl) rfl
theorem q708 : (Jvm.Cond.classLink "DotRuns$Runs" (10 : Nat) "DotRuns$Runs") ∈ lw_all := lw_g (lw_at lw_m3 118 rfl) rfl
theorem q709 : (Jvm.Cond.instantiable "DotRuns$Runs" (2 : Nat)) ∈ lw_all := lw_g (lw_at lw_m3 119 rfl) rfl
theorem q710 : (Jvm.Cond.methodLink "DotRuns$Runs" (15 : Nat) ({ cls := "DotRuns$Runs", name := "<init>", desc := "()V" } : Jvm.MethodName)) ∈ lw_all := lw_g (lw_at lw_m3 120 rfl) rfl
theorem q711 : (Jvm.Cond.instanceMethod ({ cls := "DotRuns$Runs", name := "<init>", desc := "()V" } : Jvm.MethodName)) ∈ lw_all := lw_g (lw_at lw_m3 121 rfl) rfl
theorem q712 : (Jvm.Cond.code ({ cls := "DotRuns$Runs", name := "<init>", desc := "()V" } : Jvm.MethodName) prog_11_method_1_code (1 : Nat) (Option.none : Option Jvm.ClassFile.FieldType)) ∈ lw_all := lw_g (lw_at lw_m3 122 rfl) rfl
theorem q713 : (Jvm.Cond.methodLink "DotRuns$Runs" (3 : Nat) ({ cls := "java/lang/Object", name := "<init>", desc := "()V" } : Jvm.MethodName)) ∈ lw_all := lw_g (lw_at lw_m3 123 rfl) rfl
theorem q714 : (Jvm.Cond.fieldLink "DotRuns$Runs" (9 : Nat) "DotRuns$Runs" "runs" "[I") ∈ lw_all := lw_g (lw_at lw_m3 124 rfl) rfl
theorem q715 : (Jvm.Cond.fieldLink "DotRuns$Runs" (30 : Nat) "DotRuns$Runs" "many" "I") ∈ lw_all := lw_g (lw_at lw_m3 125 rfl) rfl
theorem q716 : (Jvm.Cond.laysFinal "DotRuns$Runs" "DotRuns$Runs" "runs" "[I") ∈ lw_all := lw_g (lw_at lw_m3 126 rfl) rfl
theorem q717 : (Jvm.Cond.soleField "DotRuns$Runs" "runs") ∈ lw_all := lw_g (lw_at lw_m3 127 rfl) rfl
theorem q718 : (Jvm.Cond.lays "DotRuns$Runs" "DotRuns$Runs" "many" "I") ∈ lw_all := lw_g (lw_at lw_m3 128 rfl) rfl
theorem q719 : (Jvm.Cond.soleField "DotRuns$Runs" "many") ∈ lw_all := lw_g (lw_at lw_m3 129 rfl) rfl
theorem q720 : (Jvm.Cond.superclass "DotRuns$Runs" "java/lang/Object") ∈ lw_all := lw_g (lw_at lw_m3 130 rfl) rfl
theorem q721 : (Jvm.Cond.methodLink "DotRuns$Runs" (22 : Nat) ({ cls := "DotRuns$Line", name := "find", desc := "(II)I" } : Jvm.MethodName)) ∈ lw_all := lw_g (lw_at lw_m3 131 rfl) rfl
theorem q729 : (Jvm.Cond.methodLink "DotRuns$Runs" (26 : Nat) ({ cls := "DotRuns$Runs", name := "adds", desc := "(I)V" } : Jvm.MethodName)) ∈ lw_all := lw_g (lw_at lw_m3 139 rfl) rfl
theorem q730 : (Jvm.Cond.privateMethod ({ cls := "DotRuns$Runs", name := "adds", desc := "(I)V" } : Jvm.MethodName)) ∈ lw_tbl := lw_at lw_m3 140 rfl
theorem q731 : (Jvm.Cond.instanceMethod ({ cls := "DotRuns$Runs", name := "adds", desc := "(I)V" } : Jvm.MethodName)) ∈ lw_all := lw_g (lw_at lw_m3 141 rfl) rfl
theorem q732 : (Jvm.Cond.code ({ cls := "DotRuns$Runs", name := "adds", desc := "(I)V" } : Jvm.MethodName) prog_11_method_3_code (2 : Nat) (Option.none : Option Jvm.ClassFile.FieldType)) ∈ lw_all := lw_g (lw_at lw_m3 142 rfl) rfl
theorem q921 : (Jvm.Cond.selects "DotRuns$Runs" ({ cls := "java/lang/Object", name := "getClass", desc := "()Ljava/lang/Class;" } : Jvm.MethodName) ({ cls := "java/lang/Object", name := "getClass", desc := "()Ljava/lang/Class;" } : Jvm.MethodName)) ∈ lw_all := lw_g (lw_at lw_m4 91 rfl) rfl
theorem q989 : (Jvm.Cond.castable "DotRuns$Runs" "DotRuns$Told") ∈ lw_tbl := lw_at lw_m4 159 rfl
theorem q990 : (Jvm.Cond.selects "DotRuns$Runs" ({ cls := "DotRuns$Told", name := "many", desc := "()I" } : Jvm.MethodName) ({ cls := "DotRuns$Runs", name := "many", desc := "()I" } : Jvm.MethodName)) ∈ lw_all := lw_g (lw_at lw_m4 160 rfl) rfl
theorem q991 : (Jvm.Cond.unhidden "DotRuns$Runs" "many" "()I") ∈ lw_tbl := lw_at lw_m4 161 rfl
theorem q992 : (Jvm.Cond.instanceMethod ({ cls := "DotRuns$Runs", name := "many", desc := "()I" } : Jvm.MethodName)) ∈ lw_all := lw_g (lw_at lw_m4 162 rfl) rfl
theorem q993 : (Jvm.Cond.publicMethod ({ cls := "DotRuns$Runs", name := "many", desc := "()I" } : Jvm.MethodName)) ∈ lw_tbl := lw_at lw_m4 163 rfl
theorem q994 : (Jvm.Cond.code ({ cls := "DotRuns$Runs", name := "many", desc := "()I" } : Jvm.MethodName) prog_11_method_4_code (1 : Nat) (Option.some Jvm.ClassFile.FieldType.int)) ∈ lw_all := lw_g (lw_at lw_m4 164 rfl) rfl
theorem q1015 : (Jvm.Cond.selects "DotRuns$Runs" ({ cls := "DotRuns$Told", name := "number", desc := "(I)I" } : Jvm.MethodName) ({ cls := "DotRuns$Runs", name := "number", desc := "(I)I" } : Jvm.MethodName)) ∈ lw_all := lw_g (lw_at lw_m4 185 rfl) rfl
theorem q1016 : (Jvm.Cond.unhidden "DotRuns$Runs" "number" "(I)I") ∈ lw_tbl := lw_at lw_m4 186 rfl
theorem q1017 : (Jvm.Cond.instanceMethod ({ cls := "DotRuns$Runs", name := "number", desc := "(I)I" } : Jvm.MethodName)) ∈ lw_all := lw_g (lw_at lw_m4 187 rfl) rfl
theorem q1018 : (Jvm.Cond.publicMethod ({ cls := "DotRuns$Runs", name := "number", desc := "(I)I" } : Jvm.MethodName)) ∈ lw_tbl := lw_at lw_m4 188 rfl
theorem q1019 : (Jvm.Cond.code ({ cls := "DotRuns$Runs", name := "number", desc := "(I)I" } : Jvm.MethodName) prog_11_method_5_code (2 : Nat) (Option.some Jvm.ClassFile.FieldType.int)) ∈ lw_all := lw_g (lw_at lw_m4 189 rfl) rfl
theorem q1041 : (Jvm.Cond.unhidden "DotRuns$Runs" "bits" "()I") ∈ lw_tbl := lw_at lw_m4 211 rfl
theorem q2767 : (Jvm.Cond.selects "DotRuns$Runs" ({ cls := "DotRuns$Runs", name := "many", desc := "()I" } : Jvm.MethodName) ({ cls := "DotRuns$Runs", name := "many", desc := "()I" } : Jvm.MethodName)) ∈ lw_all := lw_g (lw_at lw_m12 17 rfl) rfl
theorem q2768 : (Jvm.Cond.selects "DotRuns$Runs" ({ cls := "DotRuns$Runs", name := "number", desc := "(I)I" } : Jvm.MethodName) ({ cls := "DotRuns$Runs", name := "number", desc := "(I)I" } : Jvm.MethodName)) ∈ lw_all := lw_g (lw_at lw_m12 18 rfl) rfl
theorem q2791 : (Jvm.Cond.castable "DotRuns$Runs" "java/lang/Object") ∈ lw_tbl := lw_at lw_m12 41 rfl
theorem in_X12 : ∀ w ∈ wsX120, w ∈ lw_all := lw_in wsX120 [716, 718] (by decide +kernel) (by decide +kernel)

/-! DotRuns$Mode -/
set_option maxRecDepth 100000
def RX13 : String := "DotRuns$Mode"
abbrev cX13_next : ByteArray := prog_7_method_4_code
def yX13_next : MethodName := ⟨RX13, "next", "(LDotRuns$Walk;LDotRuns$Line;)LDotRuns$Mode;"⟩
def dkwX13_next_3 : List UInt8 := [96, 42, 182, 0, 45, 184, 0, 48, 42, 180, 0, 53, 182, 0, 11, 28, 100, 183, 0, 56, 176]
abbrev dktX13_next_3 : List UInt8 := dkwX13_next_3 ++ []
def dkwX13_next_2 : List UInt8 := [187, 0, 35, 89, 28, 29, 100, 183, 0, 37, 176, 187, 0, 40, 89, 28, 42, 182, 0, 42, 100, 43, 28, 4]
abbrev dktX13_next_2 : List UInt8 := dkwX13_next_2 ++ dktX13_next_3
def dkwX13_next_1 : List UInt8 := [28, 162, 0, 11, 187, 0, 23, 89, 183, 0, 25, 176, 28, 29, 100, 16, 253, 6, 184, 0, 29, 153, 0, 14]
abbrev dktX13_next_1 : List UInt8 := dkwX13_next_1 ++ dktX13_next_2
def dkwX13_next_0 : List UInt8 := [43, 42, 180, 0, 1, 4, 96, 42, 182, 0, 7, 182, 0, 11, 61, 42, 182, 0, 17, 62, 42, 182, 0, 20]
abbrev dktX13_next_0 : List UInt8 := dkwX13_next_0 ++ dktX13_next_1
theorem dksX13_next_0 : cX13_next.data.toList.drop 0 = dktX13_next_0 := by decide +kernel
theorem dksX13_next_1 : cX13_next.data.toList.drop 24 = dktX13_next_1 := dk_seg dksX13_next_0 24 rfl rfl
theorem dksX13_next_2 : cX13_next.data.toList.drop 48 = dktX13_next_2 := dk_seg dksX13_next_1 24 rfl rfl
theorem dksX13_next_3 : cX13_next.data.toList.drop 72 = dktX13_next_3 := dk_seg dksX13_next_2 24 rfl rfl
theorem dX13_next_0 : decode cX13_next 0 = .ok (.aload_n 1, 1) := dk_43 (dk_at dksX13_next_0 0 rfl rfl)
theorem dX13_next_1 : decode cX13_next 1 = .ok (.aload_n 0, 1) := dk_42 (dk_at dksX13_next_0 1 rfl rfl)
theorem dX13_next_2 : decode cX13_next 2 = .ok (.getfield 1, 3) := dk_180 0 1 (dk_at dksX13_next_0 2 rfl rfl)
theorem dX13_next_5 : decode cX13_next 5 = .ok (.iconst 1, 1) := dk_4 (dk_at dksX13_next_0 5 rfl rfl)
theorem dX13_next_6 : decode cX13_next 6 = .ok (.iadd, 1) := dk_96 (dk_at dksX13_next_0 6 rfl rfl)
theorem dX13_next_7 : decode cX13_next 7 = .ok (.aload_n 0, 1) := dk_42 (dk_at dksX13_next_0 7 rfl rfl)
theorem dX13_next_8 : decode cX13_next 8 = .ok (.invokevirtual 7, 3) := dk_182 0 7 (dk_at dksX13_next_0 8 rfl rfl)
theorem dX13_next_11 : decode cX13_next 11 = .ok (.invokevirtual 11, 3) := dk_182 0 11 (dk_at dksX13_next_0 11 rfl rfl)
theorem dX13_next_14 : decode cX13_next 14 = .ok (.istore_n 2, 1) := dk_61 (dk_at dksX13_next_0 14 rfl rfl)
theorem dX13_next_15 : decode cX13_next 15 = .ok (.aload_n 0, 1) := dk_42 (dk_at dksX13_next_0 15 rfl rfl)
theorem dX13_next_16 : decode cX13_next 16 = .ok (.invokevirtual 17, 3) := dk_182 0 17 (dk_at dksX13_next_0 16 rfl rfl)
theorem dX13_next_19 : decode cX13_next 19 = .ok (.istore_n 3, 1) := dk_62 (dk_at dksX13_next_0 19 rfl rfl)
theorem dX13_next_20 : decode cX13_next 20 = .ok (.aload_n 0, 1) := dk_42 (dk_at dksX13_next_0 20 rfl rfl)
theorem dX13_next_21 : decode cX13_next 21 = .ok (.invokevirtual 20, 3) := dk_182 0 20 (dk_at dksX13_next_0 21 rfl rfl)
theorem dX13_next_24 : decode cX13_next 24 = .ok (.iload_n 2, 1) := dk_28 (dk_at dksX13_next_1 0 rfl rfl)
theorem dX13_next_25 : decode cX13_next 25 = .ok (.if_icmp .ge 11, 3) := dk_162 0 11 (dk_at dksX13_next_1 1 rfl rfl)
theorem dX13_next_28 : decode cX13_next 28 = .ok (.new 23, 3) := dk_187 0 23 (dk_at dksX13_next_1 4 rfl rfl)
theorem dX13_next_31 : decode cX13_next 31 = .ok (.dup, 1) := dk_89 (dk_at dksX13_next_1 7 rfl rfl)
theorem dX13_next_32 : decode cX13_next 32 = .ok (.invokespecial 25, 3) := dk_183 0 25 (dk_at dksX13_next_1 8 rfl rfl)
theorem dX13_next_35 : decode cX13_next 35 = .ok (.areturn, 1) := dk_176 (dk_at dksX13_next_1 11 rfl rfl)
theorem dX13_next_36 : decode cX13_next 36 = .ok (.iload_n 2, 1) := dk_28 (dk_at dksX13_next_1 12 rfl rfl)
theorem dX13_next_37 : decode cX13_next 37 = .ok (.iload_n 3, 1) := dk_29 (dk_at dksX13_next_1 13 rfl rfl)
theorem dX13_next_38 : decode cX13_next 38 = .ok (.isub, 1) := dk_100 (dk_at dksX13_next_1 14 rfl rfl)
theorem dX13_next_39 : decode cX13_next 39 = .ok (.bipush (-3), 2) := dk_16 253 (dk_at dksX13_next_1 15 rfl rfl)
theorem dX13_next_41 : decode cX13_next 41 = .ok (.iconst 3, 1) := dk_6 (dk_at dksX13_next_1 17 rfl rfl)
theorem dX13_next_42 : decode cX13_next 42 = .ok (.invokestatic 29, 3) := dk_184 0 29 (dk_at dksX13_next_1 18 rfl rfl)
theorem dX13_next_45 : decode cX13_next 45 = .ok (.ifCond .eq 14, 3) := dk_153 0 14 (dk_at dksX13_next_1 21 rfl rfl)
theorem dX13_next_48 : decode cX13_next 48 = .ok (.new 35, 3) := dk_187 0 35 (dk_at dksX13_next_2 0 rfl rfl)
theorem dX13_next_51 : decode cX13_next 51 = .ok (.dup, 1) := dk_89 (dk_at dksX13_next_2 3 rfl rfl)
theorem dX13_next_52 : decode cX13_next 52 = .ok (.iload_n 2, 1) := dk_28 (dk_at dksX13_next_2 4 rfl rfl)
theorem dX13_next_53 : decode cX13_next 53 = .ok (.iload_n 3, 1) := dk_29 (dk_at dksX13_next_2 5 rfl rfl)
theorem dX13_next_54 : decode cX13_next 54 = .ok (.isub, 1) := dk_100 (dk_at dksX13_next_2 6 rfl rfl)
theorem dX13_next_55 : decode cX13_next 55 = .ok (.invokespecial 37, 3) := dk_183 0 37 (dk_at dksX13_next_2 7 rfl rfl)
theorem dX13_next_58 : decode cX13_next 58 = .ok (.areturn, 1) := dk_176 (dk_at dksX13_next_2 10 rfl rfl)
theorem dX13_next_59 : decode cX13_next 59 = .ok (.new 40, 3) := dk_187 0 40 (dk_at dksX13_next_2 11 rfl rfl)
theorem dX13_next_62 : decode cX13_next 62 = .ok (.dup, 1) := dk_89 (dk_at dksX13_next_2 14 rfl rfl)
theorem dX13_next_63 : decode cX13_next 63 = .ok (.iload_n 2, 1) := dk_28 (dk_at dksX13_next_2 15 rfl rfl)
theorem dX13_next_64 : decode cX13_next 64 = .ok (.aload_n 0, 1) := dk_42 (dk_at dksX13_next_2 16 rfl rfl)
theorem dX13_next_65 : decode cX13_next 65 = .ok (.invokevirtual 42, 3) := dk_182 0 42 (dk_at dksX13_next_2 17 rfl rfl)
theorem dX13_next_68 : decode cX13_next 68 = .ok (.isub, 1) := dk_100 (dk_at dksX13_next_2 20 rfl rfl)
theorem dX13_next_69 : decode cX13_next 69 = .ok (.aload_n 1, 1) := dk_43 (dk_at dksX13_next_2 21 rfl rfl)
theorem dX13_next_70 : decode cX13_next 70 = .ok (.iload_n 2, 1) := dk_28 (dk_at dksX13_next_2 22 rfl rfl)
theorem dX13_next_71 : decode cX13_next 71 = .ok (.iconst 1, 1) := dk_4 (dk_at dksX13_next_2 23 rfl rfl)
theorem dX13_next_72 : decode cX13_next 72 = .ok (.iadd, 1) := dk_96 (dk_at dksX13_next_3 0 rfl rfl)
theorem dX13_next_73 : decode cX13_next 73 = .ok (.aload_n 0, 1) := dk_42 (dk_at dksX13_next_3 1 rfl rfl)
theorem dX13_next_74 : decode cX13_next 74 = .ok (.invokevirtual 45, 3) := dk_182 0 45 (dk_at dksX13_next_3 2 rfl rfl)
theorem dX13_next_77 : decode cX13_next 77 = .ok (.invokestatic 48, 3) := dk_184 0 48 (dk_at dksX13_next_3 5 rfl rfl)
theorem dX13_next_80 : decode cX13_next 80 = .ok (.aload_n 0, 1) := dk_42 (dk_at dksX13_next_3 8 rfl rfl)
theorem dX13_next_81 : decode cX13_next 81 = .ok (.getfield 53, 3) := dk_180 0 53 (dk_at dksX13_next_3 9 rfl rfl)
theorem dX13_next_84 : decode cX13_next 84 = .ok (.invokevirtual 11, 3) := dk_182 0 11 (dk_at dksX13_next_3 12 rfl rfl)
theorem dX13_next_87 : decode cX13_next 87 = .ok (.iload_n 2, 1) := dk_28 (dk_at dksX13_next_3 15 rfl rfl)
theorem dX13_next_88 : decode cX13_next 88 = .ok (.isub, 1) := dk_100 (dk_at dksX13_next_3 16 rfl rfl)
theorem dX13_next_89 : decode cX13_next 89 = .ok (.invokespecial 56, 3) := dk_183 0 56 (dk_at dksX13_next_3 17 rfl rfl)
theorem dX13_next_92 : decode cX13_next 92 = .ok (.areturn, 1) := dk_176 (dk_at dksX13_next_3 20 rfl rfl)
theorem q146 : (Jvm.Cond.initialized "DotRuns$Mode") ∈ lw_all := lw_g (lw_at lw_m1 36 rfl) rfl
theorem q743 : (Jvm.Cond.fieldLinkNest "DotRuns$Mode" (1 : Nat) "DotRuns$Walk" "place" "I" "DotRuns") ∈ lw_tbl := lw_at lw_m3 153 rfl
theorem q746 : (Jvm.Cond.fieldLinkNest "DotRuns$Mode" (53 : Nat) "DotRuns$Walk" "colour" "I" "DotRuns") ∈ lw_tbl := lw_at lw_m3 156 rfl
theorem q769 : (Jvm.Cond.static ({ cls := "DotRuns$Mode", name := "next", desc := "(LDotRuns$Walk;LDotRuns$Line;)LDotRuns$Mode;" } : Jvm.MethodName)) ∈ lw_all := lw_g (lw_at lw_m3 179 rfl) rfl
theorem q770 : (Jvm.Cond.code ({ cls := "DotRuns$Mode", name := "next", desc := "(LDotRuns$Walk;LDotRuns$Line;)LDotRuns$Mode;" } : Jvm.MethodName) prog_7_method_4_code (4 : Nat) (Option.some (Jvm.ClassFile.FieldType.object "DotRuns$Mode"))) ∈ lw_all := lw_g (lw_at lw_m3 180 rfl) rfl
theorem q771 : (Jvm.Cond.methodLink "DotRuns$Mode" (7 : Nat) ({ cls := "DotRuns$Walk", name := "other", desc := "()I" } : Jvm.MethodName)) ∈ lw_all := lw_g (lw_at lw_m3 181 rfl) rfl
theorem q775 : (Jvm.Cond.methodLink "DotRuns$Mode" (11 : Nat) ({ cls := "DotRuns$Line", name := "find", desc := "(II)I" } : Jvm.MethodName)) ∈ lw_all := lw_g (lw_at lw_m3 185 rfl) rfl
theorem q776 : (Jvm.Cond.methodLink "DotRuns$Mode" (17 : Nat) ({ cls := "DotRuns$Walk", name := "changeAbove", desc := "()I" } : Jvm.MethodName)) ∈ lw_all := lw_g (lw_at lw_m3 186 rfl) rfl
theorem q790 : (Jvm.Cond.methodLink "DotRuns$Mode" (20 : Nat) ({ cls := "DotRuns$Walk", name := "nextAbove", desc := "()I" } : Jvm.MethodName)) ∈ lw_all := lw_g (lw_at lw_m3 200 rfl) rfl
theorem q795 : (Jvm.Cond.classLink "DotRuns$Mode" (23 : Nat) "DotRuns$Pass") ∈ lw_all := lw_g (lw_at lw_m3 205 rfl) rfl
theorem q797 : (Jvm.Cond.methodLinkNest "DotRuns$Mode" (25 : Nat) ({ cls := "DotRuns$Pass", name := "<init>", desc := "()V" } : Jvm.MethodName) "DotRuns") ∈ lw_tbl := lw_at lw_m3 207 rfl
theorem q802 : (Jvm.Cond.methodLinkNest "DotRuns$Mode" (29 : Nat) ({ cls := "DotRuns", name := "isIn", desc := "(III)Z" } : Jvm.MethodName) "DotRuns") ∈ lw_tbl := lw_at lw_m3 212 rfl
theorem q805 : (Jvm.Cond.classLink "DotRuns$Mode" (35 : Nat) "DotRuns$Vertical") ∈ lw_all := lw_g (lw_at lw_m3 215 rfl) rfl
theorem q807 : (Jvm.Cond.methodLink "DotRuns$Mode" (37 : Nat) ({ cls := "DotRuns$Vertical", name := "<init>", desc := "(I)V" } : Jvm.MethodName)) ∈ lw_all := lw_g (lw_at lw_m3 217 rfl) rfl
theorem q815 : (Jvm.Cond.classLink "DotRuns$Mode" (40 : Nat) "DotRuns$Horizontal") ∈ lw_all := lw_g (lw_at lw_m3 225 rfl) rfl
theorem q817 : (Jvm.Cond.methodLink "DotRuns$Mode" (42 : Nat) ({ cls := "DotRuns$Walk", name := "start", desc := "()I" } : Jvm.MethodName)) ∈ lw_all := lw_g (lw_at lw_m3 227 rfl) rfl
theorem q822 : (Jvm.Cond.methodLink "DotRuns$Mode" (45 : Nat) ({ cls := "DotRuns$Walk", name := "wide", desc := "()I" } : Jvm.MethodName)) ∈ lw_all := lw_g (lw_at lw_m3 232 rfl) rfl
theorem q823 : (Jvm.Cond.methodLink "DotRuns$Mode" (48 : Nat) ({ cls := "java/lang/Math", name := "min", desc := "(II)I" } : Jvm.MethodName)) ∈ lw_all := lw_g (lw_at lw_m3 233 rfl) rfl
theorem q824 : (Jvm.Cond.methodLink "DotRuns$Mode" (56 : Nat) ({ cls := "DotRuns$Horizontal", name := "<init>", desc := "(II)V" } : Jvm.MethodName)) ∈ lw_all := lw_g (lw_at lw_m3 234 rfl) rfl
theorem q837 : (Jvm.Cond.interfaceMethod "DotRuns$Mode" "DotRuns$Mode" "goes" "(LDotRuns$Walk;)Z") ∈ lw_tbl := lw_at lw_m4 7 rfl
theorem q838 : (Jvm.Cond.declares ({ cls := "DotRuns$Mode", name := "goes", desc := "(LDotRuns$Walk;)Z" } : Jvm.MethodName)) ∈ lw_tbl := lw_at lw_m4 8 rfl
theorem q946 : (Jvm.Cond.interfaceMethod "DotRuns$Mode" "DotRuns$Mode" "sort" "()I") ∈ lw_tbl := lw_at lw_m4 116 rfl
theorem q947 : (Jvm.Cond.declares ({ cls := "DotRuns$Mode", name := "sort", desc := "()I" } : Jvm.MethodName)) ∈ lw_tbl := lw_at lw_m4 117 rfl
theorem q2088 : (Jvm.Cond.interfaceMethod "DotRuns$Mode" "DotRuns$Mode" "letter" "()C") ∈ lw_tbl := lw_at lw_m9 58 rfl
theorem q2089 : (Jvm.Cond.declares ({ cls := "DotRuns$Mode", name := "letter", desc := "()C" } : Jvm.MethodName)) ∈ lw_tbl := lw_at lw_m9 59 rfl

/-! DotRuns$Told -/
set_option maxRecDepth 100000
def RX14 : String := "DotRuns$Told"
abbrev cX14_bits : ByteArray := prog_14_method_3_code
def yX14_bits : MethodName := ⟨RX14, "bits", "()I"⟩
def dkwX14_bits_1 : List UInt8 := [184, 0, 11, 96, 60, 132, 2, 1, 167, 255, 230, 27, 172]
abbrev dktX14_bits_1 : List UInt8 := dkwX14_bits_1 ++ []
def dkwX14_bits_0 : List UInt8 := [3, 60, 3, 61, 28, 42, 185, 0, 1, 1, 0, 162, 0, 22, 27, 42, 28, 185, 0, 7, 2, 0]
abbrev dktX14_bits_0 : List UInt8 := dkwX14_bits_0 ++ dktX14_bits_1
theorem dksX14_bits_0 : cX14_bits.data.toList.drop 0 = dktX14_bits_0 := by decide +kernel
theorem dksX14_bits_1 : cX14_bits.data.toList.drop 22 = dktX14_bits_1 := dk_seg dksX14_bits_0 22 rfl rfl
theorem dX14_bits_0 : decode cX14_bits 0 = .ok (.iconst 0, 1) := dk_3 (dk_at dksX14_bits_0 0 rfl rfl)
theorem dX14_bits_1 : decode cX14_bits 1 = .ok (.istore_n 1, 1) := dk_60 (dk_at dksX14_bits_0 1 rfl rfl)
theorem dX14_bits_2 : decode cX14_bits 2 = .ok (.iconst 0, 1) := dk_3 (dk_at dksX14_bits_0 2 rfl rfl)
theorem dX14_bits_3 : decode cX14_bits 3 = .ok (.istore_n 2, 1) := dk_61 (dk_at dksX14_bits_0 3 rfl rfl)
theorem dX14_bits_4 : decode cX14_bits 4 = .ok (.iload_n 2, 1) := dk_28 (dk_at dksX14_bits_0 4 rfl rfl)
theorem dX14_bits_5 : decode cX14_bits 5 = .ok (.aload_n 0, 1) := dk_42 (dk_at dksX14_bits_0 5 rfl rfl)
theorem dX14_bits_6 : decode cX14_bits 6 = .ok (.invokeinterface 1 1, 5) := by decide +kernel
theorem dX14_bits_11 : decode cX14_bits 11 = .ok (.if_icmp .ge 22, 3) := dk_162 0 22 (dk_at dksX14_bits_0 11 rfl rfl)
theorem dX14_bits_14 : decode cX14_bits 14 = .ok (.iload_n 1, 1) := dk_27 (dk_at dksX14_bits_0 14 rfl rfl)
theorem dX14_bits_15 : decode cX14_bits 15 = .ok (.aload_n 0, 1) := dk_42 (dk_at dksX14_bits_0 15 rfl rfl)
theorem dX14_bits_16 : decode cX14_bits 16 = .ok (.iload_n 2, 1) := dk_28 (dk_at dksX14_bits_0 16 rfl rfl)
theorem dX14_bits_17 : decode cX14_bits 17 = .ok (.invokeinterface 7 2, 5) := by decide +kernel
theorem dX14_bits_22 : decode cX14_bits 22 = .ok (.invokestatic 11, 3) := dk_184 0 11 (dk_at dksX14_bits_1 0 rfl rfl)
theorem dX14_bits_25 : decode cX14_bits 25 = .ok (.iadd, 1) := dk_96 (dk_at dksX14_bits_1 3 rfl rfl)
theorem dX14_bits_26 : decode cX14_bits 26 = .ok (.istore_n 1, 1) := dk_60 (dk_at dksX14_bits_1 4 rfl rfl)
theorem dX14_bits_27 : decode cX14_bits 27 = .ok (.iinc 2 1, 3) := dk_132 2 1 (dk_at dksX14_bits_1 5 rfl rfl)
theorem dX14_bits_30 : decode cX14_bits 30 = .ok (.goto (-26), 3) := dk_167 255 230 (dk_at dksX14_bits_1 8 rfl rfl)
theorem dX14_bits_33 : decode cX14_bits 33 = .ok (.iload_n 1, 1) := dk_27 (dk_at dksX14_bits_1 11 rfl rfl)
theorem dX14_bits_34 : decode cX14_bits 34 = .ok (.ireturn, 1) := dk_172 (dk_at dksX14_bits_1 12 rfl rfl)
abbrev cX14_bitsOf : ByteArray := prog_14_method_4_code
def yX14_bitsOf : MethodName := ⟨RX14, "bitsOf", "(I)I"⟩
def dkwX14_bitsOf_0 : List UInt8 := [26, 16, 8, 162, 0, 7, 7, 167, 0, 5, 16, 8, 172]
abbrev dktX14_bitsOf_0 : List UInt8 := dkwX14_bitsOf_0 ++ []
theorem dksX14_bitsOf_0 : cX14_bitsOf.data.toList.drop 0 = dktX14_bitsOf_0 := by decide +kernel
theorem dX14_bitsOf_0 : decode cX14_bitsOf 0 = .ok (.iload_n 0, 1) := dk_26 (dk_at dksX14_bitsOf_0 0 rfl rfl)
theorem dX14_bitsOf_1 : decode cX14_bitsOf 1 = .ok (.bipush 8, 2) := dk_16 8 (dk_at dksX14_bitsOf_0 1 rfl rfl)
theorem dX14_bitsOf_3 : decode cX14_bitsOf 3 = .ok (.if_icmp .ge 7, 3) := dk_162 0 7 (dk_at dksX14_bitsOf_0 3 rfl rfl)
theorem dX14_bitsOf_6 : decode cX14_bitsOf 6 = .ok (.iconst 4, 1) := dk_7 (dk_at dksX14_bitsOf_0 6 rfl rfl)
theorem dX14_bitsOf_7 : decode cX14_bitsOf 7 = .ok (.goto 5, 3) := dk_167 0 5 (dk_at dksX14_bitsOf_0 7 rfl rfl)
theorem dX14_bitsOf_10 : decode cX14_bitsOf 10 = .ok (.bipush 8, 2) := dk_16 8 (dk_at dksX14_bitsOf_0 10 rfl rfl)
theorem dX14_bitsOf_12 : decode cX14_bitsOf 12 = .ok (.ireturn, 1) := dk_172 (dk_at dksX14_bitsOf_0 12 rfl rfl)
theorem q147 : (Jvm.Cond.initialized "DotRuns$Told") ∈ lw_all := lw_g (lw_at lw_m1 37 rfl) rfl
theorem q964 : (Jvm.Cond.publicMethod ({ cls := "DotRuns$Told", name := "bits", desc := "()I" } : Jvm.MethodName)) ∈ lw_tbl := lw_at lw_m4 134 rfl
theorem q965 : (Jvm.Cond.declares ({ cls := "DotRuns$Told", name := "bits", desc := "()I" } : Jvm.MethodName)) ∈ lw_tbl := lw_at lw_m4 135 rfl
theorem q971 : (Jvm.Cond.instanceMethod ({ cls := "DotRuns$Told", name := "bits", desc := "()I" } : Jvm.MethodName)) ∈ lw_all := lw_g (lw_at lw_m4 141 rfl) rfl
theorem q972 : (Jvm.Cond.code ({ cls := "DotRuns$Told", name := "bits", desc := "()I" } : Jvm.MethodName) prog_14_method_3_code (3 : Nat) (Option.some Jvm.ClassFile.FieldType.int)) ∈ lw_all := lw_g (lw_at lw_m4 142 rfl) rfl
theorem q973 : (Jvm.Cond.interfaceEntry "DotRuns$Told" (1 : Nat)) ∈ lw_tbl := lw_at lw_m4 143 rfl
theorem q974 : (Jvm.Cond.methodLink "DotRuns$Told" (1 : Nat) ({ cls := "DotRuns$Told", name := "many", desc := "()I" } : Jvm.MethodName)) ∈ lw_all := lw_g (lw_at lw_m4 144 rfl) rfl
theorem q975 : (Jvm.Cond.interfaceMethod "DotRuns$Told" "DotRuns$Told" "many" "()I") ∈ lw_tbl := lw_at lw_m4 145 rfl
theorem q976 : (Jvm.Cond.declares ({ cls := "DotRuns$Told", name := "many", desc := "()I" } : Jvm.MethodName)) ∈ lw_tbl := lw_at lw_m4 146 rfl
theorem q1001 : (Jvm.Cond.interfaceEntry "DotRuns$Told" (7 : Nat)) ∈ lw_tbl := lw_at lw_m4 171 rfl
theorem q1002 : (Jvm.Cond.methodLink "DotRuns$Told" (7 : Nat) ({ cls := "DotRuns$Told", name := "number", desc := "(I)I" } : Jvm.MethodName)) ∈ lw_all := lw_g (lw_at lw_m4 172 rfl) rfl
theorem q1003 : (Jvm.Cond.interfaceMethod "DotRuns$Told" "DotRuns$Told" "number" "(I)I") ∈ lw_tbl := lw_at lw_m4 173 rfl
theorem q1004 : (Jvm.Cond.declares ({ cls := "DotRuns$Told", name := "number", desc := "(I)I" } : Jvm.MethodName)) ∈ lw_tbl := lw_at lw_m4 174 rfl
theorem q1025 : (Jvm.Cond.methodLink "DotRuns$Told" (11 : Nat) ({ cls := "DotRuns$Told", name := "bitsOf", desc := "(I)I" } : Jvm.MethodName)) ∈ lw_all := lw_g (lw_at lw_m4 195 rfl) rfl
theorem q1026 : (Jvm.Cond.static ({ cls := "DotRuns$Told", name := "bitsOf", desc := "(I)I" } : Jvm.MethodName)) ∈ lw_all := lw_g (lw_at lw_m4 196 rfl) rfl
theorem q1027 : (Jvm.Cond.code ({ cls := "DotRuns$Told", name := "bitsOf", desc := "(I)I" } : Jvm.MethodName) prog_14_method_4_code (1 : Nat) (Option.some Jvm.ClassFile.FieldType.int)) ∈ lw_all := lw_g (lw_at lw_m4 197 rfl) rfl
theorem q1758 : (Jvm.Cond.publicMethod ({ cls := "DotRuns$Told", name := "many", desc := "()I" } : Jvm.MethodName)) ∈ lw_tbl := lw_at lw_m7 208 rfl
theorem q1760 : (Jvm.Cond.publicMethod ({ cls := "DotRuns$Told", name := "number", desc := "(I)I" } : Jvm.MethodName)) ∈ lw_tbl := lw_at lw_m7 210 rfl

/-! DotRuns$Sending -/
set_option maxRecDepth 100000
def RX15 : String := "DotRuns$Sending"
def TX15 : u_T := fun k => match k with
  | 0 => ("DotRuns$Sending", "page", "LDotRuns$Page;", true)
  | 1 => ("DotRuns$Sending", "every", "I", true)
  | 2 => ("DotRuns$Sending", "mostSteps", "I", true)
  | 3 => ("DotRuns$Sending", "losses", "[I", true)
  | 4 => ("DotRuns$Sending", "states", "[I", true)
  | 5 => ("DotRuns$Sending", "times", "[I", true)
  | 6 => ("DotRuns$Sending", "costs", "[I", true)
  | 7 => ("DotRuns$Sending", "backs", "[I", true)
  | 8 => ("DotRuns$Sending", "got", "[LDotRuns$Line;", true)
  | 9 => ("DotRuns$Sending", "bits", "I", false)
  | 10 => ("DotRuns$Sending", "sendings", "I", false)
  | 11 => ("DotRuns$Sending", "steps", "I", false)
  | 12 => ("DotRuns$Sending", "lost", "I", false)
  | _ => ("DotRuns$Sending", "broken", "I", false)
def tyX15 : Nat → FieldType := fun k => match k with
  | 0 => .object "DotRuns$Page"
  | 1 => .int
  | 2 => .int
  | 3 => .array .int
  | 4 => .array .int
  | 5 => .array .int
  | 6 => .array .int
  | 7 => .array .int
  | 8 => .array (.object "DotRuns$Line")
  | 9 => .int
  | 10 => .int
  | 11 => .int
  | 12 => .int
  | _ => .int
abbrev wsX150 : List Cond := u_ws RX15 TX15 14
set_option maxRecDepth 100000 in
theorem nmX15 : ∀ a, a < 14 → ∀ b, b < 14 → a ≠ b → (TX15 a).2.1 ≠ (TX15 b).2.1 := by decide +kernel
set_option maxRecDepth 100000 in
theorem tyX15_ok : ∀ k, k < 14 → parseFieldDescriptor (TX15 k).2.2.1 = some (tyX15 k) := by decide +kernel
abbrev cX15_init : ByteArray := prog_12_method_1_code
def yX15_init : MethodName := ⟨RX15, "<init>", "(LDotRuns$Page;II[I)V"⟩
def dkwX15_init_4 : List UInt8 := [185, 0, 56, 1, 0, 162, 0, 14, 42, 21, 5, 182, 0, 62, 54, 5, 167, 255, 234, 177]
abbrev dktX15_init_4 : List UInt8 := dkwX15_init_4 ++ []
def dkwX15_init_3 : List UInt8 := [42, 180, 0, 9, 3, 25, 4, 190, 184, 0, 44, 3, 54, 5, 21, 5, 43, 180, 0, 50]
abbrev dktX15_init_3 : List UInt8 := dkwX15_init_3 ++ dktX15_init_4
def dkwX15_init_2 : List UInt8 := [189, 0, 27, 181, 0, 29, 42, 43, 181, 0, 33, 42, 28, 181, 0, 37, 42, 29, 181, 0, 41, 25, 4, 3]
abbrev dktX15_init_2 : List UInt8 := dkwX15_init_2 ++ dktX15_init_3
def dkwX15_init_1 : List UInt8 := [188, 10, 181, 0, 18, 42, 16, 20, 188, 10, 181, 0, 21, 42, 16, 20, 188, 10, 181, 0, 24, 42, 16, 20]
abbrev dktX15_init_1 : List UInt8 := dkwX15_init_1 ++ dktX15_init_2
def dkwX15_init_0 : List UInt8 := [42, 183, 0, 3, 42, 16, 20, 188, 10, 181, 0, 9, 42, 16, 20, 188, 10, 181, 0, 15, 42, 16, 20]
abbrev dktX15_init_0 : List UInt8 := dkwX15_init_0 ++ dktX15_init_1
theorem dksX15_init_0 : cX15_init.data.toList.drop 0 = dktX15_init_0 := by decide +kernel
theorem dksX15_init_1 : cX15_init.data.toList.drop 23 = dktX15_init_1 := dk_seg dksX15_init_0 23 rfl rfl
theorem dksX15_init_2 : cX15_init.data.toList.drop 47 = dktX15_init_2 := dk_seg dksX15_init_1 24 rfl rfl
theorem dksX15_init_3 : cX15_init.data.toList.drop 71 = dktX15_init_3 := dk_seg dksX15_init_2 24 rfl rfl
theorem dksX15_init_4 : cX15_init.data.toList.drop 91 = dktX15_init_4 := dk_seg dksX15_init_3 20 rfl rfl
theorem dX15_init_0 : decode cX15_init 0 = .ok (.aload_n 0, 1) := dk_42 (dk_at dksX15_init_0 0 rfl rfl)
theorem dX15_init_1 : decode cX15_init 1 = .ok (.invokespecial 3, 3) := dk_183 0 3 (dk_at dksX15_init_0 1 rfl rfl)
theorem dX15_init_4 : decode cX15_init 4 = .ok (.aload_n 0, 1) := dk_42 (dk_at dksX15_init_0 4 rfl rfl)
theorem dX15_init_5 : decode cX15_init 5 = .ok (.bipush 20, 2) := dk_16 20 (dk_at dksX15_init_0 5 rfl rfl)
theorem dX15_init_7 : decode cX15_init 7 = .ok (.newarray .int, 2) := dk_188_10 (dk_at dksX15_init_0 7 rfl rfl)
theorem dX15_init_9 : decode cX15_init 9 = .ok (.putfield 9, 3) := dk_181 0 9 (dk_at dksX15_init_0 9 rfl rfl)
theorem dX15_init_12 : decode cX15_init 12 = .ok (.aload_n 0, 1) := dk_42 (dk_at dksX15_init_0 12 rfl rfl)
theorem dX15_init_13 : decode cX15_init 13 = .ok (.bipush 20, 2) := dk_16 20 (dk_at dksX15_init_0 13 rfl rfl)
theorem dX15_init_15 : decode cX15_init 15 = .ok (.newarray .int, 2) := dk_188_10 (dk_at dksX15_init_0 15 rfl rfl)
theorem dX15_init_17 : decode cX15_init 17 = .ok (.putfield 15, 3) := dk_181 0 15 (dk_at dksX15_init_0 17 rfl rfl)
theorem dX15_init_20 : decode cX15_init 20 = .ok (.aload_n 0, 1) := dk_42 (dk_at dksX15_init_0 20 rfl rfl)
theorem dX15_init_21 : decode cX15_init 21 = .ok (.bipush 20, 2) := dk_16 20 (dk_at dksX15_init_0 21 rfl rfl)
theorem dX15_init_23 : decode cX15_init 23 = .ok (.newarray .int, 2) := dk_188_10 (dk_at dksX15_init_1 0 rfl rfl)
theorem dX15_init_25 : decode cX15_init 25 = .ok (.putfield 18, 3) := dk_181 0 18 (dk_at dksX15_init_1 2 rfl rfl)
theorem dX15_init_28 : decode cX15_init 28 = .ok (.aload_n 0, 1) := dk_42 (dk_at dksX15_init_1 5 rfl rfl)
theorem dX15_init_29 : decode cX15_init 29 = .ok (.bipush 20, 2) := dk_16 20 (dk_at dksX15_init_1 6 rfl rfl)
theorem dX15_init_31 : decode cX15_init 31 = .ok (.newarray .int, 2) := dk_188_10 (dk_at dksX15_init_1 8 rfl rfl)
theorem dX15_init_33 : decode cX15_init 33 = .ok (.putfield 21, 3) := dk_181 0 21 (dk_at dksX15_init_1 10 rfl rfl)
theorem dX15_init_36 : decode cX15_init 36 = .ok (.aload_n 0, 1) := dk_42 (dk_at dksX15_init_1 13 rfl rfl)
theorem dX15_init_37 : decode cX15_init 37 = .ok (.bipush 20, 2) := dk_16 20 (dk_at dksX15_init_1 14 rfl rfl)
theorem dX15_init_39 : decode cX15_init 39 = .ok (.newarray .int, 2) := dk_188_10 (dk_at dksX15_init_1 16 rfl rfl)
theorem dX15_init_41 : decode cX15_init 41 = .ok (.putfield 24, 3) := dk_181 0 24 (dk_at dksX15_init_1 18 rfl rfl)
theorem dX15_init_44 : decode cX15_init 44 = .ok (.aload_n 0, 1) := dk_42 (dk_at dksX15_init_1 21 rfl rfl)
theorem dX15_init_45 : decode cX15_init 45 = .ok (.bipush 20, 2) := dk_16 20 (dk_at dksX15_init_1 22 rfl rfl)
theorem dX15_init_47 : decode cX15_init 47 = .ok (.anewarray 27, 3) := dk_189 0 27 (dk_at dksX15_init_2 0 rfl rfl)
theorem dX15_init_50 : decode cX15_init 50 = .ok (.putfield 29, 3) := dk_181 0 29 (dk_at dksX15_init_2 3 rfl rfl)
theorem dX15_init_53 : decode cX15_init 53 = .ok (.aload_n 0, 1) := dk_42 (dk_at dksX15_init_2 6 rfl rfl)
theorem dX15_init_54 : decode cX15_init 54 = .ok (.aload_n 1, 1) := dk_43 (dk_at dksX15_init_2 7 rfl rfl)
theorem dX15_init_55 : decode cX15_init 55 = .ok (.putfield 33, 3) := dk_181 0 33 (dk_at dksX15_init_2 8 rfl rfl)
theorem dX15_init_58 : decode cX15_init 58 = .ok (.aload_n 0, 1) := dk_42 (dk_at dksX15_init_2 11 rfl rfl)
theorem dX15_init_59 : decode cX15_init 59 = .ok (.iload_n 2, 1) := dk_28 (dk_at dksX15_init_2 12 rfl rfl)
theorem dX15_init_60 : decode cX15_init 60 = .ok (.putfield 37, 3) := dk_181 0 37 (dk_at dksX15_init_2 13 rfl rfl)
theorem dX15_init_63 : decode cX15_init 63 = .ok (.aload_n 0, 1) := dk_42 (dk_at dksX15_init_2 16 rfl rfl)
theorem dX15_init_64 : decode cX15_init 64 = .ok (.iload_n 3, 1) := dk_29 (dk_at dksX15_init_2 17 rfl rfl)
theorem dX15_init_65 : decode cX15_init 65 = .ok (.putfield 41, 3) := dk_181 0 41 (dk_at dksX15_init_2 18 rfl rfl)
theorem dX15_init_68 : decode cX15_init 68 = .ok (.aload 4, 2) := dk_25 4 (dk_at dksX15_init_2 21 rfl rfl)
theorem dX15_init_70 : decode cX15_init 70 = .ok (.iconst 0, 1) := dk_3 (dk_at dksX15_init_2 23 rfl rfl)
theorem dX15_init_71 : decode cX15_init 71 = .ok (.aload_n 0, 1) := dk_42 (dk_at dksX15_init_3 0 rfl rfl)
theorem dX15_init_72 : decode cX15_init 72 = .ok (.getfield 9, 3) := dk_180 0 9 (dk_at dksX15_init_3 1 rfl rfl)
theorem dX15_init_75 : decode cX15_init 75 = .ok (.iconst 0, 1) := dk_3 (dk_at dksX15_init_3 4 rfl rfl)
theorem dX15_init_76 : decode cX15_init 76 = .ok (.aload 4, 2) := dk_25 4 (dk_at dksX15_init_3 5 rfl rfl)
theorem dX15_init_78 : decode cX15_init 78 = .ok (.arraylength, 1) := dk_190 (dk_at dksX15_init_3 7 rfl rfl)
theorem dX15_init_79 : decode cX15_init 79 = .ok (.invokestatic 44, 3) := dk_184 0 44 (dk_at dksX15_init_3 8 rfl rfl)
theorem dX15_init_82 : decode cX15_init 82 = .ok (.iconst 0, 1) := dk_3 (dk_at dksX15_init_3 11 rfl rfl)
theorem dX15_init_83 : decode cX15_init 83 = .ok (.istore 5, 2) := dk_54 5 (dk_at dksX15_init_3 12 rfl rfl)
theorem dX15_init_85 : decode cX15_init 85 = .ok (.iload 5, 2) := dk_21 5 (dk_at dksX15_init_3 14 rfl rfl)
theorem dX15_init_87 : decode cX15_init 87 = .ok (.aload_n 1, 1) := dk_43 (dk_at dksX15_init_3 16 rfl rfl)
theorem dX15_init_88 : decode cX15_init 88 = .ok (.getfield 50, 3) := dk_180 0 50 (dk_at dksX15_init_3 17 rfl rfl)
theorem dX15_init_91 : decode cX15_init 91 = .ok (.invokeinterface 56 1, 5) := by decide +kernel
theorem dX15_init_96 : decode cX15_init 96 = .ok (.if_icmp .ge 14, 3) := dk_162 0 14 (dk_at dksX15_init_4 5 rfl rfl)
theorem dX15_init_99 : decode cX15_init 99 = .ok (.aload_n 0, 1) := dk_42 (dk_at dksX15_init_4 8 rfl rfl)
theorem dX15_init_100 : decode cX15_init 100 = .ok (.iload 5, 2) := dk_21 5 (dk_at dksX15_init_4 9 rfl rfl)
theorem dX15_init_102 : decode cX15_init 102 = .ok (.invokevirtual 62, 3) := dk_182 0 62 (dk_at dksX15_init_4 11 rfl rfl)
theorem dX15_init_105 : decode cX15_init 105 = .ok (.istore 5, 2) := dk_54 5 (dk_at dksX15_init_4 14 rfl rfl)
theorem dX15_init_107 : decode cX15_init 107 = .ok (.goto (-22), 3) := dk_167 255 234 (dk_at dksX15_init_4 16 rfl rfl)
theorem dX15_init_110 : decode cX15_init 110 = .ok (.return_, 1) := dk_177 (dk_at dksX15_init_4 19 rfl rfl)
abbrev cX15_send : ByteArray := prog_12_method_4_code
def yX15_send : MethodName := ⟨RX15, "send", "(I)I"⟩
def dkwX15_send_9 : List UInt8 := [27, 4, 96, 172]
abbrev dktX15_send_9 : List UInt8 := dkwX15_send_9 ++ []
def dkwX15_send_8 : List UInt8 := [180, 0, 50, 27, 185, 0, 98, 2, 0, 192, 0, 27, 182, 0, 119, 153, 0, 7, 3, 167, 0, 4, 6, 79]
abbrev dktX15_send_8 : List UInt8 := dkwX15_send_8 ++ dktX15_send_9
def dkwX15_send_7 : List UInt8 := [5, 182, 0, 91, 172, 42, 180, 0, 29, 27, 45, 83, 42, 180, 0, 15, 27, 45, 42, 180, 0, 33]
abbrev dktX15_send_7 : List UInt8 := dkwX15_send_7 ++ dktX15_send_8
def dkwX15_send_6 : List UInt8 := [27, 182, 0, 106, 182, 0, 110, 78, 45, 199, 0, 20, 42, 89, 180, 0, 116, 4, 96, 181, 0, 116, 42, 27]
abbrev dktX15_send_6 : List UInt8 := dkwX15_send_6 ++ dktX15_send_7
def dkwX15_send_5 : List UInt8 := [180, 0, 50, 27, 185, 0, 98, 2, 0, 192, 0, 27, 167, 0, 19, 42, 180, 0, 33, 27, 182, 0, 102, 42]
abbrev dktX15_send_5 : List UInt8 := dkwX15_send_5 ++ dktX15_send_6
def dkwX15_send_4 : List UInt8 := [182, 0, 91, 172, 42, 180, 0, 33, 27, 42, 180, 0, 37, 182, 0, 94, 153, 0, 22, 42, 180, 0, 33]
abbrev dktX15_send_4 : List UInt8 := dkwX15_send_4 ++ dktX15_send_5
def dkwX15_send_3 : List UInt8 := [42, 180, 0, 9, 27, 92, 46, 4, 100, 79, 42, 89, 180, 0, 88, 4, 96, 181, 0, 88, 42, 27, 4]
abbrev dktX15_send_3 : List UInt8 := dkwX15_send_3 ++ dktX15_send_4
def dkwX15_send_2 : List UInt8 := [4, 96, 181, 0, 85, 42, 180, 0, 18, 27, 92, 46, 4, 96, 79, 42, 180, 0, 9, 27, 46, 158, 0, 30]
abbrev dktX15_send_2 : List UInt8 := dkwX15_send_2 ++ dktX15_send_3
def dkwX15_send_1 : List UInt8 := [89, 180, 0, 83, 28, 96, 181, 0, 83, 42, 180, 0, 21, 27, 92, 46, 28, 96, 79, 42, 89, 180, 0, 85]
abbrev dktX15_send_1 : List UInt8 := dkwX15_send_1 ++ dktX15_send_2
def dkwX15_send_0 : List UInt8 := [42, 180, 0, 33, 180, 0, 66, 7, 46, 42, 180, 0, 33, 27, 42, 180, 0, 37, 182, 0, 79, 96, 61, 42]
abbrev dktX15_send_0 : List UInt8 := dkwX15_send_0 ++ dktX15_send_1
theorem dksX15_send_0 : cX15_send.data.toList.drop 0 = dktX15_send_0 := by decide +kernel
theorem dksX15_send_1 : cX15_send.data.toList.drop 24 = dktX15_send_1 := dk_seg dksX15_send_0 24 rfl rfl
theorem dksX15_send_2 : cX15_send.data.toList.drop 48 = dktX15_send_2 := dk_seg dksX15_send_1 24 rfl rfl
theorem dksX15_send_3 : cX15_send.data.toList.drop 72 = dktX15_send_3 := dk_seg dksX15_send_2 24 rfl rfl
theorem dksX15_send_4 : cX15_send.data.toList.drop 95 = dktX15_send_4 := dk_seg dksX15_send_3 23 rfl rfl
theorem dksX15_send_5 : cX15_send.data.toList.drop 118 = dktX15_send_5 := dk_seg dksX15_send_4 23 rfl rfl
theorem dksX15_send_6 : cX15_send.data.toList.drop 142 = dktX15_send_6 := dk_seg dksX15_send_5 24 rfl rfl
theorem dksX15_send_7 : cX15_send.data.toList.drop 166 = dktX15_send_7 := dk_seg dksX15_send_6 24 rfl rfl
theorem dksX15_send_8 : cX15_send.data.toList.drop 188 = dktX15_send_8 := dk_seg dksX15_send_7 22 rfl rfl
theorem dksX15_send_9 : cX15_send.data.toList.drop 212 = dktX15_send_9 := dk_seg dksX15_send_8 24 rfl rfl
theorem dX15_send_0 : decode cX15_send 0 = .ok (.aload_n 0, 1) := dk_42 (dk_at dksX15_send_0 0 rfl rfl)
theorem dX15_send_1 : decode cX15_send 1 = .ok (.getfield 33, 3) := dk_180 0 33 (dk_at dksX15_send_0 1 rfl rfl)
theorem dX15_send_4 : decode cX15_send 4 = .ok (.getfield 66, 3) := dk_180 0 66 (dk_at dksX15_send_0 4 rfl rfl)
theorem dX15_send_7 : decode cX15_send 7 = .ok (.iconst 4, 1) := dk_7 (dk_at dksX15_send_0 7 rfl rfl)
theorem dX15_send_8 : decode cX15_send 8 = .ok (.iaload, 1) := dk_46 (dk_at dksX15_send_0 8 rfl rfl)
theorem dX15_send_9 : decode cX15_send 9 = .ok (.aload_n 0, 1) := dk_42 (dk_at dksX15_send_0 9 rfl rfl)
theorem dX15_send_10 : decode cX15_send 10 = .ok (.getfield 33, 3) := dk_180 0 33 (dk_at dksX15_send_0 10 rfl rfl)
theorem dX15_send_13 : decode cX15_send 13 = .ok (.iload_n 1, 1) := dk_27 (dk_at dksX15_send_0 13 rfl rfl)
theorem dX15_send_14 : decode cX15_send 14 = .ok (.aload_n 0, 1) := dk_42 (dk_at dksX15_send_0 14 rfl rfl)
theorem dX15_send_15 : decode cX15_send 15 = .ok (.getfield 37, 3) := dk_180 0 37 (dk_at dksX15_send_0 15 rfl rfl)
theorem dX15_send_18 : decode cX15_send 18 = .ok (.invokevirtual 79, 3) := dk_182 0 79 (dk_at dksX15_send_0 18 rfl rfl)
theorem dX15_send_21 : decode cX15_send 21 = .ok (.iadd, 1) := dk_96 (dk_at dksX15_send_0 21 rfl rfl)
theorem dX15_send_22 : decode cX15_send 22 = .ok (.istore_n 2, 1) := dk_61 (dk_at dksX15_send_0 22 rfl rfl)
theorem dX15_send_23 : decode cX15_send 23 = .ok (.aload_n 0, 1) := dk_42 (dk_at dksX15_send_0 23 rfl rfl)
theorem dX15_send_24 : decode cX15_send 24 = .ok (.dup, 1) := dk_89 (dk_at dksX15_send_1 0 rfl rfl)
theorem dX15_send_25 : decode cX15_send 25 = .ok (.getfield 83, 3) := dk_180 0 83 (dk_at dksX15_send_1 1 rfl rfl)
theorem dX15_send_28 : decode cX15_send 28 = .ok (.iload_n 2, 1) := dk_28 (dk_at dksX15_send_1 4 rfl rfl)
theorem dX15_send_29 : decode cX15_send 29 = .ok (.iadd, 1) := dk_96 (dk_at dksX15_send_1 5 rfl rfl)
theorem dX15_send_30 : decode cX15_send 30 = .ok (.putfield 83, 3) := dk_181 0 83 (dk_at dksX15_send_1 6 rfl rfl)
theorem dX15_send_33 : decode cX15_send 33 = .ok (.aload_n 0, 1) := dk_42 (dk_at dksX15_send_1 9 rfl rfl)
theorem dX15_send_34 : decode cX15_send 34 = .ok (.getfield 21, 3) := dk_180 0 21 (dk_at dksX15_send_1 10 rfl rfl)
theorem dX15_send_37 : decode cX15_send 37 = .ok (.iload_n 1, 1) := dk_27 (dk_at dksX15_send_1 13 rfl rfl)
theorem dX15_send_38 : decode cX15_send 38 = .ok (.dup2, 1) := dk_92 (dk_at dksX15_send_1 14 rfl rfl)
theorem dX15_send_39 : decode cX15_send 39 = .ok (.iaload, 1) := dk_46 (dk_at dksX15_send_1 15 rfl rfl)
theorem dX15_send_40 : decode cX15_send 40 = .ok (.iload_n 2, 1) := dk_28 (dk_at dksX15_send_1 16 rfl rfl)
theorem dX15_send_41 : decode cX15_send 41 = .ok (.iadd, 1) := dk_96 (dk_at dksX15_send_1 17 rfl rfl)
theorem dX15_send_42 : decode cX15_send 42 = .ok (.iastore, 1) := dk_79 (dk_at dksX15_send_1 18 rfl rfl)
theorem dX15_send_43 : decode cX15_send 43 = .ok (.aload_n 0, 1) := dk_42 (dk_at dksX15_send_1 19 rfl rfl)
theorem dX15_send_44 : decode cX15_send 44 = .ok (.dup, 1) := dk_89 (dk_at dksX15_send_1 20 rfl rfl)
theorem dX15_send_45 : decode cX15_send 45 = .ok (.getfield 85, 3) := dk_180 0 85 (dk_at dksX15_send_1 21 rfl rfl)
theorem dX15_send_48 : decode cX15_send 48 = .ok (.iconst 1, 1) := dk_4 (dk_at dksX15_send_2 0 rfl rfl)
theorem dX15_send_49 : decode cX15_send 49 = .ok (.iadd, 1) := dk_96 (dk_at dksX15_send_2 1 rfl rfl)
theorem dX15_send_50 : decode cX15_send 50 = .ok (.putfield 85, 3) := dk_181 0 85 (dk_at dksX15_send_2 2 rfl rfl)
theorem dX15_send_53 : decode cX15_send 53 = .ok (.aload_n 0, 1) := dk_42 (dk_at dksX15_send_2 5 rfl rfl)
theorem dX15_send_54 : decode cX15_send 54 = .ok (.getfield 18, 3) := dk_180 0 18 (dk_at dksX15_send_2 6 rfl rfl)
theorem dX15_send_57 : decode cX15_send 57 = .ok (.iload_n 1, 1) := dk_27 (dk_at dksX15_send_2 9 rfl rfl)
theorem dX15_send_58 : decode cX15_send 58 = .ok (.dup2, 1) := dk_92 (dk_at dksX15_send_2 10 rfl rfl)
theorem dX15_send_59 : decode cX15_send 59 = .ok (.iaload, 1) := dk_46 (dk_at dksX15_send_2 11 rfl rfl)
theorem dX15_send_60 : decode cX15_send 60 = .ok (.iconst 1, 1) := dk_4 (dk_at dksX15_send_2 12 rfl rfl)
theorem dX15_send_61 : decode cX15_send 61 = .ok (.iadd, 1) := dk_96 (dk_at dksX15_send_2 13 rfl rfl)
theorem dX15_send_62 : decode cX15_send 62 = .ok (.iastore, 1) := dk_79 (dk_at dksX15_send_2 14 rfl rfl)
theorem dX15_send_63 : decode cX15_send 63 = .ok (.aload_n 0, 1) := dk_42 (dk_at dksX15_send_2 15 rfl rfl)
theorem dX15_send_64 : decode cX15_send 64 = .ok (.getfield 9, 3) := dk_180 0 9 (dk_at dksX15_send_2 16 rfl rfl)
theorem dX15_send_67 : decode cX15_send 67 = .ok (.iload_n 1, 1) := dk_27 (dk_at dksX15_send_2 19 rfl rfl)
theorem dX15_send_68 : decode cX15_send 68 = .ok (.iaload, 1) := dk_46 (dk_at dksX15_send_2 20 rfl rfl)
theorem dX15_send_69 : decode cX15_send 69 = .ok (.ifCond .le 30, 3) := dk_158 0 30 (dk_at dksX15_send_2 21 rfl rfl)
theorem dX15_send_72 : decode cX15_send 72 = .ok (.aload_n 0, 1) := dk_42 (dk_at dksX15_send_3 0 rfl rfl)
theorem dX15_send_73 : decode cX15_send 73 = .ok (.getfield 9, 3) := dk_180 0 9 (dk_at dksX15_send_3 1 rfl rfl)
theorem dX15_send_76 : decode cX15_send 76 = .ok (.iload_n 1, 1) := dk_27 (dk_at dksX15_send_3 4 rfl rfl)
theorem dX15_send_77 : decode cX15_send 77 = .ok (.dup2, 1) := dk_92 (dk_at dksX15_send_3 5 rfl rfl)
theorem dX15_send_78 : decode cX15_send 78 = .ok (.iaload, 1) := dk_46 (dk_at dksX15_send_3 6 rfl rfl)
theorem dX15_send_79 : decode cX15_send 79 = .ok (.iconst 1, 1) := dk_4 (dk_at dksX15_send_3 7 rfl rfl)
theorem dX15_send_80 : decode cX15_send 80 = .ok (.isub, 1) := dk_100 (dk_at dksX15_send_3 8 rfl rfl)
theorem dX15_send_81 : decode cX15_send 81 = .ok (.iastore, 1) := dk_79 (dk_at dksX15_send_3 9 rfl rfl)
theorem dX15_send_82 : decode cX15_send 82 = .ok (.aload_n 0, 1) := dk_42 (dk_at dksX15_send_3 10 rfl rfl)
theorem dX15_send_83 : decode cX15_send 83 = .ok (.dup, 1) := dk_89 (dk_at dksX15_send_3 11 rfl rfl)
theorem dX15_send_84 : decode cX15_send 84 = .ok (.getfield 88, 3) := dk_180 0 88 (dk_at dksX15_send_3 12 rfl rfl)
theorem dX15_send_87 : decode cX15_send 87 = .ok (.iconst 1, 1) := dk_4 (dk_at dksX15_send_3 15 rfl rfl)
theorem dX15_send_88 : decode cX15_send 88 = .ok (.iadd, 1) := dk_96 (dk_at dksX15_send_3 16 rfl rfl)
theorem dX15_send_89 : decode cX15_send 89 = .ok (.putfield 88, 3) := dk_181 0 88 (dk_at dksX15_send_3 17 rfl rfl)
theorem dX15_send_92 : decode cX15_send 92 = .ok (.aload_n 0, 1) := dk_42 (dk_at dksX15_send_3 20 rfl rfl)
theorem dX15_send_93 : decode cX15_send 93 = .ok (.iload_n 1, 1) := dk_27 (dk_at dksX15_send_3 21 rfl rfl)
theorem dX15_send_94 : decode cX15_send 94 = .ok (.iconst 1, 1) := dk_4 (dk_at dksX15_send_3 22 rfl rfl)
theorem dX15_send_95 : decode cX15_send 95 = .ok (.invokevirtual 91, 3) := dk_182 0 91 (dk_at dksX15_send_4 0 rfl rfl)
theorem dX15_send_98 : decode cX15_send 98 = .ok (.ireturn, 1) := dk_172 (dk_at dksX15_send_4 3 rfl rfl)
theorem dX15_send_99 : decode cX15_send 99 = .ok (.aload_n 0, 1) := dk_42 (dk_at dksX15_send_4 4 rfl rfl)
theorem dX15_send_100 : decode cX15_send 100 = .ok (.getfield 33, 3) := dk_180 0 33 (dk_at dksX15_send_4 5 rfl rfl)
theorem dX15_send_103 : decode cX15_send 103 = .ok (.iload_n 1, 1) := dk_27 (dk_at dksX15_send_4 8 rfl rfl)
theorem dX15_send_104 : decode cX15_send 104 = .ok (.aload_n 0, 1) := dk_42 (dk_at dksX15_send_4 9 rfl rfl)
theorem dX15_send_105 : decode cX15_send 105 = .ok (.getfield 37, 3) := dk_180 0 37 (dk_at dksX15_send_4 10 rfl rfl)
theorem dX15_send_108 : decode cX15_send 108 = .ok (.invokevirtual 94, 3) := dk_182 0 94 (dk_at dksX15_send_4 13 rfl rfl)
theorem dX15_send_111 : decode cX15_send 111 = .ok (.ifCond .eq 22, 3) := dk_153 0 22 (dk_at dksX15_send_4 16 rfl rfl)
theorem dX15_send_114 : decode cX15_send 114 = .ok (.aload_n 0, 1) := dk_42 (dk_at dksX15_send_4 19 rfl rfl)
theorem dX15_send_115 : decode cX15_send 115 = .ok (.getfield 33, 3) := dk_180 0 33 (dk_at dksX15_send_4 20 rfl rfl)
theorem dX15_send_118 : decode cX15_send 118 = .ok (.getfield 50, 3) := dk_180 0 50 (dk_at dksX15_send_5 0 rfl rfl)
theorem dX15_send_121 : decode cX15_send 121 = .ok (.iload_n 1, 1) := dk_27 (dk_at dksX15_send_5 3 rfl rfl)
theorem dX15_send_122 : decode cX15_send 122 = .ok (.invokeinterface 98 2, 5) := by decide +kernel
theorem dX15_send_127 : decode cX15_send 127 = .ok (.checkcast 27, 3) := dk_192 0 27 (dk_at dksX15_send_5 9 rfl rfl)
theorem dX15_send_130 : decode cX15_send 130 = .ok (.goto 19, 3) := dk_167 0 19 (dk_at dksX15_send_5 12 rfl rfl)
theorem dX15_send_133 : decode cX15_send 133 = .ok (.aload_n 0, 1) := dk_42 (dk_at dksX15_send_5 15 rfl rfl)
theorem dX15_send_134 : decode cX15_send 134 = .ok (.getfield 33, 3) := dk_180 0 33 (dk_at dksX15_send_5 16 rfl rfl)
theorem dX15_send_137 : decode cX15_send 137 = .ok (.iload_n 1, 1) := dk_27 (dk_at dksX15_send_5 19 rfl rfl)
theorem dX15_send_138 : decode cX15_send 138 = .ok (.invokevirtual 102, 3) := dk_182 0 102 (dk_at dksX15_send_5 20 rfl rfl)
theorem dX15_send_141 : decode cX15_send 141 = .ok (.aload_n 0, 1) := dk_42 (dk_at dksX15_send_5 23 rfl rfl)
theorem dX15_send_142 : decode cX15_send 142 = .ok (.iload_n 1, 1) := dk_27 (dk_at dksX15_send_6 0 rfl rfl)
theorem dX15_send_143 : decode cX15_send 143 = .ok (.invokevirtual 106, 3) := dk_182 0 106 (dk_at dksX15_send_6 1 rfl rfl)
theorem dX15_send_146 : decode cX15_send 146 = .ok (.invokevirtual 110, 3) := dk_182 0 110 (dk_at dksX15_send_6 4 rfl rfl)
theorem dX15_send_149 : decode cX15_send 149 = .ok (.astore_n 3, 1) := dk_78 (dk_at dksX15_send_6 7 rfl rfl)
theorem dX15_send_150 : decode cX15_send 150 = .ok (.aload_n 3, 1) := dk_45 (dk_at dksX15_send_6 8 rfl rfl)
theorem dX15_send_151 : decode cX15_send 151 = .ok (.ifnonnull 20, 3) := dk_199 0 20 (dk_at dksX15_send_6 9 rfl rfl)
theorem dX15_send_154 : decode cX15_send 154 = .ok (.aload_n 0, 1) := dk_42 (dk_at dksX15_send_6 12 rfl rfl)
theorem dX15_send_155 : decode cX15_send 155 = .ok (.dup, 1) := dk_89 (dk_at dksX15_send_6 13 rfl rfl)
theorem dX15_send_156 : decode cX15_send 156 = .ok (.getfield 116, 3) := dk_180 0 116 (dk_at dksX15_send_6 14 rfl rfl)
theorem dX15_send_159 : decode cX15_send 159 = .ok (.iconst 1, 1) := dk_4 (dk_at dksX15_send_6 17 rfl rfl)
theorem dX15_send_160 : decode cX15_send 160 = .ok (.iadd, 1) := dk_96 (dk_at dksX15_send_6 18 rfl rfl)
theorem dX15_send_161 : decode cX15_send 161 = .ok (.putfield 116, 3) := dk_181 0 116 (dk_at dksX15_send_6 19 rfl rfl)
theorem dX15_send_164 : decode cX15_send 164 = .ok (.aload_n 0, 1) := dk_42 (dk_at dksX15_send_6 22 rfl rfl)
theorem dX15_send_165 : decode cX15_send 165 = .ok (.iload_n 1, 1) := dk_27 (dk_at dksX15_send_6 23 rfl rfl)
theorem dX15_send_166 : decode cX15_send 166 = .ok (.iconst 2, 1) := dk_5 (dk_at dksX15_send_7 0 rfl rfl)
theorem dX15_send_167 : decode cX15_send 167 = .ok (.invokevirtual 91, 3) := dk_182 0 91 (dk_at dksX15_send_7 1 rfl rfl)
theorem dX15_send_170 : decode cX15_send 170 = .ok (.ireturn, 1) := dk_172 (dk_at dksX15_send_7 4 rfl rfl)
theorem dX15_send_171 : decode cX15_send 171 = .ok (.aload_n 0, 1) := dk_42 (dk_at dksX15_send_7 5 rfl rfl)
theorem dX15_send_172 : decode cX15_send 172 = .ok (.getfield 29, 3) := dk_180 0 29 (dk_at dksX15_send_7 6 rfl rfl)
theorem dX15_send_175 : decode cX15_send 175 = .ok (.iload_n 1, 1) := dk_27 (dk_at dksX15_send_7 9 rfl rfl)
theorem dX15_send_176 : decode cX15_send 176 = .ok (.aload_n 3, 1) := dk_45 (dk_at dksX15_send_7 10 rfl rfl)
theorem dX15_send_177 : decode cX15_send 177 = .ok (.aastore, 1) := dk_83 (dk_at dksX15_send_7 11 rfl rfl)
theorem dX15_send_178 : decode cX15_send 178 = .ok (.aload_n 0, 1) := dk_42 (dk_at dksX15_send_7 12 rfl rfl)
theorem dX15_send_179 : decode cX15_send 179 = .ok (.getfield 15, 3) := dk_180 0 15 (dk_at dksX15_send_7 13 rfl rfl)
theorem dX15_send_182 : decode cX15_send 182 = .ok (.iload_n 1, 1) := dk_27 (dk_at dksX15_send_7 16 rfl rfl)
theorem dX15_send_183 : decode cX15_send 183 = .ok (.aload_n 3, 1) := dk_45 (dk_at dksX15_send_7 17 rfl rfl)
theorem dX15_send_184 : decode cX15_send 184 = .ok (.aload_n 0, 1) := dk_42 (dk_at dksX15_send_7 18 rfl rfl)
theorem dX15_send_185 : decode cX15_send 185 = .ok (.getfield 33, 3) := dk_180 0 33 (dk_at dksX15_send_7 19 rfl rfl)
theorem dX15_send_188 : decode cX15_send 188 = .ok (.getfield 50, 3) := dk_180 0 50 (dk_at dksX15_send_8 0 rfl rfl)
theorem dX15_send_191 : decode cX15_send 191 = .ok (.iload_n 1, 1) := dk_27 (dk_at dksX15_send_8 3 rfl rfl)
theorem dX15_send_192 : decode cX15_send 192 = .ok (.invokeinterface 98 2, 5) := by decide +kernel
theorem dX15_send_197 : decode cX15_send 197 = .ok (.checkcast 27, 3) := dk_192 0 27 (dk_at dksX15_send_8 9 rfl rfl)
theorem dX15_send_200 : decode cX15_send 200 = .ok (.invokevirtual 119, 3) := dk_182 0 119 (dk_at dksX15_send_8 12 rfl rfl)
theorem dX15_send_203 : decode cX15_send 203 = .ok (.ifCond .eq 7, 3) := dk_153 0 7 (dk_at dksX15_send_8 15 rfl rfl)
theorem dX15_send_206 : decode cX15_send 206 = .ok (.iconst 0, 1) := dk_3 (dk_at dksX15_send_8 18 rfl rfl)
theorem dX15_send_207 : decode cX15_send 207 = .ok (.goto 4, 3) := dk_167 0 4 (dk_at dksX15_send_8 19 rfl rfl)
theorem dX15_send_210 : decode cX15_send 210 = .ok (.iconst 3, 1) := dk_6 (dk_at dksX15_send_8 22 rfl rfl)
theorem dX15_send_211 : decode cX15_send 211 = .ok (.iastore, 1) := dk_79 (dk_at dksX15_send_8 23 rfl rfl)
theorem dX15_send_212 : decode cX15_send 212 = .ok (.iload_n 1, 1) := dk_27 (dk_at dksX15_send_9 0 rfl rfl)
theorem dX15_send_213 : decode cX15_send 213 = .ok (.iconst 1, 1) := dk_4 (dk_at dksX15_send_9 1 rfl rfl)
theorem dX15_send_214 : decode cX15_send 214 = .ok (.iadd, 1) := dk_96 (dk_at dksX15_send_9 2 rfl rfl)
theorem dX15_send_215 : decode cX15_send 215 = .ok (.ireturn, 1) := dk_172 (dk_at dksX15_send_9 3 rfl rfl)
abbrev cX15_fails : ByteArray := prog_12_method_5_code
def yX15_fails : MethodName := ⟨RX15, "fails", "(II)I"⟩
def dkwX15_fails_4 : List UInt8 := [180, 0, 33, 180, 0, 73, 183, 0, 76, 83, 42, 180, 0, 15, 27, 28, 79, 27, 4, 96, 172]
abbrev dktX15_fails_4 : List UInt8 := dkwX15_fails_4 ++ []
def dkwX15_fails_3 : List UInt8 := [180, 0, 33, 180, 0, 66, 5, 46, 154, 0, 11, 42, 27, 182, 0, 106, 167, 0, 17, 187, 0, 27, 89, 42]
abbrev dktX15_fails_3 : List UInt8 := dkwX15_fails_3 ++ dktX15_fails_4
def dkwX15_fails_2 : List UInt8 := [181, 0, 83, 42, 180, 0, 33, 27, 42, 180, 0, 37, 182, 0, 126, 172, 42, 180, 0, 29, 27, 42]
abbrev dktX15_fails_2 : List UInt8 := dkwX15_fails_2 ++ dktX15_fails_3
def dkwX15_fails_1 : List UInt8 := [180, 0, 24, 27, 92, 46, 4, 96, 79, 42, 89, 180, 0, 83, 42, 180, 0, 33, 180, 0, 66, 8, 46, 96]
abbrev dktX15_fails_1 : List UInt8 := dkwX15_fails_1 ++ dktX15_fails_2
def dkwX15_fails_0 : List UInt8 := [42, 180, 0, 123, 42, 180, 0, 41, 162, 0, 54, 42, 89, 180, 0, 123, 4, 96, 181, 0, 123, 42]
abbrev dktX15_fails_0 : List UInt8 := dkwX15_fails_0 ++ dktX15_fails_1
theorem dksX15_fails_0 : cX15_fails.data.toList.drop 0 = dktX15_fails_0 := by decide +kernel
theorem dksX15_fails_1 : cX15_fails.data.toList.drop 22 = dktX15_fails_1 := dk_seg dksX15_fails_0 22 rfl rfl
theorem dksX15_fails_2 : cX15_fails.data.toList.drop 46 = dktX15_fails_2 := dk_seg dksX15_fails_1 24 rfl rfl
theorem dksX15_fails_3 : cX15_fails.data.toList.drop 68 = dktX15_fails_3 := dk_seg dksX15_fails_2 22 rfl rfl
theorem dksX15_fails_4 : cX15_fails.data.toList.drop 92 = dktX15_fails_4 := dk_seg dksX15_fails_3 24 rfl rfl
theorem dX15_fails_0 : decode cX15_fails 0 = .ok (.aload_n 0, 1) := dk_42 (dk_at dksX15_fails_0 0 rfl rfl)
theorem dX15_fails_1 : decode cX15_fails 1 = .ok (.getfield 123, 3) := dk_180 0 123 (dk_at dksX15_fails_0 1 rfl rfl)
theorem dX15_fails_4 : decode cX15_fails 4 = .ok (.aload_n 0, 1) := dk_42 (dk_at dksX15_fails_0 4 rfl rfl)
theorem dX15_fails_5 : decode cX15_fails 5 = .ok (.getfield 41, 3) := dk_180 0 41 (dk_at dksX15_fails_0 5 rfl rfl)
theorem dX15_fails_8 : decode cX15_fails 8 = .ok (.if_icmp .ge 54, 3) := dk_162 0 54 (dk_at dksX15_fails_0 8 rfl rfl)
theorem dX15_fails_11 : decode cX15_fails 11 = .ok (.aload_n 0, 1) := dk_42 (dk_at dksX15_fails_0 11 rfl rfl)
theorem dX15_fails_12 : decode cX15_fails 12 = .ok (.dup, 1) := dk_89 (dk_at dksX15_fails_0 12 rfl rfl)
theorem dX15_fails_13 : decode cX15_fails 13 = .ok (.getfield 123, 3) := dk_180 0 123 (dk_at dksX15_fails_0 13 rfl rfl)
theorem dX15_fails_16 : decode cX15_fails 16 = .ok (.iconst 1, 1) := dk_4 (dk_at dksX15_fails_0 16 rfl rfl)
theorem dX15_fails_17 : decode cX15_fails 17 = .ok (.iadd, 1) := dk_96 (dk_at dksX15_fails_0 17 rfl rfl)
theorem dX15_fails_18 : decode cX15_fails 18 = .ok (.putfield 123, 3) := dk_181 0 123 (dk_at dksX15_fails_0 18 rfl rfl)
theorem dX15_fails_21 : decode cX15_fails 21 = .ok (.aload_n 0, 1) := dk_42 (dk_at dksX15_fails_0 21 rfl rfl)
theorem dX15_fails_22 : decode cX15_fails 22 = .ok (.getfield 24, 3) := dk_180 0 24 (dk_at dksX15_fails_1 0 rfl rfl)
theorem dX15_fails_25 : decode cX15_fails 25 = .ok (.iload_n 1, 1) := dk_27 (dk_at dksX15_fails_1 3 rfl rfl)
theorem dX15_fails_26 : decode cX15_fails 26 = .ok (.dup2, 1) := dk_92 (dk_at dksX15_fails_1 4 rfl rfl)
theorem dX15_fails_27 : decode cX15_fails 27 = .ok (.iaload, 1) := dk_46 (dk_at dksX15_fails_1 5 rfl rfl)
theorem dX15_fails_28 : decode cX15_fails 28 = .ok (.iconst 1, 1) := dk_4 (dk_at dksX15_fails_1 6 rfl rfl)
theorem dX15_fails_29 : decode cX15_fails 29 = .ok (.iadd, 1) := dk_96 (dk_at dksX15_fails_1 7 rfl rfl)
theorem dX15_fails_30 : decode cX15_fails 30 = .ok (.iastore, 1) := dk_79 (dk_at dksX15_fails_1 8 rfl rfl)
theorem dX15_fails_31 : decode cX15_fails 31 = .ok (.aload_n 0, 1) := dk_42 (dk_at dksX15_fails_1 9 rfl rfl)
theorem dX15_fails_32 : decode cX15_fails 32 = .ok (.dup, 1) := dk_89 (dk_at dksX15_fails_1 10 rfl rfl)
theorem dX15_fails_33 : decode cX15_fails 33 = .ok (.getfield 83, 3) := dk_180 0 83 (dk_at dksX15_fails_1 11 rfl rfl)
theorem dX15_fails_36 : decode cX15_fails 36 = .ok (.aload_n 0, 1) := dk_42 (dk_at dksX15_fails_1 14 rfl rfl)
theorem dX15_fails_37 : decode cX15_fails 37 = .ok (.getfield 33, 3) := dk_180 0 33 (dk_at dksX15_fails_1 15 rfl rfl)
theorem dX15_fails_40 : decode cX15_fails 40 = .ok (.getfield 66, 3) := dk_180 0 66 (dk_at dksX15_fails_1 18 rfl rfl)
theorem dX15_fails_43 : decode cX15_fails 43 = .ok (.iconst 5, 1) := dk_8 (dk_at dksX15_fails_1 21 rfl rfl)
theorem dX15_fails_44 : decode cX15_fails 44 = .ok (.iaload, 1) := dk_46 (dk_at dksX15_fails_1 22 rfl rfl)
theorem dX15_fails_45 : decode cX15_fails 45 = .ok (.iadd, 1) := dk_96 (dk_at dksX15_fails_1 23 rfl rfl)
theorem dX15_fails_46 : decode cX15_fails 46 = .ok (.putfield 83, 3) := dk_181 0 83 (dk_at dksX15_fails_2 0 rfl rfl)
theorem dX15_fails_49 : decode cX15_fails 49 = .ok (.aload_n 0, 1) := dk_42 (dk_at dksX15_fails_2 3 rfl rfl)
theorem dX15_fails_50 : decode cX15_fails 50 = .ok (.getfield 33, 3) := dk_180 0 33 (dk_at dksX15_fails_2 4 rfl rfl)
theorem dX15_fails_53 : decode cX15_fails 53 = .ok (.iload_n 1, 1) := dk_27 (dk_at dksX15_fails_2 7 rfl rfl)
theorem dX15_fails_54 : decode cX15_fails 54 = .ok (.aload_n 0, 1) := dk_42 (dk_at dksX15_fails_2 8 rfl rfl)
theorem dX15_fails_55 : decode cX15_fails 55 = .ok (.getfield 37, 3) := dk_180 0 37 (dk_at dksX15_fails_2 9 rfl rfl)
theorem dX15_fails_58 : decode cX15_fails 58 = .ok (.invokevirtual 126, 3) := dk_182 0 126 (dk_at dksX15_fails_2 12 rfl rfl)
theorem dX15_fails_61 : decode cX15_fails 61 = .ok (.ireturn, 1) := dk_172 (dk_at dksX15_fails_2 15 rfl rfl)
theorem dX15_fails_62 : decode cX15_fails 62 = .ok (.aload_n 0, 1) := dk_42 (dk_at dksX15_fails_2 16 rfl rfl)
theorem dX15_fails_63 : decode cX15_fails 63 = .ok (.getfield 29, 3) := dk_180 0 29 (dk_at dksX15_fails_2 17 rfl rfl)
theorem dX15_fails_66 : decode cX15_fails 66 = .ok (.iload_n 1, 1) := dk_27 (dk_at dksX15_fails_2 20 rfl rfl)
theorem dX15_fails_67 : decode cX15_fails 67 = .ok (.aload_n 0, 1) := dk_42 (dk_at dksX15_fails_2 21 rfl rfl)
theorem dX15_fails_68 : decode cX15_fails 68 = .ok (.getfield 33, 3) := dk_180 0 33 (dk_at dksX15_fails_3 0 rfl rfl)
theorem dX15_fails_71 : decode cX15_fails 71 = .ok (.getfield 66, 3) := dk_180 0 66 (dk_at dksX15_fails_3 3 rfl rfl)
theorem dX15_fails_74 : decode cX15_fails 74 = .ok (.iconst 2, 1) := dk_5 (dk_at dksX15_fails_3 6 rfl rfl)
theorem dX15_fails_75 : decode cX15_fails 75 = .ok (.iaload, 1) := dk_46 (dk_at dksX15_fails_3 7 rfl rfl)
theorem dX15_fails_76 : decode cX15_fails 76 = .ok (.ifCond .ne 11, 3) := dk_154 0 11 (dk_at dksX15_fails_3 8 rfl rfl)
theorem dX15_fails_79 : decode cX15_fails 79 = .ok (.aload_n 0, 1) := dk_42 (dk_at dksX15_fails_3 11 rfl rfl)
theorem dX15_fails_80 : decode cX15_fails 80 = .ok (.iload_n 1, 1) := dk_27 (dk_at dksX15_fails_3 12 rfl rfl)
theorem dX15_fails_81 : decode cX15_fails 81 = .ok (.invokevirtual 106, 3) := dk_182 0 106 (dk_at dksX15_fails_3 13 rfl rfl)
theorem dX15_fails_84 : decode cX15_fails 84 = .ok (.goto 17, 3) := dk_167 0 17 (dk_at dksX15_fails_3 16 rfl rfl)
theorem dX15_fails_87 : decode cX15_fails 87 = .ok (.new 27, 3) := dk_187 0 27 (dk_at dksX15_fails_3 19 rfl rfl)
theorem dX15_fails_90 : decode cX15_fails 90 = .ok (.dup, 1) := dk_89 (dk_at dksX15_fails_3 22 rfl rfl)
theorem dX15_fails_91 : decode cX15_fails 91 = .ok (.aload_n 0, 1) := dk_42 (dk_at dksX15_fails_3 23 rfl rfl)
theorem dX15_fails_92 : decode cX15_fails 92 = .ok (.getfield 33, 3) := dk_180 0 33 (dk_at dksX15_fails_4 0 rfl rfl)
theorem dX15_fails_95 : decode cX15_fails 95 = .ok (.getfield 73, 3) := dk_180 0 73 (dk_at dksX15_fails_4 3 rfl rfl)
theorem dX15_fails_98 : decode cX15_fails 98 = .ok (.invokespecial 76, 3) := dk_183 0 76 (dk_at dksX15_fails_4 6 rfl rfl)
theorem dX15_fails_101 : decode cX15_fails 101 = .ok (.aastore, 1) := dk_83 (dk_at dksX15_fails_4 9 rfl rfl)
theorem dX15_fails_102 : decode cX15_fails 102 = .ok (.aload_n 0, 1) := dk_42 (dk_at dksX15_fails_4 10 rfl rfl)
theorem dX15_fails_103 : decode cX15_fails 103 = .ok (.getfield 15, 3) := dk_180 0 15 (dk_at dksX15_fails_4 11 rfl rfl)
theorem dX15_fails_106 : decode cX15_fails 106 = .ok (.iload_n 1, 1) := dk_27 (dk_at dksX15_fails_4 14 rfl rfl)
theorem dX15_fails_107 : decode cX15_fails 107 = .ok (.iload_n 2, 1) := dk_28 (dk_at dksX15_fails_4 15 rfl rfl)
theorem dX15_fails_108 : decode cX15_fails 108 = .ok (.iastore, 1) := dk_79 (dk_at dksX15_fails_4 16 rfl rfl)
theorem dX15_fails_109 : decode cX15_fails 109 = .ok (.iload_n 1, 1) := dk_27 (dk_at dksX15_fails_4 17 rfl rfl)
theorem dX15_fails_110 : decode cX15_fails 110 = .ok (.iconst 1, 1) := dk_4 (dk_at dksX15_fails_4 18 rfl rfl)
theorem dX15_fails_111 : decode cX15_fails 111 = .ok (.iadd, 1) := dk_96 (dk_at dksX15_fails_4 19 rfl rfl)
theorem dX15_fails_112 : decode cX15_fails 112 = .ok (.ireturn, 1) := dk_172 (dk_at dksX15_fails_4 20 rfl rfl)
abbrev cX15_above : ByteArray := prog_12_method_3_code
def yX15_above : MethodName := ⟨RX15, "above", "(I)LDotRuns$Line;"⟩
def dkwX15_above_1 : List UInt8 := [180, 0, 29, 27, 4, 100, 50, 176]
abbrev dktX15_above_1 : List UInt8 := dkwX15_above_1 ++ []
def dkwX15_above_0 : List UInt8 := [27, 154, 0, 20, 187, 0, 27, 89, 42, 180, 0, 33, 180, 0, 73, 183, 0, 76, 167, 0, 11, 42]
abbrev dktX15_above_0 : List UInt8 := dkwX15_above_0 ++ dktX15_above_1
theorem dksX15_above_0 : cX15_above.data.toList.drop 0 = dktX15_above_0 := by decide +kernel
theorem dksX15_above_1 : cX15_above.data.toList.drop 22 = dktX15_above_1 := dk_seg dksX15_above_0 22 rfl rfl
theorem dX15_above_0 : decode cX15_above 0 = .ok (.iload_n 1, 1) := dk_27 (dk_at dksX15_above_0 0 rfl rfl)
theorem dX15_above_1 : decode cX15_above 1 = .ok (.ifCond .ne 20, 3) := dk_154 0 20 (dk_at dksX15_above_0 1 rfl rfl)
theorem dX15_above_4 : decode cX15_above 4 = .ok (.new 27, 3) := dk_187 0 27 (dk_at dksX15_above_0 4 rfl rfl)
theorem dX15_above_7 : decode cX15_above 7 = .ok (.dup, 1) := dk_89 (dk_at dksX15_above_0 7 rfl rfl)
theorem dX15_above_8 : decode cX15_above 8 = .ok (.aload_n 0, 1) := dk_42 (dk_at dksX15_above_0 8 rfl rfl)
theorem dX15_above_9 : decode cX15_above 9 = .ok (.getfield 33, 3) := dk_180 0 33 (dk_at dksX15_above_0 9 rfl rfl)
theorem dX15_above_12 : decode cX15_above 12 = .ok (.getfield 73, 3) := dk_180 0 73 (dk_at dksX15_above_0 12 rfl rfl)
theorem dX15_above_15 : decode cX15_above 15 = .ok (.invokespecial 76, 3) := dk_183 0 76 (dk_at dksX15_above_0 15 rfl rfl)
theorem dX15_above_18 : decode cX15_above 18 = .ok (.goto 11, 3) := dk_167 0 11 (dk_at dksX15_above_0 18 rfl rfl)
theorem dX15_above_21 : decode cX15_above 21 = .ok (.aload_n 0, 1) := dk_42 (dk_at dksX15_above_0 21 rfl rfl)
theorem dX15_above_22 : decode cX15_above 22 = .ok (.getfield 29, 3) := dk_180 0 29 (dk_at dksX15_above_1 0 rfl rfl)
theorem dX15_above_25 : decode cX15_above 25 = .ok (.iload_n 1, 1) := dk_27 (dk_at dksX15_above_1 3 rfl rfl)
theorem dX15_above_26 : decode cX15_above 26 = .ok (.iconst 1, 1) := dk_4 (dk_at dksX15_above_1 4 rfl rfl)
theorem dX15_above_27 : decode cX15_above 27 = .ok (.isub, 1) := dk_100 (dk_at dksX15_above_1 5 rfl rfl)
theorem dX15_above_28 : decode cX15_above 28 = .ok (.aaload, 1) := dk_50 (dk_at dksX15_above_1 6 rfl rfl)
theorem dX15_above_29 : decode cX15_above 29 = .ok (.areturn, 1) := dk_176 (dk_at dksX15_above_1 7 rfl rfl)
abbrev cX15_wrong : ByteArray := prog_12_method_7_code
def yX15_wrong : MethodName := ⟨RX15, "wrong", "()I"⟩
def dkwX15_wrong_1 : List UInt8 := [182, 0, 133, 96, 60, 132, 2, 1, 167, 255, 229, 27, 172]
abbrev dktX15_wrong_1 : List UInt8 := dkwX15_wrong_1 ++ []
def dkwX15_wrong_0 : List UInt8 := [3, 60, 3, 61, 28, 42, 180, 0, 33, 180, 0, 50, 185, 0, 56, 1, 0, 162, 0, 17, 27, 42, 28]
abbrev dktX15_wrong_0 : List UInt8 := dkwX15_wrong_0 ++ dktX15_wrong_1
theorem dksX15_wrong_0 : cX15_wrong.data.toList.drop 0 = dktX15_wrong_0 := by decide +kernel
theorem dksX15_wrong_1 : cX15_wrong.data.toList.drop 23 = dktX15_wrong_1 := dk_seg dksX15_wrong_0 23 rfl rfl
theorem dX15_wrong_0 : decode cX15_wrong 0 = .ok (.iconst 0, 1) := dk_3 (dk_at dksX15_wrong_0 0 rfl rfl)
theorem dX15_wrong_1 : decode cX15_wrong 1 = .ok (.istore_n 1, 1) := dk_60 (dk_at dksX15_wrong_0 1 rfl rfl)
theorem dX15_wrong_2 : decode cX15_wrong 2 = .ok (.iconst 0, 1) := dk_3 (dk_at dksX15_wrong_0 2 rfl rfl)
theorem dX15_wrong_3 : decode cX15_wrong 3 = .ok (.istore_n 2, 1) := dk_61 (dk_at dksX15_wrong_0 3 rfl rfl)
theorem dX15_wrong_4 : decode cX15_wrong 4 = .ok (.iload_n 2, 1) := dk_28 (dk_at dksX15_wrong_0 4 rfl rfl)
theorem dX15_wrong_5 : decode cX15_wrong 5 = .ok (.aload_n 0, 1) := dk_42 (dk_at dksX15_wrong_0 5 rfl rfl)
theorem dX15_wrong_6 : decode cX15_wrong 6 = .ok (.getfield 33, 3) := dk_180 0 33 (dk_at dksX15_wrong_0 6 rfl rfl)
theorem dX15_wrong_9 : decode cX15_wrong 9 = .ok (.getfield 50, 3) := dk_180 0 50 (dk_at dksX15_wrong_0 9 rfl rfl)
theorem dX15_wrong_12 : decode cX15_wrong 12 = .ok (.invokeinterface 56 1, 5) := by decide +kernel
theorem dX15_wrong_17 : decode cX15_wrong 17 = .ok (.if_icmp .ge 17, 3) := dk_162 0 17 (dk_at dksX15_wrong_0 17 rfl rfl)
theorem dX15_wrong_20 : decode cX15_wrong 20 = .ok (.iload_n 1, 1) := dk_27 (dk_at dksX15_wrong_0 20 rfl rfl)
theorem dX15_wrong_21 : decode cX15_wrong 21 = .ok (.aload_n 0, 1) := dk_42 (dk_at dksX15_wrong_0 21 rfl rfl)
theorem dX15_wrong_22 : decode cX15_wrong 22 = .ok (.iload_n 2, 1) := dk_28 (dk_at dksX15_wrong_0 22 rfl rfl)
theorem dX15_wrong_23 : decode cX15_wrong 23 = .ok (.invokevirtual 133, 3) := dk_182 0 133 (dk_at dksX15_wrong_1 0 rfl rfl)
theorem dX15_wrong_26 : decode cX15_wrong 26 = .ok (.iadd, 1) := dk_96 (dk_at dksX15_wrong_1 3 rfl rfl)
theorem dX15_wrong_27 : decode cX15_wrong 27 = .ok (.istore_n 1, 1) := dk_60 (dk_at dksX15_wrong_1 4 rfl rfl)
theorem dX15_wrong_28 : decode cX15_wrong 28 = .ok (.iinc 2 1, 3) := dk_132 2 1 (dk_at dksX15_wrong_1 5 rfl rfl)
theorem dX15_wrong_31 : decode cX15_wrong 31 = .ok (.goto (-27), 3) := dk_167 255 229 (dk_at dksX15_wrong_1 8 rfl rfl)
theorem dX15_wrong_34 : decode cX15_wrong 34 = .ok (.iload_n 1, 1) := dk_27 (dk_at dksX15_wrong_1 11 rfl rfl)
theorem dX15_wrong_35 : decode cX15_wrong 35 = .ok (.ireturn, 1) := dk_172 (dk_at dksX15_wrong_1 12 rfl rfl)
abbrev cX15_wrongIn : ByteArray := prog_12_method_6_code
def yX15_wrongIn : MethodName := ⟨RX15, "wrongIn", "(I)I"⟩
def dkwX15_wrongIn_1 : List UInt8 := [182, 0, 129, 172]
abbrev dktX15_wrongIn_1 : List UInt8 := dkwX15_wrongIn_1 ++ []
def dkwX15_wrongIn_0 : List UInt8 := [42, 180, 0, 29, 27, 50, 42, 180, 0, 33, 180, 0, 50, 27, 185, 0, 98, 2, 0, 192, 0, 27]
abbrev dktX15_wrongIn_0 : List UInt8 := dkwX15_wrongIn_0 ++ dktX15_wrongIn_1
theorem dksX15_wrongIn_0 : cX15_wrongIn.data.toList.drop 0 = dktX15_wrongIn_0 := by decide +kernel
theorem dksX15_wrongIn_1 : cX15_wrongIn.data.toList.drop 22 = dktX15_wrongIn_1 := dk_seg dksX15_wrongIn_0 22 rfl rfl
theorem dX15_wrongIn_0 : decode cX15_wrongIn 0 = .ok (.aload_n 0, 1) := dk_42 (dk_at dksX15_wrongIn_0 0 rfl rfl)
theorem dX15_wrongIn_1 : decode cX15_wrongIn 1 = .ok (.getfield 29, 3) := dk_180 0 29 (dk_at dksX15_wrongIn_0 1 rfl rfl)
theorem dX15_wrongIn_4 : decode cX15_wrongIn 4 = .ok (.iload_n 1, 1) := dk_27 (dk_at dksX15_wrongIn_0 4 rfl rfl)
theorem dX15_wrongIn_5 : decode cX15_wrongIn 5 = .ok (.aaload, 1) := dk_50 (dk_at dksX15_wrongIn_0 5 rfl rfl)
theorem dX15_wrongIn_6 : decode cX15_wrongIn 6 = .ok (.aload_n 0, 1) := dk_42 (dk_at dksX15_wrongIn_0 6 rfl rfl)
theorem dX15_wrongIn_7 : decode cX15_wrongIn 7 = .ok (.getfield 33, 3) := dk_180 0 33 (dk_at dksX15_wrongIn_0 7 rfl rfl)
theorem dX15_wrongIn_10 : decode cX15_wrongIn 10 = .ok (.getfield 50, 3) := dk_180 0 50 (dk_at dksX15_wrongIn_0 10 rfl rfl)
theorem dX15_wrongIn_13 : decode cX15_wrongIn 13 = .ok (.iload_n 1, 1) := dk_27 (dk_at dksX15_wrongIn_0 13 rfl rfl)
theorem dX15_wrongIn_14 : decode cX15_wrongIn 14 = .ok (.invokeinterface 98 2, 5) := by decide +kernel
theorem dX15_wrongIn_19 : decode cX15_wrongIn 19 = .ok (.checkcast 27, 3) := dk_192 0 27 (dk_at dksX15_wrongIn_0 19 rfl rfl)
theorem dX15_wrongIn_22 : decode cX15_wrongIn 22 = .ok (.invokevirtual 129, 3) := dk_182 0 129 (dk_at dksX15_wrongIn_1 0 rfl rfl)
theorem dX15_wrongIn_25 : decode cX15_wrongIn 25 = .ok (.ireturn, 1) := dk_172 (dk_at dksX15_wrongIn_1 3 rfl rfl)
abbrev cX15_of : ByteArray := prog_12_method_2_code
def yX15_of : MethodName := ⟨RX15, "of", "(LDotRuns$Page;)LDotRuns$Sending;"⟩
def dkwX15_of_1 : List UInt8 := [176]
abbrev dktX15_of_1 : List UInt8 := dkwX15_of_1 ++ []
def dkwX15_of_0 : List UInt8 := [187, 0, 10, 89, 42, 42, 180, 0, 66, 3, 46, 42, 180, 0, 66, 6, 46, 42, 180, 0, 69, 183, 0, 70]
abbrev dktX15_of_0 : List UInt8 := dkwX15_of_0 ++ dktX15_of_1
theorem dksX15_of_0 : cX15_of.data.toList.drop 0 = dktX15_of_0 := by decide +kernel
theorem dksX15_of_1 : cX15_of.data.toList.drop 24 = dktX15_of_1 := dk_seg dksX15_of_0 24 rfl rfl
theorem dX15_of_0 : decode cX15_of 0 = .ok (.new 10, 3) := dk_187 0 10 (dk_at dksX15_of_0 0 rfl rfl)
theorem dX15_of_3 : decode cX15_of 3 = .ok (.dup, 1) := dk_89 (dk_at dksX15_of_0 3 rfl rfl)
theorem dX15_of_4 : decode cX15_of 4 = .ok (.aload_n 0, 1) := dk_42 (dk_at dksX15_of_0 4 rfl rfl)
theorem dX15_of_5 : decode cX15_of 5 = .ok (.aload_n 0, 1) := dk_42 (dk_at dksX15_of_0 5 rfl rfl)
theorem dX15_of_6 : decode cX15_of 6 = .ok (.getfield 66, 3) := dk_180 0 66 (dk_at dksX15_of_0 6 rfl rfl)
theorem dX15_of_9 : decode cX15_of 9 = .ok (.iconst 0, 1) := dk_3 (dk_at dksX15_of_0 9 rfl rfl)
theorem dX15_of_10 : decode cX15_of 10 = .ok (.iaload, 1) := dk_46 (dk_at dksX15_of_0 10 rfl rfl)
theorem dX15_of_11 : decode cX15_of 11 = .ok (.aload_n 0, 1) := dk_42 (dk_at dksX15_of_0 11 rfl rfl)
theorem dX15_of_12 : decode cX15_of 12 = .ok (.getfield 66, 3) := dk_180 0 66 (dk_at dksX15_of_0 12 rfl rfl)
theorem dX15_of_15 : decode cX15_of 15 = .ok (.iconst 3, 1) := dk_6 (dk_at dksX15_of_0 15 rfl rfl)
theorem dX15_of_16 : decode cX15_of 16 = .ok (.iaload, 1) := dk_46 (dk_at dksX15_of_0 16 rfl rfl)
theorem dX15_of_17 : decode cX15_of 17 = .ok (.aload_n 0, 1) := dk_42 (dk_at dksX15_of_0 17 rfl rfl)
theorem dX15_of_18 : decode cX15_of 18 = .ok (.getfield 69, 3) := dk_180 0 69 (dk_at dksX15_of_0 18 rfl rfl)
theorem dX15_of_21 : decode cX15_of 21 = .ok (.invokespecial 70, 3) := dk_183 0 70 (dk_at dksX15_of_0 21 rfl rfl)
theorem dX15_of_24 : decode cX15_of 24 = .ok (.areturn, 1) := dk_176 (dk_at dksX15_of_1 0 rfl rfl)
abbrev cX15_inState : ByteArray := prog_12_method_8_code
def yX15_inState : MethodName := ⟨RX15, "inState", "(I)I"⟩
def dkwX15_inState_2 : List UInt8 := [167, 255, 216, 28, 172]
abbrev dktX15_inState_2 : List UInt8 := dkwX15_inState_2 ++ []
def dkwX15_inState_1 : List UInt8 := [180, 0, 15, 29, 46, 27, 160, 0, 7, 4, 167, 0, 4, 3, 184, 0, 136, 96, 61, 132, 3, 1]
abbrev dktX15_inState_1 : List UInt8 := dkwX15_inState_1 ++ dktX15_inState_2
def dkwX15_inState_0 : List UInt8 := [3, 61, 3, 62, 29, 42, 180, 0, 33, 180, 0, 50, 185, 0, 56, 1, 0, 162, 0, 30, 28, 42]
abbrev dktX15_inState_0 : List UInt8 := dkwX15_inState_0 ++ dktX15_inState_1
theorem dksX15_inState_0 : cX15_inState.data.toList.drop 0 = dktX15_inState_0 := by decide +kernel
theorem dksX15_inState_1 : cX15_inState.data.toList.drop 22 = dktX15_inState_1 := dk_seg dksX15_inState_0 22 rfl rfl
theorem dksX15_inState_2 : cX15_inState.data.toList.drop 44 = dktX15_inState_2 := dk_seg dksX15_inState_1 22 rfl rfl
theorem dX15_inState_0 : decode cX15_inState 0 = .ok (.iconst 0, 1) := dk_3 (dk_at dksX15_inState_0 0 rfl rfl)
theorem dX15_inState_1 : decode cX15_inState 1 = .ok (.istore_n 2, 1) := dk_61 (dk_at dksX15_inState_0 1 rfl rfl)
theorem dX15_inState_2 : decode cX15_inState 2 = .ok (.iconst 0, 1) := dk_3 (dk_at dksX15_inState_0 2 rfl rfl)
theorem dX15_inState_3 : decode cX15_inState 3 = .ok (.istore_n 3, 1) := dk_62 (dk_at dksX15_inState_0 3 rfl rfl)
theorem dX15_inState_4 : decode cX15_inState 4 = .ok (.iload_n 3, 1) := dk_29 (dk_at dksX15_inState_0 4 rfl rfl)
theorem dX15_inState_5 : decode cX15_inState 5 = .ok (.aload_n 0, 1) := dk_42 (dk_at dksX15_inState_0 5 rfl rfl)
theorem dX15_inState_6 : decode cX15_inState 6 = .ok (.getfield 33, 3) := dk_180 0 33 (dk_at dksX15_inState_0 6 rfl rfl)
theorem dX15_inState_9 : decode cX15_inState 9 = .ok (.getfield 50, 3) := dk_180 0 50 (dk_at dksX15_inState_0 9 rfl rfl)
theorem dX15_inState_12 : decode cX15_inState 12 = .ok (.invokeinterface 56 1, 5) := by decide +kernel
theorem dX15_inState_17 : decode cX15_inState 17 = .ok (.if_icmp .ge 30, 3) := dk_162 0 30 (dk_at dksX15_inState_0 17 rfl rfl)
theorem dX15_inState_20 : decode cX15_inState 20 = .ok (.iload_n 2, 1) := dk_28 (dk_at dksX15_inState_0 20 rfl rfl)
theorem dX15_inState_21 : decode cX15_inState 21 = .ok (.aload_n 0, 1) := dk_42 (dk_at dksX15_inState_0 21 rfl rfl)
theorem dX15_inState_22 : decode cX15_inState 22 = .ok (.getfield 15, 3) := dk_180 0 15 (dk_at dksX15_inState_1 0 rfl rfl)
theorem dX15_inState_25 : decode cX15_inState 25 = .ok (.iload_n 3, 1) := dk_29 (dk_at dksX15_inState_1 3 rfl rfl)
theorem dX15_inState_26 : decode cX15_inState 26 = .ok (.iaload, 1) := dk_46 (dk_at dksX15_inState_1 4 rfl rfl)
theorem dX15_inState_27 : decode cX15_inState 27 = .ok (.iload_n 1, 1) := dk_27 (dk_at dksX15_inState_1 5 rfl rfl)
theorem dX15_inState_28 : decode cX15_inState 28 = .ok (.if_icmp .ne 7, 3) := dk_160 0 7 (dk_at dksX15_inState_1 6 rfl rfl)
theorem dX15_inState_31 : decode cX15_inState 31 = .ok (.iconst 1, 1) := dk_4 (dk_at dksX15_inState_1 9 rfl rfl)
theorem dX15_inState_32 : decode cX15_inState 32 = .ok (.goto 4, 3) := dk_167 0 4 (dk_at dksX15_inState_1 10 rfl rfl)
theorem dX15_inState_35 : decode cX15_inState 35 = .ok (.iconst 0, 1) := dk_3 (dk_at dksX15_inState_1 13 rfl rfl)
theorem dX15_inState_36 : decode cX15_inState 36 = .ok (.invokestatic 136, 3) := dk_184 0 136 (dk_at dksX15_inState_1 14 rfl rfl)
theorem dX15_inState_39 : decode cX15_inState 39 = .ok (.iadd, 1) := dk_96 (dk_at dksX15_inState_1 17 rfl rfl)
theorem dX15_inState_40 : decode cX15_inState 40 = .ok (.istore_n 2, 1) := dk_61 (dk_at dksX15_inState_1 18 rfl rfl)
theorem dX15_inState_41 : decode cX15_inState 41 = .ok (.iinc 3 1, 3) := dk_132 3 1 (dk_at dksX15_inState_1 19 rfl rfl)
theorem dX15_inState_44 : decode cX15_inState 44 = .ok (.goto (-40), 3) := dk_167 255 216 (dk_at dksX15_inState_2 0 rfl rfl)
theorem dX15_inState_47 : decode cX15_inState 47 = .ok (.iload_n 2, 1) := dk_28 (dk_at dksX15_inState_2 3 rfl rfl)
theorem dX15_inState_48 : decode cX15_inState 48 = .ok (.ireturn, 1) := dk_172 (dk_at dksX15_inState_2 4 rfl rfl)
theorem q151 : (Jvm.Cond.initialized "DotRuns$Sending") ∈ lw_all := lw_g (lw_at lw_m1 41 rfl) rfl
theorem q528 : (Jvm.Cond.fieldLinkNest "DotRuns$Sending" (73 : Nat) "DotRuns$Page" "wide" "I" "DotRuns") ∈ lw_tbl := lw_at lw_m2 178 rfl
theorem q531 : (Jvm.Cond.fieldLinkNest "DotRuns$Sending" (66 : Nat) "DotRuns$Page" "set" "[I" "DotRuns") ∈ lw_tbl := lw_at lw_m2 181 rfl
theorem q535 : (Jvm.Cond.fieldLinkNest "DotRuns$Sending" (69 : Nat) "DotRuns$Page" "losses" "[I" "DotRuns") ∈ lw_tbl := lw_at lw_m2 185 rfl
theorem q539 : (Jvm.Cond.fieldLinkNest "DotRuns$Sending" (50 : Nat) "DotRuns$Page" "lines" "Ljava/util/List;" "DotRuns") ∈ lw_tbl := lw_at lw_m2 189 rfl
theorem q622 : (Jvm.Cond.instantiable "DotRuns$Sending" (14 : Nat)) ∈ lw_all := lw_g (lw_at lw_m3 32 rfl) rfl
theorem q624 : (Jvm.Cond.instanceMethod ({ cls := "DotRuns$Sending", name := "<init>", desc := "(LDotRuns$Page;II[I)V" } : Jvm.MethodName)) ∈ lw_all := lw_g (lw_at lw_m3 34 rfl) rfl
theorem q625 : (Jvm.Cond.code ({ cls := "DotRuns$Sending", name := "<init>", desc := "(LDotRuns$Page;II[I)V" } : Jvm.MethodName) prog_12_method_1_code (6 : Nat) (Option.none : Option Jvm.ClassFile.FieldType)) ∈ lw_all := lw_g (lw_at lw_m3 35 rfl) rfl
theorem q626 : (Jvm.Cond.methodLink "DotRuns$Sending" (3 : Nat) ({ cls := "java/lang/Object", name := "<init>", desc := "()V" } : Jvm.MethodName)) ∈ lw_all := lw_g (lw_at lw_m3 36 rfl) rfl
theorem q627 : (Jvm.Cond.classLink "DotRuns$Sending" (27 : Nat) "DotRuns$Line") ∈ lw_all := lw_g (lw_at lw_m3 37 rfl) rfl
theorem q629 : (Jvm.Cond.methodLink "DotRuns$Sending" (44 : Nat) ({ cls := "java/lang/System", name := "arraycopy", desc := "(Ljava/lang/Object;ILjava/lang/Object;II)V" } : Jvm.MethodName)) ∈ lw_all := lw_g (lw_at lw_m3 39 rfl) rfl
theorem q630 : (Jvm.Cond.interfaceEntry "DotRuns$Sending" (56 : Nat)) ∈ lw_tbl := lw_at lw_m3 40 rfl
theorem q631 : (Jvm.Cond.methodLink "DotRuns$Sending" (56 : Nat) ({ cls := "java/util/List", name := "size", desc := "()I" } : Jvm.MethodName)) ∈ lw_all := lw_g (lw_at lw_m3 41 rfl) rfl
theorem q632 : (Jvm.Cond.methodLink "DotRuns$Sending" (62 : Nat) ({ cls := "DotRuns$Sending", name := "send", desc := "(I)I" } : Jvm.MethodName)) ∈ lw_all := lw_g (lw_at lw_m3 42 rfl) rfl
theorem q633 : (Jvm.Cond.privateMethod ({ cls := "DotRuns$Sending", name := "send", desc := "(I)I" } : Jvm.MethodName)) ∈ lw_tbl := lw_at lw_m3 43 rfl
theorem q634 : (Jvm.Cond.instanceMethod ({ cls := "DotRuns$Sending", name := "send", desc := "(I)I" } : Jvm.MethodName)) ∈ lw_all := lw_g (lw_at lw_m3 44 rfl) rfl
theorem q635 : (Jvm.Cond.code ({ cls := "DotRuns$Sending", name := "send", desc := "(I)I" } : Jvm.MethodName) prog_12_method_4_code (4 : Nat) (Option.some Jvm.ClassFile.FieldType.int)) ∈ lw_all := lw_g (lw_at lw_m3 45 rfl) rfl
theorem q636 : (Jvm.Cond.methodLink "DotRuns$Sending" (79 : Nat) ({ cls := "DotRuns$Page", name := "bits", desc := "(II)I" } : Jvm.MethodName)) ∈ lw_all := lw_g (lw_at lw_m3 46 rfl) rfl
theorem q922 : (Jvm.Cond.selects "DotRuns$Sending" ({ cls := "java/lang/Object", name := "getClass", desc := "()Ljava/lang/Class;" } : Jvm.MethodName) ({ cls := "java/lang/Object", name := "getClass", desc := "()Ljava/lang/Class;" } : Jvm.MethodName)) ∈ lw_all := lw_g (lw_at lw_m4 92 rfl) rfl
theorem q1071 : (Jvm.Cond.methodLink "DotRuns$Sending" (91 : Nat) ({ cls := "DotRuns$Sending", name := "fails", desc := "(II)I" } : Jvm.MethodName)) ∈ lw_all := lw_g (lw_at lw_m5 1 rfl) rfl
theorem q1072 : (Jvm.Cond.privateMethod ({ cls := "DotRuns$Sending", name := "fails", desc := "(II)I" } : Jvm.MethodName)) ∈ lw_tbl := lw_at lw_m5 2 rfl
theorem q1073 : (Jvm.Cond.instanceMethod ({ cls := "DotRuns$Sending", name := "fails", desc := "(II)I" } : Jvm.MethodName)) ∈ lw_all := lw_g (lw_at lw_m5 3 rfl) rfl
theorem q1074 : (Jvm.Cond.code ({ cls := "DotRuns$Sending", name := "fails", desc := "(II)I" } : Jvm.MethodName) prog_12_method_5_code (3 : Nat) (Option.some Jvm.ClassFile.FieldType.int)) ∈ lw_all := lw_g (lw_at lw_m5 4 rfl) rfl
theorem q1075 : (Jvm.Cond.methodLink "DotRuns$Sending" (126 : Nat) ({ cls := "DotRuns$Page", name := "latestMark", desc := "(II)I" } : Jvm.MethodName)) ∈ lw_all := lw_g (lw_at lw_m5 5 rfl) rfl
theorem q1079 : (Jvm.Cond.methodLink "DotRuns$Sending" (106 : Nat) ({ cls := "DotRuns$Sending", name := "above", desc := "(I)LDotRuns$Line;" } : Jvm.MethodName)) ∈ lw_all := lw_g (lw_at lw_m5 9 rfl) rfl
theorem q1080 : (Jvm.Cond.privateMethod ({ cls := "DotRuns$Sending", name := "above", desc := "(I)LDotRuns$Line;" } : Jvm.MethodName)) ∈ lw_tbl := lw_at lw_m5 10 rfl
theorem q1081 : (Jvm.Cond.instanceMethod ({ cls := "DotRuns$Sending", name := "above", desc := "(I)LDotRuns$Line;" } : Jvm.MethodName)) ∈ lw_all := lw_g (lw_at lw_m5 11 rfl) rfl
theorem q1082 : (Jvm.Cond.code ({ cls := "DotRuns$Sending", name := "above", desc := "(I)LDotRuns$Line;" } : Jvm.MethodName) prog_12_method_3_code (2 : Nat) (Option.some (Jvm.ClassFile.FieldType.object "DotRuns$Line"))) ∈ lw_all := lw_g (lw_at lw_m5 12 rfl) rfl
theorem q1083 : (Jvm.Cond.methodLink "DotRuns$Sending" (76 : Nat) ({ cls := "DotRuns$Line", name := "<init>", desc := "(I)V" } : Jvm.MethodName)) ∈ lw_all := lw_g (lw_at lw_m5 13 rfl) rfl
theorem q1084 : (Jvm.Cond.methodLink "DotRuns$Sending" (94 : Nat) ({ cls := "DotRuns$Page", name := "isMarkBy", desc := "(II)Z" } : Jvm.MethodName)) ∈ lw_all := lw_g (lw_at lw_m5 14 rfl) rfl
theorem q1085 : (Jvm.Cond.interfaceEntry "DotRuns$Sending" (98 : Nat)) ∈ lw_tbl := lw_at lw_m5 15 rfl
theorem q1086 : (Jvm.Cond.methodLink "DotRuns$Sending" (98 : Nat) ({ cls := "java/util/List", name := "get", desc := "(I)Ljava/lang/Object;" } : Jvm.MethodName)) ∈ lw_all := lw_g (lw_at lw_m5 16 rfl) rfl
theorem q1087 : (Jvm.Cond.methodLink "DotRuns$Sending" (102 : Nat) ({ cls := "DotRuns$Page", name := "code", desc := "(I)LDotRuns$Code;" } : Jvm.MethodName)) ∈ lw_all := lw_g (lw_at lw_m5 17 rfl) rfl
theorem q1088 : (Jvm.Cond.methodLink "DotRuns$Sending" (110 : Nat) ({ cls := "DotRuns$Code", name := "read", desc := "(LDotRuns$Line;)LDotRuns$Line;" } : Jvm.MethodName)) ∈ lw_all := lw_g (lw_at lw_m5 18 rfl) rfl
theorem q1150 : (Jvm.Cond.methodLink "DotRuns$Sending" (119 : Nat) ({ cls := "DotRuns$Line", name := "isLike", desc := "(LDotRuns$Line;)Z" } : Jvm.MethodName)) ∈ lw_all := lw_g (lw_at lw_m5 80 rfl) rfl
theorem q1154 : (Jvm.Cond.fieldLink "DotRuns$Sending" (33 : Nat) "DotRuns$Sending" "page" "LDotRuns$Page;") ∈ lw_all := lw_g (lw_at lw_m5 84 rfl) rfl
theorem q1155 : (Jvm.Cond.fieldLink "DotRuns$Sending" (37 : Nat) "DotRuns$Sending" "every" "I") ∈ lw_all := lw_g (lw_at lw_m5 85 rfl) rfl
theorem q1156 : (Jvm.Cond.fieldLink "DotRuns$Sending" (41 : Nat) "DotRuns$Sending" "mostSteps" "I") ∈ lw_all := lw_g (lw_at lw_m5 86 rfl) rfl
theorem q1157 : (Jvm.Cond.fieldLink "DotRuns$Sending" (9 : Nat) "DotRuns$Sending" "losses" "[I") ∈ lw_all := lw_g (lw_at lw_m5 87 rfl) rfl
theorem q1158 : (Jvm.Cond.fieldLink "DotRuns$Sending" (15 : Nat) "DotRuns$Sending" "states" "[I") ∈ lw_all := lw_g (lw_at lw_m5 88 rfl) rfl
theorem q1160 : (Jvm.Cond.fieldLink "DotRuns$Sending" (18 : Nat) "DotRuns$Sending" "times" "[I") ∈ lw_all := lw_g (lw_at lw_m5 90 rfl) rfl
theorem q1162 : (Jvm.Cond.fieldLink "DotRuns$Sending" (21 : Nat) "DotRuns$Sending" "costs" "[I") ∈ lw_all := lw_g (lw_at lw_m5 92 rfl) rfl
theorem q1164 : (Jvm.Cond.fieldLink "DotRuns$Sending" (24 : Nat) "DotRuns$Sending" "backs" "[I") ∈ lw_all := lw_g (lw_at lw_m5 94 rfl) rfl
theorem q1166 : (Jvm.Cond.fieldLink "DotRuns$Sending" (29 : Nat) "DotRuns$Sending" "got" "[LDotRuns$Line;") ∈ lw_all := lw_g (lw_at lw_m5 96 rfl) rfl
theorem q1168 : (Jvm.Cond.fieldLink "DotRuns$Sending" (83 : Nat) "DotRuns$Sending" "bits" "I") ∈ lw_all := lw_g (lw_at lw_m5 98 rfl) rfl
theorem q1170 : (Jvm.Cond.fieldLink "DotRuns$Sending" (85 : Nat) "DotRuns$Sending" "sendings" "I") ∈ lw_all := lw_g (lw_at lw_m5 100 rfl) rfl
theorem q1172 : (Jvm.Cond.fieldLink "DotRuns$Sending" (123 : Nat) "DotRuns$Sending" "steps" "I") ∈ lw_all := lw_g (lw_at lw_m5 102 rfl) rfl
theorem q1174 : (Jvm.Cond.fieldLink "DotRuns$Sending" (88 : Nat) "DotRuns$Sending" "lost" "I") ∈ lw_all := lw_g (lw_at lw_m5 104 rfl) rfl
theorem q1176 : (Jvm.Cond.fieldLink "DotRuns$Sending" (116 : Nat) "DotRuns$Sending" "broken" "I") ∈ lw_all := lw_g (lw_at lw_m5 106 rfl) rfl
theorem q1178 : (Jvm.Cond.laysFinal "DotRuns$Sending" "DotRuns$Sending" "page" "LDotRuns$Page;") ∈ lw_all := lw_g (lw_at lw_m5 108 rfl) rfl
theorem q1179 : (Jvm.Cond.soleField "DotRuns$Sending" "page") ∈ lw_all := lw_g (lw_at lw_m5 109 rfl) rfl
theorem q1180 : (Jvm.Cond.laysFinal "DotRuns$Sending" "DotRuns$Sending" "every" "I") ∈ lw_all := lw_g (lw_at lw_m5 110 rfl) rfl
theorem q1181 : (Jvm.Cond.soleField "DotRuns$Sending" "every") ∈ lw_all := lw_g (lw_at lw_m5 111 rfl) rfl
theorem q1182 : (Jvm.Cond.laysFinal "DotRuns$Sending" "DotRuns$Sending" "mostSteps" "I") ∈ lw_all := lw_g (lw_at lw_m5 112 rfl) rfl
theorem q1183 : (Jvm.Cond.soleField "DotRuns$Sending" "mostSteps") ∈ lw_all := lw_g (lw_at lw_m5 113 rfl) rfl
theorem q1184 : (Jvm.Cond.laysFinal "DotRuns$Sending" "DotRuns$Sending" "losses" "[I") ∈ lw_all := lw_g (lw_at lw_m5 114 rfl) rfl
theorem q1185 : (Jvm.Cond.soleField "DotRuns$Sending" "losses") ∈ lw_all := lw_g (lw_at lw_m5 115 rfl) rfl
theorem q1186 : (Jvm.Cond.laysFinal "DotRuns$Sending" "DotRuns$Sending" "states" "[I") ∈ lw_all := lw_g (lw_at lw_m5 116 rfl) rfl
theorem q1187 : (Jvm.Cond.soleField "DotRuns$Sending" "states") ∈ lw_all := lw_g (lw_at lw_m5 117 rfl) rfl
theorem q1188 : (Jvm.Cond.laysFinal "DotRuns$Sending" "DotRuns$Sending" "times" "[I") ∈ lw_all := lw_g (lw_at lw_m5 118 rfl) rfl
theorem q1189 : (Jvm.Cond.soleField "DotRuns$Sending" "times") ∈ lw_all := lw_g (lw_at lw_m5 119 rfl) rfl
theorem q1190 : (Jvm.Cond.laysFinal "DotRuns$Sending" "DotRuns$Sending" "costs" "[I") ∈ lw_all := lw_g (lw_at lw_m5 120 rfl) rfl
theorem q1191 : (Jvm.Cond.soleField "DotRuns$Sending" "costs") ∈ lw_all := lw_g (lw_at lw_m5 121 rfl) rfl
theorem q1192 : (Jvm.Cond.laysFinal "DotRuns$Sending" "DotRuns$Sending" "backs" "[I") ∈ lw_all := lw_g (lw_at lw_m5 122 rfl) rfl
theorem q1193 : (Jvm.Cond.soleField "DotRuns$Sending" "backs") ∈ lw_all := lw_g (lw_at lw_m5 123 rfl) rfl
theorem q1194 : (Jvm.Cond.laysFinal "DotRuns$Sending" "DotRuns$Sending" "got" "[LDotRuns$Line;") ∈ lw_all := lw_g (lw_at lw_m5 124 rfl) rfl
theorem q1195 : (Jvm.Cond.soleField "DotRuns$Sending" "got") ∈ lw_all := lw_g (lw_at lw_m5 125 rfl) rfl
theorem q1196 : (Jvm.Cond.lays "DotRuns$Sending" "DotRuns$Sending" "bits" "I") ∈ lw_all := lw_g (lw_at lw_m5 126 rfl) rfl
theorem q1197 : (Jvm.Cond.soleField "DotRuns$Sending" "bits") ∈ lw_all := lw_g (lw_at lw_m5 127 rfl) rfl
theorem q1198 : (Jvm.Cond.lays "DotRuns$Sending" "DotRuns$Sending" "sendings" "I") ∈ lw_all := lw_g (lw_at lw_m5 128 rfl) rfl
theorem q1199 : (Jvm.Cond.soleField "DotRuns$Sending" "sendings") ∈ lw_all := lw_g (lw_at lw_m5 129 rfl) rfl
theorem q1200 : (Jvm.Cond.lays "DotRuns$Sending" "DotRuns$Sending" "steps" "I") ∈ lw_all := lw_g (lw_at lw_m5 130 rfl) rfl
theorem q1201 : (Jvm.Cond.soleField "DotRuns$Sending" "steps") ∈ lw_all := lw_g (lw_at lw_m5 131 rfl) rfl
theorem q1202 : (Jvm.Cond.lays "DotRuns$Sending" "DotRuns$Sending" "lost" "I") ∈ lw_all := lw_g (lw_at lw_m5 132 rfl) rfl
theorem q1203 : (Jvm.Cond.soleField "DotRuns$Sending" "lost") ∈ lw_all := lw_g (lw_at lw_m5 133 rfl) rfl
theorem q1204 : (Jvm.Cond.lays "DotRuns$Sending" "DotRuns$Sending" "broken" "I") ∈ lw_all := lw_g (lw_at lw_m5 134 rfl) rfl
theorem q1205 : (Jvm.Cond.soleField "DotRuns$Sending" "broken") ∈ lw_all := lw_g (lw_at lw_m5 135 rfl) rfl
theorem q1206 : (Jvm.Cond.superclass "DotRuns$Sending" "java/lang/Object") ∈ lw_all := lw_g (lw_at lw_m5 136 rfl) rfl
theorem q1208 : (Jvm.Cond.instanceMethod ({ cls := "DotRuns$Sending", name := "wrong", desc := "()I" } : Jvm.MethodName)) ∈ lw_all := lw_g (lw_at lw_m5 138 rfl) rfl
theorem q1209 : (Jvm.Cond.selects "DotRuns$Sending" ({ cls := "DotRuns$Sending", name := "wrong", desc := "()I" } : Jvm.MethodName) ({ cls := "DotRuns$Sending", name := "wrong", desc := "()I" } : Jvm.MethodName)) ∈ lw_all := lw_g (lw_at lw_m5 139 rfl) rfl
theorem q1210 : (Jvm.Cond.code ({ cls := "DotRuns$Sending", name := "wrong", desc := "()I" } : Jvm.MethodName) prog_12_method_7_code (3 : Nat) (Option.some Jvm.ClassFile.FieldType.int)) ∈ lw_all := lw_g (lw_at lw_m5 140 rfl) rfl
theorem q1211 : (Jvm.Cond.methodLink "DotRuns$Sending" (133 : Nat) ({ cls := "DotRuns$Sending", name := "wrongIn", desc := "(I)I" } : Jvm.MethodName)) ∈ lw_all := lw_g (lw_at lw_m5 141 rfl) rfl
theorem q1212 : (Jvm.Cond.instanceMethod ({ cls := "DotRuns$Sending", name := "wrongIn", desc := "(I)I" } : Jvm.MethodName)) ∈ lw_all := lw_g (lw_at lw_m5 142 rfl) rfl
theorem q1213 : (Jvm.Cond.selects "DotRuns$Sending" ({ cls := "DotRuns$Sending", name := "wrongIn", desc := "(I)I" } : Jvm.MethodName) ({ cls := "DotRuns$Sending", name := "wrongIn", desc := "(I)I" } : Jvm.MethodName)) ∈ lw_all := lw_g (lw_at lw_m5 143 rfl) rfl
theorem q1214 : (Jvm.Cond.code ({ cls := "DotRuns$Sending", name := "wrongIn", desc := "(I)I" } : Jvm.MethodName) prog_12_method_6_code (2 : Nat) (Option.some Jvm.ClassFile.FieldType.int)) ∈ lw_all := lw_g (lw_at lw_m5 144 rfl) rfl
theorem q1215 : (Jvm.Cond.methodLink "DotRuns$Sending" (129 : Nat) ({ cls := "DotRuns$Line", name := "wrong", desc := "(LDotRuns$Line;)I" } : Jvm.MethodName)) ∈ lw_all := lw_g (lw_at lw_m5 145 rfl) rfl
theorem q1249 : (Jvm.Cond.static ({ cls := "DotRuns$Sending", name := "of", desc := "(LDotRuns$Page;)LDotRuns$Sending;" } : Jvm.MethodName)) ∈ lw_all := lw_g (lw_at lw_m5 179 rfl) rfl
theorem q1250 : (Jvm.Cond.code ({ cls := "DotRuns$Sending", name := "of", desc := "(LDotRuns$Page;)LDotRuns$Sending;" } : Jvm.MethodName) prog_12_method_2_code (1 : Nat) (Option.some (Jvm.ClassFile.FieldType.object "DotRuns$Sending"))) ∈ lw_all := lw_g (lw_at lw_m5 180 rfl) rfl
theorem q1251 : (Jvm.Cond.classLink "DotRuns$Sending" (10 : Nat) "DotRuns$Sending") ∈ lw_all := lw_g (lw_at lw_m5 181 rfl) rfl
theorem q1252 : (Jvm.Cond.methodLink "DotRuns$Sending" (70 : Nat) ({ cls := "DotRuns$Sending", name := "<init>", desc := "(LDotRuns$Page;II[I)V" } : Jvm.MethodName)) ∈ lw_all := lw_g (lw_at lw_m5 182 rfl) rfl
theorem q1986 : (Jvm.Cond.instanceMethod ({ cls := "DotRuns$Sending", name := "inState", desc := "(I)I" } : Jvm.MethodName)) ∈ lw_all := lw_g (lw_at lw_m8 196 rfl) rfl
theorem q1987 : (Jvm.Cond.selects "DotRuns$Sending" ({ cls := "DotRuns$Sending", name := "inState", desc := "(I)I" } : Jvm.MethodName) ({ cls := "DotRuns$Sending", name := "inState", desc := "(I)I" } : Jvm.MethodName)) ∈ lw_all := lw_g (lw_at lw_m8 197 rfl) rfl
theorem q1988 : (Jvm.Cond.code ({ cls := "DotRuns$Sending", name := "inState", desc := "(I)I" } : Jvm.MethodName) prog_12_method_8_code (4 : Nat) (Option.some Jvm.ClassFile.FieldType.int)) ∈ lw_all := lw_g (lw_at lw_m8 198 rfl) rfl
theorem q1989 : (Jvm.Cond.methodLinkNest "DotRuns$Sending" (136 : Nat) ({ cls := "DotRuns", name := "bit", desc := "(Z)I" } : Jvm.MethodName) "DotRuns") ∈ lw_tbl := lw_at lw_m8 199 rfl
theorem q2795 : (Jvm.Cond.castable "DotRuns$Sending" "java/lang/Object") ∈ lw_tbl := lw_at lw_m12 45 rfl
theorem in_X15 : ∀ w ∈ wsX150, w ∈ lw_all := lw_in wsX150 [1178, 1180, 1182, 1184, 1186, 1188, 1190, 1192, 1194, 1196, 1198, 1200, 1202, 1204] (by decide +kernel) (by decide +kernel)
