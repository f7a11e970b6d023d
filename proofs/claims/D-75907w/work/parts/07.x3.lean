/-! DotRunsModel -/
set_option maxRecDepth 100000
def RX3 : String := "DotRunsModel"
def TX3 : u_T := fun k => match k with
  | 0 => ("DotRunsModel", "thrown", "I", false)
  | 1 => ("DotRunsModel", "now", "[I", true)
  | 2 => ("DotRunsModel", "fresh", "[I", true)
  | 3 => ("DotRunsModel", "undos", "[I", true)
  | 4 => ("DotRunsModel", "undoMany", "I", false)
  | 5 => ("DotRunsModel", "saved", "[I", true)
  | 6 => ("DotRunsModel", "isSaved", "[Z", true)
  | 7 => ("DotRunsModel", "upper", "[I", true)
  | 8 => ("DotRunsModel", "lower", "[I", true)
  | 9 => ("DotRunsModel", "wide", "I", false)
  | 10 => ("DotRunsModel", "kinds", "[I", true)
  | 11 => ("DotRunsModel", "ones", "[I", true)
  | 12 => ("DotRunsModel", "twos", "[I", true)
  | 13 => ("DotRunsModel", "places", "[I", true)
  | 14 => ("DotRunsModel", "modes", "I", false)
  | 15 => ("DotRunsModel", "result", "[I", true)
  | 16 => ("DotRunsModel", "here", "I", false)
  | 17 => ("DotRunsModel", "colour", "I", false)
  | 18 => ("DotRunsModel", "runs", "[I", true)
  | 19 => ("DotRunsModel", "runMany", "I", false)
  | 20 => ("DotRunsModel", "got", "[I", true)
  | 21 => ("DotRunsModel", "states", "[I", true)
  | 22 => ("DotRunsModel", "times", "[I", true)
  | 23 => ("DotRunsModel", "bits", "[I", true)
  | 24 => ("DotRunsModel", "backs", "[I", true)
  | 25 => ("DotRunsModel", "losses", "[I", true)
  | 26 => ("DotRunsModel", "allBits", "I", false)
  | 27 => ("DotRunsModel", "sendings", "I", false)
  | 28 => ("DotRunsModel", "stepped", "I", false)
  | 29 => ("DotRunsModel", "lostMany", "I", false)
  | 30 => ("DotRunsModel", "unreadMany", "I", false)
  | 31 => ("DotRunsModel", "text", "[B", true)
  | 32 => ("DotRunsModel", "length", "I", false)
  | 33 => ("DotRunsModel", "at", "I", false)
  | 34 => ("DotRunsModel", "start", "I", false)
  | 35 => ("DotRunsModel", "token", "I", false)
  | 36 => ("DotRunsModel", "number", "I", false)
  | 37 => ("DotRunsModel", "error", "I", false)
  | 38 => ("DotRunsModel", "errorAt", "I", false)
  | 39 => ("DotRunsModel", "words", "[B", true)
  | 40 => ("DotRunsModel", "out", "[B", true)
  | _ => ("DotRunsModel", "outLong", "I", false)
def tyX3 : Nat → FieldType := fun k => match k with
  | 0 => .int
  | 1 => .array .int
  | 2 => .array .int
  | 3 => .array .int
  | 4 => .int
  | 5 => .array .int
  | 6 => .array .boolean
  | 7 => .array .int
  | 8 => .array .int
  | 9 => .int
  | 10 => .array .int
  | 11 => .array .int
  | 12 => .array .int
  | 13 => .array .int
  | 14 => .int
  | 15 => .array .int
  | 16 => .int
  | 17 => .int
  | 18 => .array .int
  | 19 => .int
  | 20 => .array .int
  | 21 => .array .int
  | 22 => .array .int
  | 23 => .array .int
  | 24 => .array .int
  | 25 => .array .int
  | 26 => .int
  | 27 => .int
  | 28 => .int
  | 29 => .int
  | 30 => .int
  | 31 => .array .byte
  | 32 => .int
  | 33 => .int
  | 34 => .int
  | 35 => .int
  | 36 => .int
  | 37 => .int
  | 38 => .int
  | 39 => .array .byte
  | 40 => .array .byte
  | _ => .int
abbrev wsX30 : List Cond := u_ws RX3 TX3 42
set_option maxRecDepth 100000 in
theorem nmX3 : ∀ a, a < 42 → ∀ b, b < 42 → a ≠ b → (TX3 a).2.1 ≠ (TX3 b).2.1 := by decide +kernel
set_option maxRecDepth 100000 in
theorem tyX3_ok : ∀ k, k < 42 → parseFieldDescriptor (TX3 k).2.2.1 = some (tyX3 k) := by decide +kernel
abbrev cX3_init : ByteArray := prog_18_method_1_code
def yX3_init : MethodName := ⟨RX3, "<init>", "()V"⟩
def dkwX3_init_17 : List UInt8 := [181, 0, 79, 42, 16, 16, 182, 0, 82, 42, 180, 0, 13, 3, 42, 180, 0, 7, 3, 184, 0, 86, 177]
abbrev dktX3_init_17 : List UInt8 := dkwX3_init_17 ++ []
def dkwX3_init_16 : List UInt8 := [16, 32, 84, 89, 16, 35, 16, 104, 84, 89, 16, 36, 16, 32, 84, 181, 0, 76, 42, 17, 2, 88, 188, 8]
abbrev dktX3_init_16 : List UInt8 := dkwX3_init_16 ++ dktX3_init_17
def dkwX3_init_15 : List UInt8 := [16, 32, 84, 89, 16, 31, 16, 112, 84, 89, 16, 32, 16, 32, 84, 89, 16, 33, 16, 118, 84, 89, 16, 34]
abbrev dktX3_init_15 : List UInt8 := dkwX3_init_15 ++ dktX3_init_16
def dkwX3_init_14 : List UInt8 := [16, 119, 84, 89, 16, 27, 16, 105, 84, 89, 16, 28, 16, 100, 84, 89, 16, 29, 16, 101, 84, 89, 16, 30]
abbrev dktX3_init_14 : List UInt8 := dkwX3_init_14 ++ dktX3_init_15
def dkwX3_init_13 : List UInt8 := [16, 111, 84, 89, 16, 23, 16, 115, 84, 89, 16, 24, 16, 115, 84, 89, 16, 25, 16, 32, 84, 89, 16, 26]
abbrev dktX3_init_13 : List UInt8 := dkwX3_init_13 ++ dktX3_init_14
def dkwX3_init_12 : List UInt8 := [16, 101, 84, 89, 16, 19, 16, 116, 84, 89, 16, 20, 16, 32, 84, 89, 16, 21, 16, 108, 84, 89, 16, 22]
abbrev dktX3_init_12 : List UInt8 := dkwX3_init_12 ++ dktX3_init_13
def dkwX3_init_11 : List UInt8 := [16, 118, 84, 89, 16, 15, 16, 101, 84, 89, 16, 16, 16, 32, 84, 89, 16, 17, 16, 115, 84, 89, 16, 18]
abbrev dktX3_init_11 : List UInt8 := dkwX3_init_11 ++ dktX3_init_12
def dkwX3_init_10 : List UInt8 := [16, 32, 84, 89, 16, 11, 16, 97, 84, 89, 16, 12, 16, 98, 84, 89, 16, 13, 16, 111, 84, 89, 16, 14]
abbrev dktX3_init_10 : List UInt8 := dkwX3_init_10 ++ dktX3_init_11
def dkwX3_init_9 : List UInt8 := [16, 108, 84, 89, 16, 7, 16, 111, 84, 89, 16, 8, 16, 110, 84, 89, 16, 9, 16, 101, 84, 89, 16, 10]
abbrev dktX3_init_9 : List UInt8 := dkwX3_init_9 ++ dktX3_init_10
def dkwX3_init_8 : List UInt8 := [84, 89, 5, 16, 110, 84, 89, 6, 16, 101, 84, 89, 7, 16, 32, 84, 89, 8, 16, 97, 84, 89, 16, 6]
abbrev dktX3_init_8 : List UInt8 := dkwX3_init_8 ++ dktX3_init_9
def dkwX3_init_7 : List UInt8 := [188, 8, 181, 0, 68, 42, 2, 181, 0, 72, 42, 16, 37, 188, 8, 89, 3, 16, 108, 84, 89, 4, 16, 105]
abbrev dktX3_init_7 : List UInt8 := dkwX3_init_7 ++ dktX3_init_8
def dkwX3_init_6 : List UInt8 := [181, 0, 59, 42, 16, 20, 188, 10, 181, 0, 62, 42, 16, 20, 188, 10, 181, 0, 65, 42, 17, 3, 132]
abbrev dktX3_init_6 : List UInt8 := dkwX3_init_6 ++ dktX3_init_7
def dkwX3_init_5 : List UInt8 := [181, 0, 50, 42, 16, 20, 188, 10, 181, 0, 53, 42, 16, 20, 188, 10, 181, 0, 56, 42, 16, 20, 188, 10]
abbrev dktX3_init_5 : List UInt8 := dkwX3_init_5 ++ dktX3_init_6
def dkwX3_init_4 : List UInt8 := [42, 16, 40, 188, 10, 181, 0, 44, 42, 16, 44, 188, 10, 181, 0, 47, 42, 17, 3, 32, 188, 10]
abbrev dktX3_init_4 : List UInt8 := dkwX3_init_4 ++ dktX3_init_5
def dkwX3_init_3 : List UInt8 := [42, 16, 48, 188, 10, 181, 0, 35, 42, 16, 48, 188, 10, 181, 0, 38, 42, 16, 48, 188, 10, 181, 0, 41]
abbrev dktX3_init_3 : List UInt8 := dkwX3_init_3 ++ dktX3_init_4
def dkwX3_init_2 : List UInt8 := [42, 16, 40, 188, 10, 181, 0, 26, 42, 16, 40, 188, 10, 181, 0, 29, 42, 16, 48, 188, 10, 181, 0, 32]
abbrev dktX3_init_2 : List UInt8 := dkwX3_init_2 ++ dktX3_init_3
def dkwX3_init_1 : List UInt8 := [17, 32, 88, 188, 10, 181, 0, 16, 42, 17, 6, 120, 188, 10, 181, 0, 19, 42, 5, 188, 4, 181, 0, 22]
abbrev dktX3_init_1 : List UInt8 := dkwX3_init_1 ++ dktX3_init_2
def dkwX3_init_0 : List UInt8 := [42, 183, 0, 1, 42, 17, 3, 60, 188, 10, 181, 0, 7, 42, 17, 3, 60, 188, 10, 181, 0, 13, 42]
abbrev dktX3_init_0 : List UInt8 := dkwX3_init_0 ++ dktX3_init_1
theorem dksX3_init_0 : cX3_init.data.toList.drop 0 = dktX3_init_0 := by decide +kernel
theorem dksX3_init_1 : cX3_init.data.toList.drop 23 = dktX3_init_1 := dk_seg dksX3_init_0 23 rfl rfl
theorem dksX3_init_2 : cX3_init.data.toList.drop 47 = dktX3_init_2 := dk_seg dksX3_init_1 24 rfl rfl
theorem dksX3_init_3 : cX3_init.data.toList.drop 71 = dktX3_init_3 := dk_seg dksX3_init_2 24 rfl rfl
theorem dksX3_init_4 : cX3_init.data.toList.drop 95 = dktX3_init_4 := dk_seg dksX3_init_3 24 rfl rfl
theorem dksX3_init_5 : cX3_init.data.toList.drop 117 = dktX3_init_5 := dk_seg dksX3_init_4 22 rfl rfl
theorem dksX3_init_6 : cX3_init.data.toList.drop 141 = dktX3_init_6 := dk_seg dksX3_init_5 24 rfl rfl
theorem dksX3_init_7 : cX3_init.data.toList.drop 164 = dktX3_init_7 := dk_seg dksX3_init_6 23 rfl rfl
theorem dksX3_init_8 : cX3_init.data.toList.drop 188 = dktX3_init_8 := dk_seg dksX3_init_7 24 rfl rfl
theorem dksX3_init_9 : cX3_init.data.toList.drop 212 = dktX3_init_9 := dk_seg dksX3_init_8 24 rfl rfl
theorem dksX3_init_10 : cX3_init.data.toList.drop 236 = dktX3_init_10 := dk_seg dksX3_init_9 24 rfl rfl
theorem dksX3_init_11 : cX3_init.data.toList.drop 260 = dktX3_init_11 := dk_seg dksX3_init_10 24 rfl rfl
theorem dksX3_init_12 : cX3_init.data.toList.drop 284 = dktX3_init_12 := dk_seg dksX3_init_11 24 rfl rfl
theorem dksX3_init_13 : cX3_init.data.toList.drop 308 = dktX3_init_13 := dk_seg dksX3_init_12 24 rfl rfl
theorem dksX3_init_14 : cX3_init.data.toList.drop 332 = dktX3_init_14 := dk_seg dksX3_init_13 24 rfl rfl
theorem dksX3_init_15 : cX3_init.data.toList.drop 356 = dktX3_init_15 := dk_seg dksX3_init_14 24 rfl rfl
theorem dksX3_init_16 : cX3_init.data.toList.drop 380 = dktX3_init_16 := dk_seg dksX3_init_15 24 rfl rfl
theorem dksX3_init_17 : cX3_init.data.toList.drop 404 = dktX3_init_17 := dk_seg dksX3_init_16 24 rfl rfl
theorem dX3_init_0 : decode cX3_init 0 = .ok (.aload_n 0, 1) := dk_42 (dk_at dksX3_init_0 0 rfl rfl)
theorem dX3_init_1 : decode cX3_init 1 = .ok (.invokespecial 1, 3) := dk_183 0 1 (dk_at dksX3_init_0 1 rfl rfl)
theorem dX3_init_4 : decode cX3_init 4 = .ok (.aload_n 0, 1) := dk_42 (dk_at dksX3_init_0 4 rfl rfl)
theorem dX3_init_5 : decode cX3_init 5 = .ok (.sipush 828, 3) := dk_17 3 60 (dk_at dksX3_init_0 5 rfl rfl)
theorem dX3_init_8 : decode cX3_init 8 = .ok (.newarray .int, 2) := dk_188_10 (dk_at dksX3_init_0 8 rfl rfl)
theorem dX3_init_10 : decode cX3_init 10 = .ok (.putfield 7, 3) := dk_181 0 7 (dk_at dksX3_init_0 10 rfl rfl)
theorem dX3_init_13 : decode cX3_init 13 = .ok (.aload_n 0, 1) := dk_42 (dk_at dksX3_init_0 13 rfl rfl)
theorem dX3_init_14 : decode cX3_init 14 = .ok (.sipush 828, 3) := dk_17 3 60 (dk_at dksX3_init_0 14 rfl rfl)
theorem dX3_init_17 : decode cX3_init 17 = .ok (.newarray .int, 2) := dk_188_10 (dk_at dksX3_init_0 17 rfl rfl)
theorem dX3_init_19 : decode cX3_init 19 = .ok (.putfield 13, 3) := dk_181 0 13 (dk_at dksX3_init_0 19 rfl rfl)
theorem dX3_init_22 : decode cX3_init 22 = .ok (.aload_n 0, 1) := dk_42 (dk_at dksX3_init_0 22 rfl rfl)
theorem dX3_init_23 : decode cX3_init 23 = .ok (.sipush 8280, 3) := dk_17 32 88 (dk_at dksX3_init_1 0 rfl rfl)
theorem dX3_init_26 : decode cX3_init 26 = .ok (.newarray .int, 2) := dk_188_10 (dk_at dksX3_init_1 3 rfl rfl)
theorem dX3_init_28 : decode cX3_init 28 = .ok (.putfield 16, 3) := dk_181 0 16 (dk_at dksX3_init_1 5 rfl rfl)
theorem dX3_init_31 : decode cX3_init 31 = .ok (.aload_n 0, 1) := dk_42 (dk_at dksX3_init_1 8 rfl rfl)
theorem dX3_init_32 : decode cX3_init 32 = .ok (.sipush 1656, 3) := dk_17 6 120 (dk_at dksX3_init_1 9 rfl rfl)
theorem dX3_init_35 : decode cX3_init 35 = .ok (.newarray .int, 2) := dk_188_10 (dk_at dksX3_init_1 12 rfl rfl)
theorem dX3_init_37 : decode cX3_init 37 = .ok (.putfield 19, 3) := dk_181 0 19 (dk_at dksX3_init_1 14 rfl rfl)
theorem dX3_init_40 : decode cX3_init 40 = .ok (.aload_n 0, 1) := dk_42 (dk_at dksX3_init_1 17 rfl rfl)
theorem dX3_init_41 : decode cX3_init 41 = .ok (.iconst 2, 1) := dk_5 (dk_at dksX3_init_1 18 rfl rfl)
theorem dX3_init_42 : decode cX3_init 42 = .ok (.newarray .boolean, 2) := dk_188_4 (dk_at dksX3_init_1 19 rfl rfl)
theorem dX3_init_44 : decode cX3_init 44 = .ok (.putfield 22, 3) := dk_181 0 22 (dk_at dksX3_init_1 21 rfl rfl)
theorem dX3_init_47 : decode cX3_init 47 = .ok (.aload_n 0, 1) := dk_42 (dk_at dksX3_init_2 0 rfl rfl)
theorem dX3_init_48 : decode cX3_init 48 = .ok (.bipush 40, 2) := dk_16 40 (dk_at dksX3_init_2 1 rfl rfl)
theorem dX3_init_50 : decode cX3_init 50 = .ok (.newarray .int, 2) := dk_188_10 (dk_at dksX3_init_2 3 rfl rfl)
theorem dX3_init_52 : decode cX3_init 52 = .ok (.putfield 26, 3) := dk_181 0 26 (dk_at dksX3_init_2 5 rfl rfl)
theorem dX3_init_55 : decode cX3_init 55 = .ok (.aload_n 0, 1) := dk_42 (dk_at dksX3_init_2 8 rfl rfl)
theorem dX3_init_56 : decode cX3_init 56 = .ok (.bipush 40, 2) := dk_16 40 (dk_at dksX3_init_2 9 rfl rfl)
theorem dX3_init_58 : decode cX3_init 58 = .ok (.newarray .int, 2) := dk_188_10 (dk_at dksX3_init_2 11 rfl rfl)
theorem dX3_init_60 : decode cX3_init 60 = .ok (.putfield 29, 3) := dk_181 0 29 (dk_at dksX3_init_2 13 rfl rfl)
theorem dX3_init_63 : decode cX3_init 63 = .ok (.aload_n 0, 1) := dk_42 (dk_at dksX3_init_2 16 rfl rfl)
theorem dX3_init_64 : decode cX3_init 64 = .ok (.bipush 48, 2) := dk_16 48 (dk_at dksX3_init_2 17 rfl rfl)
theorem dX3_init_66 : decode cX3_init 66 = .ok (.newarray .int, 2) := dk_188_10 (dk_at dksX3_init_2 19 rfl rfl)
theorem dX3_init_68 : decode cX3_init 68 = .ok (.putfield 32, 3) := dk_181 0 32 (dk_at dksX3_init_2 21 rfl rfl)
theorem dX3_init_71 : decode cX3_init 71 = .ok (.aload_n 0, 1) := dk_42 (dk_at dksX3_init_3 0 rfl rfl)
theorem dX3_init_72 : decode cX3_init 72 = .ok (.bipush 48, 2) := dk_16 48 (dk_at dksX3_init_3 1 rfl rfl)
theorem dX3_init_74 : decode cX3_init 74 = .ok (.newarray .int, 2) := dk_188_10 (dk_at dksX3_init_3 3 rfl rfl)
theorem dX3_init_76 : decode cX3_init 76 = .ok (.putfield 35, 3) := dk_181 0 35 (dk_at dksX3_init_3 5 rfl rfl)
theorem dX3_init_79 : decode cX3_init 79 = .ok (.aload_n 0, 1) := dk_42 (dk_at dksX3_init_3 8 rfl rfl)
theorem dX3_init_80 : decode cX3_init 80 = .ok (.bipush 48, 2) := dk_16 48 (dk_at dksX3_init_3 9 rfl rfl)
theorem dX3_init_82 : decode cX3_init 82 = .ok (.newarray .int, 2) := dk_188_10 (dk_at dksX3_init_3 11 rfl rfl)
theorem dX3_init_84 : decode cX3_init 84 = .ok (.putfield 38, 3) := dk_181 0 38 (dk_at dksX3_init_3 13 rfl rfl)
theorem dX3_init_87 : decode cX3_init 87 = .ok (.aload_n 0, 1) := dk_42 (dk_at dksX3_init_3 16 rfl rfl)
theorem dX3_init_88 : decode cX3_init 88 = .ok (.bipush 48, 2) := dk_16 48 (dk_at dksX3_init_3 17 rfl rfl)
theorem dX3_init_90 : decode cX3_init 90 = .ok (.newarray .int, 2) := dk_188_10 (dk_at dksX3_init_3 19 rfl rfl)
theorem dX3_init_92 : decode cX3_init 92 = .ok (.putfield 41, 3) := dk_181 0 41 (dk_at dksX3_init_3 21 rfl rfl)
theorem dX3_init_95 : decode cX3_init 95 = .ok (.aload_n 0, 1) := dk_42 (dk_at dksX3_init_4 0 rfl rfl)
theorem dX3_init_96 : decode cX3_init 96 = .ok (.bipush 40, 2) := dk_16 40 (dk_at dksX3_init_4 1 rfl rfl)
theorem dX3_init_98 : decode cX3_init 98 = .ok (.newarray .int, 2) := dk_188_10 (dk_at dksX3_init_4 3 rfl rfl)
theorem dX3_init_100 : decode cX3_init 100 = .ok (.putfield 44, 3) := dk_181 0 44 (dk_at dksX3_init_4 5 rfl rfl)
theorem dX3_init_103 : decode cX3_init 103 = .ok (.aload_n 0, 1) := dk_42 (dk_at dksX3_init_4 8 rfl rfl)
theorem dX3_init_104 : decode cX3_init 104 = .ok (.bipush 44, 2) := dk_16 44 (dk_at dksX3_init_4 9 rfl rfl)
theorem dX3_init_106 : decode cX3_init 106 = .ok (.newarray .int, 2) := dk_188_10 (dk_at dksX3_init_4 11 rfl rfl)
theorem dX3_init_108 : decode cX3_init 108 = .ok (.putfield 47, 3) := dk_181 0 47 (dk_at dksX3_init_4 13 rfl rfl)
theorem dX3_init_111 : decode cX3_init 111 = .ok (.aload_n 0, 1) := dk_42 (dk_at dksX3_init_4 16 rfl rfl)
theorem dX3_init_112 : decode cX3_init 112 = .ok (.sipush 800, 3) := dk_17 3 32 (dk_at dksX3_init_4 17 rfl rfl)
theorem dX3_init_115 : decode cX3_init 115 = .ok (.newarray .int, 2) := dk_188_10 (dk_at dksX3_init_4 20 rfl rfl)
theorem dX3_init_117 : decode cX3_init 117 = .ok (.putfield 50, 3) := dk_181 0 50 (dk_at dksX3_init_5 0 rfl rfl)
theorem dX3_init_120 : decode cX3_init 120 = .ok (.aload_n 0, 1) := dk_42 (dk_at dksX3_init_5 3 rfl rfl)
theorem dX3_init_121 : decode cX3_init 121 = .ok (.bipush 20, 2) := dk_16 20 (dk_at dksX3_init_5 4 rfl rfl)
theorem dX3_init_123 : decode cX3_init 123 = .ok (.newarray .int, 2) := dk_188_10 (dk_at dksX3_init_5 6 rfl rfl)
theorem dX3_init_125 : decode cX3_init 125 = .ok (.putfield 53, 3) := dk_181 0 53 (dk_at dksX3_init_5 8 rfl rfl)
theorem dX3_init_128 : decode cX3_init 128 = .ok (.aload_n 0, 1) := dk_42 (dk_at dksX3_init_5 11 rfl rfl)
theorem dX3_init_129 : decode cX3_init 129 = .ok (.bipush 20, 2) := dk_16 20 (dk_at dksX3_init_5 12 rfl rfl)
theorem dX3_init_131 : decode cX3_init 131 = .ok (.newarray .int, 2) := dk_188_10 (dk_at dksX3_init_5 14 rfl rfl)
theorem dX3_init_133 : decode cX3_init 133 = .ok (.putfield 56, 3) := dk_181 0 56 (dk_at dksX3_init_5 16 rfl rfl)
theorem dX3_init_136 : decode cX3_init 136 = .ok (.aload_n 0, 1) := dk_42 (dk_at dksX3_init_5 19 rfl rfl)
theorem dX3_init_137 : decode cX3_init 137 = .ok (.bipush 20, 2) := dk_16 20 (dk_at dksX3_init_5 20 rfl rfl)
theorem dX3_init_139 : decode cX3_init 139 = .ok (.newarray .int, 2) := dk_188_10 (dk_at dksX3_init_5 22 rfl rfl)
theorem dX3_init_141 : decode cX3_init 141 = .ok (.putfield 59, 3) := dk_181 0 59 (dk_at dksX3_init_6 0 rfl rfl)
theorem dX3_init_144 : decode cX3_init 144 = .ok (.aload_n 0, 1) := dk_42 (dk_at dksX3_init_6 3 rfl rfl)
theorem dX3_init_145 : decode cX3_init 145 = .ok (.bipush 20, 2) := dk_16 20 (dk_at dksX3_init_6 4 rfl rfl)
theorem dX3_init_147 : decode cX3_init 147 = .ok (.newarray .int, 2) := dk_188_10 (dk_at dksX3_init_6 6 rfl rfl)
theorem dX3_init_149 : decode cX3_init 149 = .ok (.putfield 62, 3) := dk_181 0 62 (dk_at dksX3_init_6 8 rfl rfl)
theorem dX3_init_152 : decode cX3_init 152 = .ok (.aload_n 0, 1) := dk_42 (dk_at dksX3_init_6 11 rfl rfl)
theorem dX3_init_153 : decode cX3_init 153 = .ok (.bipush 20, 2) := dk_16 20 (dk_at dksX3_init_6 12 rfl rfl)
theorem dX3_init_155 : decode cX3_init 155 = .ok (.newarray .int, 2) := dk_188_10 (dk_at dksX3_init_6 14 rfl rfl)
theorem dX3_init_157 : decode cX3_init 157 = .ok (.putfield 65, 3) := dk_181 0 65 (dk_at dksX3_init_6 16 rfl rfl)
theorem dX3_init_160 : decode cX3_init 160 = .ok (.aload_n 0, 1) := dk_42 (dk_at dksX3_init_6 19 rfl rfl)
theorem dX3_init_161 : decode cX3_init 161 = .ok (.sipush 900, 3) := dk_17 3 132 (dk_at dksX3_init_6 20 rfl rfl)
theorem dX3_init_164 : decode cX3_init 164 = .ok (.newarray .byte, 2) := dk_188_8 (dk_at dksX3_init_7 0 rfl rfl)
theorem dX3_init_166 : decode cX3_init 166 = .ok (.putfield 68, 3) := dk_181 0 68 (dk_at dksX3_init_7 2 rfl rfl)
theorem dX3_init_169 : decode cX3_init 169 = .ok (.aload_n 0, 1) := dk_42 (dk_at dksX3_init_7 5 rfl rfl)
theorem dX3_init_170 : decode cX3_init 170 = .ok (.iconst (-1), 1) := dk_2 (dk_at dksX3_init_7 6 rfl rfl)
theorem dX3_init_171 : decode cX3_init 171 = .ok (.putfield 72, 3) := dk_181 0 72 (dk_at dksX3_init_7 7 rfl rfl)
theorem dX3_init_174 : decode cX3_init 174 = .ok (.aload_n 0, 1) := dk_42 (dk_at dksX3_init_7 10 rfl rfl)
theorem dX3_init_175 : decode cX3_init 175 = .ok (.bipush 37, 2) := dk_16 37 (dk_at dksX3_init_7 11 rfl rfl)
theorem dX3_init_177 : decode cX3_init 177 = .ok (.newarray .byte, 2) := dk_188_8 (dk_at dksX3_init_7 13 rfl rfl)
theorem dX3_init_179 : decode cX3_init 179 = .ok (.dup, 1) := dk_89 (dk_at dksX3_init_7 15 rfl rfl)
theorem dX3_init_180 : decode cX3_init 180 = .ok (.iconst 0, 1) := dk_3 (dk_at dksX3_init_7 16 rfl rfl)
theorem dX3_init_181 : decode cX3_init 181 = .ok (.bipush 108, 2) := dk_16 108 (dk_at dksX3_init_7 17 rfl rfl)
theorem dX3_init_183 : decode cX3_init 183 = .ok (.bastore, 1) := dk_84 (dk_at dksX3_init_7 19 rfl rfl)
theorem dX3_init_184 : decode cX3_init 184 = .ok (.dup, 1) := dk_89 (dk_at dksX3_init_7 20 rfl rfl)
theorem dX3_init_185 : decode cX3_init 185 = .ok (.iconst 1, 1) := dk_4 (dk_at dksX3_init_7 21 rfl rfl)
theorem dX3_init_186 : decode cX3_init 186 = .ok (.bipush 105, 2) := dk_16 105 (dk_at dksX3_init_7 22 rfl rfl)
theorem dX3_init_188 : decode cX3_init 188 = .ok (.bastore, 1) := dk_84 (dk_at dksX3_init_8 0 rfl rfl)
theorem dX3_init_189 : decode cX3_init 189 = .ok (.dup, 1) := dk_89 (dk_at dksX3_init_8 1 rfl rfl)
theorem dX3_init_190 : decode cX3_init 190 = .ok (.iconst 2, 1) := dk_5 (dk_at dksX3_init_8 2 rfl rfl)
theorem dX3_init_191 : decode cX3_init 191 = .ok (.bipush 110, 2) := dk_16 110 (dk_at dksX3_init_8 3 rfl rfl)
theorem dX3_init_193 : decode cX3_init 193 = .ok (.bastore, 1) := dk_84 (dk_at dksX3_init_8 5 rfl rfl)
theorem dX3_init_194 : decode cX3_init 194 = .ok (.dup, 1) := dk_89 (dk_at dksX3_init_8 6 rfl rfl)
theorem dX3_init_195 : decode cX3_init 195 = .ok (.iconst 3, 1) := dk_6 (dk_at dksX3_init_8 7 rfl rfl)
theorem dX3_init_196 : decode cX3_init 196 = .ok (.bipush 101, 2) := dk_16 101 (dk_at dksX3_init_8 8 rfl rfl)
theorem dX3_init_198 : decode cX3_init 198 = .ok (.bastore, 1) := dk_84 (dk_at dksX3_init_8 10 rfl rfl)
theorem dX3_init_199 : decode cX3_init 199 = .ok (.dup, 1) := dk_89 (dk_at dksX3_init_8 11 rfl rfl)
theorem dX3_init_200 : decode cX3_init 200 = .ok (.iconst 4, 1) := dk_7 (dk_at dksX3_init_8 12 rfl rfl)
theorem dX3_init_201 : decode cX3_init 201 = .ok (.bipush 32, 2) := dk_16 32 (dk_at dksX3_init_8 13 rfl rfl)
theorem dX3_init_203 : decode cX3_init 203 = .ok (.bastore, 1) := dk_84 (dk_at dksX3_init_8 15 rfl rfl)
theorem dX3_init_204 : decode cX3_init 204 = .ok (.dup, 1) := dk_89 (dk_at dksX3_init_8 16 rfl rfl)
theorem dX3_init_205 : decode cX3_init 205 = .ok (.iconst 5, 1) := dk_8 (dk_at dksX3_init_8 17 rfl rfl)
theorem dX3_init_206 : decode cX3_init 206 = .ok (.bipush 97, 2) := dk_16 97 (dk_at dksX3_init_8 18 rfl rfl)
theorem dX3_init_208 : decode cX3_init 208 = .ok (.bastore, 1) := dk_84 (dk_at dksX3_init_8 20 rfl rfl)
theorem dX3_init_209 : decode cX3_init 209 = .ok (.dup, 1) := dk_89 (dk_at dksX3_init_8 21 rfl rfl)
theorem dX3_init_210 : decode cX3_init 210 = .ok (.bipush 6, 2) := dk_16 6 (dk_at dksX3_init_8 22 rfl rfl)
theorem dX3_init_212 : decode cX3_init 212 = .ok (.bipush 108, 2) := dk_16 108 (dk_at dksX3_init_9 0 rfl rfl)
theorem dX3_init_214 : decode cX3_init 214 = .ok (.bastore, 1) := dk_84 (dk_at dksX3_init_9 2 rfl rfl)
theorem dX3_init_215 : decode cX3_init 215 = .ok (.dup, 1) := dk_89 (dk_at dksX3_init_9 3 rfl rfl)
theorem dX3_init_216 : decode cX3_init 216 = .ok (.bipush 7, 2) := dk_16 7 (dk_at dksX3_init_9 4 rfl rfl)
theorem dX3_init_218 : decode cX3_init 218 = .ok (.bipush 111, 2) := dk_16 111 (dk_at dksX3_init_9 6 rfl rfl)
theorem dX3_init_220 : decode cX3_init 220 = .ok (.bastore, 1) := dk_84 (dk_at dksX3_init_9 8 rfl rfl)
theorem dX3_init_221 : decode cX3_init 221 = .ok (.dup, 1) := dk_89 (dk_at dksX3_init_9 9 rfl rfl)
theorem dX3_init_222 : decode cX3_init 222 = .ok (.bipush 8, 2) := dk_16 8 (dk_at dksX3_init_9 10 rfl rfl)
theorem dX3_init_224 : decode cX3_init 224 = .ok (.bipush 110, 2) := dk_16 110 (dk_at dksX3_init_9 12 rfl rfl)
theorem dX3_init_226 : decode cX3_init 226 = .ok (.bastore, 1) := dk_84 (dk_at dksX3_init_9 14 rfl rfl)
theorem dX3_init_227 : decode cX3_init 227 = .ok (.dup, 1) := dk_89 (dk_at dksX3_init_9 15 rfl rfl)
theorem dX3_init_228 : decode cX3_init 228 = .ok (.bipush 9, 2) := dk_16 9 (dk_at dksX3_init_9 16 rfl rfl)
theorem dX3_init_230 : decode cX3_init 230 = .ok (.bipush 101, 2) := dk_16 101 (dk_at dksX3_init_9 18 rfl rfl)
theorem dX3_init_232 : decode cX3_init 232 = .ok (.bastore, 1) := dk_84 (dk_at dksX3_init_9 20 rfl rfl)
theorem dX3_init_233 : decode cX3_init 233 = .ok (.dup, 1) := dk_89 (dk_at dksX3_init_9 21 rfl rfl)
theorem dX3_init_234 : decode cX3_init 234 = .ok (.bipush 10, 2) := dk_16 10 (dk_at dksX3_init_9 22 rfl rfl)
theorem dX3_init_236 : decode cX3_init 236 = .ok (.bipush 32, 2) := dk_16 32 (dk_at dksX3_init_10 0 rfl rfl)
theorem dX3_init_238 : decode cX3_init 238 = .ok (.bastore, 1) := dk_84 (dk_at dksX3_init_10 2 rfl rfl)
theorem dX3_init_239 : decode cX3_init 239 = .ok (.dup, 1) := dk_89 (dk_at dksX3_init_10 3 rfl rfl)
theorem dX3_init_240 : decode cX3_init 240 = .ok (.bipush 11, 2) := dk_16 11 (dk_at dksX3_init_10 4 rfl rfl)
theorem dX3_init_242 : decode cX3_init 242 = .ok (.bipush 97, 2) := dk_16 97 (dk_at dksX3_init_10 6 rfl rfl)
theorem dX3_init_244 : decode cX3_init 244 = .ok (.bastore, 1) := dk_84 (dk_at dksX3_init_10 8 rfl rfl)
theorem dX3_init_245 : decode cX3_init 245 = .ok (.dup, 1) := dk_89 (dk_at dksX3_init_10 9 rfl rfl)
theorem dX3_init_246 : decode cX3_init 246 = .ok (.bipush 12, 2) := dk_16 12 (dk_at dksX3_init_10 10 rfl rfl)
theorem dX3_init_248 : decode cX3_init 248 = .ok (.bipush 98, 2) := dk_16 98 (dk_at dksX3_init_10 12 rfl rfl)
theorem dX3_init_250 : decode cX3_init 250 = .ok (.bastore, 1) := dk_84 (dk_at dksX3_init_10 14 rfl rfl)
theorem dX3_init_251 : decode cX3_init 251 = .ok (.dup, 1) := dk_89 (dk_at dksX3_init_10 15 rfl rfl)
theorem dX3_init_252 : decode cX3_init 252 = .ok (.bipush 13, 2) := dk_16 13 (dk_at dksX3_init_10 16 rfl rfl)
theorem dX3_init_254 : decode cX3_init 254 = .ok (.bipush 111, 2) := dk_16 111 (dk_at dksX3_init_10 18 rfl rfl)
theorem dX3_init_256 : decode cX3_init 256 = .ok (.bastore, 1) := dk_84 (dk_at dksX3_init_10 20 rfl rfl)
theorem dX3_init_257 : decode cX3_init 257 = .ok (.dup, 1) := dk_89 (dk_at dksX3_init_10 21 rfl rfl)
theorem dX3_init_258 : decode cX3_init 258 = .ok (.bipush 14, 2) := dk_16 14 (dk_at dksX3_init_10 22 rfl rfl)
theorem dX3_init_260 : decode cX3_init 260 = .ok (.bipush 118, 2) := dk_16 118 (dk_at dksX3_init_11 0 rfl rfl)
theorem dX3_init_262 : decode cX3_init 262 = .ok (.bastore, 1) := dk_84 (dk_at dksX3_init_11 2 rfl rfl)
theorem dX3_init_263 : decode cX3_init 263 = .ok (.dup, 1) := dk_89 (dk_at dksX3_init_11 3 rfl rfl)
theorem dX3_init_264 : decode cX3_init 264 = .ok (.bipush 15, 2) := dk_16 15 (dk_at dksX3_init_11 4 rfl rfl)
theorem dX3_init_266 : decode cX3_init 266 = .ok (.bipush 101, 2) := dk_16 101 (dk_at dksX3_init_11 6 rfl rfl)
theorem dX3_init_268 : decode cX3_init 268 = .ok (.bastore, 1) := dk_84 (dk_at dksX3_init_11 8 rfl rfl)
theorem dX3_init_269 : decode cX3_init 269 = .ok (.dup, 1) := dk_89 (dk_at dksX3_init_11 9 rfl rfl)
theorem dX3_init_270 : decode cX3_init 270 = .ok (.bipush 16, 2) := dk_16 16 (dk_at dksX3_init_11 10 rfl rfl)
theorem dX3_init_272 : decode cX3_init 272 = .ok (.bipush 32, 2) := dk_16 32 (dk_at dksX3_init_11 12 rfl rfl)
theorem dX3_init_274 : decode cX3_init 274 = .ok (.bastore, 1) := dk_84 (dk_at dksX3_init_11 14 rfl rfl)
theorem dX3_init_275 : decode cX3_init 275 = .ok (.dup, 1) := dk_89 (dk_at dksX3_init_11 15 rfl rfl)
theorem dX3_init_276 : decode cX3_init 276 = .ok (.bipush 17, 2) := dk_16 17 (dk_at dksX3_init_11 16 rfl rfl)
theorem dX3_init_278 : decode cX3_init 278 = .ok (.bipush 115, 2) := dk_16 115 (dk_at dksX3_init_11 18 rfl rfl)
theorem dX3_init_280 : decode cX3_init 280 = .ok (.bastore, 1) := dk_84 (dk_at dksX3_init_11 20 rfl rfl)
theorem dX3_init_281 : decode cX3_init 281 = .ok (.dup, 1) := dk_89 (dk_at dksX3_init_11 21 rfl rfl)
theorem dX3_init_282 : decode cX3_init 282 = .ok (.bipush 18, 2) := dk_16 18 (dk_at dksX3_init_11 22 rfl rfl)
theorem dX3_init_284 : decode cX3_init 284 = .ok (.bipush 101, 2) := dk_16 101 (dk_at dksX3_init_12 0 rfl rfl)
theorem dX3_init_286 : decode cX3_init 286 = .ok (.bastore, 1) := dk_84 (dk_at dksX3_init_12 2 rfl rfl)
theorem dX3_init_287 : decode cX3_init 287 = .ok (.dup, 1) := dk_89 (dk_at dksX3_init_12 3 rfl rfl)
theorem dX3_init_288 : decode cX3_init 288 = .ok (.bipush 19, 2) := dk_16 19 (dk_at dksX3_init_12 4 rfl rfl)
theorem dX3_init_290 : decode cX3_init 290 = .ok (.bipush 116, 2) := dk_16 116 (dk_at dksX3_init_12 6 rfl rfl)
theorem dX3_init_292 : decode cX3_init 292 = .ok (.bastore, 1) := dk_84 (dk_at dksX3_init_12 8 rfl rfl)
theorem dX3_init_293 : decode cX3_init 293 = .ok (.dup, 1) := dk_89 (dk_at dksX3_init_12 9 rfl rfl)
theorem dX3_init_294 : decode cX3_init 294 = .ok (.bipush 20, 2) := dk_16 20 (dk_at dksX3_init_12 10 rfl rfl)
theorem dX3_init_296 : decode cX3_init 296 = .ok (.bipush 32, 2) := dk_16 32 (dk_at dksX3_init_12 12 rfl rfl)
theorem dX3_init_298 : decode cX3_init 298 = .ok (.bastore, 1) := dk_84 (dk_at dksX3_init_12 14 rfl rfl)
theorem dX3_init_299 : decode cX3_init 299 = .ok (.dup, 1) := dk_89 (dk_at dksX3_init_12 15 rfl rfl)
theorem dX3_init_300 : decode cX3_init 300 = .ok (.bipush 21, 2) := dk_16 21 (dk_at dksX3_init_12 16 rfl rfl)
theorem dX3_init_302 : decode cX3_init 302 = .ok (.bipush 108, 2) := dk_16 108 (dk_at dksX3_init_12 18 rfl rfl)
theorem dX3_init_304 : decode cX3_init 304 = .ok (.bastore, 1) := dk_84 (dk_at dksX3_init_12 20 rfl rfl)
theorem dX3_init_305 : decode cX3_init 305 = .ok (.dup, 1) := dk_89 (dk_at dksX3_init_12 21 rfl rfl)
theorem dX3_init_306 : decode cX3_init 306 = .ok (.bipush 22, 2) := dk_16 22 (dk_at dksX3_init_12 22 rfl rfl)
theorem dX3_init_308 : decode cX3_init 308 = .ok (.bipush 111, 2) := dk_16 111 (dk_at dksX3_init_13 0 rfl rfl)
theorem dX3_init_310 : decode cX3_init 310 = .ok (.bastore, 1) := dk_84 (dk_at dksX3_init_13 2 rfl rfl)
theorem dX3_init_311 : decode cX3_init 311 = .ok (.dup, 1) := dk_89 (dk_at dksX3_init_13 3 rfl rfl)
theorem dX3_init_312 : decode cX3_init 312 = .ok (.bipush 23, 2) := dk_16 23 (dk_at dksX3_init_13 4 rfl rfl)
theorem dX3_init_314 : decode cX3_init 314 = .ok (.bipush 115, 2) := dk_16 115 (dk_at dksX3_init_13 6 rfl rfl)
theorem dX3_init_316 : decode cX3_init 316 = .ok (.bastore, 1) := dk_84 (dk_at dksX3_init_13 8 rfl rfl)
theorem dX3_init_317 : decode cX3_init 317 = .ok (.dup, 1) := dk_89 (dk_at dksX3_init_13 9 rfl rfl)
theorem dX3_init_318 : decode cX3_init 318 = .ok (.bipush 24, 2) := dk_16 24 (dk_at dksX3_init_13 10 rfl rfl)
theorem dX3_init_320 : decode cX3_init 320 = .ok (.bipush 115, 2) := dk_16 115 (dk_at dksX3_init_13 12 rfl rfl)
theorem dX3_init_322 : decode cX3_init 322 = .ok (.bastore, 1) := dk_84 (dk_at dksX3_init_13 14 rfl rfl)
theorem dX3_init_323 : decode cX3_init 323 = .ok (.dup, 1) := dk_89 (dk_at dksX3_init_13 15 rfl rfl)
theorem dX3_init_324 : decode cX3_init 324 = .ok (.bipush 25, 2) := dk_16 25 (dk_at dksX3_init_13 16 rfl rfl)
theorem dX3_init_326 : decode cX3_init 326 = .ok (.bipush 32, 2) := dk_16 32 (dk_at dksX3_init_13 18 rfl rfl)
theorem dX3_init_328 : decode cX3_init 328 = .ok (.bastore, 1) := dk_84 (dk_at dksX3_init_13 20 rfl rfl)
theorem dX3_init_329 : decode cX3_init 329 = .ok (.dup, 1) := dk_89 (dk_at dksX3_init_13 21 rfl rfl)
theorem dX3_init_330 : decode cX3_init 330 = .ok (.bipush 26, 2) := dk_16 26 (dk_at dksX3_init_13 22 rfl rfl)
theorem dX3_init_332 : decode cX3_init 332 = .ok (.bipush 119, 2) := dk_16 119 (dk_at dksX3_init_14 0 rfl rfl)
theorem dX3_init_334 : decode cX3_init 334 = .ok (.bastore, 1) := dk_84 (dk_at dksX3_init_14 2 rfl rfl)
theorem dX3_init_335 : decode cX3_init 335 = .ok (.dup, 1) := dk_89 (dk_at dksX3_init_14 3 rfl rfl)
theorem dX3_init_336 : decode cX3_init 336 = .ok (.bipush 27, 2) := dk_16 27 (dk_at dksX3_init_14 4 rfl rfl)
theorem dX3_init_338 : decode cX3_init 338 = .ok (.bipush 105, 2) := dk_16 105 (dk_at dksX3_init_14 6 rfl rfl)
theorem dX3_init_340 : decode cX3_init 340 = .ok (.bastore, 1) := dk_84 (dk_at dksX3_init_14 8 rfl rfl)
theorem dX3_init_341 : decode cX3_init 341 = .ok (.dup, 1) := dk_89 (dk_at dksX3_init_14 9 rfl rfl)
theorem dX3_init_342 : decode cX3_init 342 = .ok (.bipush 28, 2) := dk_16 28 (dk_at dksX3_init_14 10 rfl rfl)
theorem dX3_init_344 : decode cX3_init 344 = .ok (.bipush 100, 2) := dk_16 100 (dk_at dksX3_init_14 12 rfl rfl)
theorem dX3_init_346 : decode cX3_init 346 = .ok (.bastore, 1) := dk_84 (dk_at dksX3_init_14 14 rfl rfl)
theorem dX3_init_347 : decode cX3_init 347 = .ok (.dup, 1) := dk_89 (dk_at dksX3_init_14 15 rfl rfl)
theorem dX3_init_348 : decode cX3_init 348 = .ok (.bipush 29, 2) := dk_16 29 (dk_at dksX3_init_14 16 rfl rfl)
theorem dX3_init_350 : decode cX3_init 350 = .ok (.bipush 101, 2) := dk_16 101 (dk_at dksX3_init_14 18 rfl rfl)
theorem dX3_init_352 : decode cX3_init 352 = .ok (.bastore, 1) := dk_84 (dk_at dksX3_init_14 20 rfl rfl)
theorem dX3_init_353 : decode cX3_init 353 = .ok (.dup, 1) := dk_89 (dk_at dksX3_init_14 21 rfl rfl)
theorem dX3_init_354 : decode cX3_init 354 = .ok (.bipush 30, 2) := dk_16 30 (dk_at dksX3_init_14 22 rfl rfl)
theorem dX3_init_356 : decode cX3_init 356 = .ok (.bipush 32, 2) := dk_16 32 (dk_at dksX3_init_15 0 rfl rfl)
theorem dX3_init_358 : decode cX3_init 358 = .ok (.bastore, 1) := dk_84 (dk_at dksX3_init_15 2 rfl rfl)
theorem dX3_init_359 : decode cX3_init 359 = .ok (.dup, 1) := dk_89 (dk_at dksX3_init_15 3 rfl rfl)
theorem dX3_init_360 : decode cX3_init 360 = .ok (.bipush 31, 2) := dk_16 31 (dk_at dksX3_init_15 4 rfl rfl)
theorem dX3_init_362 : decode cX3_init 362 = .ok (.bipush 112, 2) := dk_16 112 (dk_at dksX3_init_15 6 rfl rfl)
theorem dX3_init_364 : decode cX3_init 364 = .ok (.bastore, 1) := dk_84 (dk_at dksX3_init_15 8 rfl rfl)
theorem dX3_init_365 : decode cX3_init 365 = .ok (.dup, 1) := dk_89 (dk_at dksX3_init_15 9 rfl rfl)
theorem dX3_init_366 : decode cX3_init 366 = .ok (.bipush 32, 2) := dk_16 32 (dk_at dksX3_init_15 10 rfl rfl)
theorem dX3_init_368 : decode cX3_init 368 = .ok (.bipush 32, 2) := dk_16 32 (dk_at dksX3_init_15 12 rfl rfl)
theorem dX3_init_370 : decode cX3_init 370 = .ok (.bastore, 1) := dk_84 (dk_at dksX3_init_15 14 rfl rfl)
theorem dX3_init_371 : decode cX3_init 371 = .ok (.dup, 1) := dk_89 (dk_at dksX3_init_15 15 rfl rfl)
theorem dX3_init_372 : decode cX3_init 372 = .ok (.bipush 33, 2) := dk_16 33 (dk_at dksX3_init_15 16 rfl rfl)
theorem dX3_init_374 : decode cX3_init 374 = .ok (.bipush 118, 2) := dk_16 118 (dk_at dksX3_init_15 18 rfl rfl)
theorem dX3_init_376 : decode cX3_init 376 = .ok (.bastore, 1) := dk_84 (dk_at dksX3_init_15 20 rfl rfl)
theorem dX3_init_377 : decode cX3_init 377 = .ok (.dup, 1) := dk_89 (dk_at dksX3_init_15 21 rfl rfl)
theorem dX3_init_378 : decode cX3_init 378 = .ok (.bipush 34, 2) := dk_16 34 (dk_at dksX3_init_15 22 rfl rfl)
theorem dX3_init_380 : decode cX3_init 380 = .ok (.bipush 32, 2) := dk_16 32 (dk_at dksX3_init_16 0 rfl rfl)
theorem dX3_init_382 : decode cX3_init 382 = .ok (.bastore, 1) := dk_84 (dk_at dksX3_init_16 2 rfl rfl)
theorem dX3_init_383 : decode cX3_init 383 = .ok (.dup, 1) := dk_89 (dk_at dksX3_init_16 3 rfl rfl)
theorem dX3_init_384 : decode cX3_init 384 = .ok (.bipush 35, 2) := dk_16 35 (dk_at dksX3_init_16 4 rfl rfl)
theorem dX3_init_386 : decode cX3_init 386 = .ok (.bipush 104, 2) := dk_16 104 (dk_at dksX3_init_16 6 rfl rfl)
theorem dX3_init_388 : decode cX3_init 388 = .ok (.bastore, 1) := dk_84 (dk_at dksX3_init_16 8 rfl rfl)
theorem dX3_init_389 : decode cX3_init 389 = .ok (.dup, 1) := dk_89 (dk_at dksX3_init_16 9 rfl rfl)
theorem dX3_init_390 : decode cX3_init 390 = .ok (.bipush 36, 2) := dk_16 36 (dk_at dksX3_init_16 10 rfl rfl)
theorem dX3_init_392 : decode cX3_init 392 = .ok (.bipush 32, 2) := dk_16 32 (dk_at dksX3_init_16 12 rfl rfl)
theorem dX3_init_394 : decode cX3_init 394 = .ok (.bastore, 1) := dk_84 (dk_at dksX3_init_16 14 rfl rfl)
theorem dX3_init_395 : decode cX3_init 395 = .ok (.putfield 76, 3) := dk_181 0 76 (dk_at dksX3_init_16 15 rfl rfl)
theorem dX3_init_398 : decode cX3_init 398 = .ok (.aload_n 0, 1) := dk_42 (dk_at dksX3_init_16 18 rfl rfl)
theorem dX3_init_399 : decode cX3_init 399 = .ok (.sipush 600, 3) := dk_17 2 88 (dk_at dksX3_init_16 19 rfl rfl)
theorem dX3_init_402 : decode cX3_init 402 = .ok (.newarray .byte, 2) := dk_188_8 (dk_at dksX3_init_16 22 rfl rfl)
theorem dX3_init_404 : decode cX3_init 404 = .ok (.putfield 79, 3) := dk_181 0 79 (dk_at dksX3_init_17 0 rfl rfl)
theorem dX3_init_407 : decode cX3_init 407 = .ok (.aload_n 0, 1) := dk_42 (dk_at dksX3_init_17 3 rfl rfl)
theorem dX3_init_408 : decode cX3_init 408 = .ok (.bipush 16, 2) := dk_16 16 (dk_at dksX3_init_17 4 rfl rfl)
theorem dX3_init_410 : decode cX3_init 410 = .ok (.invokevirtual 82, 3) := dk_182 0 82 (dk_at dksX3_init_17 6 rfl rfl)
theorem dX3_init_413 : decode cX3_init 413 = .ok (.aload_n 0, 1) := dk_42 (dk_at dksX3_init_17 9 rfl rfl)
theorem dX3_init_414 : decode cX3_init 414 = .ok (.getfield 13, 3) := dk_180 0 13 (dk_at dksX3_init_17 10 rfl rfl)
theorem dX3_init_417 : decode cX3_init 417 = .ok (.iconst 0, 1) := dk_3 (dk_at dksX3_init_17 13 rfl rfl)
theorem dX3_init_418 : decode cX3_init 418 = .ok (.aload_n 0, 1) := dk_42 (dk_at dksX3_init_17 14 rfl rfl)
theorem dX3_init_419 : decode cX3_init 419 = .ok (.getfield 7, 3) := dk_180 0 7 (dk_at dksX3_init_17 15 rfl rfl)
theorem dX3_init_422 : decode cX3_init 422 = .ok (.iconst 0, 1) := dk_3 (dk_at dksX3_init_17 18 rfl rfl)
theorem dX3_init_423 : decode cX3_init 423 = .ok (.invokestatic 86, 3) := dk_184 0 86 (dk_at dksX3_init_17 19 rfl rfl)
theorem dX3_init_426 : decode cX3_init 426 = .ok (.return_, 1) := dk_177 (dk_at dksX3_init_17 22 rfl rfl)
abbrev cX3_begins : ByteArray := prog_18_method_5_code
def yX3_begins : MethodName := ⟨RX3, "begins", "(I)V"⟩
def dkwX3_begins_2 : List UInt8 := [180, 0, 13, 16, 7, 16, 16, 79, 177]
abbrev dktX3_begins_2 : List UInt8 := dkwX3_begins_2 ++ []
def dkwX3_begins_1 : List UInt8 := [180, 0, 13, 3, 27, 79, 42, 180, 0, 13, 5, 7, 79, 42, 180, 0, 13, 16, 6, 16, 8, 79, 42]
abbrev dktX3_begins_1 : List UInt8 := dkwX3_begins_1 ++ dktX3_begins_2
def dkwX3_begins_0 : List UInt8 := [3, 61, 28, 17, 3, 60, 162, 0, 16, 42, 180, 0, 13, 28, 3, 79, 132, 2, 1, 167, 255, 239, 42]
abbrev dktX3_begins_0 : List UInt8 := dkwX3_begins_0 ++ dktX3_begins_1
theorem dksX3_begins_0 : cX3_begins.data.toList.drop 0 = dktX3_begins_0 := by decide +kernel
theorem dksX3_begins_1 : cX3_begins.data.toList.drop 23 = dktX3_begins_1 := dk_seg dksX3_begins_0 23 rfl rfl
theorem dksX3_begins_2 : cX3_begins.data.toList.drop 46 = dktX3_begins_2 := dk_seg dksX3_begins_1 23 rfl rfl
theorem dX3_begins_0 : decode cX3_begins 0 = .ok (.iconst 0, 1) := dk_3 (dk_at dksX3_begins_0 0 rfl rfl)
theorem dX3_begins_1 : decode cX3_begins 1 = .ok (.istore_n 2, 1) := dk_61 (dk_at dksX3_begins_0 1 rfl rfl)
theorem dX3_begins_2 : decode cX3_begins 2 = .ok (.iload_n 2, 1) := dk_28 (dk_at dksX3_begins_0 2 rfl rfl)
theorem dX3_begins_3 : decode cX3_begins 3 = .ok (.sipush 828, 3) := dk_17 3 60 (dk_at dksX3_begins_0 3 rfl rfl)
theorem dX3_begins_6 : decode cX3_begins 6 = .ok (.if_icmp .ge 16, 3) := dk_162 0 16 (dk_at dksX3_begins_0 6 rfl rfl)
theorem dX3_begins_9 : decode cX3_begins 9 = .ok (.aload_n 0, 1) := dk_42 (dk_at dksX3_begins_0 9 rfl rfl)
theorem dX3_begins_10 : decode cX3_begins 10 = .ok (.getfield 13, 3) := dk_180 0 13 (dk_at dksX3_begins_0 10 rfl rfl)
theorem dX3_begins_13 : decode cX3_begins 13 = .ok (.iload_n 2, 1) := dk_28 (dk_at dksX3_begins_0 13 rfl rfl)
theorem dX3_begins_14 : decode cX3_begins 14 = .ok (.iconst 0, 1) := dk_3 (dk_at dksX3_begins_0 14 rfl rfl)
theorem dX3_begins_15 : decode cX3_begins 15 = .ok (.iastore, 1) := dk_79 (dk_at dksX3_begins_0 15 rfl rfl)
theorem dX3_begins_16 : decode cX3_begins 16 = .ok (.iinc 2 1, 3) := dk_132 2 1 (dk_at dksX3_begins_0 16 rfl rfl)
theorem dX3_begins_19 : decode cX3_begins 19 = .ok (.goto (-17), 3) := dk_167 255 239 (dk_at dksX3_begins_0 19 rfl rfl)
theorem dX3_begins_22 : decode cX3_begins 22 = .ok (.aload_n 0, 1) := dk_42 (dk_at dksX3_begins_0 22 rfl rfl)
theorem dX3_begins_23 : decode cX3_begins 23 = .ok (.getfield 13, 3) := dk_180 0 13 (dk_at dksX3_begins_1 0 rfl rfl)
theorem dX3_begins_26 : decode cX3_begins 26 = .ok (.iconst 0, 1) := dk_3 (dk_at dksX3_begins_1 3 rfl rfl)
theorem dX3_begins_27 : decode cX3_begins 27 = .ok (.iload_n 1, 1) := dk_27 (dk_at dksX3_begins_1 4 rfl rfl)
theorem dX3_begins_28 : decode cX3_begins 28 = .ok (.iastore, 1) := dk_79 (dk_at dksX3_begins_1 5 rfl rfl)
theorem dX3_begins_29 : decode cX3_begins 29 = .ok (.aload_n 0, 1) := dk_42 (dk_at dksX3_begins_1 6 rfl rfl)
theorem dX3_begins_30 : decode cX3_begins 30 = .ok (.getfield 13, 3) := dk_180 0 13 (dk_at dksX3_begins_1 7 rfl rfl)
theorem dX3_begins_33 : decode cX3_begins 33 = .ok (.iconst 2, 1) := dk_5 (dk_at dksX3_begins_1 10 rfl rfl)
theorem dX3_begins_34 : decode cX3_begins 34 = .ok (.iconst 4, 1) := dk_7 (dk_at dksX3_begins_1 11 rfl rfl)
theorem dX3_begins_35 : decode cX3_begins 35 = .ok (.iastore, 1) := dk_79 (dk_at dksX3_begins_1 12 rfl rfl)
theorem dX3_begins_36 : decode cX3_begins 36 = .ok (.aload_n 0, 1) := dk_42 (dk_at dksX3_begins_1 13 rfl rfl)
theorem dX3_begins_37 : decode cX3_begins 37 = .ok (.getfield 13, 3) := dk_180 0 13 (dk_at dksX3_begins_1 14 rfl rfl)
theorem dX3_begins_40 : decode cX3_begins 40 = .ok (.bipush 6, 2) := dk_16 6 (dk_at dksX3_begins_1 17 rfl rfl)
theorem dX3_begins_42 : decode cX3_begins 42 = .ok (.bipush 8, 2) := dk_16 8 (dk_at dksX3_begins_1 19 rfl rfl)
theorem dX3_begins_44 : decode cX3_begins 44 = .ok (.iastore, 1) := dk_79 (dk_at dksX3_begins_1 21 rfl rfl)
theorem dX3_begins_45 : decode cX3_begins 45 = .ok (.aload_n 0, 1) := dk_42 (dk_at dksX3_begins_1 22 rfl rfl)
theorem dX3_begins_46 : decode cX3_begins 46 = .ok (.getfield 13, 3) := dk_180 0 13 (dk_at dksX3_begins_2 0 rfl rfl)
theorem dX3_begins_49 : decode cX3_begins 49 = .ok (.bipush 7, 2) := dk_16 7 (dk_at dksX3_begins_2 3 rfl rfl)
theorem dX3_begins_51 : decode cX3_begins 51 = .ok (.bipush 16, 2) := dk_16 16 (dk_at dksX3_begins_2 5 rfl rfl)
theorem dX3_begins_53 : decode cX3_begins 53 = .ok (.iastore, 1) := dk_79 (dk_at dksX3_begins_2 7 rfl rfl)
theorem dX3_begins_54 : decode cX3_begins 54 = .ok (.return_, 1) := dk_177 (dk_at dksX3_begins_2 8 rfl rfl)
abbrev cX3_copies : ByteArray := prog_18_method_4_code
def yX3_copies : MethodName := ⟨RX3, "copies", "([II[II)V"⟩
def dkwX3_copies_1 : List UInt8 := [132, 4, 1, 167, 255, 233, 177]
abbrev dktX3_copies_1 : List UInt8 := dkwX3_copies_1 ++ []
def dkwX3_copies_0 : List UInt8 := [3, 54, 4, 21, 4, 17, 3, 60, 162, 0, 21, 44, 29, 21, 4, 96, 42, 27, 21, 4, 96, 46, 79]
abbrev dktX3_copies_0 : List UInt8 := dkwX3_copies_0 ++ dktX3_copies_1
theorem dksX3_copies_0 : cX3_copies.data.toList.drop 0 = dktX3_copies_0 := by decide +kernel
theorem dksX3_copies_1 : cX3_copies.data.toList.drop 23 = dktX3_copies_1 := dk_seg dksX3_copies_0 23 rfl rfl
theorem dX3_copies_0 : decode cX3_copies 0 = .ok (.iconst 0, 1) := dk_3 (dk_at dksX3_copies_0 0 rfl rfl)
theorem dX3_copies_1 : decode cX3_copies 1 = .ok (.istore 4, 2) := dk_54 4 (dk_at dksX3_copies_0 1 rfl rfl)
theorem dX3_copies_3 : decode cX3_copies 3 = .ok (.iload 4, 2) := dk_21 4 (dk_at dksX3_copies_0 3 rfl rfl)
theorem dX3_copies_5 : decode cX3_copies 5 = .ok (.sipush 828, 3) := dk_17 3 60 (dk_at dksX3_copies_0 5 rfl rfl)
theorem dX3_copies_8 : decode cX3_copies 8 = .ok (.if_icmp .ge 21, 3) := dk_162 0 21 (dk_at dksX3_copies_0 8 rfl rfl)
theorem dX3_copies_11 : decode cX3_copies 11 = .ok (.aload_n 2, 1) := dk_44 (dk_at dksX3_copies_0 11 rfl rfl)
theorem dX3_copies_12 : decode cX3_copies 12 = .ok (.iload_n 3, 1) := dk_29 (dk_at dksX3_copies_0 12 rfl rfl)
theorem dX3_copies_13 : decode cX3_copies 13 = .ok (.iload 4, 2) := dk_21 4 (dk_at dksX3_copies_0 13 rfl rfl)
theorem dX3_copies_15 : decode cX3_copies 15 = .ok (.iadd, 1) := dk_96 (dk_at dksX3_copies_0 15 rfl rfl)
theorem dX3_copies_16 : decode cX3_copies 16 = .ok (.aload_n 0, 1) := dk_42 (dk_at dksX3_copies_0 16 rfl rfl)
theorem dX3_copies_17 : decode cX3_copies 17 = .ok (.iload_n 1, 1) := dk_27 (dk_at dksX3_copies_0 17 rfl rfl)
theorem dX3_copies_18 : decode cX3_copies 18 = .ok (.iload 4, 2) := dk_21 4 (dk_at dksX3_copies_0 18 rfl rfl)
theorem dX3_copies_20 : decode cX3_copies 20 = .ok (.iadd, 1) := dk_96 (dk_at dksX3_copies_0 20 rfl rfl)
theorem dX3_copies_21 : decode cX3_copies 21 = .ok (.iaload, 1) := dk_46 (dk_at dksX3_copies_0 21 rfl rfl)
theorem dX3_copies_22 : decode cX3_copies 22 = .ok (.iastore, 1) := dk_79 (dk_at dksX3_copies_0 22 rfl rfl)
theorem dX3_copies_23 : decode cX3_copies 23 = .ok (.iinc 4 1, 3) := dk_132 4 1 (dk_at dksX3_copies_1 0 rfl rfl)
theorem dX3_copies_26 : decode cX3_copies 26 = .ok (.goto (-23), 3) := dk_167 255 233 (dk_at dksX3_copies_1 3 rfl rfl)
theorem dX3_copies_29 : decode cX3_copies 29 = .ok (.return_, 1) := dk_177 (dk_at dksX3_copies_1 6 rfl rfl)
abbrev cX3_thrown : ByteArray := prog_18_method_2_code
def yX3_thrown : MethodName := ⟨RX3, "thrown", "()I"⟩
theorem dX3_thrown_0 : decode cX3_thrown 0 = .ok (.aload_n 0, 1) := by decide +kernel
theorem dX3_thrown_1 : decode cX3_thrown 1 = .ok (.getfield 90, 3) := by decide +kernel
theorem dX3_thrown_4 : decode cX3_thrown 4 = .ok (.ireturn, 1) := by decide +kernel
abbrev cX3_count : ByteArray := prog_18_method_33_code
def yX3_count : MethodName := ⟨RX3, "count", "(I)I"⟩
def dkwX3_count_4 : List UInt8 := [180, 0, 191, 172, 42, 180, 0, 7, 5, 27, 96, 46, 172]
abbrev dktX3_count_4 : List UInt8 := dkwX3_count_4 ++ []
def dkwX3_count_3 : List UInt8 := [3, 172, 42, 180, 0, 7, 3, 46, 172, 42, 180, 0, 7, 4, 46, 172, 42, 27, 182, 0, 188, 172, 42]
abbrev dktX3_count_3 : List UInt8 := dkwX3_count_3 ++ dktX3_count_4
def dkwX3_count_2 : List UInt8 := [170, 0, 0, 0, 96, 255, 255, 255, 255, 0, 0, 0, 12, 0, 0, 0, 69, 0, 0, 0, 96, 0, 0, 0, 96, 0, 0, 0, 96, 0, 0, 0, 96, 0, 0, 0, 96, 0, 0, 0, 96, 0, 0, 0, 71, 0, 0, 0, 78, 0, 0, 0, 85, 0, 0, 0, 85, 0, 0, 0, 85, 0, 0, 0, 91, 0, 0, 0, 85]
abbrev dktX3_count_2 : List UInt8 := dkwX3_count_2 ++ dktX3_count_3
def dkwX3_count_1 : List UInt8 := [158, 0, 7, 2, 167, 0, 4, 27]
abbrev dktX3_count_1 : List UInt8 := dkwX3_count_1 ++ dktX3_count_2
def dkwX3_count_0 : List UInt8 := [42, 27, 3, 16, 12, 184, 0, 124, 153, 0, 7, 3, 167, 0, 4, 4, 181, 0, 90, 42, 180, 0, 90]
abbrev dktX3_count_0 : List UInt8 := dkwX3_count_0 ++ dktX3_count_1
theorem dksX3_count_0 : cX3_count.data.toList.drop 0 = dktX3_count_0 := by decide +kernel
theorem dksX3_count_1 : cX3_count.data.toList.drop 23 = dktX3_count_1 := dk_seg dksX3_count_0 23 rfl rfl
theorem dksX3_count_2 : cX3_count.data.toList.drop 31 = dktX3_count_2 := dk_seg dksX3_count_1 8 rfl rfl
theorem dksX3_count_3 : cX3_count.data.toList.drop 100 = dktX3_count_3 := dk_seg dksX3_count_2 69 rfl rfl
theorem dksX3_count_4 : cX3_count.data.toList.drop 123 = dktX3_count_4 := dk_seg dksX3_count_3 23 rfl rfl
theorem dX3_count_0 : decode cX3_count 0 = .ok (.aload_n 0, 1) := dk_42 (dk_at dksX3_count_0 0 rfl rfl)
theorem dX3_count_1 : decode cX3_count 1 = .ok (.iload_n 1, 1) := dk_27 (dk_at dksX3_count_0 1 rfl rfl)
theorem dX3_count_2 : decode cX3_count 2 = .ok (.iconst 0, 1) := dk_3 (dk_at dksX3_count_0 2 rfl rfl)
theorem dX3_count_3 : decode cX3_count 3 = .ok (.bipush 12, 2) := dk_16 12 (dk_at dksX3_count_0 3 rfl rfl)
theorem dX3_count_5 : decode cX3_count 5 = .ok (.invokestatic 124, 3) := dk_184 0 124 (dk_at dksX3_count_0 5 rfl rfl)
theorem dX3_count_8 : decode cX3_count 8 = .ok (.ifCond .eq 7, 3) := dk_153 0 7 (dk_at dksX3_count_0 8 rfl rfl)
theorem dX3_count_11 : decode cX3_count 11 = .ok (.iconst 0, 1) := dk_3 (dk_at dksX3_count_0 11 rfl rfl)
theorem dX3_count_12 : decode cX3_count 12 = .ok (.goto 4, 3) := dk_167 0 4 (dk_at dksX3_count_0 12 rfl rfl)
theorem dX3_count_15 : decode cX3_count 15 = .ok (.iconst 1, 1) := dk_4 (dk_at dksX3_count_0 15 rfl rfl)
theorem dX3_count_16 : decode cX3_count 16 = .ok (.putfield 90, 3) := dk_181 0 90 (dk_at dksX3_count_0 16 rfl rfl)
theorem dX3_count_19 : decode cX3_count 19 = .ok (.aload_n 0, 1) := dk_42 (dk_at dksX3_count_0 19 rfl rfl)
theorem dX3_count_20 : decode cX3_count 20 = .ok (.getfield 90, 3) := dk_180 0 90 (dk_at dksX3_count_0 20 rfl rfl)
theorem dX3_count_23 : decode cX3_count 23 = .ok (.ifCond .le 7, 3) := dk_158 0 7 (dk_at dksX3_count_1 0 rfl rfl)
theorem dX3_count_26 : decode cX3_count 26 = .ok (.iconst (-1), 1) := dk_2 (dk_at dksX3_count_1 3 rfl rfl)
theorem dX3_count_27 : decode cX3_count 27 = .ok (.goto 4, 3) := dk_167 0 4 (dk_at dksX3_count_1 4 rfl rfl)
theorem dX3_count_30 : decode cX3_count 30 = .ok (.iload_n 1, 1) := dk_27 (dk_at dksX3_count_1 7 rfl rfl)
theorem dX3_count_31 : decode cX3_count 31 = .ok (.tableswitch 96 (-1) 12 #[69, 96, 96, 96, 96, 96, 96, 71, 78, 85, 85, 85, 91, 85], 69) := by decide +kernel
theorem dX3_count_100 : decode cX3_count 100 = .ok (.iconst 0, 1) := dk_3 (dk_at dksX3_count_3 0 rfl rfl)
theorem dX3_count_101 : decode cX3_count 101 = .ok (.ireturn, 1) := dk_172 (dk_at dksX3_count_3 1 rfl rfl)
theorem dX3_count_102 : decode cX3_count 102 = .ok (.aload_n 0, 1) := dk_42 (dk_at dksX3_count_3 2 rfl rfl)
theorem dX3_count_103 : decode cX3_count 103 = .ok (.getfield 7, 3) := dk_180 0 7 (dk_at dksX3_count_3 3 rfl rfl)
theorem dX3_count_106 : decode cX3_count 106 = .ok (.iconst 0, 1) := dk_3 (dk_at dksX3_count_3 6 rfl rfl)
theorem dX3_count_107 : decode cX3_count 107 = .ok (.iaload, 1) := dk_46 (dk_at dksX3_count_3 7 rfl rfl)
theorem dX3_count_108 : decode cX3_count 108 = .ok (.ireturn, 1) := dk_172 (dk_at dksX3_count_3 8 rfl rfl)
theorem dX3_count_109 : decode cX3_count 109 = .ok (.aload_n 0, 1) := dk_42 (dk_at dksX3_count_3 9 rfl rfl)
theorem dX3_count_110 : decode cX3_count 110 = .ok (.getfield 7, 3) := dk_180 0 7 (dk_at dksX3_count_3 10 rfl rfl)
theorem dX3_count_113 : decode cX3_count 113 = .ok (.iconst 1, 1) := dk_4 (dk_at dksX3_count_3 13 rfl rfl)
theorem dX3_count_114 : decode cX3_count 114 = .ok (.iaload, 1) := dk_46 (dk_at dksX3_count_3 14 rfl rfl)
theorem dX3_count_115 : decode cX3_count 115 = .ok (.ireturn, 1) := dk_172 (dk_at dksX3_count_3 15 rfl rfl)
theorem dX3_count_116 : decode cX3_count 116 = .ok (.aload_n 0, 1) := dk_42 (dk_at dksX3_count_3 16 rfl rfl)
theorem dX3_count_117 : decode cX3_count 117 = .ok (.iload_n 1, 1) := dk_27 (dk_at dksX3_count_3 17 rfl rfl)
theorem dX3_count_118 : decode cX3_count 118 = .ok (.invokevirtual 188, 3) := dk_182 0 188 (dk_at dksX3_count_3 18 rfl rfl)
theorem dX3_count_121 : decode cX3_count 121 = .ok (.ireturn, 1) := dk_172 (dk_at dksX3_count_3 21 rfl rfl)
theorem dX3_count_122 : decode cX3_count 122 = .ok (.aload_n 0, 1) := dk_42 (dk_at dksX3_count_3 22 rfl rfl)
theorem dX3_count_123 : decode cX3_count 123 = .ok (.getfield 191, 3) := dk_180 0 191 (dk_at dksX3_count_4 0 rfl rfl)
theorem dX3_count_126 : decode cX3_count 126 = .ok (.ireturn, 1) := dk_172 (dk_at dksX3_count_4 3 rfl rfl)
theorem dX3_count_127 : decode cX3_count 127 = .ok (.aload_n 0, 1) := dk_42 (dk_at dksX3_count_4 4 rfl rfl)
theorem dX3_count_128 : decode cX3_count 128 = .ok (.getfield 7, 3) := dk_180 0 7 (dk_at dksX3_count_4 5 rfl rfl)
theorem dX3_count_131 : decode cX3_count 131 = .ok (.iconst 2, 1) := dk_5 (dk_at dksX3_count_4 8 rfl rfl)
theorem dX3_count_132 : decode cX3_count 132 = .ok (.iload_n 1, 1) := dk_27 (dk_at dksX3_count_4 9 rfl rfl)
theorem dX3_count_133 : decode cX3_count 133 = .ok (.iadd, 1) := dk_96 (dk_at dksX3_count_4 10 rfl rfl)
theorem dX3_count_134 : decode cX3_count 134 = .ok (.iaload, 1) := dk_46 (dk_at dksX3_count_4 11 rfl rfl)
theorem dX3_count_135 : decode cX3_count 135 = .ok (.ireturn, 1) := dk_172 (dk_at dksX3_count_4 12 rfl rfl)
abbrev cX3_in : ByteArray := prog_18_method_3_code
def yX3_in : MethodName := ⟨RX3, "in", "(III)Z"⟩
def dkwX3_in_0 : List UInt8 := [26, 27, 161, 0, 12, 26, 28, 163, 0, 7, 4, 167, 0, 4, 3, 172]
abbrev dktX3_in_0 : List UInt8 := dkwX3_in_0 ++ []
theorem dksX3_in_0 : cX3_in.data.toList.drop 0 = dktX3_in_0 := by decide +kernel
theorem dX3_in_0 : decode cX3_in 0 = .ok (.iload_n 0, 1) := dk_26 (dk_at dksX3_in_0 0 rfl rfl)
theorem dX3_in_1 : decode cX3_in 1 = .ok (.iload_n 1, 1) := dk_27 (dk_at dksX3_in_0 1 rfl rfl)
theorem dX3_in_2 : decode cX3_in 2 = .ok (.if_icmp .lt 12, 3) := dk_161 0 12 (dk_at dksX3_in_0 2 rfl rfl)
theorem dX3_in_5 : decode cX3_in 5 = .ok (.iload_n 0, 1) := dk_26 (dk_at dksX3_in_0 5 rfl rfl)
theorem dX3_in_6 : decode cX3_in 6 = .ok (.iload_n 2, 1) := dk_28 (dk_at dksX3_in_0 6 rfl rfl)
theorem dX3_in_7 : decode cX3_in 7 = .ok (.if_icmp .gt 7, 3) := dk_163 0 7 (dk_at dksX3_in_0 7 rfl rfl)
theorem dX3_in_10 : decode cX3_in 10 = .ok (.iconst 1, 1) := dk_4 (dk_at dksX3_in_0 10 rfl rfl)
theorem dX3_in_11 : decode cX3_in 11 = .ok (.goto 4, 3) := dk_167 0 4 (dk_at dksX3_in_0 11 rfl rfl)
theorem dX3_in_14 : decode cX3_in 14 = .ok (.iconst 0, 1) := dk_3 (dk_at dksX3_in_0 14 rfl rfl)
theorem dX3_in_15 : decode cX3_in 15 = .ok (.ireturn, 1) := dk_172 (dk_at dksX3_in_0 15 rfl rfl)
abbrev cX3_sumOf : ByteArray := prog_18_method_32_code
def yX3_sumOf : MethodName := ⟨RX3, "sumOf", "(I)I"⟩
def dkwX3_sumOf_3 : List UInt8 := [182, 0, 185, 154, 0, 7, 4, 167, 0, 4, 3, 96, 61, 132, 3, 1, 167, 255, 174, 28, 172]
abbrev dktX3_sumOf_3 : List UInt8 := dkwX3_sumOf_3 ++ []
def dkwX3_sumOf_2 : List UInt8 := [160, 0, 19, 42, 29, 182, 0, 173, 153, 0, 7, 4, 167, 0, 23, 3, 167, 0, 19, 42, 29, 29, 4, 100]
abbrev dktX3_sumOf_2 : List UInt8 := dkwX3_sumOf_2 ++ dktX3_sumOf_3
def dkwX3_sumOf_1 : List UInt8 := [182, 0, 179, 167, 0, 55, 27, 16, 9, 160, 0, 11, 42, 29, 182, 0, 182, 167, 0, 41, 27, 16, 10]
abbrev dktX3_sumOf_1 : List UInt8 := dkwX3_sumOf_1 ++ dktX3_sumOf_2
def dkwX3_sumOf_0 : List UInt8 := [3, 61, 3, 62, 29, 42, 180, 0, 7, 4, 46, 162, 0, 78, 28, 27, 16, 8, 160, 0, 11, 42, 29]
abbrev dktX3_sumOf_0 : List UInt8 := dkwX3_sumOf_0 ++ dktX3_sumOf_1
theorem dksX3_sumOf_0 : cX3_sumOf.data.toList.drop 0 = dktX3_sumOf_0 := by decide +kernel
theorem dksX3_sumOf_1 : cX3_sumOf.data.toList.drop 23 = dktX3_sumOf_1 := dk_seg dksX3_sumOf_0 23 rfl rfl
theorem dksX3_sumOf_2 : cX3_sumOf.data.toList.drop 46 = dktX3_sumOf_2 := dk_seg dksX3_sumOf_1 23 rfl rfl
theorem dksX3_sumOf_3 : cX3_sumOf.data.toList.drop 70 = dktX3_sumOf_3 := dk_seg dksX3_sumOf_2 24 rfl rfl
theorem dX3_sumOf_0 : decode cX3_sumOf 0 = .ok (.iconst 0, 1) := dk_3 (dk_at dksX3_sumOf_0 0 rfl rfl)
theorem dX3_sumOf_1 : decode cX3_sumOf 1 = .ok (.istore_n 2, 1) := dk_61 (dk_at dksX3_sumOf_0 1 rfl rfl)
theorem dX3_sumOf_2 : decode cX3_sumOf 2 = .ok (.iconst 0, 1) := dk_3 (dk_at dksX3_sumOf_0 2 rfl rfl)
theorem dX3_sumOf_3 : decode cX3_sumOf 3 = .ok (.istore_n 3, 1) := dk_62 (dk_at dksX3_sumOf_0 3 rfl rfl)
theorem dX3_sumOf_4 : decode cX3_sumOf 4 = .ok (.iload_n 3, 1) := dk_29 (dk_at dksX3_sumOf_0 4 rfl rfl)
theorem dX3_sumOf_5 : decode cX3_sumOf 5 = .ok (.aload_n 0, 1) := dk_42 (dk_at dksX3_sumOf_0 5 rfl rfl)
theorem dX3_sumOf_6 : decode cX3_sumOf 6 = .ok (.getfield 7, 3) := dk_180 0 7 (dk_at dksX3_sumOf_0 6 rfl rfl)
theorem dX3_sumOf_9 : decode cX3_sumOf 9 = .ok (.iconst 1, 1) := dk_4 (dk_at dksX3_sumOf_0 9 rfl rfl)
theorem dX3_sumOf_10 : decode cX3_sumOf 10 = .ok (.iaload, 1) := dk_46 (dk_at dksX3_sumOf_0 10 rfl rfl)
theorem dX3_sumOf_11 : decode cX3_sumOf 11 = .ok (.if_icmp .ge 78, 3) := dk_162 0 78 (dk_at dksX3_sumOf_0 11 rfl rfl)
theorem dX3_sumOf_14 : decode cX3_sumOf 14 = .ok (.iload_n 2, 1) := dk_28 (dk_at dksX3_sumOf_0 14 rfl rfl)
theorem dX3_sumOf_15 : decode cX3_sumOf 15 = .ok (.iload_n 1, 1) := dk_27 (dk_at dksX3_sumOf_0 15 rfl rfl)
theorem dX3_sumOf_16 : decode cX3_sumOf 16 = .ok (.bipush 8, 2) := dk_16 8 (dk_at dksX3_sumOf_0 16 rfl rfl)
theorem dX3_sumOf_18 : decode cX3_sumOf 18 = .ok (.if_icmp .ne 11, 3) := dk_160 0 11 (dk_at dksX3_sumOf_0 18 rfl rfl)
theorem dX3_sumOf_21 : decode cX3_sumOf 21 = .ok (.aload_n 0, 1) := dk_42 (dk_at dksX3_sumOf_0 21 rfl rfl)
theorem dX3_sumOf_22 : decode cX3_sumOf 22 = .ok (.iload_n 3, 1) := dk_29 (dk_at dksX3_sumOf_0 22 rfl rfl)
theorem dX3_sumOf_23 : decode cX3_sumOf 23 = .ok (.invokevirtual 179, 3) := dk_182 0 179 (dk_at dksX3_sumOf_1 0 rfl rfl)
theorem dX3_sumOf_26 : decode cX3_sumOf 26 = .ok (.goto 55, 3) := dk_167 0 55 (dk_at dksX3_sumOf_1 3 rfl rfl)
theorem dX3_sumOf_29 : decode cX3_sumOf 29 = .ok (.iload_n 1, 1) := dk_27 (dk_at dksX3_sumOf_1 6 rfl rfl)
theorem dX3_sumOf_30 : decode cX3_sumOf 30 = .ok (.bipush 9, 2) := dk_16 9 (dk_at dksX3_sumOf_1 7 rfl rfl)
theorem dX3_sumOf_32 : decode cX3_sumOf 32 = .ok (.if_icmp .ne 11, 3) := dk_160 0 11 (dk_at dksX3_sumOf_1 9 rfl rfl)
theorem dX3_sumOf_35 : decode cX3_sumOf 35 = .ok (.aload_n 0, 1) := dk_42 (dk_at dksX3_sumOf_1 12 rfl rfl)
theorem dX3_sumOf_36 : decode cX3_sumOf 36 = .ok (.iload_n 3, 1) := dk_29 (dk_at dksX3_sumOf_1 13 rfl rfl)
theorem dX3_sumOf_37 : decode cX3_sumOf 37 = .ok (.invokevirtual 182, 3) := dk_182 0 182 (dk_at dksX3_sumOf_1 14 rfl rfl)
theorem dX3_sumOf_40 : decode cX3_sumOf 40 = .ok (.goto 41, 3) := dk_167 0 41 (dk_at dksX3_sumOf_1 17 rfl rfl)
theorem dX3_sumOf_43 : decode cX3_sumOf 43 = .ok (.iload_n 1, 1) := dk_27 (dk_at dksX3_sumOf_1 20 rfl rfl)
theorem dX3_sumOf_44 : decode cX3_sumOf 44 = .ok (.bipush 10, 2) := dk_16 10 (dk_at dksX3_sumOf_1 21 rfl rfl)
theorem dX3_sumOf_46 : decode cX3_sumOf 46 = .ok (.if_icmp .ne 19, 3) := dk_160 0 19 (dk_at dksX3_sumOf_2 0 rfl rfl)
theorem dX3_sumOf_49 : decode cX3_sumOf 49 = .ok (.aload_n 0, 1) := dk_42 (dk_at dksX3_sumOf_2 3 rfl rfl)
theorem dX3_sumOf_50 : decode cX3_sumOf 50 = .ok (.iload_n 3, 1) := dk_29 (dk_at dksX3_sumOf_2 4 rfl rfl)
theorem dX3_sumOf_51 : decode cX3_sumOf 51 = .ok (.invokevirtual 173, 3) := dk_182 0 173 (dk_at dksX3_sumOf_2 5 rfl rfl)
theorem dX3_sumOf_54 : decode cX3_sumOf 54 = .ok (.ifCond .eq 7, 3) := dk_153 0 7 (dk_at dksX3_sumOf_2 8 rfl rfl)
theorem dX3_sumOf_57 : decode cX3_sumOf 57 = .ok (.iconst 1, 1) := dk_4 (dk_at dksX3_sumOf_2 11 rfl rfl)
theorem dX3_sumOf_58 : decode cX3_sumOf 58 = .ok (.goto 23, 3) := dk_167 0 23 (dk_at dksX3_sumOf_2 12 rfl rfl)
theorem dX3_sumOf_61 : decode cX3_sumOf 61 = .ok (.iconst 0, 1) := dk_3 (dk_at dksX3_sumOf_2 15 rfl rfl)
theorem dX3_sumOf_62 : decode cX3_sumOf 62 = .ok (.goto 19, 3) := dk_167 0 19 (dk_at dksX3_sumOf_2 16 rfl rfl)
theorem dX3_sumOf_65 : decode cX3_sumOf 65 = .ok (.aload_n 0, 1) := dk_42 (dk_at dksX3_sumOf_2 19 rfl rfl)
theorem dX3_sumOf_66 : decode cX3_sumOf 66 = .ok (.iload_n 3, 1) := dk_29 (dk_at dksX3_sumOf_2 20 rfl rfl)
theorem dX3_sumOf_67 : decode cX3_sumOf 67 = .ok (.iload_n 3, 1) := dk_29 (dk_at dksX3_sumOf_2 21 rfl rfl)
theorem dX3_sumOf_68 : decode cX3_sumOf 68 = .ok (.iconst 1, 1) := dk_4 (dk_at dksX3_sumOf_2 22 rfl rfl)
theorem dX3_sumOf_69 : decode cX3_sumOf 69 = .ok (.isub, 1) := dk_100 (dk_at dksX3_sumOf_2 23 rfl rfl)
theorem dX3_sumOf_70 : decode cX3_sumOf 70 = .ok (.invokevirtual 185, 3) := dk_182 0 185 (dk_at dksX3_sumOf_3 0 rfl rfl)
theorem dX3_sumOf_73 : decode cX3_sumOf 73 = .ok (.ifCond .ne 7, 3) := dk_154 0 7 (dk_at dksX3_sumOf_3 3 rfl rfl)
theorem dX3_sumOf_76 : decode cX3_sumOf 76 = .ok (.iconst 1, 1) := dk_4 (dk_at dksX3_sumOf_3 6 rfl rfl)
theorem dX3_sumOf_77 : decode cX3_sumOf 77 = .ok (.goto 4, 3) := dk_167 0 4 (dk_at dksX3_sumOf_3 7 rfl rfl)
theorem dX3_sumOf_80 : decode cX3_sumOf 80 = .ok (.iconst 0, 1) := dk_3 (dk_at dksX3_sumOf_3 10 rfl rfl)
theorem dX3_sumOf_81 : decode cX3_sumOf 81 = .ok (.iadd, 1) := dk_96 (dk_at dksX3_sumOf_3 11 rfl rfl)
theorem dX3_sumOf_82 : decode cX3_sumOf 82 = .ok (.istore_n 2, 1) := dk_61 (dk_at dksX3_sumOf_3 12 rfl rfl)
theorem dX3_sumOf_83 : decode cX3_sumOf 83 = .ok (.iinc 3 1, 3) := dk_132 3 1 (dk_at dksX3_sumOf_3 13 rfl rfl)
theorem dX3_sumOf_86 : decode cX3_sumOf 86 = .ok (.goto (-82), 3) := dk_167 255 174 (dk_at dksX3_sumOf_3 16 rfl rfl)
theorem dX3_sumOf_89 : decode cX3_sumOf 89 = .ok (.iload_n 2, 1) := dk_28 (dk_at dksX3_sumOf_3 19 rfl rfl)
theorem dX3_sumOf_90 : decode cX3_sumOf 90 = .ok (.ireturn, 1) := dk_172 (dk_at dksX3_sumOf_3 20 rfl rfl)
abbrev cX3_blacks : ByteArray := prog_18_method_28_code
def yX3_blacks : MethodName := ⟨RX3, "blacks", "(I)I"⟩
def dkwX3_blacks_1 : List UInt8 := [46, 96, 61, 132, 3, 1, 167, 255, 230, 28, 172]
abbrev dktX3_blacks_1 : List UInt8 := dkwX3_blacks_1 ++ []
def dkwX3_blacks_0 : List UInt8 := [3, 61, 3, 62, 29, 42, 180, 0, 7, 3, 46, 162, 0, 22, 28, 42, 180, 0, 7, 27, 29, 184, 0, 96]
abbrev dktX3_blacks_0 : List UInt8 := dkwX3_blacks_0 ++ dktX3_blacks_1
theorem dksX3_blacks_0 : cX3_blacks.data.toList.drop 0 = dktX3_blacks_0 := by decide +kernel
theorem dksX3_blacks_1 : cX3_blacks.data.toList.drop 24 = dktX3_blacks_1 := dk_seg dksX3_blacks_0 24 rfl rfl
theorem dX3_blacks_0 : decode cX3_blacks 0 = .ok (.iconst 0, 1) := dk_3 (dk_at dksX3_blacks_0 0 rfl rfl)
theorem dX3_blacks_1 : decode cX3_blacks 1 = .ok (.istore_n 2, 1) := dk_61 (dk_at dksX3_blacks_0 1 rfl rfl)
theorem dX3_blacks_2 : decode cX3_blacks 2 = .ok (.iconst 0, 1) := dk_3 (dk_at dksX3_blacks_0 2 rfl rfl)
theorem dX3_blacks_3 : decode cX3_blacks 3 = .ok (.istore_n 3, 1) := dk_62 (dk_at dksX3_blacks_0 3 rfl rfl)
theorem dX3_blacks_4 : decode cX3_blacks 4 = .ok (.iload_n 3, 1) := dk_29 (dk_at dksX3_blacks_0 4 rfl rfl)
theorem dX3_blacks_5 : decode cX3_blacks 5 = .ok (.aload_n 0, 1) := dk_42 (dk_at dksX3_blacks_0 5 rfl rfl)
theorem dX3_blacks_6 : decode cX3_blacks 6 = .ok (.getfield 7, 3) := dk_180 0 7 (dk_at dksX3_blacks_0 6 rfl rfl)
theorem dX3_blacks_9 : decode cX3_blacks 9 = .ok (.iconst 0, 1) := dk_3 (dk_at dksX3_blacks_0 9 rfl rfl)
theorem dX3_blacks_10 : decode cX3_blacks 10 = .ok (.iaload, 1) := dk_46 (dk_at dksX3_blacks_0 10 rfl rfl)
theorem dX3_blacks_11 : decode cX3_blacks 11 = .ok (.if_icmp .ge 22, 3) := dk_162 0 22 (dk_at dksX3_blacks_0 11 rfl rfl)
theorem dX3_blacks_14 : decode cX3_blacks 14 = .ok (.iload_n 2, 1) := dk_28 (dk_at dksX3_blacks_0 14 rfl rfl)
theorem dX3_blacks_15 : decode cX3_blacks 15 = .ok (.aload_n 0, 1) := dk_42 (dk_at dksX3_blacks_0 15 rfl rfl)
theorem dX3_blacks_16 : decode cX3_blacks 16 = .ok (.getfield 7, 3) := dk_180 0 7 (dk_at dksX3_blacks_0 16 rfl rfl)
theorem dX3_blacks_19 : decode cX3_blacks 19 = .ok (.iload_n 1, 1) := dk_27 (dk_at dksX3_blacks_0 19 rfl rfl)
theorem dX3_blacks_20 : decode cX3_blacks 20 = .ok (.iload_n 3, 1) := dk_29 (dk_at dksX3_blacks_0 20 rfl rfl)
theorem dX3_blacks_21 : decode cX3_blacks 21 = .ok (.invokestatic 96, 3) := dk_184 0 96 (dk_at dksX3_blacks_0 21 rfl rfl)
theorem dX3_blacks_24 : decode cX3_blacks 24 = .ok (.iaload, 1) := dk_46 (dk_at dksX3_blacks_1 0 rfl rfl)
theorem dX3_blacks_25 : decode cX3_blacks 25 = .ok (.iadd, 1) := dk_96 (dk_at dksX3_blacks_1 1 rfl rfl)
theorem dX3_blacks_26 : decode cX3_blacks 26 = .ok (.istore_n 2, 1) := dk_61 (dk_at dksX3_blacks_1 2 rfl rfl)
theorem dX3_blacks_27 : decode cX3_blacks 27 = .ok (.iinc 3 1, 3) := dk_132 3 1 (dk_at dksX3_blacks_1 3 rfl rfl)
theorem dX3_blacks_30 : decode cX3_blacks 30 = .ok (.goto (-26), 3) := dk_167 255 230 (dk_at dksX3_blacks_1 6 rfl rfl)
theorem dX3_blacks_33 : decode cX3_blacks 33 = .ok (.iload_n 2, 1) := dk_28 (dk_at dksX3_blacks_1 9 rfl rfl)
theorem dX3_blacks_34 : decode cX3_blacks 34 = .ok (.ireturn, 1) := dk_172 (dk_at dksX3_blacks_1 10 rfl rfl)
abbrev cX3_dotAt : ByteArray := prog_18_method_6_code
def yX3_dotAt : MethodName := ⟨RX3, "dotAt", "(II)I"⟩
def dkwX3_dotAt_0 : List UInt8 := [16, 28, 16, 40, 26, 104, 96, 27, 96, 172]
abbrev dktX3_dotAt_0 : List UInt8 := dkwX3_dotAt_0 ++ []
theorem dksX3_dotAt_0 : cX3_dotAt.data.toList.drop 0 = dktX3_dotAt_0 := by decide +kernel
theorem dX3_dotAt_0 : decode cX3_dotAt 0 = .ok (.bipush 28, 2) := dk_16 28 (dk_at dksX3_dotAt_0 0 rfl rfl)
theorem dX3_dotAt_2 : decode cX3_dotAt 2 = .ok (.bipush 40, 2) := dk_16 40 (dk_at dksX3_dotAt_0 2 rfl rfl)
theorem dX3_dotAt_4 : decode cX3_dotAt 4 = .ok (.iload_n 0, 1) := dk_26 (dk_at dksX3_dotAt_0 4 rfl rfl)
theorem dX3_dotAt_5 : decode cX3_dotAt 5 = .ok (.imul, 1) := dk_104 (dk_at dksX3_dotAt_0 5 rfl rfl)
theorem dX3_dotAt_6 : decode cX3_dotAt 6 = .ok (.iadd, 1) := dk_96 (dk_at dksX3_dotAt_0 6 rfl rfl)
theorem dX3_dotAt_7 : decode cX3_dotAt 7 = .ok (.iload_n 1, 1) := dk_27 (dk_at dksX3_dotAt_0 7 rfl rfl)
theorem dX3_dotAt_8 : decode cX3_dotAt 8 = .ok (.iadd, 1) := dk_96 (dk_at dksX3_dotAt_0 8 rfl rfl)
theorem dX3_dotAt_9 : decode cX3_dotAt 9 = .ok (.ireturn, 1) := dk_172 (dk_at dksX3_dotAt_0 9 rfl rfl)
abbrev cX3_changes : ByteArray := prog_18_method_30_code
def yX3_changes : MethodName := ⟨RX3, "changes", "(I)I"⟩
def dkwX3_changes_2 : List UInt8 := [172]
abbrev dktX3_changes_2 : List UInt8 := dkwX3_changes_2 ++ []
def dkwX3_changes_1 : List UInt8 := [46, 42, 27, 29, 182, 0, 176, 159, 0, 7, 4, 167, 0, 4, 3, 96, 61, 132, 3, 1, 167, 255, 216, 28]
abbrev dktX3_changes_1 : List UInt8 := dkwX3_changes_1 ++ dktX3_changes_2
def dkwX3_changes_0 : List UInt8 := [3, 61, 3, 62, 29, 42, 180, 0, 7, 3, 46, 162, 0, 36, 28, 42, 180, 0, 7, 27, 29, 184, 0, 96]
abbrev dktX3_changes_0 : List UInt8 := dkwX3_changes_0 ++ dktX3_changes_1
theorem dksX3_changes_0 : cX3_changes.data.toList.drop 0 = dktX3_changes_0 := by decide +kernel
theorem dksX3_changes_1 : cX3_changes.data.toList.drop 24 = dktX3_changes_1 := dk_seg dksX3_changes_0 24 rfl rfl
theorem dksX3_changes_2 : cX3_changes.data.toList.drop 48 = dktX3_changes_2 := dk_seg dksX3_changes_1 24 rfl rfl
theorem dX3_changes_0 : decode cX3_changes 0 = .ok (.iconst 0, 1) := dk_3 (dk_at dksX3_changes_0 0 rfl rfl)
theorem dX3_changes_1 : decode cX3_changes 1 = .ok (.istore_n 2, 1) := dk_61 (dk_at dksX3_changes_0 1 rfl rfl)
theorem dX3_changes_2 : decode cX3_changes 2 = .ok (.iconst 0, 1) := dk_3 (dk_at dksX3_changes_0 2 rfl rfl)
theorem dX3_changes_3 : decode cX3_changes 3 = .ok (.istore_n 3, 1) := dk_62 (dk_at dksX3_changes_0 3 rfl rfl)
theorem dX3_changes_4 : decode cX3_changes 4 = .ok (.iload_n 3, 1) := dk_29 (dk_at dksX3_changes_0 4 rfl rfl)
theorem dX3_changes_5 : decode cX3_changes 5 = .ok (.aload_n 0, 1) := dk_42 (dk_at dksX3_changes_0 5 rfl rfl)
theorem dX3_changes_6 : decode cX3_changes 6 = .ok (.getfield 7, 3) := dk_180 0 7 (dk_at dksX3_changes_0 6 rfl rfl)
theorem dX3_changes_9 : decode cX3_changes 9 = .ok (.iconst 0, 1) := dk_3 (dk_at dksX3_changes_0 9 rfl rfl)
theorem dX3_changes_10 : decode cX3_changes 10 = .ok (.iaload, 1) := dk_46 (dk_at dksX3_changes_0 10 rfl rfl)
theorem dX3_changes_11 : decode cX3_changes 11 = .ok (.if_icmp .ge 36, 3) := dk_162 0 36 (dk_at dksX3_changes_0 11 rfl rfl)
theorem dX3_changes_14 : decode cX3_changes 14 = .ok (.iload_n 2, 1) := dk_28 (dk_at dksX3_changes_0 14 rfl rfl)
theorem dX3_changes_15 : decode cX3_changes 15 = .ok (.aload_n 0, 1) := dk_42 (dk_at dksX3_changes_0 15 rfl rfl)
theorem dX3_changes_16 : decode cX3_changes 16 = .ok (.getfield 7, 3) := dk_180 0 7 (dk_at dksX3_changes_0 16 rfl rfl)
theorem dX3_changes_19 : decode cX3_changes 19 = .ok (.iload_n 1, 1) := dk_27 (dk_at dksX3_changes_0 19 rfl rfl)
theorem dX3_changes_20 : decode cX3_changes 20 = .ok (.iload_n 3, 1) := dk_29 (dk_at dksX3_changes_0 20 rfl rfl)
theorem dX3_changes_21 : decode cX3_changes 21 = .ok (.invokestatic 96, 3) := dk_184 0 96 (dk_at dksX3_changes_0 21 rfl rfl)
theorem dX3_changes_24 : decode cX3_changes 24 = .ok (.iaload, 1) := dk_46 (dk_at dksX3_changes_1 0 rfl rfl)
theorem dX3_changes_25 : decode cX3_changes 25 = .ok (.aload_n 0, 1) := dk_42 (dk_at dksX3_changes_1 1 rfl rfl)
theorem dX3_changes_26 : decode cX3_changes 26 = .ok (.iload_n 1, 1) := dk_27 (dk_at dksX3_changes_1 2 rfl rfl)
theorem dX3_changes_27 : decode cX3_changes 27 = .ok (.iload_n 3, 1) := dk_29 (dk_at dksX3_changes_1 3 rfl rfl)
theorem dX3_changes_28 : decode cX3_changes 28 = .ok (.invokevirtual 176, 3) := dk_182 0 176 (dk_at dksX3_changes_1 4 rfl rfl)
theorem dX3_changes_31 : decode cX3_changes 31 = .ok (.if_icmp .eq 7, 3) := dk_159 0 7 (dk_at dksX3_changes_1 7 rfl rfl)
theorem dX3_changes_34 : decode cX3_changes 34 = .ok (.iconst 1, 1) := dk_4 (dk_at dksX3_changes_1 10 rfl rfl)
theorem dX3_changes_35 : decode cX3_changes 35 = .ok (.goto 4, 3) := dk_167 0 4 (dk_at dksX3_changes_1 11 rfl rfl)
theorem dX3_changes_38 : decode cX3_changes 38 = .ok (.iconst 0, 1) := dk_3 (dk_at dksX3_changes_1 14 rfl rfl)
theorem dX3_changes_39 : decode cX3_changes 39 = .ok (.iadd, 1) := dk_96 (dk_at dksX3_changes_1 15 rfl rfl)
theorem dX3_changes_40 : decode cX3_changes 40 = .ok (.istore_n 2, 1) := dk_61 (dk_at dksX3_changes_1 16 rfl rfl)
theorem dX3_changes_41 : decode cX3_changes 41 = .ok (.iinc 3 1, 3) := dk_132 3 1 (dk_at dksX3_changes_1 17 rfl rfl)
theorem dX3_changes_44 : decode cX3_changes 44 = .ok (.goto (-40), 3) := dk_167 255 216 (dk_at dksX3_changes_1 20 rfl rfl)
theorem dX3_changes_47 : decode cX3_changes 47 = .ok (.iload_n 2, 1) := dk_28 (dk_at dksX3_changes_1 23 rfl rfl)
theorem dX3_changes_48 : decode cX3_changes 48 = .ok (.ireturn, 1) := dk_172 (dk_at dksX3_changes_2 0 rfl rfl)
abbrev cX3_ahead : ByteArray := prog_18_method_29_code
def yX3_ahead : MethodName := ⟨RX3, "ahead", "(II)I"⟩
def dkwX3_ahead_0 : List UInt8 := [28, 154, 0, 7, 3, 167, 0, 15, 42, 180, 0, 7, 27, 28, 4, 100, 184, 0, 96, 46, 172]
abbrev dktX3_ahead_0 : List UInt8 := dkwX3_ahead_0 ++ []
theorem dksX3_ahead_0 : cX3_ahead.data.toList.drop 0 = dktX3_ahead_0 := by decide +kernel
theorem dX3_ahead_0 : decode cX3_ahead 0 = .ok (.iload_n 2, 1) := dk_28 (dk_at dksX3_ahead_0 0 rfl rfl)
theorem dX3_ahead_1 : decode cX3_ahead 1 = .ok (.ifCond .ne 7, 3) := dk_154 0 7 (dk_at dksX3_ahead_0 1 rfl rfl)
theorem dX3_ahead_4 : decode cX3_ahead 4 = .ok (.iconst 0, 1) := dk_3 (dk_at dksX3_ahead_0 4 rfl rfl)
theorem dX3_ahead_5 : decode cX3_ahead 5 = .ok (.goto 15, 3) := dk_167 0 15 (dk_at dksX3_ahead_0 5 rfl rfl)
theorem dX3_ahead_8 : decode cX3_ahead 8 = .ok (.aload_n 0, 1) := dk_42 (dk_at dksX3_ahead_0 8 rfl rfl)
theorem dX3_ahead_9 : decode cX3_ahead 9 = .ok (.getfield 7, 3) := dk_180 0 7 (dk_at dksX3_ahead_0 9 rfl rfl)
theorem dX3_ahead_12 : decode cX3_ahead 12 = .ok (.iload_n 1, 1) := dk_27 (dk_at dksX3_ahead_0 12 rfl rfl)
theorem dX3_ahead_13 : decode cX3_ahead 13 = .ok (.iload_n 2, 1) := dk_28 (dk_at dksX3_ahead_0 13 rfl rfl)
theorem dX3_ahead_14 : decode cX3_ahead 14 = .ok (.iconst 1, 1) := dk_4 (dk_at dksX3_ahead_0 14 rfl rfl)
theorem dX3_ahead_15 : decode cX3_ahead 15 = .ok (.isub, 1) := dk_100 (dk_at dksX3_ahead_0 15 rfl rfl)
theorem dX3_ahead_16 : decode cX3_ahead 16 = .ok (.invokestatic 96, 3) := dk_184 0 96 (dk_at dksX3_ahead_0 16 rfl rfl)
theorem dX3_ahead_19 : decode cX3_ahead 19 = .ok (.iaload, 1) := dk_46 (dk_at dksX3_ahead_0 19 rfl rfl)
theorem dX3_ahead_20 : decode cX3_ahead 20 = .ok (.ireturn, 1) := dk_172 (dk_at dksX3_ahead_0 20 rfl rfl)
abbrev cX3_isMark : ByteArray := prog_18_method_25_code
def yX3_isMark : MethodName := ⟨RX3, "isMark", "(I)Z"⟩
def dkwX3_isMark_1 : List UInt8 := [4, 160, 0, 18, 42, 182, 0, 166, 42, 182, 0, 170, 162, 0, 7, 4, 167, 0, 4, 3, 172]
abbrev dktX3_isMark_1 : List UInt8 := dkwX3_isMark_1 ++ []
def dkwX3_isMark_0 : List UInt8 := [27, 42, 180, 0, 7, 5, 46, 112, 154, 0, 5, 4, 172, 42, 27, 182, 0, 163, 42, 180, 0, 7, 6, 46]
abbrev dktX3_isMark_0 : List UInt8 := dkwX3_isMark_0 ++ dktX3_isMark_1
theorem dksX3_isMark_0 : cX3_isMark.data.toList.drop 0 = dktX3_isMark_0 := by decide +kernel
theorem dksX3_isMark_1 : cX3_isMark.data.toList.drop 24 = dktX3_isMark_1 := dk_seg dksX3_isMark_0 24 rfl rfl
theorem dX3_isMark_0 : decode cX3_isMark 0 = .ok (.iload_n 1, 1) := dk_27 (dk_at dksX3_isMark_0 0 rfl rfl)
theorem dX3_isMark_1 : decode cX3_isMark 1 = .ok (.aload_n 0, 1) := dk_42 (dk_at dksX3_isMark_0 1 rfl rfl)
theorem dX3_isMark_2 : decode cX3_isMark 2 = .ok (.getfield 7, 3) := dk_180 0 7 (dk_at dksX3_isMark_0 2 rfl rfl)
theorem dX3_isMark_5 : decode cX3_isMark 5 = .ok (.iconst 2, 1) := dk_5 (dk_at dksX3_isMark_0 5 rfl rfl)
theorem dX3_isMark_6 : decode cX3_isMark 6 = .ok (.iaload, 1) := dk_46 (dk_at dksX3_isMark_0 6 rfl rfl)
theorem dX3_isMark_7 : decode cX3_isMark 7 = .ok (.irem, 1) := dk_112 (dk_at dksX3_isMark_0 7 rfl rfl)
theorem dX3_isMark_8 : decode cX3_isMark 8 = .ok (.ifCond .ne 5, 3) := dk_154 0 5 (dk_at dksX3_isMark_0 8 rfl rfl)
theorem dX3_isMark_11 : decode cX3_isMark 11 = .ok (.iconst 1, 1) := dk_4 (dk_at dksX3_isMark_0 11 rfl rfl)
theorem dX3_isMark_12 : decode cX3_isMark 12 = .ok (.ireturn, 1) := dk_172 (dk_at dksX3_isMark_0 12 rfl rfl)
theorem dX3_isMark_13 : decode cX3_isMark 13 = .ok (.aload_n 0, 1) := dk_42 (dk_at dksX3_isMark_0 13 rfl rfl)
theorem dX3_isMark_14 : decode cX3_isMark 14 = .ok (.iload_n 1, 1) := dk_27 (dk_at dksX3_isMark_0 14 rfl rfl)
theorem dX3_isMark_15 : decode cX3_isMark 15 = .ok (.invokevirtual 163, 3) := dk_182 0 163 (dk_at dksX3_isMark_0 15 rfl rfl)
theorem dX3_isMark_18 : decode cX3_isMark 18 = .ok (.aload_n 0, 1) := dk_42 (dk_at dksX3_isMark_0 18 rfl rfl)
theorem dX3_isMark_19 : decode cX3_isMark 19 = .ok (.getfield 7, 3) := dk_180 0 7 (dk_at dksX3_isMark_0 19 rfl rfl)
theorem dX3_isMark_22 : decode cX3_isMark 22 = .ok (.iconst 3, 1) := dk_6 (dk_at dksX3_isMark_0 22 rfl rfl)
theorem dX3_isMark_23 : decode cX3_isMark 23 = .ok (.iaload, 1) := dk_46 (dk_at dksX3_isMark_0 23 rfl rfl)
theorem dX3_isMark_24 : decode cX3_isMark 24 = .ok (.iconst 1, 1) := dk_4 (dk_at dksX3_isMark_1 0 rfl rfl)
theorem dX3_isMark_25 : decode cX3_isMark 25 = .ok (.if_icmp .ne 18, 3) := dk_160 0 18 (dk_at dksX3_isMark_1 1 rfl rfl)
theorem dX3_isMark_28 : decode cX3_isMark 28 = .ok (.aload_n 0, 1) := dk_42 (dk_at dksX3_isMark_1 4 rfl rfl)
theorem dX3_isMark_29 : decode cX3_isMark 29 = .ok (.invokevirtual 166, 3) := dk_182 0 166 (dk_at dksX3_isMark_1 5 rfl rfl)
theorem dX3_isMark_32 : decode cX3_isMark 32 = .ok (.aload_n 0, 1) := dk_42 (dk_at dksX3_isMark_1 8 rfl rfl)
theorem dX3_isMark_33 : decode cX3_isMark 33 = .ok (.invokevirtual 170, 3) := dk_182 0 170 (dk_at dksX3_isMark_1 9 rfl rfl)
theorem dX3_isMark_36 : decode cX3_isMark 36 = .ok (.if_icmp .ge 7, 3) := dk_162 0 7 (dk_at dksX3_isMark_1 12 rfl rfl)
theorem dX3_isMark_39 : decode cX3_isMark 39 = .ok (.iconst 1, 1) := dk_4 (dk_at dksX3_isMark_1 15 rfl rfl)
theorem dX3_isMark_40 : decode cX3_isMark 40 = .ok (.goto 4, 3) := dk_167 0 4 (dk_at dksX3_isMark_1 16 rfl rfl)
theorem dX3_isMark_43 : decode cX3_isMark 43 = .ok (.iconst 0, 1) := dk_3 (dk_at dksX3_isMark_1 19 rfl rfl)
theorem dX3_isMark_44 : decode cX3_isMark 44 = .ok (.ireturn, 1) := dk_172 (dk_at dksX3_isMark_1 20 rfl rfl)
abbrev cX3_codesLine : ByteArray := prog_18_method_24_code
def yX3_codesLine : MethodName := ⟨RX3, "codesLine", "(I)V"⟩
def dkwX3_codesLine_0 : List UInt8 := [42, 27, 182, 0, 154, 42, 182, 0, 157, 42, 182, 0, 160, 177]
abbrev dktX3_codesLine_0 : List UInt8 := dkwX3_codesLine_0 ++ []
theorem dksX3_codesLine_0 : cX3_codesLine.data.toList.drop 0 = dktX3_codesLine_0 := by decide +kernel
theorem dX3_codesLine_0 : decode cX3_codesLine 0 = .ok (.aload_n 0, 1) := dk_42 (dk_at dksX3_codesLine_0 0 rfl rfl)
theorem dX3_codesLine_1 : decode cX3_codesLine 1 = .ok (.iload_n 1, 1) := dk_27 (dk_at dksX3_codesLine_0 1 rfl rfl)
theorem dX3_codesLine_2 : decode cX3_codesLine 2 = .ok (.invokevirtual 154, 3) := dk_182 0 154 (dk_at dksX3_codesLine_0 2 rfl rfl)
theorem dX3_codesLine_5 : decode cX3_codesLine 5 = .ok (.aload_n 0, 1) := dk_42 (dk_at dksX3_codesLine_0 5 rfl rfl)
theorem dX3_codesLine_6 : decode cX3_codesLine 6 = .ok (.invokevirtual 157, 3) := dk_182 0 157 (dk_at dksX3_codesLine_0 6 rfl rfl)
theorem dX3_codesLine_9 : decode cX3_codesLine 9 = .ok (.aload_n 0, 1) := dk_42 (dk_at dksX3_codesLine_0 9 rfl rfl)
theorem dX3_codesLine_10 : decode cX3_codesLine 10 = .ok (.invokevirtual 160, 3) := dk_182 0 160 (dk_at dksX3_codesLine_0 10 rfl rfl)
theorem dX3_codesLine_13 : decode cX3_codesLine 13 = .ok (.return_, 1) := dk_177 (dk_at dksX3_codesLine_0 13 rfl rfl)
abbrev cX3_laysLine : ByteArray := prog_18_method_9_code
def yX3_laysLine : MethodName := ⟨RX3, "laysLine", "(I)V"⟩
def dkwX3_laysLine_1 : List UInt8 := [4, 100, 3, 184, 0, 96, 182, 0, 100, 42, 42, 180, 0, 7, 27, 3, 184, 0, 96, 182, 0, 104, 177]
abbrev dktX3_laysLine_1 : List UInt8 := dkwX3_laysLine_1 ++ []
def dkwX3_laysLine_0 : List UInt8 := [42, 42, 180, 0, 7, 3, 46, 181, 0, 93, 42, 42, 180, 0, 7, 27, 154, 0, 7, 2, 167, 0, 10, 27]
abbrev dktX3_laysLine_0 : List UInt8 := dkwX3_laysLine_0 ++ dktX3_laysLine_1
theorem dksX3_laysLine_0 : cX3_laysLine.data.toList.drop 0 = dktX3_laysLine_0 := by decide +kernel
theorem dksX3_laysLine_1 : cX3_laysLine.data.toList.drop 24 = dktX3_laysLine_1 := dk_seg dksX3_laysLine_0 24 rfl rfl
theorem dX3_laysLine_0 : decode cX3_laysLine 0 = .ok (.aload_n 0, 1) := dk_42 (dk_at dksX3_laysLine_0 0 rfl rfl)
theorem dX3_laysLine_1 : decode cX3_laysLine 1 = .ok (.aload_n 0, 1) := dk_42 (dk_at dksX3_laysLine_0 1 rfl rfl)
theorem dX3_laysLine_2 : decode cX3_laysLine 2 = .ok (.getfield 7, 3) := dk_180 0 7 (dk_at dksX3_laysLine_0 2 rfl rfl)
theorem dX3_laysLine_5 : decode cX3_laysLine 5 = .ok (.iconst 0, 1) := dk_3 (dk_at dksX3_laysLine_0 5 rfl rfl)
theorem dX3_laysLine_6 : decode cX3_laysLine 6 = .ok (.iaload, 1) := dk_46 (dk_at dksX3_laysLine_0 6 rfl rfl)
theorem dX3_laysLine_7 : decode cX3_laysLine 7 = .ok (.putfield 93, 3) := dk_181 0 93 (dk_at dksX3_laysLine_0 7 rfl rfl)
theorem dX3_laysLine_10 : decode cX3_laysLine 10 = .ok (.aload_n 0, 1) := dk_42 (dk_at dksX3_laysLine_0 10 rfl rfl)
theorem dX3_laysLine_11 : decode cX3_laysLine 11 = .ok (.aload_n 0, 1) := dk_42 (dk_at dksX3_laysLine_0 11 rfl rfl)
theorem dX3_laysLine_12 : decode cX3_laysLine 12 = .ok (.getfield 7, 3) := dk_180 0 7 (dk_at dksX3_laysLine_0 12 rfl rfl)
theorem dX3_laysLine_15 : decode cX3_laysLine 15 = .ok (.iload_n 1, 1) := dk_27 (dk_at dksX3_laysLine_0 15 rfl rfl)
theorem dX3_laysLine_16 : decode cX3_laysLine 16 = .ok (.ifCond .ne 7, 3) := dk_154 0 7 (dk_at dksX3_laysLine_0 16 rfl rfl)
theorem dX3_laysLine_19 : decode cX3_laysLine 19 = .ok (.iconst (-1), 1) := dk_2 (dk_at dksX3_laysLine_0 19 rfl rfl)
theorem dX3_laysLine_20 : decode cX3_laysLine 20 = .ok (.goto 10, 3) := dk_167 0 10 (dk_at dksX3_laysLine_0 20 rfl rfl)
theorem dX3_laysLine_23 : decode cX3_laysLine 23 = .ok (.iload_n 1, 1) := dk_27 (dk_at dksX3_laysLine_0 23 rfl rfl)
theorem dX3_laysLine_24 : decode cX3_laysLine 24 = .ok (.iconst 1, 1) := dk_4 (dk_at dksX3_laysLine_1 0 rfl rfl)
theorem dX3_laysLine_25 : decode cX3_laysLine 25 = .ok (.isub, 1) := dk_100 (dk_at dksX3_laysLine_1 1 rfl rfl)
theorem dX3_laysLine_26 : decode cX3_laysLine 26 = .ok (.iconst 0, 1) := dk_3 (dk_at dksX3_laysLine_1 2 rfl rfl)
theorem dX3_laysLine_27 : decode cX3_laysLine 27 = .ok (.invokestatic 96, 3) := dk_184 0 96 (dk_at dksX3_laysLine_1 3 rfl rfl)
theorem dX3_laysLine_30 : decode cX3_laysLine 30 = .ok (.invokevirtual 100, 3) := dk_182 0 100 (dk_at dksX3_laysLine_1 6 rfl rfl)
theorem dX3_laysLine_33 : decode cX3_laysLine 33 = .ok (.aload_n 0, 1) := dk_42 (dk_at dksX3_laysLine_1 9 rfl rfl)
theorem dX3_laysLine_34 : decode cX3_laysLine 34 = .ok (.aload_n 0, 1) := dk_42 (dk_at dksX3_laysLine_1 10 rfl rfl)
theorem dX3_laysLine_35 : decode cX3_laysLine 35 = .ok (.getfield 7, 3) := dk_180 0 7 (dk_at dksX3_laysLine_1 11 rfl rfl)
theorem dX3_laysLine_38 : decode cX3_laysLine 38 = .ok (.iload_n 1, 1) := dk_27 (dk_at dksX3_laysLine_1 14 rfl rfl)
theorem dX3_laysLine_39 : decode cX3_laysLine 39 = .ok (.iconst 0, 1) := dk_3 (dk_at dksX3_laysLine_1 15 rfl rfl)
theorem dX3_laysLine_40 : decode cX3_laysLine 40 = .ok (.invokestatic 96, 3) := dk_184 0 96 (dk_at dksX3_laysLine_1 16 rfl rfl)
theorem dX3_laysLine_43 : decode cX3_laysLine 43 = .ok (.invokevirtual 104, 3) := dk_182 0 104 (dk_at dksX3_laysLine_1 19 rfl rfl)
theorem dX3_laysLine_46 : decode cX3_laysLine 46 = .ok (.return_, 1) := dk_177 (dk_at dksX3_laysLine_1 22 rfl rfl)
abbrev cX3_laysUpper : ByteArray := prog_18_method_7_code
def yX3_laysUpper : MethodName := ⟨RX3, "laysUpper", "([II)V"⟩
def dkwX3_laysUpper_1 : List UInt8 := [29, 96, 46, 79, 132, 3, 1, 167, 255, 227, 177]
abbrev dktX3_laysUpper_1 : List UInt8 := dkwX3_laysUpper_1 ++ []
def dkwX3_laysUpper_0 : List UInt8 := [3, 62, 29, 16, 40, 162, 0, 29, 42, 180, 0, 26, 29, 28, 2, 160, 0, 7, 3, 167, 0, 8, 43, 28]
abbrev dktX3_laysUpper_0 : List UInt8 := dkwX3_laysUpper_0 ++ dktX3_laysUpper_1
theorem dksX3_laysUpper_0 : cX3_laysUpper.data.toList.drop 0 = dktX3_laysUpper_0 := by decide +kernel
theorem dksX3_laysUpper_1 : cX3_laysUpper.data.toList.drop 24 = dktX3_laysUpper_1 := dk_seg dksX3_laysUpper_0 24 rfl rfl
theorem dX3_laysUpper_0 : decode cX3_laysUpper 0 = .ok (.iconst 0, 1) := dk_3 (dk_at dksX3_laysUpper_0 0 rfl rfl)
theorem dX3_laysUpper_1 : decode cX3_laysUpper 1 = .ok (.istore_n 3, 1) := dk_62 (dk_at dksX3_laysUpper_0 1 rfl rfl)
theorem dX3_laysUpper_2 : decode cX3_laysUpper 2 = .ok (.iload_n 3, 1) := dk_29 (dk_at dksX3_laysUpper_0 2 rfl rfl)
theorem dX3_laysUpper_3 : decode cX3_laysUpper 3 = .ok (.bipush 40, 2) := dk_16 40 (dk_at dksX3_laysUpper_0 3 rfl rfl)
theorem dX3_laysUpper_5 : decode cX3_laysUpper 5 = .ok (.if_icmp .ge 29, 3) := dk_162 0 29 (dk_at dksX3_laysUpper_0 5 rfl rfl)
theorem dX3_laysUpper_8 : decode cX3_laysUpper 8 = .ok (.aload_n 0, 1) := dk_42 (dk_at dksX3_laysUpper_0 8 rfl rfl)
theorem dX3_laysUpper_9 : decode cX3_laysUpper 9 = .ok (.getfield 26, 3) := dk_180 0 26 (dk_at dksX3_laysUpper_0 9 rfl rfl)
theorem dX3_laysUpper_12 : decode cX3_laysUpper 12 = .ok (.iload_n 3, 1) := dk_29 (dk_at dksX3_laysUpper_0 12 rfl rfl)
theorem dX3_laysUpper_13 : decode cX3_laysUpper 13 = .ok (.iload_n 2, 1) := dk_28 (dk_at dksX3_laysUpper_0 13 rfl rfl)
theorem dX3_laysUpper_14 : decode cX3_laysUpper 14 = .ok (.iconst (-1), 1) := dk_2 (dk_at dksX3_laysUpper_0 14 rfl rfl)
theorem dX3_laysUpper_15 : decode cX3_laysUpper 15 = .ok (.if_icmp .ne 7, 3) := dk_160 0 7 (dk_at dksX3_laysUpper_0 15 rfl rfl)
theorem dX3_laysUpper_18 : decode cX3_laysUpper 18 = .ok (.iconst 0, 1) := dk_3 (dk_at dksX3_laysUpper_0 18 rfl rfl)
theorem dX3_laysUpper_19 : decode cX3_laysUpper 19 = .ok (.goto 8, 3) := dk_167 0 8 (dk_at dksX3_laysUpper_0 19 rfl rfl)
theorem dX3_laysUpper_22 : decode cX3_laysUpper 22 = .ok (.aload_n 1, 1) := dk_43 (dk_at dksX3_laysUpper_0 22 rfl rfl)
theorem dX3_laysUpper_23 : decode cX3_laysUpper 23 = .ok (.iload_n 2, 1) := dk_28 (dk_at dksX3_laysUpper_0 23 rfl rfl)
theorem dX3_laysUpper_24 : decode cX3_laysUpper 24 = .ok (.iload_n 3, 1) := dk_29 (dk_at dksX3_laysUpper_1 0 rfl rfl)
theorem dX3_laysUpper_25 : decode cX3_laysUpper 25 = .ok (.iadd, 1) := dk_96 (dk_at dksX3_laysUpper_1 1 rfl rfl)
theorem dX3_laysUpper_26 : decode cX3_laysUpper 26 = .ok (.iaload, 1) := dk_46 (dk_at dksX3_laysUpper_1 2 rfl rfl)
theorem dX3_laysUpper_27 : decode cX3_laysUpper 27 = .ok (.iastore, 1) := dk_79 (dk_at dksX3_laysUpper_1 3 rfl rfl)
theorem dX3_laysUpper_28 : decode cX3_laysUpper 28 = .ok (.iinc 3 1, 3) := dk_132 3 1 (dk_at dksX3_laysUpper_1 4 rfl rfl)
theorem dX3_laysUpper_31 : decode cX3_laysUpper 31 = .ok (.goto (-29), 3) := dk_167 255 227 (dk_at dksX3_laysUpper_1 7 rfl rfl)
theorem dX3_laysUpper_34 : decode cX3_laysUpper 34 = .ok (.return_, 1) := dk_177 (dk_at dksX3_laysUpper_1 10 rfl rfl)
abbrev cX3_laysLower : ByteArray := prog_18_method_8_code
def yX3_laysLower : MethodName := ⟨RX3, "laysLower", "([II)V"⟩
def dkwX3_laysLower_1 : List UInt8 := [167, 255, 236, 177]
abbrev dktX3_laysLower_1 : List UInt8 := dkwX3_laysLower_1 ++ []
def dkwX3_laysLower_0 : List UInt8 := [3, 62, 29, 16, 40, 162, 0, 20, 42, 180, 0, 29, 29, 43, 28, 29, 96, 46, 79, 132, 3, 1]
abbrev dktX3_laysLower_0 : List UInt8 := dkwX3_laysLower_0 ++ dktX3_laysLower_1
theorem dksX3_laysLower_0 : cX3_laysLower.data.toList.drop 0 = dktX3_laysLower_0 := by decide +kernel
theorem dksX3_laysLower_1 : cX3_laysLower.data.toList.drop 22 = dktX3_laysLower_1 := dk_seg dksX3_laysLower_0 22 rfl rfl
theorem dX3_laysLower_0 : decode cX3_laysLower 0 = .ok (.iconst 0, 1) := dk_3 (dk_at dksX3_laysLower_0 0 rfl rfl)
theorem dX3_laysLower_1 : decode cX3_laysLower 1 = .ok (.istore_n 3, 1) := dk_62 (dk_at dksX3_laysLower_0 1 rfl rfl)
theorem dX3_laysLower_2 : decode cX3_laysLower 2 = .ok (.iload_n 3, 1) := dk_29 (dk_at dksX3_laysLower_0 2 rfl rfl)
theorem dX3_laysLower_3 : decode cX3_laysLower 3 = .ok (.bipush 40, 2) := dk_16 40 (dk_at dksX3_laysLower_0 3 rfl rfl)
theorem dX3_laysLower_5 : decode cX3_laysLower 5 = .ok (.if_icmp .ge 20, 3) := dk_162 0 20 (dk_at dksX3_laysLower_0 5 rfl rfl)
theorem dX3_laysLower_8 : decode cX3_laysLower 8 = .ok (.aload_n 0, 1) := dk_42 (dk_at dksX3_laysLower_0 8 rfl rfl)
theorem dX3_laysLower_9 : decode cX3_laysLower 9 = .ok (.getfield 29, 3) := dk_180 0 29 (dk_at dksX3_laysLower_0 9 rfl rfl)
theorem dX3_laysLower_12 : decode cX3_laysLower 12 = .ok (.iload_n 3, 1) := dk_29 (dk_at dksX3_laysLower_0 12 rfl rfl)
theorem dX3_laysLower_13 : decode cX3_laysLower 13 = .ok (.aload_n 1, 1) := dk_43 (dk_at dksX3_laysLower_0 13 rfl rfl)
theorem dX3_laysLower_14 : decode cX3_laysLower 14 = .ok (.iload_n 2, 1) := dk_28 (dk_at dksX3_laysLower_0 14 rfl rfl)
theorem dX3_laysLower_15 : decode cX3_laysLower 15 = .ok (.iload_n 3, 1) := dk_29 (dk_at dksX3_laysLower_0 15 rfl rfl)
theorem dX3_laysLower_16 : decode cX3_laysLower 16 = .ok (.iadd, 1) := dk_96 (dk_at dksX3_laysLower_0 16 rfl rfl)
theorem dX3_laysLower_17 : decode cX3_laysLower 17 = .ok (.iaload, 1) := dk_46 (dk_at dksX3_laysLower_0 17 rfl rfl)
theorem dX3_laysLower_18 : decode cX3_laysLower 18 = .ok (.iastore, 1) := dk_79 (dk_at dksX3_laysLower_0 18 rfl rfl)
theorem dX3_laysLower_19 : decode cX3_laysLower 19 = .ok (.iinc 3 1, 3) := dk_132 3 1 (dk_at dksX3_laysLower_0 19 rfl rfl)
theorem dX3_laysLower_22 : decode cX3_laysLower 22 = .ok (.goto (-20), 3) := dk_167 255 236 (dk_at dksX3_laysLower_1 0 rfl rfl)
theorem dX3_laysLower_25 : decode cX3_laysLower 25 = .ok (.return_, 1) := dk_177 (dk_at dksX3_laysLower_1 3 rfl rfl)
abbrev cX3_codes : ByteArray := prog_18_method_15_code
def yX3_codes : MethodName := ⟨RX3, "codes", "()V"⟩
def dkwX3_codes_6 : List UInt8 := [29, 27, 184, 0, 128, 100, 21, 6, 29, 100, 21, 6, 182, 0, 120, 21, 6, 60, 167, 255, 109, 177]
abbrev dktX3_codes_6 : List UInt8 := dkwX3_codes_6 ++ []
def dkwX3_codes_5 : List UInt8 := [42, 180, 0, 93, 160, 0, 10, 42, 180, 0, 93, 167, 0, 9, 42, 29, 28, 182, 0, 114, 54, 6, 42, 5]
abbrev dktX3_codes_5 : List UInt8 := dkwX3_codes_5 ++ dktX3_codes_6
def dkwX3_codes_4 : List UInt8 := [153, 0, 23, 42, 4, 29, 21, 4, 100, 3, 29, 182, 0, 120, 29, 60, 4, 28, 100, 61, 167, 0, 46, 29]
abbrev dktX3_codes_4 : List UInt8 := dkwX3_codes_4 ++ dktX3_codes_5
def dkwX3_codes_3 : List UInt8 := [3, 21, 5, 182, 0, 120, 21, 5, 60, 167, 0, 79, 29, 21, 4, 100, 16, 253, 6, 184, 0, 124]
abbrev dktX3_codes_3 : List UInt8 := dkwX3_codes_3 ++ dktX3_codes_4
def dkwX3_codes_2 : List UInt8 := [180, 0, 93, 167, 0, 10, 42, 21, 4, 5, 182, 0, 117, 54, 5, 21, 5, 29, 162, 0, 18, 42, 3, 3]
abbrev dktX3_codes_2 : List UInt8 := dkwX3_codes_2 ++ dktX3_codes_3
def dkwX3_codes_1 : List UInt8 := [182, 0, 114, 62, 42, 27, 28, 182, 0, 117, 54, 4, 21, 4, 42, 180, 0, 93, 160, 0, 10, 42]
abbrev dktX3_codes_1 : List UInt8 := dkwX3_codes_1 ++ dktX3_codes_2
def dkwX3_codes_0 : List UInt8 := [42, 3, 181, 0, 111, 2, 60, 3, 61, 27, 42, 180, 0, 93, 159, 0, 145, 42, 27, 4, 28, 100]
abbrev dktX3_codes_0 : List UInt8 := dkwX3_codes_0 ++ dktX3_codes_1
theorem dksX3_codes_0 : cX3_codes.data.toList.drop 0 = dktX3_codes_0 := by decide +kernel
theorem dksX3_codes_1 : cX3_codes.data.toList.drop 22 = dktX3_codes_1 := dk_seg dksX3_codes_0 22 rfl rfl
theorem dksX3_codes_2 : cX3_codes.data.toList.drop 44 = dktX3_codes_2 := dk_seg dksX3_codes_1 22 rfl rfl
theorem dksX3_codes_3 : cX3_codes.data.toList.drop 68 = dktX3_codes_3 := dk_seg dksX3_codes_2 24 rfl rfl
theorem dksX3_codes_4 : cX3_codes.data.toList.drop 90 = dktX3_codes_4 := dk_seg dksX3_codes_3 22 rfl rfl
theorem dksX3_codes_5 : cX3_codes.data.toList.drop 114 = dktX3_codes_5 := dk_seg dksX3_codes_4 24 rfl rfl
theorem dksX3_codes_6 : cX3_codes.data.toList.drop 138 = dktX3_codes_6 := dk_seg dksX3_codes_5 24 rfl rfl
theorem dX3_codes_0 : decode cX3_codes 0 = .ok (.aload_n 0, 1) := dk_42 (dk_at dksX3_codes_0 0 rfl rfl)
theorem dX3_codes_1 : decode cX3_codes 1 = .ok (.iconst 0, 1) := dk_3 (dk_at dksX3_codes_0 1 rfl rfl)
theorem dX3_codes_2 : decode cX3_codes 2 = .ok (.putfield 111, 3) := dk_181 0 111 (dk_at dksX3_codes_0 2 rfl rfl)
theorem dX3_codes_5 : decode cX3_codes 5 = .ok (.iconst (-1), 1) := dk_2 (dk_at dksX3_codes_0 5 rfl rfl)
theorem dX3_codes_6 : decode cX3_codes 6 = .ok (.istore_n 1, 1) := dk_60 (dk_at dksX3_codes_0 6 rfl rfl)
theorem dX3_codes_7 : decode cX3_codes 7 = .ok (.iconst 0, 1) := dk_3 (dk_at dksX3_codes_0 7 rfl rfl)
theorem dX3_codes_8 : decode cX3_codes 8 = .ok (.istore_n 2, 1) := dk_61 (dk_at dksX3_codes_0 8 rfl rfl)
theorem dX3_codes_9 : decode cX3_codes 9 = .ok (.iload_n 1, 1) := dk_27 (dk_at dksX3_codes_0 9 rfl rfl)
theorem dX3_codes_10 : decode cX3_codes 10 = .ok (.aload_n 0, 1) := dk_42 (dk_at dksX3_codes_0 10 rfl rfl)
theorem dX3_codes_11 : decode cX3_codes 11 = .ok (.getfield 93, 3) := dk_180 0 93 (dk_at dksX3_codes_0 11 rfl rfl)
theorem dX3_codes_14 : decode cX3_codes 14 = .ok (.if_icmp .eq 145, 3) := dk_159 0 145 (dk_at dksX3_codes_0 14 rfl rfl)
theorem dX3_codes_17 : decode cX3_codes 17 = .ok (.aload_n 0, 1) := dk_42 (dk_at dksX3_codes_0 17 rfl rfl)
theorem dX3_codes_18 : decode cX3_codes 18 = .ok (.iload_n 1, 1) := dk_27 (dk_at dksX3_codes_0 18 rfl rfl)
theorem dX3_codes_19 : decode cX3_codes 19 = .ok (.iconst 1, 1) := dk_4 (dk_at dksX3_codes_0 19 rfl rfl)
theorem dX3_codes_20 : decode cX3_codes 20 = .ok (.iload_n 2, 1) := dk_28 (dk_at dksX3_codes_0 20 rfl rfl)
theorem dX3_codes_21 : decode cX3_codes 21 = .ok (.isub, 1) := dk_100 (dk_at dksX3_codes_0 21 rfl rfl)
theorem dX3_codes_22 : decode cX3_codes 22 = .ok (.invokevirtual 114, 3) := dk_182 0 114 (dk_at dksX3_codes_1 0 rfl rfl)
theorem dX3_codes_25 : decode cX3_codes 25 = .ok (.istore_n 3, 1) := dk_62 (dk_at dksX3_codes_1 3 rfl rfl)
theorem dX3_codes_26 : decode cX3_codes 26 = .ok (.aload_n 0, 1) := dk_42 (dk_at dksX3_codes_1 4 rfl rfl)
theorem dX3_codes_27 : decode cX3_codes 27 = .ok (.iload_n 1, 1) := dk_27 (dk_at dksX3_codes_1 5 rfl rfl)
theorem dX3_codes_28 : decode cX3_codes 28 = .ok (.iload_n 2, 1) := dk_28 (dk_at dksX3_codes_1 6 rfl rfl)
theorem dX3_codes_29 : decode cX3_codes 29 = .ok (.invokevirtual 117, 3) := dk_182 0 117 (dk_at dksX3_codes_1 7 rfl rfl)
theorem dX3_codes_32 : decode cX3_codes 32 = .ok (.istore 4, 2) := dk_54 4 (dk_at dksX3_codes_1 10 rfl rfl)
theorem dX3_codes_34 : decode cX3_codes 34 = .ok (.iload 4, 2) := dk_21 4 (dk_at dksX3_codes_1 12 rfl rfl)
theorem dX3_codes_36 : decode cX3_codes 36 = .ok (.aload_n 0, 1) := dk_42 (dk_at dksX3_codes_1 14 rfl rfl)
theorem dX3_codes_37 : decode cX3_codes 37 = .ok (.getfield 93, 3) := dk_180 0 93 (dk_at dksX3_codes_1 15 rfl rfl)
theorem dX3_codes_40 : decode cX3_codes 40 = .ok (.if_icmp .ne 10, 3) := dk_160 0 10 (dk_at dksX3_codes_1 18 rfl rfl)
theorem dX3_codes_43 : decode cX3_codes 43 = .ok (.aload_n 0, 1) := dk_42 (dk_at dksX3_codes_1 21 rfl rfl)
theorem dX3_codes_44 : decode cX3_codes 44 = .ok (.getfield 93, 3) := dk_180 0 93 (dk_at dksX3_codes_2 0 rfl rfl)
theorem dX3_codes_47 : decode cX3_codes 47 = .ok (.goto 10, 3) := dk_167 0 10 (dk_at dksX3_codes_2 3 rfl rfl)
theorem dX3_codes_50 : decode cX3_codes 50 = .ok (.aload_n 0, 1) := dk_42 (dk_at dksX3_codes_2 6 rfl rfl)
theorem dX3_codes_51 : decode cX3_codes 51 = .ok (.iload 4, 2) := dk_21 4 (dk_at dksX3_codes_2 7 rfl rfl)
theorem dX3_codes_53 : decode cX3_codes 53 = .ok (.iconst 2, 1) := dk_5 (dk_at dksX3_codes_2 9 rfl rfl)
theorem dX3_codes_54 : decode cX3_codes 54 = .ok (.invokevirtual 117, 3) := dk_182 0 117 (dk_at dksX3_codes_2 10 rfl rfl)
theorem dX3_codes_57 : decode cX3_codes 57 = .ok (.istore 5, 2) := dk_54 5 (dk_at dksX3_codes_2 13 rfl rfl)
theorem dX3_codes_59 : decode cX3_codes 59 = .ok (.iload 5, 2) := dk_21 5 (dk_at dksX3_codes_2 15 rfl rfl)
theorem dX3_codes_61 : decode cX3_codes 61 = .ok (.iload_n 3, 1) := dk_29 (dk_at dksX3_codes_2 17 rfl rfl)
theorem dX3_codes_62 : decode cX3_codes 62 = .ok (.if_icmp .ge 18, 3) := dk_162 0 18 (dk_at dksX3_codes_2 18 rfl rfl)
theorem dX3_codes_65 : decode cX3_codes 65 = .ok (.aload_n 0, 1) := dk_42 (dk_at dksX3_codes_2 21 rfl rfl)
theorem dX3_codes_66 : decode cX3_codes 66 = .ok (.iconst 0, 1) := dk_3 (dk_at dksX3_codes_2 22 rfl rfl)
theorem dX3_codes_67 : decode cX3_codes 67 = .ok (.iconst 0, 1) := dk_3 (dk_at dksX3_codes_2 23 rfl rfl)
theorem dX3_codes_68 : decode cX3_codes 68 = .ok (.iconst 0, 1) := dk_3 (dk_at dksX3_codes_3 0 rfl rfl)
theorem dX3_codes_69 : decode cX3_codes 69 = .ok (.iload 5, 2) := dk_21 5 (dk_at dksX3_codes_3 1 rfl rfl)
theorem dX3_codes_71 : decode cX3_codes 71 = .ok (.invokevirtual 120, 3) := dk_182 0 120 (dk_at dksX3_codes_3 3 rfl rfl)
theorem dX3_codes_74 : decode cX3_codes 74 = .ok (.iload 5, 2) := dk_21 5 (dk_at dksX3_codes_3 6 rfl rfl)
theorem dX3_codes_76 : decode cX3_codes 76 = .ok (.istore_n 1, 1) := dk_60 (dk_at dksX3_codes_3 8 rfl rfl)
theorem dX3_codes_77 : decode cX3_codes 77 = .ok (.goto 79, 3) := dk_167 0 79 (dk_at dksX3_codes_3 9 rfl rfl)
theorem dX3_codes_80 : decode cX3_codes 80 = .ok (.iload_n 3, 1) := dk_29 (dk_at dksX3_codes_3 12 rfl rfl)
theorem dX3_codes_81 : decode cX3_codes 81 = .ok (.iload 4, 2) := dk_21 4 (dk_at dksX3_codes_3 13 rfl rfl)
theorem dX3_codes_83 : decode cX3_codes 83 = .ok (.isub, 1) := dk_100 (dk_at dksX3_codes_3 15 rfl rfl)
theorem dX3_codes_84 : decode cX3_codes 84 = .ok (.bipush (-3), 2) := dk_16 253 (dk_at dksX3_codes_3 16 rfl rfl)
theorem dX3_codes_86 : decode cX3_codes 86 = .ok (.iconst 3, 1) := dk_6 (dk_at dksX3_codes_3 18 rfl rfl)
theorem dX3_codes_87 : decode cX3_codes 87 = .ok (.invokestatic 124, 3) := dk_184 0 124 (dk_at dksX3_codes_3 19 rfl rfl)
theorem dX3_codes_90 : decode cX3_codes 90 = .ok (.ifCond .eq 23, 3) := dk_153 0 23 (dk_at dksX3_codes_4 0 rfl rfl)
theorem dX3_codes_93 : decode cX3_codes 93 = .ok (.aload_n 0, 1) := dk_42 (dk_at dksX3_codes_4 3 rfl rfl)
theorem dX3_codes_94 : decode cX3_codes 94 = .ok (.iconst 1, 1) := dk_4 (dk_at dksX3_codes_4 4 rfl rfl)
theorem dX3_codes_95 : decode cX3_codes 95 = .ok (.iload_n 3, 1) := dk_29 (dk_at dksX3_codes_4 5 rfl rfl)
theorem dX3_codes_96 : decode cX3_codes 96 = .ok (.iload 4, 2) := dk_21 4 (dk_at dksX3_codes_4 6 rfl rfl)
theorem dX3_codes_98 : decode cX3_codes 98 = .ok (.isub, 1) := dk_100 (dk_at dksX3_codes_4 8 rfl rfl)
theorem dX3_codes_99 : decode cX3_codes 99 = .ok (.iconst 0, 1) := dk_3 (dk_at dksX3_codes_4 9 rfl rfl)
theorem dX3_codes_100 : decode cX3_codes 100 = .ok (.iload_n 3, 1) := dk_29 (dk_at dksX3_codes_4 10 rfl rfl)
theorem dX3_codes_101 : decode cX3_codes 101 = .ok (.invokevirtual 120, 3) := dk_182 0 120 (dk_at dksX3_codes_4 11 rfl rfl)
theorem dX3_codes_104 : decode cX3_codes 104 = .ok (.iload_n 3, 1) := dk_29 (dk_at dksX3_codes_4 14 rfl rfl)
theorem dX3_codes_105 : decode cX3_codes 105 = .ok (.istore_n 1, 1) := dk_60 (dk_at dksX3_codes_4 15 rfl rfl)
theorem dX3_codes_106 : decode cX3_codes 106 = .ok (.iconst 1, 1) := dk_4 (dk_at dksX3_codes_4 16 rfl rfl)
theorem dX3_codes_107 : decode cX3_codes 107 = .ok (.iload_n 2, 1) := dk_28 (dk_at dksX3_codes_4 17 rfl rfl)
theorem dX3_codes_108 : decode cX3_codes 108 = .ok (.isub, 1) := dk_100 (dk_at dksX3_codes_4 18 rfl rfl)
theorem dX3_codes_109 : decode cX3_codes 109 = .ok (.istore_n 2, 1) := dk_61 (dk_at dksX3_codes_4 19 rfl rfl)
theorem dX3_codes_110 : decode cX3_codes 110 = .ok (.goto 46, 3) := dk_167 0 46 (dk_at dksX3_codes_4 20 rfl rfl)
theorem dX3_codes_113 : decode cX3_codes 113 = .ok (.iload_n 3, 1) := dk_29 (dk_at dksX3_codes_4 23 rfl rfl)
theorem dX3_codes_114 : decode cX3_codes 114 = .ok (.aload_n 0, 1) := dk_42 (dk_at dksX3_codes_5 0 rfl rfl)
theorem dX3_codes_115 : decode cX3_codes 115 = .ok (.getfield 93, 3) := dk_180 0 93 (dk_at dksX3_codes_5 1 rfl rfl)
theorem dX3_codes_118 : decode cX3_codes 118 = .ok (.if_icmp .ne 10, 3) := dk_160 0 10 (dk_at dksX3_codes_5 4 rfl rfl)
theorem dX3_codes_121 : decode cX3_codes 121 = .ok (.aload_n 0, 1) := dk_42 (dk_at dksX3_codes_5 7 rfl rfl)
theorem dX3_codes_122 : decode cX3_codes 122 = .ok (.getfield 93, 3) := dk_180 0 93 (dk_at dksX3_codes_5 8 rfl rfl)
theorem dX3_codes_125 : decode cX3_codes 125 = .ok (.goto 9, 3) := dk_167 0 9 (dk_at dksX3_codes_5 11 rfl rfl)
theorem dX3_codes_128 : decode cX3_codes 128 = .ok (.aload_n 0, 1) := dk_42 (dk_at dksX3_codes_5 14 rfl rfl)
theorem dX3_codes_129 : decode cX3_codes 129 = .ok (.iload_n 3, 1) := dk_29 (dk_at dksX3_codes_5 15 rfl rfl)
theorem dX3_codes_130 : decode cX3_codes 130 = .ok (.iload_n 2, 1) := dk_28 (dk_at dksX3_codes_5 16 rfl rfl)
theorem dX3_codes_131 : decode cX3_codes 131 = .ok (.invokevirtual 114, 3) := dk_182 0 114 (dk_at dksX3_codes_5 17 rfl rfl)
theorem dX3_codes_134 : decode cX3_codes 134 = .ok (.istore 6, 2) := dk_54 6 (dk_at dksX3_codes_5 20 rfl rfl)
theorem dX3_codes_136 : decode cX3_codes 136 = .ok (.aload_n 0, 1) := dk_42 (dk_at dksX3_codes_5 22 rfl rfl)
theorem dX3_codes_137 : decode cX3_codes 137 = .ok (.iconst 2, 1) := dk_5 (dk_at dksX3_codes_5 23 rfl rfl)
theorem dX3_codes_138 : decode cX3_codes 138 = .ok (.iload_n 3, 1) := dk_29 (dk_at dksX3_codes_6 0 rfl rfl)
theorem dX3_codes_139 : decode cX3_codes 139 = .ok (.iload_n 1, 1) := dk_27 (dk_at dksX3_codes_6 1 rfl rfl)
theorem dX3_codes_140 : decode cX3_codes 140 = .ok (.invokestatic 128, 3) := dk_184 0 128 (dk_at dksX3_codes_6 2 rfl rfl)
theorem dX3_codes_143 : decode cX3_codes 143 = .ok (.isub, 1) := dk_100 (dk_at dksX3_codes_6 5 rfl rfl)
theorem dX3_codes_144 : decode cX3_codes 144 = .ok (.iload 6, 2) := dk_21 6 (dk_at dksX3_codes_6 6 rfl rfl)
theorem dX3_codes_146 : decode cX3_codes 146 = .ok (.iload_n 3, 1) := dk_29 (dk_at dksX3_codes_6 8 rfl rfl)
theorem dX3_codes_147 : decode cX3_codes 147 = .ok (.isub, 1) := dk_100 (dk_at dksX3_codes_6 9 rfl rfl)
theorem dX3_codes_148 : decode cX3_codes 148 = .ok (.iload 6, 2) := dk_21 6 (dk_at dksX3_codes_6 10 rfl rfl)
theorem dX3_codes_150 : decode cX3_codes 150 = .ok (.invokevirtual 120, 3) := dk_182 0 120 (dk_at dksX3_codes_6 12 rfl rfl)
theorem dX3_codes_153 : decode cX3_codes 153 = .ok (.iload 6, 2) := dk_21 6 (dk_at dksX3_codes_6 15 rfl rfl)
theorem dX3_codes_155 : decode cX3_codes 155 = .ok (.istore_n 1, 1) := dk_60 (dk_at dksX3_codes_6 17 rfl rfl)
theorem dX3_codes_156 : decode cX3_codes 156 = .ok (.goto (-147), 3) := dk_167 255 109 (dk_at dksX3_codes_6 18 rfl rfl)
theorem dX3_codes_159 : decode cX3_codes 159 = .ok (.return_, 1) := dk_177 (dk_at dksX3_codes_6 21 rfl rfl)
abbrev cX3_dotBehind : ByteArray := prog_18_method_12_code
def yX3_dotBehind : MethodName := ⟨RX3, "dotBehind", "(II)I"⟩
def dkwX3_dotBehind_1 : List UInt8 := [132, 3, 1, 167, 255, 235, 29, 42, 180, 0, 93, 162, 0, 7, 29, 167, 0, 7, 42, 180, 0, 93, 172]
abbrev dktX3_dotBehind_1 : List UInt8 := dkwX3_dotBehind_1 ++ []
def dkwX3_dotBehind_0 : List UInt8 := [27, 4, 96, 62, 29, 42, 180, 0, 93, 162, 0, 19, 42, 180, 0, 29, 29, 46, 28, 159, 0, 9]
abbrev dktX3_dotBehind_0 : List UInt8 := dkwX3_dotBehind_0 ++ dktX3_dotBehind_1
theorem dksX3_dotBehind_0 : cX3_dotBehind.data.toList.drop 0 = dktX3_dotBehind_0 := by decide +kernel
theorem dksX3_dotBehind_1 : cX3_dotBehind.data.toList.drop 22 = dktX3_dotBehind_1 := dk_seg dksX3_dotBehind_0 22 rfl rfl
theorem dX3_dotBehind_0 : decode cX3_dotBehind 0 = .ok (.iload_n 1, 1) := dk_27 (dk_at dksX3_dotBehind_0 0 rfl rfl)
theorem dX3_dotBehind_1 : decode cX3_dotBehind 1 = .ok (.iconst 1, 1) := dk_4 (dk_at dksX3_dotBehind_0 1 rfl rfl)
theorem dX3_dotBehind_2 : decode cX3_dotBehind 2 = .ok (.iadd, 1) := dk_96 (dk_at dksX3_dotBehind_0 2 rfl rfl)
theorem dX3_dotBehind_3 : decode cX3_dotBehind 3 = .ok (.istore_n 3, 1) := dk_62 (dk_at dksX3_dotBehind_0 3 rfl rfl)
theorem dX3_dotBehind_4 : decode cX3_dotBehind 4 = .ok (.iload_n 3, 1) := dk_29 (dk_at dksX3_dotBehind_0 4 rfl rfl)
theorem dX3_dotBehind_5 : decode cX3_dotBehind 5 = .ok (.aload_n 0, 1) := dk_42 (dk_at dksX3_dotBehind_0 5 rfl rfl)
theorem dX3_dotBehind_6 : decode cX3_dotBehind 6 = .ok (.getfield 93, 3) := dk_180 0 93 (dk_at dksX3_dotBehind_0 6 rfl rfl)
theorem dX3_dotBehind_9 : decode cX3_dotBehind 9 = .ok (.if_icmp .ge 19, 3) := dk_162 0 19 (dk_at dksX3_dotBehind_0 9 rfl rfl)
theorem dX3_dotBehind_12 : decode cX3_dotBehind 12 = .ok (.aload_n 0, 1) := dk_42 (dk_at dksX3_dotBehind_0 12 rfl rfl)
theorem dX3_dotBehind_13 : decode cX3_dotBehind 13 = .ok (.getfield 29, 3) := dk_180 0 29 (dk_at dksX3_dotBehind_0 13 rfl rfl)
theorem dX3_dotBehind_16 : decode cX3_dotBehind 16 = .ok (.iload_n 3, 1) := dk_29 (dk_at dksX3_dotBehind_0 16 rfl rfl)
theorem dX3_dotBehind_17 : decode cX3_dotBehind 17 = .ok (.iaload, 1) := dk_46 (dk_at dksX3_dotBehind_0 17 rfl rfl)
theorem dX3_dotBehind_18 : decode cX3_dotBehind 18 = .ok (.iload_n 2, 1) := dk_28 (dk_at dksX3_dotBehind_0 18 rfl rfl)
theorem dX3_dotBehind_19 : decode cX3_dotBehind 19 = .ok (.if_icmp .eq 9, 3) := dk_159 0 9 (dk_at dksX3_dotBehind_0 19 rfl rfl)
theorem dX3_dotBehind_22 : decode cX3_dotBehind 22 = .ok (.iinc 3 1, 3) := dk_132 3 1 (dk_at dksX3_dotBehind_1 0 rfl rfl)
theorem dX3_dotBehind_25 : decode cX3_dotBehind 25 = .ok (.goto (-21), 3) := dk_167 255 235 (dk_at dksX3_dotBehind_1 3 rfl rfl)
theorem dX3_dotBehind_28 : decode cX3_dotBehind 28 = .ok (.iload_n 3, 1) := dk_29 (dk_at dksX3_dotBehind_1 6 rfl rfl)
theorem dX3_dotBehind_29 : decode cX3_dotBehind 29 = .ok (.aload_n 0, 1) := dk_42 (dk_at dksX3_dotBehind_1 7 rfl rfl)
theorem dX3_dotBehind_30 : decode cX3_dotBehind 30 = .ok (.getfield 93, 3) := dk_180 0 93 (dk_at dksX3_dotBehind_1 8 rfl rfl)
theorem dX3_dotBehind_33 : decode cX3_dotBehind 33 = .ok (.if_icmp .ge 7, 3) := dk_162 0 7 (dk_at dksX3_dotBehind_1 11 rfl rfl)
theorem dX3_dotBehind_36 : decode cX3_dotBehind 36 = .ok (.iload_n 3, 1) := dk_29 (dk_at dksX3_dotBehind_1 14 rfl rfl)
theorem dX3_dotBehind_37 : decode cX3_dotBehind 37 = .ok (.goto 7, 3) := dk_167 0 7 (dk_at dksX3_dotBehind_1 15 rfl rfl)
theorem dX3_dotBehind_40 : decode cX3_dotBehind 40 = .ok (.aload_n 0, 1) := dk_42 (dk_at dksX3_dotBehind_1 18 rfl rfl)
theorem dX3_dotBehind_41 : decode cX3_dotBehind 41 = .ok (.getfield 93, 3) := dk_180 0 93 (dk_at dksX3_dotBehind_1 19 rfl rfl)
theorem dX3_dotBehind_44 : decode cX3_dotBehind 44 = .ok (.ireturn, 1) := dk_172 (dk_at dksX3_dotBehind_1 22 rfl rfl)
abbrev cX3_changeBehind : ByteArray := prog_18_method_11_code
def yX3_changeBehind : MethodName := ⟨RX3, "changeBehind", "(II)I"⟩
def dkwX3_changeBehind_2 : List UInt8 := [42, 180, 0, 93, 172]
abbrev dktX3_changeBehind_2 : List UInt8 := dkwX3_changeBehind_2 ++ []
def dkwX3_changeBehind_1 : List UInt8 := [29, 46, 28, 160, 0, 9, 132, 3, 1, 167, 255, 227, 29, 42, 180, 0, 93, 162, 0, 7, 29, 167, 0, 7]
abbrev dktX3_changeBehind_1 : List UInt8 := dkwX3_changeBehind_1 ++ dktX3_changeBehind_2
def dkwX3_changeBehind_0 : List UInt8 := [27, 4, 96, 62, 29, 42, 180, 0, 93, 162, 0, 27, 42, 29, 182, 0, 107, 153, 0, 13, 42, 180, 0, 26]
abbrev dktX3_changeBehind_0 : List UInt8 := dkwX3_changeBehind_0 ++ dktX3_changeBehind_1
theorem dksX3_changeBehind_0 : cX3_changeBehind.data.toList.drop 0 = dktX3_changeBehind_0 := by decide +kernel
theorem dksX3_changeBehind_1 : cX3_changeBehind.data.toList.drop 24 = dktX3_changeBehind_1 := dk_seg dksX3_changeBehind_0 24 rfl rfl
theorem dksX3_changeBehind_2 : cX3_changeBehind.data.toList.drop 48 = dktX3_changeBehind_2 := dk_seg dksX3_changeBehind_1 24 rfl rfl
theorem dX3_changeBehind_0 : decode cX3_changeBehind 0 = .ok (.iload_n 1, 1) := dk_27 (dk_at dksX3_changeBehind_0 0 rfl rfl)
theorem dX3_changeBehind_1 : decode cX3_changeBehind 1 = .ok (.iconst 1, 1) := dk_4 (dk_at dksX3_changeBehind_0 1 rfl rfl)
theorem dX3_changeBehind_2 : decode cX3_changeBehind 2 = .ok (.iadd, 1) := dk_96 (dk_at dksX3_changeBehind_0 2 rfl rfl)
theorem dX3_changeBehind_3 : decode cX3_changeBehind 3 = .ok (.istore_n 3, 1) := dk_62 (dk_at dksX3_changeBehind_0 3 rfl rfl)
theorem dX3_changeBehind_4 : decode cX3_changeBehind 4 = .ok (.iload_n 3, 1) := dk_29 (dk_at dksX3_changeBehind_0 4 rfl rfl)
theorem dX3_changeBehind_5 : decode cX3_changeBehind 5 = .ok (.aload_n 0, 1) := dk_42 (dk_at dksX3_changeBehind_0 5 rfl rfl)
theorem dX3_changeBehind_6 : decode cX3_changeBehind 6 = .ok (.getfield 93, 3) := dk_180 0 93 (dk_at dksX3_changeBehind_0 6 rfl rfl)
theorem dX3_changeBehind_9 : decode cX3_changeBehind 9 = .ok (.if_icmp .ge 27, 3) := dk_162 0 27 (dk_at dksX3_changeBehind_0 9 rfl rfl)
theorem dX3_changeBehind_12 : decode cX3_changeBehind 12 = .ok (.aload_n 0, 1) := dk_42 (dk_at dksX3_changeBehind_0 12 rfl rfl)
theorem dX3_changeBehind_13 : decode cX3_changeBehind 13 = .ok (.iload_n 3, 1) := dk_29 (dk_at dksX3_changeBehind_0 13 rfl rfl)
theorem dX3_changeBehind_14 : decode cX3_changeBehind 14 = .ok (.invokevirtual 107, 3) := dk_182 0 107 (dk_at dksX3_changeBehind_0 14 rfl rfl)
theorem dX3_changeBehind_17 : decode cX3_changeBehind 17 = .ok (.ifCond .eq 13, 3) := dk_153 0 13 (dk_at dksX3_changeBehind_0 17 rfl rfl)
theorem dX3_changeBehind_20 : decode cX3_changeBehind 20 = .ok (.aload_n 0, 1) := dk_42 (dk_at dksX3_changeBehind_0 20 rfl rfl)
theorem dX3_changeBehind_21 : decode cX3_changeBehind 21 = .ok (.getfield 26, 3) := dk_180 0 26 (dk_at dksX3_changeBehind_0 21 rfl rfl)
theorem dX3_changeBehind_24 : decode cX3_changeBehind 24 = .ok (.iload_n 3, 1) := dk_29 (dk_at dksX3_changeBehind_1 0 rfl rfl)
theorem dX3_changeBehind_25 : decode cX3_changeBehind 25 = .ok (.iaload, 1) := dk_46 (dk_at dksX3_changeBehind_1 1 rfl rfl)
theorem dX3_changeBehind_26 : decode cX3_changeBehind 26 = .ok (.iload_n 2, 1) := dk_28 (dk_at dksX3_changeBehind_1 2 rfl rfl)
theorem dX3_changeBehind_27 : decode cX3_changeBehind 27 = .ok (.if_icmp .ne 9, 3) := dk_160 0 9 (dk_at dksX3_changeBehind_1 3 rfl rfl)
theorem dX3_changeBehind_30 : decode cX3_changeBehind 30 = .ok (.iinc 3 1, 3) := dk_132 3 1 (dk_at dksX3_changeBehind_1 6 rfl rfl)
theorem dX3_changeBehind_33 : decode cX3_changeBehind 33 = .ok (.goto (-29), 3) := dk_167 255 227 (dk_at dksX3_changeBehind_1 9 rfl rfl)
theorem dX3_changeBehind_36 : decode cX3_changeBehind 36 = .ok (.iload_n 3, 1) := dk_29 (dk_at dksX3_changeBehind_1 12 rfl rfl)
theorem dX3_changeBehind_37 : decode cX3_changeBehind 37 = .ok (.aload_n 0, 1) := dk_42 (dk_at dksX3_changeBehind_1 13 rfl rfl)
theorem dX3_changeBehind_38 : decode cX3_changeBehind 38 = .ok (.getfield 93, 3) := dk_180 0 93 (dk_at dksX3_changeBehind_1 14 rfl rfl)
theorem dX3_changeBehind_41 : decode cX3_changeBehind 41 = .ok (.if_icmp .ge 7, 3) := dk_162 0 7 (dk_at dksX3_changeBehind_1 17 rfl rfl)
theorem dX3_changeBehind_44 : decode cX3_changeBehind 44 = .ok (.iload_n 3, 1) := dk_29 (dk_at dksX3_changeBehind_1 20 rfl rfl)
theorem dX3_changeBehind_45 : decode cX3_changeBehind 45 = .ok (.goto 7, 3) := dk_167 0 7 (dk_at dksX3_changeBehind_1 21 rfl rfl)
theorem dX3_changeBehind_48 : decode cX3_changeBehind 48 = .ok (.aload_n 0, 1) := dk_42 (dk_at dksX3_changeBehind_2 0 rfl rfl)
theorem dX3_changeBehind_49 : decode cX3_changeBehind 49 = .ok (.getfield 93, 3) := dk_180 0 93 (dk_at dksX3_changeBehind_2 1 rfl rfl)
theorem dX3_changeBehind_52 : decode cX3_changeBehind 52 = .ok (.ireturn, 1) := dk_172 (dk_at dksX3_changeBehind_2 4 rfl rfl)
abbrev cX3_isChange : ByteArray := prog_18_method_10_code
def yX3_isChange : MethodName := ⟨RX3, "isChange", "(I)Z"⟩
def dkwX3_isChange_1 : List UInt8 := [159, 0, 7, 4, 167, 0, 4, 3, 172]
abbrev dktX3_isChange_1 : List UInt8 := dkwX3_isChange_1 ++ []
def dkwX3_isChange_0 : List UInt8 := [42, 180, 0, 26, 27, 46, 27, 154, 0, 7, 3, 167, 0, 11, 42, 180, 0, 26, 27, 4, 100, 46]
abbrev dktX3_isChange_0 : List UInt8 := dkwX3_isChange_0 ++ dktX3_isChange_1
theorem dksX3_isChange_0 : cX3_isChange.data.toList.drop 0 = dktX3_isChange_0 := by decide +kernel
theorem dksX3_isChange_1 : cX3_isChange.data.toList.drop 22 = dktX3_isChange_1 := dk_seg dksX3_isChange_0 22 rfl rfl
theorem dX3_isChange_0 : decode cX3_isChange 0 = .ok (.aload_n 0, 1) := dk_42 (dk_at dksX3_isChange_0 0 rfl rfl)
theorem dX3_isChange_1 : decode cX3_isChange 1 = .ok (.getfield 26, 3) := dk_180 0 26 (dk_at dksX3_isChange_0 1 rfl rfl)
theorem dX3_isChange_4 : decode cX3_isChange 4 = .ok (.iload_n 1, 1) := dk_27 (dk_at dksX3_isChange_0 4 rfl rfl)
theorem dX3_isChange_5 : decode cX3_isChange 5 = .ok (.iaload, 1) := dk_46 (dk_at dksX3_isChange_0 5 rfl rfl)
theorem dX3_isChange_6 : decode cX3_isChange 6 = .ok (.iload_n 1, 1) := dk_27 (dk_at dksX3_isChange_0 6 rfl rfl)
theorem dX3_isChange_7 : decode cX3_isChange 7 = .ok (.ifCond .ne 7, 3) := dk_154 0 7 (dk_at dksX3_isChange_0 7 rfl rfl)
theorem dX3_isChange_10 : decode cX3_isChange 10 = .ok (.iconst 0, 1) := dk_3 (dk_at dksX3_isChange_0 10 rfl rfl)
theorem dX3_isChange_11 : decode cX3_isChange 11 = .ok (.goto 11, 3) := dk_167 0 11 (dk_at dksX3_isChange_0 11 rfl rfl)
theorem dX3_isChange_14 : decode cX3_isChange 14 = .ok (.aload_n 0, 1) := dk_42 (dk_at dksX3_isChange_0 14 rfl rfl)
theorem dX3_isChange_15 : decode cX3_isChange 15 = .ok (.getfield 26, 3) := dk_180 0 26 (dk_at dksX3_isChange_0 15 rfl rfl)
theorem dX3_isChange_18 : decode cX3_isChange 18 = .ok (.iload_n 1, 1) := dk_27 (dk_at dksX3_isChange_0 18 rfl rfl)
theorem dX3_isChange_19 : decode cX3_isChange 19 = .ok (.iconst 1, 1) := dk_4 (dk_at dksX3_isChange_0 19 rfl rfl)
theorem dX3_isChange_20 : decode cX3_isChange 20 = .ok (.isub, 1) := dk_100 (dk_at dksX3_isChange_0 20 rfl rfl)
theorem dX3_isChange_21 : decode cX3_isChange 21 = .ok (.iaload, 1) := dk_46 (dk_at dksX3_isChange_0 21 rfl rfl)
theorem dX3_isChange_22 : decode cX3_isChange 22 = .ok (.if_icmp .eq 7, 3) := dk_159 0 7 (dk_at dksX3_isChange_1 0 rfl rfl)
theorem dX3_isChange_25 : decode cX3_isChange 25 = .ok (.iconst 1, 1) := dk_4 (dk_at dksX3_isChange_1 3 rfl rfl)
theorem dX3_isChange_26 : decode cX3_isChange 26 = .ok (.goto 4, 3) := dk_167 0 4 (dk_at dksX3_isChange_1 4 rfl rfl)
theorem dX3_isChange_29 : decode cX3_isChange 29 = .ok (.iconst 0, 1) := dk_3 (dk_at dksX3_isChange_1 7 rfl rfl)
theorem dX3_isChange_30 : decode cX3_isChange 30 = .ok (.ireturn, 1) := dk_172 (dk_at dksX3_isChange_1 8 rfl rfl)
abbrev cX3_adds : ByteArray := prog_18_method_13_code
def yX3_adds : MethodName := ⟨RX3, "adds", "(IIII)V"⟩
def dkwX3_adds_2 : List UInt8 := [181, 0, 111, 177]
abbrev dktX3_adds_2 : List UInt8 := dkwX3_adds_2 ++ []
def dkwX3_adds_1 : List UInt8 := [42, 180, 0, 111, 29, 79, 42, 180, 0, 41, 42, 180, 0, 111, 21, 4, 79, 42, 89, 180, 0, 111, 4, 96]
abbrev dktX3_adds_1 : List UInt8 := dkwX3_adds_1 ++ dktX3_adds_2
def dkwX3_adds_0 : List UInt8 := [42, 180, 0, 32, 42, 180, 0, 111, 27, 79, 42, 180, 0, 35, 42, 180, 0, 111, 28, 79, 42, 180, 0, 38]
abbrev dktX3_adds_0 : List UInt8 := dkwX3_adds_0 ++ dktX3_adds_1
theorem dksX3_adds_0 : cX3_adds.data.toList.drop 0 = dktX3_adds_0 := by decide +kernel
theorem dksX3_adds_1 : cX3_adds.data.toList.drop 24 = dktX3_adds_1 := dk_seg dksX3_adds_0 24 rfl rfl
theorem dksX3_adds_2 : cX3_adds.data.toList.drop 48 = dktX3_adds_2 := dk_seg dksX3_adds_1 24 rfl rfl
theorem dX3_adds_0 : decode cX3_adds 0 = .ok (.aload_n 0, 1) := dk_42 (dk_at dksX3_adds_0 0 rfl rfl)
theorem dX3_adds_1 : decode cX3_adds 1 = .ok (.getfield 32, 3) := dk_180 0 32 (dk_at dksX3_adds_0 1 rfl rfl)
theorem dX3_adds_4 : decode cX3_adds 4 = .ok (.aload_n 0, 1) := dk_42 (dk_at dksX3_adds_0 4 rfl rfl)
theorem dX3_adds_5 : decode cX3_adds 5 = .ok (.getfield 111, 3) := dk_180 0 111 (dk_at dksX3_adds_0 5 rfl rfl)
theorem dX3_adds_8 : decode cX3_adds 8 = .ok (.iload_n 1, 1) := dk_27 (dk_at dksX3_adds_0 8 rfl rfl)
theorem dX3_adds_9 : decode cX3_adds 9 = .ok (.iastore, 1) := dk_79 (dk_at dksX3_adds_0 9 rfl rfl)
theorem dX3_adds_10 : decode cX3_adds 10 = .ok (.aload_n 0, 1) := dk_42 (dk_at dksX3_adds_0 10 rfl rfl)
theorem dX3_adds_11 : decode cX3_adds 11 = .ok (.getfield 35, 3) := dk_180 0 35 (dk_at dksX3_adds_0 11 rfl rfl)
theorem dX3_adds_14 : decode cX3_adds 14 = .ok (.aload_n 0, 1) := dk_42 (dk_at dksX3_adds_0 14 rfl rfl)
theorem dX3_adds_15 : decode cX3_adds 15 = .ok (.getfield 111, 3) := dk_180 0 111 (dk_at dksX3_adds_0 15 rfl rfl)
theorem dX3_adds_18 : decode cX3_adds 18 = .ok (.iload_n 2, 1) := dk_28 (dk_at dksX3_adds_0 18 rfl rfl)
theorem dX3_adds_19 : decode cX3_adds 19 = .ok (.iastore, 1) := dk_79 (dk_at dksX3_adds_0 19 rfl rfl)
theorem dX3_adds_20 : decode cX3_adds 20 = .ok (.aload_n 0, 1) := dk_42 (dk_at dksX3_adds_0 20 rfl rfl)
theorem dX3_adds_21 : decode cX3_adds 21 = .ok (.getfield 38, 3) := dk_180 0 38 (dk_at dksX3_adds_0 21 rfl rfl)
theorem dX3_adds_24 : decode cX3_adds 24 = .ok (.aload_n 0, 1) := dk_42 (dk_at dksX3_adds_1 0 rfl rfl)
theorem dX3_adds_25 : decode cX3_adds 25 = .ok (.getfield 111, 3) := dk_180 0 111 (dk_at dksX3_adds_1 1 rfl rfl)
theorem dX3_adds_28 : decode cX3_adds 28 = .ok (.iload_n 3, 1) := dk_29 (dk_at dksX3_adds_1 4 rfl rfl)
theorem dX3_adds_29 : decode cX3_adds 29 = .ok (.iastore, 1) := dk_79 (dk_at dksX3_adds_1 5 rfl rfl)
theorem dX3_adds_30 : decode cX3_adds 30 = .ok (.aload_n 0, 1) := dk_42 (dk_at dksX3_adds_1 6 rfl rfl)
theorem dX3_adds_31 : decode cX3_adds 31 = .ok (.getfield 41, 3) := dk_180 0 41 (dk_at dksX3_adds_1 7 rfl rfl)
theorem dX3_adds_34 : decode cX3_adds 34 = .ok (.aload_n 0, 1) := dk_42 (dk_at dksX3_adds_1 10 rfl rfl)
theorem dX3_adds_35 : decode cX3_adds 35 = .ok (.getfield 111, 3) := dk_180 0 111 (dk_at dksX3_adds_1 11 rfl rfl)
theorem dX3_adds_38 : decode cX3_adds 38 = .ok (.iload 4, 2) := dk_21 4 (dk_at dksX3_adds_1 14 rfl rfl)
theorem dX3_adds_40 : decode cX3_adds 40 = .ok (.iastore, 1) := dk_79 (dk_at dksX3_adds_1 16 rfl rfl)
theorem dX3_adds_41 : decode cX3_adds 41 = .ok (.aload_n 0, 1) := dk_42 (dk_at dksX3_adds_1 17 rfl rfl)
theorem dX3_adds_42 : decode cX3_adds 42 = .ok (.dup, 1) := dk_89 (dk_at dksX3_adds_1 18 rfl rfl)
theorem dX3_adds_43 : decode cX3_adds 43 = .ok (.getfield 111, 3) := dk_180 0 111 (dk_at dksX3_adds_1 19 rfl rfl)
theorem dX3_adds_46 : decode cX3_adds 46 = .ok (.iconst 1, 1) := dk_4 (dk_at dksX3_adds_1 22 rfl rfl)
theorem dX3_adds_47 : decode cX3_adds 47 = .ok (.iadd, 1) := dk_96 (dk_at dksX3_adds_1 23 rfl rfl)
theorem dX3_adds_48 : decode cX3_adds 48 = .ok (.putfield 111, 3) := dk_181 0 111 (dk_at dksX3_adds_2 0 rfl rfl)
theorem dX3_adds_51 : decode cX3_adds 51 = .ok (.return_, 1) := dk_177 (dk_at dksX3_adds_2 3 rfl rfl)
abbrev cX3_least0 : ByteArray := prog_18_method_14_code
def yX3_least0 : MethodName := ⟨RX3, "least0", "(I)I"⟩
def dkwX3_least0_0 : List UInt8 := [26, 156, 0, 7, 3, 167, 0, 4, 26, 172]
abbrev dktX3_least0_0 : List UInt8 := dkwX3_least0_0 ++ []
theorem dksX3_least0_0 : cX3_least0.data.toList.drop 0 = dktX3_least0_0 := by decide +kernel
theorem dX3_least0_0 : decode cX3_least0 0 = .ok (.iload_n 0, 1) := dk_26 (dk_at dksX3_least0_0 0 rfl rfl)
theorem dX3_least0_1 : decode cX3_least0 1 = .ok (.ifCond .ge 7, 3) := dk_156 0 7 (dk_at dksX3_least0_0 1 rfl rfl)
theorem dX3_least0_4 : decode cX3_least0 4 = .ok (.iconst 0, 1) := dk_3 (dk_at dksX3_least0_0 4 rfl rfl)
theorem dX3_least0_5 : decode cX3_least0 5 = .ok (.goto 4, 3) := dk_167 0 4 (dk_at dksX3_least0_0 5 rfl rfl)
theorem dX3_least0_8 : decode cX3_least0 8 = .ok (.iload_n 0, 1) := dk_26 (dk_at dksX3_least0_0 8 rfl rfl)
theorem dX3_least0_9 : decode cX3_least0 9 = .ok (.ireturn, 1) := dk_172 (dk_at dksX3_least0_0 9 rfl rfl)
abbrev cX3_codesAlone : ByteArray := prog_18_method_22_code
def yX3_codesAlone : MethodName := ⟨RX3, "codesAlone", "()V"⟩
def dkwX3_codesAlone_3 : List UInt8 := [181, 0, 151, 29, 61, 4, 27, 100, 60, 167, 255, 187, 177]
abbrev dktX3_codesAlone_3 : List UInt8 := dkwX3_codesAlone_3 ++ []
def dkwX3_codesAlone_2 : List UInt8 := [167, 255, 235, 42, 180, 0, 47, 42, 180, 0, 151, 29, 28, 100, 79, 42, 89, 180, 0, 151, 4, 96]
abbrev dktX3_codesAlone_2 : List UInt8 := dkwX3_codesAlone_2 ++ dktX3_codesAlone_3
def dkwX3_codesAlone_1 : List UInt8 := [28, 62, 29, 42, 180, 0, 93, 162, 0, 19, 42, 180, 0, 29, 29, 46, 27, 160, 0, 9, 132, 3, 1]
abbrev dktX3_codesAlone_1 : List UInt8 := dkwX3_codesAlone_1 ++ dktX3_codesAlone_2
def dkwX3_codesAlone_0 : List UInt8 := [42, 3, 181, 0, 151, 3, 60, 3, 61, 28, 42, 180, 0, 93, 161, 0, 10, 42, 180, 0, 151, 154, 0, 60]
abbrev dktX3_codesAlone_0 : List UInt8 := dkwX3_codesAlone_0 ++ dktX3_codesAlone_1
theorem dksX3_codesAlone_0 : cX3_codesAlone.data.toList.drop 0 = dktX3_codesAlone_0 := by decide +kernel
theorem dksX3_codesAlone_1 : cX3_codesAlone.data.toList.drop 24 = dktX3_codesAlone_1 := dk_seg dksX3_codesAlone_0 24 rfl rfl
theorem dksX3_codesAlone_2 : cX3_codesAlone.data.toList.drop 47 = dktX3_codesAlone_2 := dk_seg dksX3_codesAlone_1 23 rfl rfl
theorem dksX3_codesAlone_3 : cX3_codesAlone.data.toList.drop 69 = dktX3_codesAlone_3 := dk_seg dksX3_codesAlone_2 22 rfl rfl
theorem dX3_codesAlone_0 : decode cX3_codesAlone 0 = .ok (.aload_n 0, 1) := dk_42 (dk_at dksX3_codesAlone_0 0 rfl rfl)
theorem dX3_codesAlone_1 : decode cX3_codesAlone 1 = .ok (.iconst 0, 1) := dk_3 (dk_at dksX3_codesAlone_0 1 rfl rfl)
theorem dX3_codesAlone_2 : decode cX3_codesAlone 2 = .ok (.putfield 151, 3) := dk_181 0 151 (dk_at dksX3_codesAlone_0 2 rfl rfl)
theorem dX3_codesAlone_5 : decode cX3_codesAlone 5 = .ok (.iconst 0, 1) := dk_3 (dk_at dksX3_codesAlone_0 5 rfl rfl)
theorem dX3_codesAlone_6 : decode cX3_codesAlone 6 = .ok (.istore_n 1, 1) := dk_60 (dk_at dksX3_codesAlone_0 6 rfl rfl)
theorem dX3_codesAlone_7 : decode cX3_codesAlone 7 = .ok (.iconst 0, 1) := dk_3 (dk_at dksX3_codesAlone_0 7 rfl rfl)
theorem dX3_codesAlone_8 : decode cX3_codesAlone 8 = .ok (.istore_n 2, 1) := dk_61 (dk_at dksX3_codesAlone_0 8 rfl rfl)
theorem dX3_codesAlone_9 : decode cX3_codesAlone 9 = .ok (.iload_n 2, 1) := dk_28 (dk_at dksX3_codesAlone_0 9 rfl rfl)
theorem dX3_codesAlone_10 : decode cX3_codesAlone 10 = .ok (.aload_n 0, 1) := dk_42 (dk_at dksX3_codesAlone_0 10 rfl rfl)
theorem dX3_codesAlone_11 : decode cX3_codesAlone 11 = .ok (.getfield 93, 3) := dk_180 0 93 (dk_at dksX3_codesAlone_0 11 rfl rfl)
theorem dX3_codesAlone_14 : decode cX3_codesAlone 14 = .ok (.if_icmp .lt 10, 3) := dk_161 0 10 (dk_at dksX3_codesAlone_0 14 rfl rfl)
theorem dX3_codesAlone_17 : decode cX3_codesAlone 17 = .ok (.aload_n 0, 1) := dk_42 (dk_at dksX3_codesAlone_0 17 rfl rfl)
theorem dX3_codesAlone_18 : decode cX3_codesAlone 18 = .ok (.getfield 151, 3) := dk_180 0 151 (dk_at dksX3_codesAlone_0 18 rfl rfl)
theorem dX3_codesAlone_21 : decode cX3_codesAlone 21 = .ok (.ifCond .ne 60, 3) := dk_154 0 60 (dk_at dksX3_codesAlone_0 21 rfl rfl)
theorem dX3_codesAlone_24 : decode cX3_codesAlone 24 = .ok (.iload_n 2, 1) := dk_28 (dk_at dksX3_codesAlone_1 0 rfl rfl)
theorem dX3_codesAlone_25 : decode cX3_codesAlone 25 = .ok (.istore_n 3, 1) := dk_62 (dk_at dksX3_codesAlone_1 1 rfl rfl)
theorem dX3_codesAlone_26 : decode cX3_codesAlone 26 = .ok (.iload_n 3, 1) := dk_29 (dk_at dksX3_codesAlone_1 2 rfl rfl)
theorem dX3_codesAlone_27 : decode cX3_codesAlone 27 = .ok (.aload_n 0, 1) := dk_42 (dk_at dksX3_codesAlone_1 3 rfl rfl)
theorem dX3_codesAlone_28 : decode cX3_codesAlone 28 = .ok (.getfield 93, 3) := dk_180 0 93 (dk_at dksX3_codesAlone_1 4 rfl rfl)
theorem dX3_codesAlone_31 : decode cX3_codesAlone 31 = .ok (.if_icmp .ge 19, 3) := dk_162 0 19 (dk_at dksX3_codesAlone_1 7 rfl rfl)
theorem dX3_codesAlone_34 : decode cX3_codesAlone 34 = .ok (.aload_n 0, 1) := dk_42 (dk_at dksX3_codesAlone_1 10 rfl rfl)
theorem dX3_codesAlone_35 : decode cX3_codesAlone 35 = .ok (.getfield 29, 3) := dk_180 0 29 (dk_at dksX3_codesAlone_1 11 rfl rfl)
theorem dX3_codesAlone_38 : decode cX3_codesAlone 38 = .ok (.iload_n 3, 1) := dk_29 (dk_at dksX3_codesAlone_1 14 rfl rfl)
theorem dX3_codesAlone_39 : decode cX3_codesAlone 39 = .ok (.iaload, 1) := dk_46 (dk_at dksX3_codesAlone_1 15 rfl rfl)
theorem dX3_codesAlone_40 : decode cX3_codesAlone 40 = .ok (.iload_n 1, 1) := dk_27 (dk_at dksX3_codesAlone_1 16 rfl rfl)
theorem dX3_codesAlone_41 : decode cX3_codesAlone 41 = .ok (.if_icmp .ne 9, 3) := dk_160 0 9 (dk_at dksX3_codesAlone_1 17 rfl rfl)
theorem dX3_codesAlone_44 : decode cX3_codesAlone 44 = .ok (.iinc 3 1, 3) := dk_132 3 1 (dk_at dksX3_codesAlone_1 20 rfl rfl)
theorem dX3_codesAlone_47 : decode cX3_codesAlone 47 = .ok (.goto (-21), 3) := dk_167 255 235 (dk_at dksX3_codesAlone_2 0 rfl rfl)
theorem dX3_codesAlone_50 : decode cX3_codesAlone 50 = .ok (.aload_n 0, 1) := dk_42 (dk_at dksX3_codesAlone_2 3 rfl rfl)
theorem dX3_codesAlone_51 : decode cX3_codesAlone 51 = .ok (.getfield 47, 3) := dk_180 0 47 (dk_at dksX3_codesAlone_2 4 rfl rfl)
theorem dX3_codesAlone_54 : decode cX3_codesAlone 54 = .ok (.aload_n 0, 1) := dk_42 (dk_at dksX3_codesAlone_2 7 rfl rfl)
theorem dX3_codesAlone_55 : decode cX3_codesAlone 55 = .ok (.getfield 151, 3) := dk_180 0 151 (dk_at dksX3_codesAlone_2 8 rfl rfl)
theorem dX3_codesAlone_58 : decode cX3_codesAlone 58 = .ok (.iload_n 3, 1) := dk_29 (dk_at dksX3_codesAlone_2 11 rfl rfl)
theorem dX3_codesAlone_59 : decode cX3_codesAlone 59 = .ok (.iload_n 2, 1) := dk_28 (dk_at dksX3_codesAlone_2 12 rfl rfl)
theorem dX3_codesAlone_60 : decode cX3_codesAlone 60 = .ok (.isub, 1) := dk_100 (dk_at dksX3_codesAlone_2 13 rfl rfl)
theorem dX3_codesAlone_61 : decode cX3_codesAlone 61 = .ok (.iastore, 1) := dk_79 (dk_at dksX3_codesAlone_2 14 rfl rfl)
theorem dX3_codesAlone_62 : decode cX3_codesAlone 62 = .ok (.aload_n 0, 1) := dk_42 (dk_at dksX3_codesAlone_2 15 rfl rfl)
theorem dX3_codesAlone_63 : decode cX3_codesAlone 63 = .ok (.dup, 1) := dk_89 (dk_at dksX3_codesAlone_2 16 rfl rfl)
theorem dX3_codesAlone_64 : decode cX3_codesAlone 64 = .ok (.getfield 151, 3) := dk_180 0 151 (dk_at dksX3_codesAlone_2 17 rfl rfl)
theorem dX3_codesAlone_67 : decode cX3_codesAlone 67 = .ok (.iconst 1, 1) := dk_4 (dk_at dksX3_codesAlone_2 20 rfl rfl)
theorem dX3_codesAlone_68 : decode cX3_codesAlone 68 = .ok (.iadd, 1) := dk_96 (dk_at dksX3_codesAlone_2 21 rfl rfl)
theorem dX3_codesAlone_69 : decode cX3_codesAlone 69 = .ok (.putfield 151, 3) := dk_181 0 151 (dk_at dksX3_codesAlone_3 0 rfl rfl)
theorem dX3_codesAlone_72 : decode cX3_codesAlone 72 = .ok (.iload_n 3, 1) := dk_29 (dk_at dksX3_codesAlone_3 3 rfl rfl)
theorem dX3_codesAlone_73 : decode cX3_codesAlone 73 = .ok (.istore_n 2, 1) := dk_61 (dk_at dksX3_codesAlone_3 4 rfl rfl)
theorem dX3_codesAlone_74 : decode cX3_codesAlone 74 = .ok (.iconst 1, 1) := dk_4 (dk_at dksX3_codesAlone_3 5 rfl rfl)
theorem dX3_codesAlone_75 : decode cX3_codesAlone 75 = .ok (.iload_n 1, 1) := dk_27 (dk_at dksX3_codesAlone_3 6 rfl rfl)
theorem dX3_codesAlone_76 : decode cX3_codesAlone 76 = .ok (.isub, 1) := dk_100 (dk_at dksX3_codesAlone_3 7 rfl rfl)
theorem dX3_codesAlone_77 : decode cX3_codesAlone 77 = .ok (.istore_n 1, 1) := dk_60 (dk_at dksX3_codesAlone_3 8 rfl rfl)
theorem dX3_codesAlone_78 : decode cX3_codesAlone 78 = .ok (.goto (-69), 3) := dk_167 255 187 (dk_at dksX3_codesAlone_3 9 rfl rfl)
theorem dX3_codesAlone_81 : decode cX3_codesAlone 81 = .ok (.return_, 1) := dk_177 (dk_at dksX3_codesAlone_3 12 rfl rfl)
abbrev cX3_aloneBits : ByteArray := prog_18_method_23_code
def yX3_aloneBits : MethodName := ⟨RX3, "aloneBits", "()I"⟩
def dkwX3_aloneBits_1 : List UInt8 := [132, 2, 1, 167, 255, 233, 27, 172]
abbrev dktX3_aloneBits_1 : List UInt8 := dkwX3_aloneBits_1 ++ []
def dkwX3_aloneBits_0 : List UInt8 := [3, 60, 3, 61, 28, 42, 180, 0, 151, 162, 0, 21, 27, 42, 180, 0, 47, 28, 46, 184, 0, 132, 96, 60]
abbrev dktX3_aloneBits_0 : List UInt8 := dkwX3_aloneBits_0 ++ dktX3_aloneBits_1
theorem dksX3_aloneBits_0 : cX3_aloneBits.data.toList.drop 0 = dktX3_aloneBits_0 := by decide +kernel
theorem dksX3_aloneBits_1 : cX3_aloneBits.data.toList.drop 24 = dktX3_aloneBits_1 := dk_seg dksX3_aloneBits_0 24 rfl rfl
theorem dX3_aloneBits_0 : decode cX3_aloneBits 0 = .ok (.iconst 0, 1) := dk_3 (dk_at dksX3_aloneBits_0 0 rfl rfl)
theorem dX3_aloneBits_1 : decode cX3_aloneBits 1 = .ok (.istore_n 1, 1) := dk_60 (dk_at dksX3_aloneBits_0 1 rfl rfl)
theorem dX3_aloneBits_2 : decode cX3_aloneBits 2 = .ok (.iconst 0, 1) := dk_3 (dk_at dksX3_aloneBits_0 2 rfl rfl)
theorem dX3_aloneBits_3 : decode cX3_aloneBits 3 = .ok (.istore_n 2, 1) := dk_61 (dk_at dksX3_aloneBits_0 3 rfl rfl)
theorem dX3_aloneBits_4 : decode cX3_aloneBits 4 = .ok (.iload_n 2, 1) := dk_28 (dk_at dksX3_aloneBits_0 4 rfl rfl)
theorem dX3_aloneBits_5 : decode cX3_aloneBits 5 = .ok (.aload_n 0, 1) := dk_42 (dk_at dksX3_aloneBits_0 5 rfl rfl)
theorem dX3_aloneBits_6 : decode cX3_aloneBits 6 = .ok (.getfield 151, 3) := dk_180 0 151 (dk_at dksX3_aloneBits_0 6 rfl rfl)
theorem dX3_aloneBits_9 : decode cX3_aloneBits 9 = .ok (.if_icmp .ge 21, 3) := dk_162 0 21 (dk_at dksX3_aloneBits_0 9 rfl rfl)
theorem dX3_aloneBits_12 : decode cX3_aloneBits 12 = .ok (.iload_n 1, 1) := dk_27 (dk_at dksX3_aloneBits_0 12 rfl rfl)
theorem dX3_aloneBits_13 : decode cX3_aloneBits 13 = .ok (.aload_n 0, 1) := dk_42 (dk_at dksX3_aloneBits_0 13 rfl rfl)
theorem dX3_aloneBits_14 : decode cX3_aloneBits 14 = .ok (.getfield 47, 3) := dk_180 0 47 (dk_at dksX3_aloneBits_0 14 rfl rfl)
theorem dX3_aloneBits_17 : decode cX3_aloneBits 17 = .ok (.iload_n 2, 1) := dk_28 (dk_at dksX3_aloneBits_0 17 rfl rfl)
theorem dX3_aloneBits_18 : decode cX3_aloneBits 18 = .ok (.iaload, 1) := dk_46 (dk_at dksX3_aloneBits_0 18 rfl rfl)
theorem dX3_aloneBits_19 : decode cX3_aloneBits 19 = .ok (.invokestatic 132, 3) := dk_184 0 132 (dk_at dksX3_aloneBits_0 19 rfl rfl)
theorem dX3_aloneBits_22 : decode cX3_aloneBits 22 = .ok (.iadd, 1) := dk_96 (dk_at dksX3_aloneBits_0 22 rfl rfl)
theorem dX3_aloneBits_23 : decode cX3_aloneBits 23 = .ok (.istore_n 1, 1) := dk_60 (dk_at dksX3_aloneBits_0 23 rfl rfl)
theorem dX3_aloneBits_24 : decode cX3_aloneBits 24 = .ok (.iinc 2 1, 3) := dk_132 2 1 (dk_at dksX3_aloneBits_1 0 rfl rfl)
theorem dX3_aloneBits_27 : decode cX3_aloneBits 27 = .ok (.goto (-23), 3) := dk_167 255 233 (dk_at dksX3_aloneBits_1 3 rfl rfl)
theorem dX3_aloneBits_30 : decode cX3_aloneBits 30 = .ok (.iload_n 1, 1) := dk_27 (dk_at dksX3_aloneBits_1 6 rfl rfl)
theorem dX3_aloneBits_31 : decode cX3_aloneBits 31 = .ok (.ireturn, 1) := dk_172 (dk_at dksX3_aloneBits_1 7 rfl rfl)
abbrev cX3_numberBits : ByteArray := prog_18_method_16_code
def yX3_numberBits : MethodName := ⟨RX3, "numberBits", "(I)I"⟩
def dkwX3_numberBits_0 : List UInt8 := [26, 16, 8, 162, 0, 7, 7, 167, 0, 5, 16, 8, 172]
abbrev dktX3_numberBits_0 : List UInt8 := dkwX3_numberBits_0 ++ []
theorem dksX3_numberBits_0 : cX3_numberBits.data.toList.drop 0 = dktX3_numberBits_0 := by decide +kernel
theorem dX3_numberBits_0 : decode cX3_numberBits 0 = .ok (.iload_n 0, 1) := dk_26 (dk_at dksX3_numberBits_0 0 rfl rfl)
theorem dX3_numberBits_1 : decode cX3_numberBits 1 = .ok (.bipush 8, 2) := dk_16 8 (dk_at dksX3_numberBits_0 1 rfl rfl)
theorem dX3_numberBits_3 : decode cX3_numberBits 3 = .ok (.if_icmp .ge 7, 3) := dk_162 0 7 (dk_at dksX3_numberBits_0 3 rfl rfl)
theorem dX3_numberBits_6 : decode cX3_numberBits 6 = .ok (.iconst 4, 1) := dk_7 (dk_at dksX3_numberBits_0 6 rfl rfl)
theorem dX3_numberBits_7 : decode cX3_numberBits 7 = .ok (.goto 5, 3) := dk_167 0 5 (dk_at dksX3_numberBits_0 7 rfl rfl)
theorem dX3_numberBits_10 : decode cX3_numberBits 10 = .ok (.bipush 8, 2) := dk_16 8 (dk_at dksX3_numberBits_0 10 rfl rfl)
theorem dX3_numberBits_12 : decode cX3_numberBits 12 = .ok (.ireturn, 1) := dk_172 (dk_at dksX3_numberBits_0 12 rfl rfl)
abbrev cX3_codeBits : ByteArray := prog_18_method_17_code
def yX3_codeBits : MethodName := ⟨RX3, "codeBits", "()I"⟩
def dkwX3_codeBits_5 : List UInt8 := [96, 60, 132, 2, 1, 167, 255, 140, 27, 172]
abbrev dktX3_codeBits_5 : List UInt8 := dkwX3_codeBits_5 ++ []
def dkwX3_codeBits_4 : List UInt8 := [167, 0, 24, 29, 4, 160, 0, 7, 6, 167, 0, 15, 29, 5, 160, 0, 8, 16, 6, 167, 0, 5, 16, 7]
abbrev dktX3_codeBits_4 : List UInt8 := dkwX3_codeBits_4 ++ dktX3_codeBits_5
def dkwX3_codeBits_3 : List UInt8 := [184, 0, 132, 96, 42, 180, 0, 38, 28, 46, 184, 0, 132, 96, 167, 0, 32, 29, 154, 0, 7, 4]
abbrev dktX3_codeBits_3 : List UInt8 := dkwX3_codeBits_3 ++ dktX3_codeBits_4
def dkwX3_codeBits_2 : List UInt8 := [154, 0, 7, 7, 167, 0, 66, 42, 180, 0, 32, 28, 46, 5, 160, 0, 27, 6, 42, 180, 0, 35, 28, 46]
abbrev dktX3_codeBits_2 : List UInt8 := dkwX3_codeBits_2 ++ dktX3_codeBits_3
def dkwX3_codeBits_1 : List UInt8 := [180, 0, 35, 28, 46, 116, 167, 0, 9, 42, 180, 0, 35, 28, 46, 62, 27, 42, 180, 0, 32, 28, 46]
abbrev dktX3_codeBits_1 : List UInt8 := dkwX3_codeBits_1 ++ dktX3_codeBits_2
def dkwX3_codeBits_0 : List UInt8 := [3, 60, 3, 61, 28, 42, 180, 0, 111, 162, 0, 114, 42, 180, 0, 35, 28, 46, 156, 0, 13, 42]
abbrev dktX3_codeBits_0 : List UInt8 := dkwX3_codeBits_0 ++ dktX3_codeBits_1
theorem dksX3_codeBits_0 : cX3_codeBits.data.toList.drop 0 = dktX3_codeBits_0 := by decide +kernel
theorem dksX3_codeBits_1 : cX3_codeBits.data.toList.drop 22 = dktX3_codeBits_1 := dk_seg dksX3_codeBits_0 22 rfl rfl
theorem dksX3_codeBits_2 : cX3_codeBits.data.toList.drop 45 = dktX3_codeBits_2 := dk_seg dksX3_codeBits_1 23 rfl rfl
theorem dksX3_codeBits_3 : cX3_codeBits.data.toList.drop 69 = dktX3_codeBits_3 := dk_seg dksX3_codeBits_2 24 rfl rfl
theorem dksX3_codeBits_4 : cX3_codeBits.data.toList.drop 91 = dktX3_codeBits_4 := dk_seg dksX3_codeBits_3 22 rfl rfl
theorem dksX3_codeBits_5 : cX3_codeBits.data.toList.drop 115 = dktX3_codeBits_5 := dk_seg dksX3_codeBits_4 24 rfl rfl
theorem dX3_codeBits_0 : decode cX3_codeBits 0 = .ok (.iconst 0, 1) := dk_3 (dk_at dksX3_codeBits_0 0 rfl rfl)
theorem dX3_codeBits_1 : decode cX3_codeBits 1 = .ok (.istore_n 1, 1) := dk_60 (dk_at dksX3_codeBits_0 1 rfl rfl)
theorem dX3_codeBits_2 : decode cX3_codeBits 2 = .ok (.iconst 0, 1) := dk_3 (dk_at dksX3_codeBits_0 2 rfl rfl)
theorem dX3_codeBits_3 : decode cX3_codeBits 3 = .ok (.istore_n 2, 1) := dk_61 (dk_at dksX3_codeBits_0 3 rfl rfl)
theorem dX3_codeBits_4 : decode cX3_codeBits 4 = .ok (.iload_n 2, 1) := dk_28 (dk_at dksX3_codeBits_0 4 rfl rfl)
theorem dX3_codeBits_5 : decode cX3_codeBits 5 = .ok (.aload_n 0, 1) := dk_42 (dk_at dksX3_codeBits_0 5 rfl rfl)
theorem dX3_codeBits_6 : decode cX3_codeBits 6 = .ok (.getfield 111, 3) := dk_180 0 111 (dk_at dksX3_codeBits_0 6 rfl rfl)
theorem dX3_codeBits_9 : decode cX3_codeBits 9 = .ok (.if_icmp .ge 114, 3) := dk_162 0 114 (dk_at dksX3_codeBits_0 9 rfl rfl)
theorem dX3_codeBits_12 : decode cX3_codeBits 12 = .ok (.aload_n 0, 1) := dk_42 (dk_at dksX3_codeBits_0 12 rfl rfl)
theorem dX3_codeBits_13 : decode cX3_codeBits 13 = .ok (.getfield 35, 3) := dk_180 0 35 (dk_at dksX3_codeBits_0 13 rfl rfl)
theorem dX3_codeBits_16 : decode cX3_codeBits 16 = .ok (.iload_n 2, 1) := dk_28 (dk_at dksX3_codeBits_0 16 rfl rfl)
theorem dX3_codeBits_17 : decode cX3_codeBits 17 = .ok (.iaload, 1) := dk_46 (dk_at dksX3_codeBits_0 17 rfl rfl)
theorem dX3_codeBits_18 : decode cX3_codeBits 18 = .ok (.ifCond .ge 13, 3) := dk_156 0 13 (dk_at dksX3_codeBits_0 18 rfl rfl)
theorem dX3_codeBits_21 : decode cX3_codeBits 21 = .ok (.aload_n 0, 1) := dk_42 (dk_at dksX3_codeBits_0 21 rfl rfl)
theorem dX3_codeBits_22 : decode cX3_codeBits 22 = .ok (.getfield 35, 3) := dk_180 0 35 (dk_at dksX3_codeBits_1 0 rfl rfl)
theorem dX3_codeBits_25 : decode cX3_codeBits 25 = .ok (.iload_n 2, 1) := dk_28 (dk_at dksX3_codeBits_1 3 rfl rfl)
theorem dX3_codeBits_26 : decode cX3_codeBits 26 = .ok (.iaload, 1) := dk_46 (dk_at dksX3_codeBits_1 4 rfl rfl)
theorem dX3_codeBits_27 : decode cX3_codeBits 27 = .ok (.ineg, 1) := dk_116 (dk_at dksX3_codeBits_1 5 rfl rfl)
theorem dX3_codeBits_28 : decode cX3_codeBits 28 = .ok (.goto 9, 3) := dk_167 0 9 (dk_at dksX3_codeBits_1 6 rfl rfl)
theorem dX3_codeBits_31 : decode cX3_codeBits 31 = .ok (.aload_n 0, 1) := dk_42 (dk_at dksX3_codeBits_1 9 rfl rfl)
theorem dX3_codeBits_32 : decode cX3_codeBits 32 = .ok (.getfield 35, 3) := dk_180 0 35 (dk_at dksX3_codeBits_1 10 rfl rfl)
theorem dX3_codeBits_35 : decode cX3_codeBits 35 = .ok (.iload_n 2, 1) := dk_28 (dk_at dksX3_codeBits_1 13 rfl rfl)
theorem dX3_codeBits_36 : decode cX3_codeBits 36 = .ok (.iaload, 1) := dk_46 (dk_at dksX3_codeBits_1 14 rfl rfl)
theorem dX3_codeBits_37 : decode cX3_codeBits 37 = .ok (.istore_n 3, 1) := dk_62 (dk_at dksX3_codeBits_1 15 rfl rfl)
theorem dX3_codeBits_38 : decode cX3_codeBits 38 = .ok (.iload_n 1, 1) := dk_27 (dk_at dksX3_codeBits_1 16 rfl rfl)
theorem dX3_codeBits_39 : decode cX3_codeBits 39 = .ok (.aload_n 0, 1) := dk_42 (dk_at dksX3_codeBits_1 17 rfl rfl)
theorem dX3_codeBits_40 : decode cX3_codeBits 40 = .ok (.getfield 32, 3) := dk_180 0 32 (dk_at dksX3_codeBits_1 18 rfl rfl)
theorem dX3_codeBits_43 : decode cX3_codeBits 43 = .ok (.iload_n 2, 1) := dk_28 (dk_at dksX3_codeBits_1 21 rfl rfl)
theorem dX3_codeBits_44 : decode cX3_codeBits 44 = .ok (.iaload, 1) := dk_46 (dk_at dksX3_codeBits_1 22 rfl rfl)
theorem dX3_codeBits_45 : decode cX3_codeBits 45 = .ok (.ifCond .ne 7, 3) := dk_154 0 7 (dk_at dksX3_codeBits_2 0 rfl rfl)
theorem dX3_codeBits_48 : decode cX3_codeBits 48 = .ok (.iconst 4, 1) := dk_7 (dk_at dksX3_codeBits_2 3 rfl rfl)
theorem dX3_codeBits_49 : decode cX3_codeBits 49 = .ok (.goto 66, 3) := dk_167 0 66 (dk_at dksX3_codeBits_2 4 rfl rfl)
theorem dX3_codeBits_52 : decode cX3_codeBits 52 = .ok (.aload_n 0, 1) := dk_42 (dk_at dksX3_codeBits_2 7 rfl rfl)
theorem dX3_codeBits_53 : decode cX3_codeBits 53 = .ok (.getfield 32, 3) := dk_180 0 32 (dk_at dksX3_codeBits_2 8 rfl rfl)
theorem dX3_codeBits_56 : decode cX3_codeBits 56 = .ok (.iload_n 2, 1) := dk_28 (dk_at dksX3_codeBits_2 11 rfl rfl)
theorem dX3_codeBits_57 : decode cX3_codeBits 57 = .ok (.iaload, 1) := dk_46 (dk_at dksX3_codeBits_2 12 rfl rfl)
theorem dX3_codeBits_58 : decode cX3_codeBits 58 = .ok (.iconst 2, 1) := dk_5 (dk_at dksX3_codeBits_2 13 rfl rfl)
theorem dX3_codeBits_59 : decode cX3_codeBits 59 = .ok (.if_icmp .ne 27, 3) := dk_160 0 27 (dk_at dksX3_codeBits_2 14 rfl rfl)
theorem dX3_codeBits_62 : decode cX3_codeBits 62 = .ok (.iconst 3, 1) := dk_6 (dk_at dksX3_codeBits_2 17 rfl rfl)
theorem dX3_codeBits_63 : decode cX3_codeBits 63 = .ok (.aload_n 0, 1) := dk_42 (dk_at dksX3_codeBits_2 18 rfl rfl)
theorem dX3_codeBits_64 : decode cX3_codeBits 64 = .ok (.getfield 35, 3) := dk_180 0 35 (dk_at dksX3_codeBits_2 19 rfl rfl)
theorem dX3_codeBits_67 : decode cX3_codeBits 67 = .ok (.iload_n 2, 1) := dk_28 (dk_at dksX3_codeBits_2 22 rfl rfl)
theorem dX3_codeBits_68 : decode cX3_codeBits 68 = .ok (.iaload, 1) := dk_46 (dk_at dksX3_codeBits_2 23 rfl rfl)
theorem dX3_codeBits_69 : decode cX3_codeBits 69 = .ok (.invokestatic 132, 3) := dk_184 0 132 (dk_at dksX3_codeBits_3 0 rfl rfl)
theorem dX3_codeBits_72 : decode cX3_codeBits 72 = .ok (.iadd, 1) := dk_96 (dk_at dksX3_codeBits_3 3 rfl rfl)
theorem dX3_codeBits_73 : decode cX3_codeBits 73 = .ok (.aload_n 0, 1) := dk_42 (dk_at dksX3_codeBits_3 4 rfl rfl)
theorem dX3_codeBits_74 : decode cX3_codeBits 74 = .ok (.getfield 38, 3) := dk_180 0 38 (dk_at dksX3_codeBits_3 5 rfl rfl)
theorem dX3_codeBits_77 : decode cX3_codeBits 77 = .ok (.iload_n 2, 1) := dk_28 (dk_at dksX3_codeBits_3 8 rfl rfl)
theorem dX3_codeBits_78 : decode cX3_codeBits 78 = .ok (.iaload, 1) := dk_46 (dk_at dksX3_codeBits_3 9 rfl rfl)
theorem dX3_codeBits_79 : decode cX3_codeBits 79 = .ok (.invokestatic 132, 3) := dk_184 0 132 (dk_at dksX3_codeBits_3 10 rfl rfl)
theorem dX3_codeBits_82 : decode cX3_codeBits 82 = .ok (.iadd, 1) := dk_96 (dk_at dksX3_codeBits_3 13 rfl rfl)
theorem dX3_codeBits_83 : decode cX3_codeBits 83 = .ok (.goto 32, 3) := dk_167 0 32 (dk_at dksX3_codeBits_3 14 rfl rfl)
theorem dX3_codeBits_86 : decode cX3_codeBits 86 = .ok (.iload_n 3, 1) := dk_29 (dk_at dksX3_codeBits_3 17 rfl rfl)
theorem dX3_codeBits_87 : decode cX3_codeBits 87 = .ok (.ifCond .ne 7, 3) := dk_154 0 7 (dk_at dksX3_codeBits_3 18 rfl rfl)
theorem dX3_codeBits_90 : decode cX3_codeBits 90 = .ok (.iconst 1, 1) := dk_4 (dk_at dksX3_codeBits_3 21 rfl rfl)
theorem dX3_codeBits_91 : decode cX3_codeBits 91 = .ok (.goto 24, 3) := dk_167 0 24 (dk_at dksX3_codeBits_4 0 rfl rfl)
theorem dX3_codeBits_94 : decode cX3_codeBits 94 = .ok (.iload_n 3, 1) := dk_29 (dk_at dksX3_codeBits_4 3 rfl rfl)
theorem dX3_codeBits_95 : decode cX3_codeBits 95 = .ok (.iconst 1, 1) := dk_4 (dk_at dksX3_codeBits_4 4 rfl rfl)
theorem dX3_codeBits_96 : decode cX3_codeBits 96 = .ok (.if_icmp .ne 7, 3) := dk_160 0 7 (dk_at dksX3_codeBits_4 5 rfl rfl)
theorem dX3_codeBits_99 : decode cX3_codeBits 99 = .ok (.iconst 3, 1) := dk_6 (dk_at dksX3_codeBits_4 8 rfl rfl)
theorem dX3_codeBits_100 : decode cX3_codeBits 100 = .ok (.goto 15, 3) := dk_167 0 15 (dk_at dksX3_codeBits_4 9 rfl rfl)
theorem dX3_codeBits_103 : decode cX3_codeBits 103 = .ok (.iload_n 3, 1) := dk_29 (dk_at dksX3_codeBits_4 12 rfl rfl)
theorem dX3_codeBits_104 : decode cX3_codeBits 104 = .ok (.iconst 2, 1) := dk_5 (dk_at dksX3_codeBits_4 13 rfl rfl)
theorem dX3_codeBits_105 : decode cX3_codeBits 105 = .ok (.if_icmp .ne 8, 3) := dk_160 0 8 (dk_at dksX3_codeBits_4 14 rfl rfl)
theorem dX3_codeBits_108 : decode cX3_codeBits 108 = .ok (.bipush 6, 2) := dk_16 6 (dk_at dksX3_codeBits_4 17 rfl rfl)
theorem dX3_codeBits_110 : decode cX3_codeBits 110 = .ok (.goto 5, 3) := dk_167 0 5 (dk_at dksX3_codeBits_4 19 rfl rfl)
theorem dX3_codeBits_113 : decode cX3_codeBits 113 = .ok (.bipush 7, 2) := dk_16 7 (dk_at dksX3_codeBits_4 22 rfl rfl)
theorem dX3_codeBits_115 : decode cX3_codeBits 115 = .ok (.iadd, 1) := dk_96 (dk_at dksX3_codeBits_5 0 rfl rfl)
theorem dX3_codeBits_116 : decode cX3_codeBits 116 = .ok (.istore_n 1, 1) := dk_60 (dk_at dksX3_codeBits_5 1 rfl rfl)
theorem dX3_codeBits_117 : decode cX3_codeBits 117 = .ok (.iinc 2 1, 3) := dk_132 2 1 (dk_at dksX3_codeBits_5 2 rfl rfl)
theorem dX3_codeBits_120 : decode cX3_codeBits 120 = .ok (.goto (-116), 3) := dk_167 255 140 (dk_at dksX3_codeBits_5 5 rfl rfl)
theorem dX3_codeBits_123 : decode cX3_codeBits 123 = .ok (.iload_n 1, 1) := dk_27 (dk_at dksX3_codeBits_5 8 rfl rfl)
theorem dX3_codeBits_124 : decode cX3_codeBits 124 = .ok (.ireturn, 1) := dk_172 (dk_at dksX3_codeBits_5 9 rfl rfl)
abbrev cX3_differs : ByteArray := prog_18_method_31_code
def yX3_differs : MethodName := ⟨RX3, "differs", "(II)I"⟩
def dkwX3_differs_2 : List UInt8 := [160, 0, 7, 3, 167, 0, 4, 4, 96, 62, 132, 4, 1, 167, 255, 200, 29, 172]
abbrev dktX3_differs_2 : List UInt8 := dkwX3_differs_2 ++ []
def dkwX3_differs_1 : List UInt8 := [184, 0, 96, 46, 28, 2, 160, 0, 7, 3, 167, 0, 14, 42, 180, 0, 7, 28, 21, 4, 184, 0, 96, 46]
abbrev dktX3_differs_1 : List UInt8 := dkwX3_differs_1 ++ dktX3_differs_2
def dkwX3_differs_0 : List UInt8 := [3, 62, 3, 54, 4, 21, 4, 42, 180, 0, 7, 3, 46, 162, 0, 51, 29, 42, 180, 0, 7, 27, 21, 4]
abbrev dktX3_differs_0 : List UInt8 := dkwX3_differs_0 ++ dktX3_differs_1
theorem dksX3_differs_0 : cX3_differs.data.toList.drop 0 = dktX3_differs_0 := by decide +kernel
theorem dksX3_differs_1 : cX3_differs.data.toList.drop 24 = dktX3_differs_1 := dk_seg dksX3_differs_0 24 rfl rfl
theorem dksX3_differs_2 : cX3_differs.data.toList.drop 48 = dktX3_differs_2 := dk_seg dksX3_differs_1 24 rfl rfl
theorem dX3_differs_0 : decode cX3_differs 0 = .ok (.iconst 0, 1) := dk_3 (dk_at dksX3_differs_0 0 rfl rfl)
theorem dX3_differs_1 : decode cX3_differs 1 = .ok (.istore_n 3, 1) := dk_62 (dk_at dksX3_differs_0 1 rfl rfl)
theorem dX3_differs_2 : decode cX3_differs 2 = .ok (.iconst 0, 1) := dk_3 (dk_at dksX3_differs_0 2 rfl rfl)
theorem dX3_differs_3 : decode cX3_differs 3 = .ok (.istore 4, 2) := dk_54 4 (dk_at dksX3_differs_0 3 rfl rfl)
theorem dX3_differs_5 : decode cX3_differs 5 = .ok (.iload 4, 2) := dk_21 4 (dk_at dksX3_differs_0 5 rfl rfl)
theorem dX3_differs_7 : decode cX3_differs 7 = .ok (.aload_n 0, 1) := dk_42 (dk_at dksX3_differs_0 7 rfl rfl)
theorem dX3_differs_8 : decode cX3_differs 8 = .ok (.getfield 7, 3) := dk_180 0 7 (dk_at dksX3_differs_0 8 rfl rfl)
theorem dX3_differs_11 : decode cX3_differs 11 = .ok (.iconst 0, 1) := dk_3 (dk_at dksX3_differs_0 11 rfl rfl)
theorem dX3_differs_12 : decode cX3_differs 12 = .ok (.iaload, 1) := dk_46 (dk_at dksX3_differs_0 12 rfl rfl)
theorem dX3_differs_13 : decode cX3_differs 13 = .ok (.if_icmp .ge 51, 3) := dk_162 0 51 (dk_at dksX3_differs_0 13 rfl rfl)
theorem dX3_differs_16 : decode cX3_differs 16 = .ok (.iload_n 3, 1) := dk_29 (dk_at dksX3_differs_0 16 rfl rfl)
theorem dX3_differs_17 : decode cX3_differs 17 = .ok (.aload_n 0, 1) := dk_42 (dk_at dksX3_differs_0 17 rfl rfl)
theorem dX3_differs_18 : decode cX3_differs 18 = .ok (.getfield 7, 3) := dk_180 0 7 (dk_at dksX3_differs_0 18 rfl rfl)
theorem dX3_differs_21 : decode cX3_differs 21 = .ok (.iload_n 1, 1) := dk_27 (dk_at dksX3_differs_0 21 rfl rfl)
theorem dX3_differs_22 : decode cX3_differs 22 = .ok (.iload 4, 2) := dk_21 4 (dk_at dksX3_differs_0 22 rfl rfl)
theorem dX3_differs_24 : decode cX3_differs 24 = .ok (.invokestatic 96, 3) := dk_184 0 96 (dk_at dksX3_differs_1 0 rfl rfl)
theorem dX3_differs_27 : decode cX3_differs 27 = .ok (.iaload, 1) := dk_46 (dk_at dksX3_differs_1 3 rfl rfl)
theorem dX3_differs_28 : decode cX3_differs 28 = .ok (.iload_n 2, 1) := dk_28 (dk_at dksX3_differs_1 4 rfl rfl)
theorem dX3_differs_29 : decode cX3_differs 29 = .ok (.iconst (-1), 1) := dk_2 (dk_at dksX3_differs_1 5 rfl rfl)
theorem dX3_differs_30 : decode cX3_differs 30 = .ok (.if_icmp .ne 7, 3) := dk_160 0 7 (dk_at dksX3_differs_1 6 rfl rfl)
theorem dX3_differs_33 : decode cX3_differs 33 = .ok (.iconst 0, 1) := dk_3 (dk_at dksX3_differs_1 9 rfl rfl)
theorem dX3_differs_34 : decode cX3_differs 34 = .ok (.goto 14, 3) := dk_167 0 14 (dk_at dksX3_differs_1 10 rfl rfl)
theorem dX3_differs_37 : decode cX3_differs 37 = .ok (.aload_n 0, 1) := dk_42 (dk_at dksX3_differs_1 13 rfl rfl)
theorem dX3_differs_38 : decode cX3_differs 38 = .ok (.getfield 7, 3) := dk_180 0 7 (dk_at dksX3_differs_1 14 rfl rfl)
theorem dX3_differs_41 : decode cX3_differs 41 = .ok (.iload_n 2, 1) := dk_28 (dk_at dksX3_differs_1 17 rfl rfl)
theorem dX3_differs_42 : decode cX3_differs 42 = .ok (.iload 4, 2) := dk_21 4 (dk_at dksX3_differs_1 18 rfl rfl)
theorem dX3_differs_44 : decode cX3_differs 44 = .ok (.invokestatic 96, 3) := dk_184 0 96 (dk_at dksX3_differs_1 20 rfl rfl)
theorem dX3_differs_47 : decode cX3_differs 47 = .ok (.iaload, 1) := dk_46 (dk_at dksX3_differs_1 23 rfl rfl)
theorem dX3_differs_48 : decode cX3_differs 48 = .ok (.if_icmp .ne 7, 3) := dk_160 0 7 (dk_at dksX3_differs_2 0 rfl rfl)
theorem dX3_differs_51 : decode cX3_differs 51 = .ok (.iconst 0, 1) := dk_3 (dk_at dksX3_differs_2 3 rfl rfl)
theorem dX3_differs_52 : decode cX3_differs 52 = .ok (.goto 4, 3) := dk_167 0 4 (dk_at dksX3_differs_2 4 rfl rfl)
theorem dX3_differs_55 : decode cX3_differs 55 = .ok (.iconst 1, 1) := dk_4 (dk_at dksX3_differs_2 7 rfl rfl)
theorem dX3_differs_56 : decode cX3_differs 56 = .ok (.iadd, 1) := dk_96 (dk_at dksX3_differs_2 8 rfl rfl)
theorem dX3_differs_57 : decode cX3_differs 57 = .ok (.istore_n 3, 1) := dk_62 (dk_at dksX3_differs_2 9 rfl rfl)
theorem dX3_differs_58 : decode cX3_differs 58 = .ok (.iinc 4 1, 3) := dk_132 4 1 (dk_at dksX3_differs_2 10 rfl rfl)
theorem dX3_differs_61 : decode cX3_differs 61 = .ok (.goto (-56), 3) := dk_167 255 200 (dk_at dksX3_differs_2 13 rfl rfl)
theorem dX3_differs_64 : decode cX3_differs 64 = .ok (.iload_n 3, 1) := dk_29 (dk_at dksX3_differs_2 16 rfl rfl)
theorem dX3_differs_65 : decode cX3_differs 65 = .ok (.ireturn, 1) := dk_172 (dk_at dksX3_differs_2 17 rfl rfl)
abbrev cX3_dot : ByteArray := prog_18_method_36_code
def yX3_dot : MethodName := ⟨RX3, "dot", "(II)I"⟩
def dkwX3_dot_1 : List UInt8 := [158, 0, 7, 3, 167, 0, 13, 42, 180, 0, 7, 27, 28, 184, 0, 96, 46, 172]
abbrev dktX3_dot_1 : List UInt8 := dkwX3_dot_1 ++ []
def dkwX3_dot_0 : List UInt8 := [42, 42, 27, 28, 182, 0, 197, 153, 0, 7, 3, 167, 0, 4, 4, 181, 0, 90, 42, 180, 0, 90]
abbrev dktX3_dot_0 : List UInt8 := dkwX3_dot_0 ++ dktX3_dot_1
theorem dksX3_dot_0 : cX3_dot.data.toList.drop 0 = dktX3_dot_0 := by decide +kernel
theorem dksX3_dot_1 : cX3_dot.data.toList.drop 22 = dktX3_dot_1 := dk_seg dksX3_dot_0 22 rfl rfl
theorem dX3_dot_0 : decode cX3_dot 0 = .ok (.aload_n 0, 1) := dk_42 (dk_at dksX3_dot_0 0 rfl rfl)
theorem dX3_dot_1 : decode cX3_dot 1 = .ok (.aload_n 0, 1) := dk_42 (dk_at dksX3_dot_0 1 rfl rfl)
theorem dX3_dot_2 : decode cX3_dot 2 = .ok (.iload_n 1, 1) := dk_27 (dk_at dksX3_dot_0 2 rfl rfl)
theorem dX3_dot_3 : decode cX3_dot 3 = .ok (.iload_n 2, 1) := dk_28 (dk_at dksX3_dot_0 3 rfl rfl)
theorem dX3_dot_4 : decode cX3_dot 4 = .ok (.invokevirtual 197, 3) := dk_182 0 197 (dk_at dksX3_dot_0 4 rfl rfl)
theorem dX3_dot_7 : decode cX3_dot 7 = .ok (.ifCond .eq 7, 3) := dk_153 0 7 (dk_at dksX3_dot_0 7 rfl rfl)
theorem dX3_dot_10 : decode cX3_dot 10 = .ok (.iconst 0, 1) := dk_3 (dk_at dksX3_dot_0 10 rfl rfl)
theorem dX3_dot_11 : decode cX3_dot 11 = .ok (.goto 4, 3) := dk_167 0 4 (dk_at dksX3_dot_0 11 rfl rfl)
theorem dX3_dot_14 : decode cX3_dot 14 = .ok (.iconst 1, 1) := dk_4 (dk_at dksX3_dot_0 14 rfl rfl)
theorem dX3_dot_15 : decode cX3_dot 15 = .ok (.putfield 90, 3) := dk_181 0 90 (dk_at dksX3_dot_0 15 rfl rfl)
theorem dX3_dot_18 : decode cX3_dot 18 = .ok (.aload_n 0, 1) := dk_42 (dk_at dksX3_dot_0 18 rfl rfl)
theorem dX3_dot_19 : decode cX3_dot 19 = .ok (.getfield 90, 3) := dk_180 0 90 (dk_at dksX3_dot_0 19 rfl rfl)
theorem dX3_dot_22 : decode cX3_dot 22 = .ok (.ifCond .le 7, 3) := dk_158 0 7 (dk_at dksX3_dot_1 0 rfl rfl)
theorem dX3_dot_25 : decode cX3_dot 25 = .ok (.iconst 0, 1) := dk_3 (dk_at dksX3_dot_1 3 rfl rfl)
theorem dX3_dot_26 : decode cX3_dot 26 = .ok (.goto 13, 3) := dk_167 0 13 (dk_at dksX3_dot_1 4 rfl rfl)
theorem dX3_dot_29 : decode cX3_dot 29 = .ok (.aload_n 0, 1) := dk_42 (dk_at dksX3_dot_1 7 rfl rfl)
theorem dX3_dot_30 : decode cX3_dot 30 = .ok (.getfield 7, 3) := dk_180 0 7 (dk_at dksX3_dot_1 8 rfl rfl)
theorem dX3_dot_33 : decode cX3_dot 33 = .ok (.iload_n 1, 1) := dk_27 (dk_at dksX3_dot_1 11 rfl rfl)
theorem dX3_dot_34 : decode cX3_dot 34 = .ok (.iload_n 2, 1) := dk_28 (dk_at dksX3_dot_1 12 rfl rfl)
theorem dX3_dot_35 : decode cX3_dot 35 = .ok (.invokestatic 96, 3) := dk_184 0 96 (dk_at dksX3_dot_1 13 rfl rfl)
theorem dX3_dot_38 : decode cX3_dot 38 = .ok (.iaload, 1) := dk_46 (dk_at dksX3_dot_1 16 rfl rfl)
theorem dX3_dot_39 : decode cX3_dot 39 = .ok (.ireturn, 1) := dk_172 (dk_at dksX3_dot_1 17 rfl rfl)
abbrev cX3_isDot : ByteArray := prog_18_method_35_code
def yX3_isDot : MethodName := ⟨RX3, "isDot", "(II)Z"⟩
def dkwX3_isDot_1 : List UInt8 := [4, 167, 0, 4, 3, 172]
abbrev dktX3_isDot_1 : List UInt8 := dkwX3_isDot_1 ++ []
def dkwX3_isDot_0 : List UInt8 := [42, 27, 182, 0, 194, 153, 0, 23, 28, 3, 42, 180, 0, 7, 3, 46, 4, 100, 184, 0, 124, 153, 0, 7]
abbrev dktX3_isDot_0 : List UInt8 := dkwX3_isDot_0 ++ dktX3_isDot_1
theorem dksX3_isDot_0 : cX3_isDot.data.toList.drop 0 = dktX3_isDot_0 := by decide +kernel
theorem dksX3_isDot_1 : cX3_isDot.data.toList.drop 24 = dktX3_isDot_1 := dk_seg dksX3_isDot_0 24 rfl rfl
theorem dX3_isDot_0 : decode cX3_isDot 0 = .ok (.aload_n 0, 1) := dk_42 (dk_at dksX3_isDot_0 0 rfl rfl)
theorem dX3_isDot_1 : decode cX3_isDot 1 = .ok (.iload_n 1, 1) := dk_27 (dk_at dksX3_isDot_0 1 rfl rfl)
theorem dX3_isDot_2 : decode cX3_isDot 2 = .ok (.invokevirtual 194, 3) := dk_182 0 194 (dk_at dksX3_isDot_0 2 rfl rfl)
theorem dX3_isDot_5 : decode cX3_isDot 5 = .ok (.ifCond .eq 23, 3) := dk_153 0 23 (dk_at dksX3_isDot_0 5 rfl rfl)
theorem dX3_isDot_8 : decode cX3_isDot 8 = .ok (.iload_n 2, 1) := dk_28 (dk_at dksX3_isDot_0 8 rfl rfl)
theorem dX3_isDot_9 : decode cX3_isDot 9 = .ok (.iconst 0, 1) := dk_3 (dk_at dksX3_isDot_0 9 rfl rfl)
theorem dX3_isDot_10 : decode cX3_isDot 10 = .ok (.aload_n 0, 1) := dk_42 (dk_at dksX3_isDot_0 10 rfl rfl)
theorem dX3_isDot_11 : decode cX3_isDot 11 = .ok (.getfield 7, 3) := dk_180 0 7 (dk_at dksX3_isDot_0 11 rfl rfl)
theorem dX3_isDot_14 : decode cX3_isDot 14 = .ok (.iconst 0, 1) := dk_3 (dk_at dksX3_isDot_0 14 rfl rfl)
theorem dX3_isDot_15 : decode cX3_isDot 15 = .ok (.iaload, 1) := dk_46 (dk_at dksX3_isDot_0 15 rfl rfl)
theorem dX3_isDot_16 : decode cX3_isDot 16 = .ok (.iconst 1, 1) := dk_4 (dk_at dksX3_isDot_0 16 rfl rfl)
theorem dX3_isDot_17 : decode cX3_isDot 17 = .ok (.isub, 1) := dk_100 (dk_at dksX3_isDot_0 17 rfl rfl)
theorem dX3_isDot_18 : decode cX3_isDot 18 = .ok (.invokestatic 124, 3) := dk_184 0 124 (dk_at dksX3_isDot_0 18 rfl rfl)
theorem dX3_isDot_21 : decode cX3_isDot 21 = .ok (.ifCond .eq 7, 3) := dk_153 0 7 (dk_at dksX3_isDot_0 21 rfl rfl)
theorem dX3_isDot_24 : decode cX3_isDot 24 = .ok (.iconst 1, 1) := dk_4 (dk_at dksX3_isDot_1 0 rfl rfl)
theorem dX3_isDot_25 : decode cX3_isDot 25 = .ok (.goto 4, 3) := dk_167 0 4 (dk_at dksX3_isDot_1 1 rfl rfl)
theorem dX3_isDot_28 : decode cX3_isDot 28 = .ok (.iconst 0, 1) := dk_3 (dk_at dksX3_isDot_1 4 rfl rfl)
theorem dX3_isDot_29 : decode cX3_isDot 29 = .ok (.ireturn, 1) := dk_172 (dk_at dksX3_isDot_1 5 rfl rfl)
abbrev cX3_isLine : ByteArray := prog_18_method_34_code
def yX3_isLine : MethodName := ⟨RX3, "isLine", "(I)Z"⟩
def dkwX3_isLine_0 : List UInt8 := [27, 3, 42, 180, 0, 7, 4, 46, 4, 100, 184, 0, 124, 172]
abbrev dktX3_isLine_0 : List UInt8 := dkwX3_isLine_0 ++ []
theorem dksX3_isLine_0 : cX3_isLine.data.toList.drop 0 = dktX3_isLine_0 := by decide +kernel
theorem dX3_isLine_0 : decode cX3_isLine 0 = .ok (.iload_n 1, 1) := dk_27 (dk_at dksX3_isLine_0 0 rfl rfl)
theorem dX3_isLine_1 : decode cX3_isLine 1 = .ok (.iconst 0, 1) := dk_3 (dk_at dksX3_isLine_0 1 rfl rfl)
theorem dX3_isLine_2 : decode cX3_isLine 2 = .ok (.aload_n 0, 1) := dk_42 (dk_at dksX3_isLine_0 2 rfl rfl)
theorem dX3_isLine_3 : decode cX3_isLine 3 = .ok (.getfield 7, 3) := dk_180 0 7 (dk_at dksX3_isLine_0 3 rfl rfl)
theorem dX3_isLine_6 : decode cX3_isLine 6 = .ok (.iconst 1, 1) := dk_4 (dk_at dksX3_isLine_0 6 rfl rfl)
theorem dX3_isLine_7 : decode cX3_isLine 7 = .ok (.iaload, 1) := dk_46 (dk_at dksX3_isLine_0 7 rfl rfl)
theorem dX3_isLine_8 : decode cX3_isLine 8 = .ok (.iconst 1, 1) := dk_4 (dk_at dksX3_isLine_0 8 rfl rfl)
theorem dX3_isLine_9 : decode cX3_isLine 9 = .ok (.isub, 1) := dk_100 (dk_at dksX3_isLine_0 9 rfl rfl)
theorem dX3_isLine_10 : decode cX3_isLine 10 = .ok (.invokestatic 124, 3) := dk_184 0 124 (dk_at dksX3_isLine_0 10 rfl rfl)
theorem dX3_isLine_13 : decode cX3_isLine 13 = .ok (.ireturn, 1) := dk_172 (dk_at dksX3_isLine_0 13 rfl rfl)
abbrev cX3_line : ByteArray := prog_18_method_38_code
def yX3_line : MethodName := ⟨RX3, "line", "(II)I"⟩
def dkwX3_line_5 : List UInt8 := [46, 172, 42, 27, 182, 0, 179, 172, 42, 27, 182, 0, 204, 172, 42, 28, 16, 6, 100, 182, 0, 207, 172]
abbrev dktX3_line_5 : List UInt8 := dkwX3_line_5 ++ []
def dkwX3_line_4 : List UInt8 := [42, 27, 182, 0, 201, 172, 42, 180, 0, 151, 172, 42, 180, 0, 111, 172, 42, 180, 0, 7, 16, 8, 27, 96]
abbrev dktX3_line_4 : List UInt8 := dkwX3_line_4 ++ dktX3_line_5
def dkwX3_line_3 : List UInt8 := [42, 27, 182, 0, 173, 153, 0, 7, 4, 167, 0, 4, 3, 172, 42, 182, 0, 166, 172, 42, 182, 0, 170, 172]
abbrev dktX3_line_3 : List UInt8 := dkwX3_line_3 ++ dktX3_line_4
def dkwX3_line_2 : List UInt8 := [170, 0, 0, 0, 0, 124, 0, 0, 0, 0, 0, 0, 0, 11, 0, 0, 0, 62, 0, 0, 0, 76, 0, 0, 0, 81, 0, 0, 0, 86, 0, 0, 0, 92, 0, 0, 0, 97, 0, 0, 0, 124, 0, 0, 0, 124, 0, 0, 0, 124, 0, 0, 0, 102, 0, 0, 0, 112, 0, 0, 0, 118]
abbrev dktX3_line_2 : List UInt8 := dkwX3_line_2 ++ dktX3_line_3
def dkwX3_line_1 : List UInt8 := [167, 0, 4, 5, 181, 0, 90, 42, 180, 0, 90, 158, 0, 5, 3, 172, 42, 27, 182, 0, 163, 28]
abbrev dktX3_line_1 : List UInt8 := dkwX3_line_1 ++ dktX3_line_2
def dkwX3_line_0 : List UInt8 := [42, 42, 27, 182, 0, 194, 154, 0, 7, 4, 167, 0, 18, 28, 3, 16, 11, 184, 0, 124, 153, 0, 7, 3]
abbrev dktX3_line_0 : List UInt8 := dkwX3_line_0 ++ dktX3_line_1
theorem dksX3_line_0 : cX3_line.data.toList.drop 0 = dktX3_line_0 := by decide +kernel
theorem dksX3_line_1 : cX3_line.data.toList.drop 24 = dktX3_line_1 := dk_seg dksX3_line_0 24 rfl rfl
theorem dksX3_line_2 : cX3_line.data.toList.drop 46 = dktX3_line_2 := dk_seg dksX3_line_1 22 rfl rfl
theorem dksX3_line_3 : cX3_line.data.toList.drop 108 = dktX3_line_3 := dk_seg dksX3_line_2 62 rfl rfl
theorem dksX3_line_4 : cX3_line.data.toList.drop 132 = dktX3_line_4 := dk_seg dksX3_line_3 24 rfl rfl
theorem dksX3_line_5 : cX3_line.data.toList.drop 156 = dktX3_line_5 := dk_seg dksX3_line_4 24 rfl rfl
theorem dX3_line_0 : decode cX3_line 0 = .ok (.aload_n 0, 1) := dk_42 (dk_at dksX3_line_0 0 rfl rfl)
theorem dX3_line_1 : decode cX3_line 1 = .ok (.aload_n 0, 1) := dk_42 (dk_at dksX3_line_0 1 rfl rfl)
theorem dX3_line_2 : decode cX3_line 2 = .ok (.iload_n 1, 1) := dk_27 (dk_at dksX3_line_0 2 rfl rfl)
theorem dX3_line_3 : decode cX3_line 3 = .ok (.invokevirtual 194, 3) := dk_182 0 194 (dk_at dksX3_line_0 3 rfl rfl)
theorem dX3_line_6 : decode cX3_line 6 = .ok (.ifCond .ne 7, 3) := dk_154 0 7 (dk_at dksX3_line_0 6 rfl rfl)
theorem dX3_line_9 : decode cX3_line 9 = .ok (.iconst 1, 1) := dk_4 (dk_at dksX3_line_0 9 rfl rfl)
theorem dX3_line_10 : decode cX3_line 10 = .ok (.goto 18, 3) := dk_167 0 18 (dk_at dksX3_line_0 10 rfl rfl)
theorem dX3_line_13 : decode cX3_line 13 = .ok (.iload_n 2, 1) := dk_28 (dk_at dksX3_line_0 13 rfl rfl)
theorem dX3_line_14 : decode cX3_line 14 = .ok (.iconst 0, 1) := dk_3 (dk_at dksX3_line_0 14 rfl rfl)
theorem dX3_line_15 : decode cX3_line 15 = .ok (.bipush 11, 2) := dk_16 11 (dk_at dksX3_line_0 15 rfl rfl)
theorem dX3_line_17 : decode cX3_line 17 = .ok (.invokestatic 124, 3) := dk_184 0 124 (dk_at dksX3_line_0 17 rfl rfl)
theorem dX3_line_20 : decode cX3_line 20 = .ok (.ifCond .eq 7, 3) := dk_153 0 7 (dk_at dksX3_line_0 20 rfl rfl)
theorem dX3_line_23 : decode cX3_line 23 = .ok (.iconst 0, 1) := dk_3 (dk_at dksX3_line_0 23 rfl rfl)
theorem dX3_line_24 : decode cX3_line 24 = .ok (.goto 4, 3) := dk_167 0 4 (dk_at dksX3_line_1 0 rfl rfl)
theorem dX3_line_27 : decode cX3_line 27 = .ok (.iconst 2, 1) := dk_5 (dk_at dksX3_line_1 3 rfl rfl)
theorem dX3_line_28 : decode cX3_line 28 = .ok (.putfield 90, 3) := dk_181 0 90 (dk_at dksX3_line_1 4 rfl rfl)
theorem dX3_line_31 : decode cX3_line 31 = .ok (.aload_n 0, 1) := dk_42 (dk_at dksX3_line_1 7 rfl rfl)
theorem dX3_line_32 : decode cX3_line 32 = .ok (.getfield 90, 3) := dk_180 0 90 (dk_at dksX3_line_1 8 rfl rfl)
theorem dX3_line_35 : decode cX3_line 35 = .ok (.ifCond .le 5, 3) := dk_158 0 5 (dk_at dksX3_line_1 11 rfl rfl)
theorem dX3_line_38 : decode cX3_line 38 = .ok (.iconst 0, 1) := dk_3 (dk_at dksX3_line_1 14 rfl rfl)
theorem dX3_line_39 : decode cX3_line 39 = .ok (.ireturn, 1) := dk_172 (dk_at dksX3_line_1 15 rfl rfl)
theorem dX3_line_40 : decode cX3_line 40 = .ok (.aload_n 0, 1) := dk_42 (dk_at dksX3_line_1 16 rfl rfl)
theorem dX3_line_41 : decode cX3_line 41 = .ok (.iload_n 1, 1) := dk_27 (dk_at dksX3_line_1 17 rfl rfl)
theorem dX3_line_42 : decode cX3_line 42 = .ok (.invokevirtual 163, 3) := dk_182 0 163 (dk_at dksX3_line_1 18 rfl rfl)
theorem dX3_line_45 : decode cX3_line 45 = .ok (.iload_n 2, 1) := dk_28 (dk_at dksX3_line_1 21 rfl rfl)
theorem dX3_line_46 : decode cX3_line 46 = .ok (.tableswitch 124 0 11 #[62, 76, 81, 86, 92, 97, 124, 124, 124, 102, 112, 118], 62) := by decide +kernel
theorem dX3_line_108 : decode cX3_line 108 = .ok (.aload_n 0, 1) := dk_42 (dk_at dksX3_line_3 0 rfl rfl)
theorem dX3_line_109 : decode cX3_line 109 = .ok (.iload_n 1, 1) := dk_27 (dk_at dksX3_line_3 1 rfl rfl)
theorem dX3_line_110 : decode cX3_line 110 = .ok (.invokevirtual 173, 3) := dk_182 0 173 (dk_at dksX3_line_3 2 rfl rfl)
theorem dX3_line_113 : decode cX3_line 113 = .ok (.ifCond .eq 7, 3) := dk_153 0 7 (dk_at dksX3_line_3 5 rfl rfl)
theorem dX3_line_116 : decode cX3_line 116 = .ok (.iconst 1, 1) := dk_4 (dk_at dksX3_line_3 8 rfl rfl)
theorem dX3_line_117 : decode cX3_line 117 = .ok (.goto 4, 3) := dk_167 0 4 (dk_at dksX3_line_3 9 rfl rfl)
theorem dX3_line_120 : decode cX3_line 120 = .ok (.iconst 0, 1) := dk_3 (dk_at dksX3_line_3 12 rfl rfl)
theorem dX3_line_121 : decode cX3_line 121 = .ok (.ireturn, 1) := dk_172 (dk_at dksX3_line_3 13 rfl rfl)
theorem dX3_line_122 : decode cX3_line 122 = .ok (.aload_n 0, 1) := dk_42 (dk_at dksX3_line_3 14 rfl rfl)
theorem dX3_line_123 : decode cX3_line 123 = .ok (.invokevirtual 166, 3) := dk_182 0 166 (dk_at dksX3_line_3 15 rfl rfl)
theorem dX3_line_126 : decode cX3_line 126 = .ok (.ireturn, 1) := dk_172 (dk_at dksX3_line_3 18 rfl rfl)
theorem dX3_line_127 : decode cX3_line 127 = .ok (.aload_n 0, 1) := dk_42 (dk_at dksX3_line_3 19 rfl rfl)
theorem dX3_line_128 : decode cX3_line 128 = .ok (.invokevirtual 170, 3) := dk_182 0 170 (dk_at dksX3_line_3 20 rfl rfl)
theorem dX3_line_131 : decode cX3_line 131 = .ok (.ireturn, 1) := dk_172 (dk_at dksX3_line_3 23 rfl rfl)
theorem dX3_line_132 : decode cX3_line 132 = .ok (.aload_n 0, 1) := dk_42 (dk_at dksX3_line_4 0 rfl rfl)
theorem dX3_line_133 : decode cX3_line 133 = .ok (.iload_n 1, 1) := dk_27 (dk_at dksX3_line_4 1 rfl rfl)
theorem dX3_line_134 : decode cX3_line 134 = .ok (.invokevirtual 201, 3) := dk_182 0 201 (dk_at dksX3_line_4 2 rfl rfl)
theorem dX3_line_137 : decode cX3_line 137 = .ok (.ireturn, 1) := dk_172 (dk_at dksX3_line_4 5 rfl rfl)
theorem dX3_line_138 : decode cX3_line 138 = .ok (.aload_n 0, 1) := dk_42 (dk_at dksX3_line_4 6 rfl rfl)
theorem dX3_line_139 : decode cX3_line 139 = .ok (.getfield 151, 3) := dk_180 0 151 (dk_at dksX3_line_4 7 rfl rfl)
theorem dX3_line_142 : decode cX3_line 142 = .ok (.ireturn, 1) := dk_172 (dk_at dksX3_line_4 10 rfl rfl)
theorem dX3_line_143 : decode cX3_line 143 = .ok (.aload_n 0, 1) := dk_42 (dk_at dksX3_line_4 11 rfl rfl)
theorem dX3_line_144 : decode cX3_line 144 = .ok (.getfield 111, 3) := dk_180 0 111 (dk_at dksX3_line_4 12 rfl rfl)
theorem dX3_line_147 : decode cX3_line 147 = .ok (.ireturn, 1) := dk_172 (dk_at dksX3_line_4 15 rfl rfl)
theorem dX3_line_148 : decode cX3_line 148 = .ok (.aload_n 0, 1) := dk_42 (dk_at dksX3_line_4 16 rfl rfl)
theorem dX3_line_149 : decode cX3_line 149 = .ok (.getfield 7, 3) := dk_180 0 7 (dk_at dksX3_line_4 17 rfl rfl)
theorem dX3_line_152 : decode cX3_line 152 = .ok (.bipush 8, 2) := dk_16 8 (dk_at dksX3_line_4 20 rfl rfl)
theorem dX3_line_154 : decode cX3_line 154 = .ok (.iload_n 1, 1) := dk_27 (dk_at dksX3_line_4 22 rfl rfl)
theorem dX3_line_155 : decode cX3_line 155 = .ok (.iadd, 1) := dk_96 (dk_at dksX3_line_4 23 rfl rfl)
theorem dX3_line_156 : decode cX3_line 156 = .ok (.iaload, 1) := dk_46 (dk_at dksX3_line_5 0 rfl rfl)
theorem dX3_line_157 : decode cX3_line 157 = .ok (.ireturn, 1) := dk_172 (dk_at dksX3_line_5 1 rfl rfl)
theorem dX3_line_158 : decode cX3_line 158 = .ok (.aload_n 0, 1) := dk_42 (dk_at dksX3_line_5 2 rfl rfl)
theorem dX3_line_159 : decode cX3_line 159 = .ok (.iload_n 1, 1) := dk_27 (dk_at dksX3_line_5 3 rfl rfl)
theorem dX3_line_160 : decode cX3_line 160 = .ok (.invokevirtual 179, 3) := dk_182 0 179 (dk_at dksX3_line_5 4 rfl rfl)
theorem dX3_line_163 : decode cX3_line 163 = .ok (.ireturn, 1) := dk_172 (dk_at dksX3_line_5 7 rfl rfl)
theorem dX3_line_164 : decode cX3_line 164 = .ok (.aload_n 0, 1) := dk_42 (dk_at dksX3_line_5 8 rfl rfl)
theorem dX3_line_165 : decode cX3_line 165 = .ok (.iload_n 1, 1) := dk_27 (dk_at dksX3_line_5 9 rfl rfl)
theorem dX3_line_166 : decode cX3_line 166 = .ok (.invokevirtual 204, 3) := dk_182 0 204 (dk_at dksX3_line_5 10 rfl rfl)
theorem dX3_line_169 : decode cX3_line 169 = .ok (.ireturn, 1) := dk_172 (dk_at dksX3_line_5 13 rfl rfl)
theorem dX3_line_170 : decode cX3_line 170 = .ok (.aload_n 0, 1) := dk_42 (dk_at dksX3_line_5 14 rfl rfl)
theorem dX3_line_171 : decode cX3_line 171 = .ok (.iload_n 2, 1) := dk_28 (dk_at dksX3_line_5 15 rfl rfl)
theorem dX3_line_172 : decode cX3_line 172 = .ok (.bipush 6, 2) := dk_16 6 (dk_at dksX3_line_5 16 rfl rfl)
theorem dX3_line_174 : decode cX3_line 174 = .ok (.isub, 1) := dk_100 (dk_at dksX3_line_5 18 rfl rfl)
theorem dX3_line_175 : decode cX3_line 175 = .ok (.invokevirtual 207, 3) := dk_182 0 207 (dk_at dksX3_line_5 19 rfl rfl)
theorem dX3_line_178 : decode cX3_line 178 = .ok (.ireturn, 1) := dk_172 (dk_at dksX3_line_5 22 rfl rfl)
abbrev cX3_sentBits : ByteArray := prog_18_method_26_code
def yX3_sentBits : MethodName := ⟨RX3, "sentBits", "(I)I"⟩
def dkwX3_sentBits_1 : List UInt8 := [182, 0, 170, 172]
abbrev dktX3_sentBits_1 : List UInt8 := dkwX3_sentBits_1 ++ []
def dkwX3_sentBits_0 : List UInt8 := [42, 27, 182, 0, 173, 61, 42, 27, 182, 0, 163, 28, 153, 0, 10, 42, 182, 0, 166, 167, 0, 7, 42]
abbrev dktX3_sentBits_0 : List UInt8 := dkwX3_sentBits_0 ++ dktX3_sentBits_1
theorem dksX3_sentBits_0 : cX3_sentBits.data.toList.drop 0 = dktX3_sentBits_0 := by decide +kernel
theorem dksX3_sentBits_1 : cX3_sentBits.data.toList.drop 23 = dktX3_sentBits_1 := dk_seg dksX3_sentBits_0 23 rfl rfl
theorem dX3_sentBits_0 : decode cX3_sentBits 0 = .ok (.aload_n 0, 1) := dk_42 (dk_at dksX3_sentBits_0 0 rfl rfl)
theorem dX3_sentBits_1 : decode cX3_sentBits 1 = .ok (.iload_n 1, 1) := dk_27 (dk_at dksX3_sentBits_0 1 rfl rfl)
theorem dX3_sentBits_2 : decode cX3_sentBits 2 = .ok (.invokevirtual 173, 3) := dk_182 0 173 (dk_at dksX3_sentBits_0 2 rfl rfl)
theorem dX3_sentBits_5 : decode cX3_sentBits 5 = .ok (.istore_n 2, 1) := dk_61 (dk_at dksX3_sentBits_0 5 rfl rfl)
theorem dX3_sentBits_6 : decode cX3_sentBits 6 = .ok (.aload_n 0, 1) := dk_42 (dk_at dksX3_sentBits_0 6 rfl rfl)
theorem dX3_sentBits_7 : decode cX3_sentBits 7 = .ok (.iload_n 1, 1) := dk_27 (dk_at dksX3_sentBits_0 7 rfl rfl)
theorem dX3_sentBits_8 : decode cX3_sentBits 8 = .ok (.invokevirtual 163, 3) := dk_182 0 163 (dk_at dksX3_sentBits_0 8 rfl rfl)
theorem dX3_sentBits_11 : decode cX3_sentBits 11 = .ok (.iload_n 2, 1) := dk_28 (dk_at dksX3_sentBits_0 11 rfl rfl)
theorem dX3_sentBits_12 : decode cX3_sentBits 12 = .ok (.ifCond .eq 10, 3) := dk_153 0 10 (dk_at dksX3_sentBits_0 12 rfl rfl)
theorem dX3_sentBits_15 : decode cX3_sentBits 15 = .ok (.aload_n 0, 1) := dk_42 (dk_at dksX3_sentBits_0 15 rfl rfl)
theorem dX3_sentBits_16 : decode cX3_sentBits 16 = .ok (.invokevirtual 166, 3) := dk_182 0 166 (dk_at dksX3_sentBits_0 16 rfl rfl)
theorem dX3_sentBits_19 : decode cX3_sentBits 19 = .ok (.goto 7, 3) := dk_167 0 7 (dk_at dksX3_sentBits_0 19 rfl rfl)
theorem dX3_sentBits_22 : decode cX3_sentBits 22 = .ok (.aload_n 0, 1) := dk_42 (dk_at dksX3_sentBits_0 22 rfl rfl)
theorem dX3_sentBits_23 : decode cX3_sentBits 23 = .ok (.invokevirtual 170, 3) := dk_182 0 170 (dk_at dksX3_sentBits_1 0 rfl rfl)
theorem dX3_sentBits_26 : decode cX3_sentBits 26 = .ok (.ireturn, 1) := dk_172 (dk_at dksX3_sentBits_1 3 rfl rfl)
abbrev cX3_markUpTo : ByteArray := prog_18_method_27_code
def yX3_markUpTo : MethodName := ⟨RX3, "markUpTo", "(I)I"⟩
def dkwX3_markUpTo_0 : List UInt8 := [27, 61, 42, 28, 182, 0, 173, 154, 0, 9, 132, 2, 255, 167, 255, 245, 28, 172]
abbrev dktX3_markUpTo_0 : List UInt8 := dkwX3_markUpTo_0 ++ []
theorem dksX3_markUpTo_0 : cX3_markUpTo.data.toList.drop 0 = dktX3_markUpTo_0 := by decide +kernel
theorem dX3_markUpTo_0 : decode cX3_markUpTo 0 = .ok (.iload_n 1, 1) := dk_27 (dk_at dksX3_markUpTo_0 0 rfl rfl)
theorem dX3_markUpTo_1 : decode cX3_markUpTo 1 = .ok (.istore_n 2, 1) := dk_61 (dk_at dksX3_markUpTo_0 1 rfl rfl)
theorem dX3_markUpTo_2 : decode cX3_markUpTo 2 = .ok (.aload_n 0, 1) := dk_42 (dk_at dksX3_markUpTo_0 2 rfl rfl)
theorem dX3_markUpTo_3 : decode cX3_markUpTo 3 = .ok (.iload_n 2, 1) := dk_28 (dk_at dksX3_markUpTo_0 3 rfl rfl)
theorem dX3_markUpTo_4 : decode cX3_markUpTo 4 = .ok (.invokevirtual 173, 3) := dk_182 0 173 (dk_at dksX3_markUpTo_0 4 rfl rfl)
theorem dX3_markUpTo_7 : decode cX3_markUpTo 7 = .ok (.ifCond .ne 9, 3) := dk_154 0 9 (dk_at dksX3_markUpTo_0 7 rfl rfl)
theorem dX3_markUpTo_10 : decode cX3_markUpTo 10 = .ok (.iinc 2 (-1), 3) := dk_132 2 255 (dk_at dksX3_markUpTo_0 10 rfl rfl)
theorem dX3_markUpTo_13 : decode cX3_markUpTo 13 = .ok (.goto (-11), 3) := dk_167 255 245 (dk_at dksX3_markUpTo_0 13 rfl rfl)
theorem dX3_markUpTo_16 : decode cX3_markUpTo 16 = .ok (.iload_n 2, 1) := dk_28 (dk_at dksX3_markUpTo_0 16 rfl rfl)
theorem dX3_markUpTo_17 : decode cX3_markUpTo 17 = .ok (.ireturn, 1) := dk_172 (dk_at dksX3_markUpTo_0 17 rfl rfl)
abbrev cX3_modesOf : ByteArray := prog_18_method_37_code
def yX3_modesOf : MethodName := ⟨RX3, "modesOf", "(I)I"⟩
def dkwX3_modesOf_1 : List UInt8 := [167, 0, 4, 3, 96, 61, 132, 3, 1, 167, 255, 227, 28, 172]
abbrev dktX3_modesOf_1 : List UInt8 := dkwX3_modesOf_1 ++ []
def dkwX3_modesOf_0 : List UInt8 := [3, 61, 3, 62, 29, 42, 180, 0, 111, 162, 0, 27, 28, 42, 180, 0, 32, 29, 46, 27, 160, 0, 7, 4]
abbrev dktX3_modesOf_0 : List UInt8 := dkwX3_modesOf_0 ++ dktX3_modesOf_1
theorem dksX3_modesOf_0 : cX3_modesOf.data.toList.drop 0 = dktX3_modesOf_0 := by decide +kernel
theorem dksX3_modesOf_1 : cX3_modesOf.data.toList.drop 24 = dktX3_modesOf_1 := dk_seg dksX3_modesOf_0 24 rfl rfl
theorem dX3_modesOf_0 : decode cX3_modesOf 0 = .ok (.iconst 0, 1) := dk_3 (dk_at dksX3_modesOf_0 0 rfl rfl)
theorem dX3_modesOf_1 : decode cX3_modesOf 1 = .ok (.istore_n 2, 1) := dk_61 (dk_at dksX3_modesOf_0 1 rfl rfl)
theorem dX3_modesOf_2 : decode cX3_modesOf 2 = .ok (.iconst 0, 1) := dk_3 (dk_at dksX3_modesOf_0 2 rfl rfl)
theorem dX3_modesOf_3 : decode cX3_modesOf 3 = .ok (.istore_n 3, 1) := dk_62 (dk_at dksX3_modesOf_0 3 rfl rfl)
theorem dX3_modesOf_4 : decode cX3_modesOf 4 = .ok (.iload_n 3, 1) := dk_29 (dk_at dksX3_modesOf_0 4 rfl rfl)
theorem dX3_modesOf_5 : decode cX3_modesOf 5 = .ok (.aload_n 0, 1) := dk_42 (dk_at dksX3_modesOf_0 5 rfl rfl)
theorem dX3_modesOf_6 : decode cX3_modesOf 6 = .ok (.getfield 111, 3) := dk_180 0 111 (dk_at dksX3_modesOf_0 6 rfl rfl)
theorem dX3_modesOf_9 : decode cX3_modesOf 9 = .ok (.if_icmp .ge 27, 3) := dk_162 0 27 (dk_at dksX3_modesOf_0 9 rfl rfl)
theorem dX3_modesOf_12 : decode cX3_modesOf 12 = .ok (.iload_n 2, 1) := dk_28 (dk_at dksX3_modesOf_0 12 rfl rfl)
theorem dX3_modesOf_13 : decode cX3_modesOf 13 = .ok (.aload_n 0, 1) := dk_42 (dk_at dksX3_modesOf_0 13 rfl rfl)
theorem dX3_modesOf_14 : decode cX3_modesOf 14 = .ok (.getfield 32, 3) := dk_180 0 32 (dk_at dksX3_modesOf_0 14 rfl rfl)
theorem dX3_modesOf_17 : decode cX3_modesOf 17 = .ok (.iload_n 3, 1) := dk_29 (dk_at dksX3_modesOf_0 17 rfl rfl)
theorem dX3_modesOf_18 : decode cX3_modesOf 18 = .ok (.iaload, 1) := dk_46 (dk_at dksX3_modesOf_0 18 rfl rfl)
theorem dX3_modesOf_19 : decode cX3_modesOf 19 = .ok (.iload_n 1, 1) := dk_27 (dk_at dksX3_modesOf_0 19 rfl rfl)
theorem dX3_modesOf_20 : decode cX3_modesOf 20 = .ok (.if_icmp .ne 7, 3) := dk_160 0 7 (dk_at dksX3_modesOf_0 20 rfl rfl)
theorem dX3_modesOf_23 : decode cX3_modesOf 23 = .ok (.iconst 1, 1) := dk_4 (dk_at dksX3_modesOf_0 23 rfl rfl)
theorem dX3_modesOf_24 : decode cX3_modesOf 24 = .ok (.goto 4, 3) := dk_167 0 4 (dk_at dksX3_modesOf_1 0 rfl rfl)
theorem dX3_modesOf_27 : decode cX3_modesOf 27 = .ok (.iconst 0, 1) := dk_3 (dk_at dksX3_modesOf_1 3 rfl rfl)
theorem dX3_modesOf_28 : decode cX3_modesOf 28 = .ok (.iadd, 1) := dk_96 (dk_at dksX3_modesOf_1 4 rfl rfl)
theorem dX3_modesOf_29 : decode cX3_modesOf 29 = .ok (.istore_n 2, 1) := dk_61 (dk_at dksX3_modesOf_1 5 rfl rfl)
theorem dX3_modesOf_30 : decode cX3_modesOf 30 = .ok (.iinc 3 1, 3) := dk_132 3 1 (dk_at dksX3_modesOf_1 6 rfl rfl)
theorem dX3_modesOf_33 : decode cX3_modesOf 33 = .ok (.goto (-29), 3) := dk_167 255 227 (dk_at dksX3_modesOf_1 9 rfl rfl)
theorem dX3_modesOf_36 : decode cX3_modesOf 36 = .ok (.iload_n 2, 1) := dk_28 (dk_at dksX3_modesOf_1 12 rfl rfl)
theorem dX3_modesOf_37 : decode cX3_modesOf 37 = .ok (.ireturn, 1) := dk_172 (dk_at dksX3_modesOf_1 13 rfl rfl)
abbrev cX3_run : ByteArray := prog_18_method_39_code
def yX3_run : MethodName := ⟨RX3, "run", "(II)I"⟩
def dkwX3_run_2 : List UInt8 := [180, 0, 47, 28, 46, 167, 0, 4, 2, 172]
abbrev dktX3_run_2 : List UInt8 := dkwX3_run_2 ++ []
def dkwX3_run_1 : List UInt8 := [180, 0, 90, 158, 0, 5, 3, 172, 42, 27, 182, 0, 163, 28, 42, 180, 0, 151, 162, 0, 12, 42]
abbrev dktX3_run_1 : List UInt8 := dkwX3_run_1 ++ dktX3_run_2
def dkwX3_run_0 : List UInt8 := [42, 42, 27, 182, 0, 194, 153, 0, 11, 28, 155, 0, 7, 3, 167, 0, 4, 4, 181, 0, 90, 42]
abbrev dktX3_run_0 : List UInt8 := dkwX3_run_0 ++ dktX3_run_1
theorem dksX3_run_0 : cX3_run.data.toList.drop 0 = dktX3_run_0 := by decide +kernel
theorem dksX3_run_1 : cX3_run.data.toList.drop 22 = dktX3_run_1 := dk_seg dksX3_run_0 22 rfl rfl
theorem dksX3_run_2 : cX3_run.data.toList.drop 44 = dktX3_run_2 := dk_seg dksX3_run_1 22 rfl rfl
theorem dX3_run_0 : decode cX3_run 0 = .ok (.aload_n 0, 1) := dk_42 (dk_at dksX3_run_0 0 rfl rfl)
theorem dX3_run_1 : decode cX3_run 1 = .ok (.aload_n 0, 1) := dk_42 (dk_at dksX3_run_0 1 rfl rfl)
theorem dX3_run_2 : decode cX3_run 2 = .ok (.iload_n 1, 1) := dk_27 (dk_at dksX3_run_0 2 rfl rfl)
theorem dX3_run_3 : decode cX3_run 3 = .ok (.invokevirtual 194, 3) := dk_182 0 194 (dk_at dksX3_run_0 3 rfl rfl)
theorem dX3_run_6 : decode cX3_run 6 = .ok (.ifCond .eq 11, 3) := dk_153 0 11 (dk_at dksX3_run_0 6 rfl rfl)
theorem dX3_run_9 : decode cX3_run 9 = .ok (.iload_n 2, 1) := dk_28 (dk_at dksX3_run_0 9 rfl rfl)
theorem dX3_run_10 : decode cX3_run 10 = .ok (.ifCond .lt 7, 3) := dk_155 0 7 (dk_at dksX3_run_0 10 rfl rfl)
theorem dX3_run_13 : decode cX3_run 13 = .ok (.iconst 0, 1) := dk_3 (dk_at dksX3_run_0 13 rfl rfl)
theorem dX3_run_14 : decode cX3_run 14 = .ok (.goto 4, 3) := dk_167 0 4 (dk_at dksX3_run_0 14 rfl rfl)
theorem dX3_run_17 : decode cX3_run 17 = .ok (.iconst 1, 1) := dk_4 (dk_at dksX3_run_0 17 rfl rfl)
theorem dX3_run_18 : decode cX3_run 18 = .ok (.putfield 90, 3) := dk_181 0 90 (dk_at dksX3_run_0 18 rfl rfl)
theorem dX3_run_21 : decode cX3_run 21 = .ok (.aload_n 0, 1) := dk_42 (dk_at dksX3_run_0 21 rfl rfl)
theorem dX3_run_22 : decode cX3_run 22 = .ok (.getfield 90, 3) := dk_180 0 90 (dk_at dksX3_run_1 0 rfl rfl)
theorem dX3_run_25 : decode cX3_run 25 = .ok (.ifCond .le 5, 3) := dk_158 0 5 (dk_at dksX3_run_1 3 rfl rfl)
theorem dX3_run_28 : decode cX3_run 28 = .ok (.iconst 0, 1) := dk_3 (dk_at dksX3_run_1 6 rfl rfl)
theorem dX3_run_29 : decode cX3_run 29 = .ok (.ireturn, 1) := dk_172 (dk_at dksX3_run_1 7 rfl rfl)
theorem dX3_run_30 : decode cX3_run 30 = .ok (.aload_n 0, 1) := dk_42 (dk_at dksX3_run_1 8 rfl rfl)
theorem dX3_run_31 : decode cX3_run 31 = .ok (.iload_n 1, 1) := dk_27 (dk_at dksX3_run_1 9 rfl rfl)
theorem dX3_run_32 : decode cX3_run 32 = .ok (.invokevirtual 163, 3) := dk_182 0 163 (dk_at dksX3_run_1 10 rfl rfl)
theorem dX3_run_35 : decode cX3_run 35 = .ok (.iload_n 2, 1) := dk_28 (dk_at dksX3_run_1 13 rfl rfl)
theorem dX3_run_36 : decode cX3_run 36 = .ok (.aload_n 0, 1) := dk_42 (dk_at dksX3_run_1 14 rfl rfl)
theorem dX3_run_37 : decode cX3_run 37 = .ok (.getfield 151, 3) := dk_180 0 151 (dk_at dksX3_run_1 15 rfl rfl)
theorem dX3_run_40 : decode cX3_run 40 = .ok (.if_icmp .ge 12, 3) := dk_162 0 12 (dk_at dksX3_run_1 18 rfl rfl)
theorem dX3_run_43 : decode cX3_run 43 = .ok (.aload_n 0, 1) := dk_42 (dk_at dksX3_run_1 21 rfl rfl)
theorem dX3_run_44 : decode cX3_run 44 = .ok (.getfield 47, 3) := dk_180 0 47 (dk_at dksX3_run_2 0 rfl rfl)
theorem dX3_run_47 : decode cX3_run 47 = .ok (.iload_n 2, 1) := dk_28 (dk_at dksX3_run_2 3 rfl rfl)
theorem dX3_run_48 : decode cX3_run 48 = .ok (.iaload, 1) := dk_46 (dk_at dksX3_run_2 4 rfl rfl)
theorem dX3_run_49 : decode cX3_run 49 = .ok (.goto 4, 3) := dk_167 0 4 (dk_at dksX3_run_2 5 rfl rfl)
theorem dX3_run_52 : decode cX3_run 52 = .ok (.iconst (-1), 1) := dk_2 (dk_at dksX3_run_2 8 rfl rfl)
theorem dX3_run_53 : decode cX3_run 53 = .ok (.ireturn, 1) := dk_172 (dk_at dksX3_run_2 9 rfl rfl)
abbrev cX3_mode : ByteArray := prog_18_method_40_code
def yX3_mode : MethodName := ⟨RX3, "mode", "(III)I"⟩
def dkwX3_mode_4 : List UInt8 := [180, 0, 38, 28, 46, 167, 0, 9, 42, 180, 0, 41, 28, 46, 172]
abbrev dktX3_mode_4 : List UInt8 := dkwX3_mode_4 ++ []
def dkwX3_mode_3 : List UInt8 := [167, 0, 37, 29, 4, 160, 0, 12, 42, 180, 0, 35, 28, 46, 167, 0, 23, 29, 5, 160, 0, 12, 42]
abbrev dktX3_mode_3 : List UInt8 := dkwX3_mode_3 ++ dktX3_mode_4
def dkwX3_mode_2 : List UInt8 := [182, 0, 163, 28, 42, 180, 0, 111, 161, 0, 6, 16, 247, 172, 29, 154, 0, 12, 42, 180, 0, 32, 28, 46]
abbrev dktX3_mode_2 : List UInt8 := dkwX3_mode_2 ++ dktX3_mode_3
def dkwX3_mode_1 : List UInt8 := [153, 0, 7, 3, 167, 0, 4, 5, 181, 0, 90, 42, 180, 0, 90, 158, 0, 5, 3, 172, 42, 27]
abbrev dktX3_mode_1 : List UInt8 := dkwX3_mode_1 ++ dktX3_mode_2
def dkwX3_mode_0 : List UInt8 := [42, 42, 27, 182, 0, 194, 153, 0, 7, 28, 156, 0, 7, 4, 167, 0, 17, 29, 3, 6, 184, 0, 124]
abbrev dktX3_mode_0 : List UInt8 := dkwX3_mode_0 ++ dktX3_mode_1
theorem dksX3_mode_0 : cX3_mode.data.toList.drop 0 = dktX3_mode_0 := by decide +kernel
theorem dksX3_mode_1 : cX3_mode.data.toList.drop 23 = dktX3_mode_1 := dk_seg dksX3_mode_0 23 rfl rfl
theorem dksX3_mode_2 : cX3_mode.data.toList.drop 45 = dktX3_mode_2 := dk_seg dksX3_mode_1 22 rfl rfl
theorem dksX3_mode_3 : cX3_mode.data.toList.drop 69 = dktX3_mode_3 := dk_seg dksX3_mode_2 24 rfl rfl
theorem dksX3_mode_4 : cX3_mode.data.toList.drop 92 = dktX3_mode_4 := dk_seg dksX3_mode_3 23 rfl rfl
theorem dX3_mode_0 : decode cX3_mode 0 = .ok (.aload_n 0, 1) := dk_42 (dk_at dksX3_mode_0 0 rfl rfl)
theorem dX3_mode_1 : decode cX3_mode 1 = .ok (.aload_n 0, 1) := dk_42 (dk_at dksX3_mode_0 1 rfl rfl)
theorem dX3_mode_2 : decode cX3_mode 2 = .ok (.iload_n 1, 1) := dk_27 (dk_at dksX3_mode_0 2 rfl rfl)
theorem dX3_mode_3 : decode cX3_mode 3 = .ok (.invokevirtual 194, 3) := dk_182 0 194 (dk_at dksX3_mode_0 3 rfl rfl)
theorem dX3_mode_6 : decode cX3_mode 6 = .ok (.ifCond .eq 7, 3) := dk_153 0 7 (dk_at dksX3_mode_0 6 rfl rfl)
theorem dX3_mode_9 : decode cX3_mode 9 = .ok (.iload_n 2, 1) := dk_28 (dk_at dksX3_mode_0 9 rfl rfl)
theorem dX3_mode_10 : decode cX3_mode 10 = .ok (.ifCond .ge 7, 3) := dk_156 0 7 (dk_at dksX3_mode_0 10 rfl rfl)
theorem dX3_mode_13 : decode cX3_mode 13 = .ok (.iconst 1, 1) := dk_4 (dk_at dksX3_mode_0 13 rfl rfl)
theorem dX3_mode_14 : decode cX3_mode 14 = .ok (.goto 17, 3) := dk_167 0 17 (dk_at dksX3_mode_0 14 rfl rfl)
theorem dX3_mode_17 : decode cX3_mode 17 = .ok (.iload_n 3, 1) := dk_29 (dk_at dksX3_mode_0 17 rfl rfl)
theorem dX3_mode_18 : decode cX3_mode 18 = .ok (.iconst 0, 1) := dk_3 (dk_at dksX3_mode_0 18 rfl rfl)
theorem dX3_mode_19 : decode cX3_mode 19 = .ok (.iconst 3, 1) := dk_6 (dk_at dksX3_mode_0 19 rfl rfl)
theorem dX3_mode_20 : decode cX3_mode 20 = .ok (.invokestatic 124, 3) := dk_184 0 124 (dk_at dksX3_mode_0 20 rfl rfl)
theorem dX3_mode_23 : decode cX3_mode 23 = .ok (.ifCond .eq 7, 3) := dk_153 0 7 (dk_at dksX3_mode_1 0 rfl rfl)
theorem dX3_mode_26 : decode cX3_mode 26 = .ok (.iconst 0, 1) := dk_3 (dk_at dksX3_mode_1 3 rfl rfl)
theorem dX3_mode_27 : decode cX3_mode 27 = .ok (.goto 4, 3) := dk_167 0 4 (dk_at dksX3_mode_1 4 rfl rfl)
theorem dX3_mode_30 : decode cX3_mode 30 = .ok (.iconst 2, 1) := dk_5 (dk_at dksX3_mode_1 7 rfl rfl)
theorem dX3_mode_31 : decode cX3_mode 31 = .ok (.putfield 90, 3) := dk_181 0 90 (dk_at dksX3_mode_1 8 rfl rfl)
theorem dX3_mode_34 : decode cX3_mode 34 = .ok (.aload_n 0, 1) := dk_42 (dk_at dksX3_mode_1 11 rfl rfl)
theorem dX3_mode_35 : decode cX3_mode 35 = .ok (.getfield 90, 3) := dk_180 0 90 (dk_at dksX3_mode_1 12 rfl rfl)
theorem dX3_mode_38 : decode cX3_mode 38 = .ok (.ifCond .le 5, 3) := dk_158 0 5 (dk_at dksX3_mode_1 15 rfl rfl)
theorem dX3_mode_41 : decode cX3_mode 41 = .ok (.iconst 0, 1) := dk_3 (dk_at dksX3_mode_1 18 rfl rfl)
theorem dX3_mode_42 : decode cX3_mode 42 = .ok (.ireturn, 1) := dk_172 (dk_at dksX3_mode_1 19 rfl rfl)
theorem dX3_mode_43 : decode cX3_mode 43 = .ok (.aload_n 0, 1) := dk_42 (dk_at dksX3_mode_1 20 rfl rfl)
theorem dX3_mode_44 : decode cX3_mode 44 = .ok (.iload_n 1, 1) := dk_27 (dk_at dksX3_mode_1 21 rfl rfl)
theorem dX3_mode_45 : decode cX3_mode 45 = .ok (.invokevirtual 163, 3) := dk_182 0 163 (dk_at dksX3_mode_2 0 rfl rfl)
theorem dX3_mode_48 : decode cX3_mode 48 = .ok (.iload_n 2, 1) := dk_28 (dk_at dksX3_mode_2 3 rfl rfl)
theorem dX3_mode_49 : decode cX3_mode 49 = .ok (.aload_n 0, 1) := dk_42 (dk_at dksX3_mode_2 4 rfl rfl)
theorem dX3_mode_50 : decode cX3_mode 50 = .ok (.getfield 111, 3) := dk_180 0 111 (dk_at dksX3_mode_2 5 rfl rfl)
theorem dX3_mode_53 : decode cX3_mode 53 = .ok (.if_icmp .lt 6, 3) := dk_161 0 6 (dk_at dksX3_mode_2 8 rfl rfl)
theorem dX3_mode_56 : decode cX3_mode 56 = .ok (.bipush (-9), 2) := dk_16 247 (dk_at dksX3_mode_2 11 rfl rfl)
theorem dX3_mode_58 : decode cX3_mode 58 = .ok (.ireturn, 1) := dk_172 (dk_at dksX3_mode_2 13 rfl rfl)
theorem dX3_mode_59 : decode cX3_mode 59 = .ok (.iload_n 3, 1) := dk_29 (dk_at dksX3_mode_2 14 rfl rfl)
theorem dX3_mode_60 : decode cX3_mode 60 = .ok (.ifCond .ne 12, 3) := dk_154 0 12 (dk_at dksX3_mode_2 15 rfl rfl)
theorem dX3_mode_63 : decode cX3_mode 63 = .ok (.aload_n 0, 1) := dk_42 (dk_at dksX3_mode_2 18 rfl rfl)
theorem dX3_mode_64 : decode cX3_mode 64 = .ok (.getfield 32, 3) := dk_180 0 32 (dk_at dksX3_mode_2 19 rfl rfl)
theorem dX3_mode_67 : decode cX3_mode 67 = .ok (.iload_n 2, 1) := dk_28 (dk_at dksX3_mode_2 22 rfl rfl)
theorem dX3_mode_68 : decode cX3_mode 68 = .ok (.iaload, 1) := dk_46 (dk_at dksX3_mode_2 23 rfl rfl)
theorem dX3_mode_69 : decode cX3_mode 69 = .ok (.goto 37, 3) := dk_167 0 37 (dk_at dksX3_mode_3 0 rfl rfl)
theorem dX3_mode_72 : decode cX3_mode 72 = .ok (.iload_n 3, 1) := dk_29 (dk_at dksX3_mode_3 3 rfl rfl)
theorem dX3_mode_73 : decode cX3_mode 73 = .ok (.iconst 1, 1) := dk_4 (dk_at dksX3_mode_3 4 rfl rfl)
theorem dX3_mode_74 : decode cX3_mode 74 = .ok (.if_icmp .ne 12, 3) := dk_160 0 12 (dk_at dksX3_mode_3 5 rfl rfl)
theorem dX3_mode_77 : decode cX3_mode 77 = .ok (.aload_n 0, 1) := dk_42 (dk_at dksX3_mode_3 8 rfl rfl)
theorem dX3_mode_78 : decode cX3_mode 78 = .ok (.getfield 35, 3) := dk_180 0 35 (dk_at dksX3_mode_3 9 rfl rfl)
theorem dX3_mode_81 : decode cX3_mode 81 = .ok (.iload_n 2, 1) := dk_28 (dk_at dksX3_mode_3 12 rfl rfl)
theorem dX3_mode_82 : decode cX3_mode 82 = .ok (.iaload, 1) := dk_46 (dk_at dksX3_mode_3 13 rfl rfl)
theorem dX3_mode_83 : decode cX3_mode 83 = .ok (.goto 23, 3) := dk_167 0 23 (dk_at dksX3_mode_3 14 rfl rfl)
theorem dX3_mode_86 : decode cX3_mode 86 = .ok (.iload_n 3, 1) := dk_29 (dk_at dksX3_mode_3 17 rfl rfl)
theorem dX3_mode_87 : decode cX3_mode 87 = .ok (.iconst 2, 1) := dk_5 (dk_at dksX3_mode_3 18 rfl rfl)
theorem dX3_mode_88 : decode cX3_mode 88 = .ok (.if_icmp .ne 12, 3) := dk_160 0 12 (dk_at dksX3_mode_3 19 rfl rfl)
theorem dX3_mode_91 : decode cX3_mode 91 = .ok (.aload_n 0, 1) := dk_42 (dk_at dksX3_mode_3 22 rfl rfl)
theorem dX3_mode_92 : decode cX3_mode 92 = .ok (.getfield 38, 3) := dk_180 0 38 (dk_at dksX3_mode_4 0 rfl rfl)
theorem dX3_mode_95 : decode cX3_mode 95 = .ok (.iload_n 2, 1) := dk_28 (dk_at dksX3_mode_4 3 rfl rfl)
theorem dX3_mode_96 : decode cX3_mode 96 = .ok (.iaload, 1) := dk_46 (dk_at dksX3_mode_4 4 rfl rfl)
theorem dX3_mode_97 : decode cX3_mode 97 = .ok (.goto 9, 3) := dk_167 0 9 (dk_at dksX3_mode_4 5 rfl rfl)
theorem dX3_mode_100 : decode cX3_mode 100 = .ok (.aload_n 0, 1) := dk_42 (dk_at dksX3_mode_4 8 rfl rfl)
theorem dX3_mode_101 : decode cX3_mode 101 = .ok (.getfield 41, 3) := dk_180 0 41 (dk_at dksX3_mode_4 9 rfl rfl)
theorem dX3_mode_104 : decode cX3_mode 104 = .ok (.iload_n 2, 1) := dk_28 (dk_at dksX3_mode_4 12 rfl rfl)
theorem dX3_mode_105 : decode cX3_mode 105 = .ok (.iaload, 1) := dk_46 (dk_at dksX3_mode_4 13 rfl rfl)
theorem dX3_mode_106 : decode cX3_mode 106 = .ok (.ireturn, 1) := dk_172 (dk_at dksX3_mode_4 14 rfl rfl)
abbrev cX3_change : ByteArray := prog_18_method_41_code
def yX3_change : MethodName := ⟨RX3, "change", "(II)I"⟩
def dkwX3_change_4 : List UInt8 := [62, 132, 4, 1, 167, 255, 182, 42, 180, 0, 90, 158, 0, 7, 3, 167, 0, 4, 2, 172]
abbrev dktX3_change_4 : List UInt8 := dkwX3_change_4 ++ []
def dkwX3_change_3 : List UInt8 := [21, 5, 153, 0, 10, 29, 154, 0, 6, 21, 4, 172, 29, 21, 5, 153, 0, 7, 4, 167, 0, 4, 3, 100]
abbrev dktX3_change_3 : List UInt8 := dkwX3_change_3 ++ dktX3_change_4
def dkwX3_change_2 : List UInt8 := [27, 21, 4, 184, 0, 96, 46, 42, 27, 21, 4, 182, 0, 176, 159, 0, 7, 4, 167, 0, 4, 3, 54, 5]
abbrev dktX3_change_2 : List UInt8 := dkwX3_change_2 ++ dktX3_change_3
def dkwX3_change_1 : List UInt8 := [54, 4, 21, 4, 42, 180, 0, 7, 3, 46, 162, 0, 69, 42, 180, 0, 90, 154, 0, 62, 42, 180, 0, 7]
abbrev dktX3_change_1 : List UInt8 := dkwX3_change_1 ++ dktX3_change_2
def dkwX3_change_0 : List UInt8 := [42, 42, 27, 182, 0, 194, 153, 0, 11, 28, 155, 0, 7, 3, 167, 0, 4, 4, 181, 0, 90, 28, 62, 3]
abbrev dktX3_change_0 : List UInt8 := dkwX3_change_0 ++ dktX3_change_1
theorem dksX3_change_0 : cX3_change.data.toList.drop 0 = dktX3_change_0 := by decide +kernel
theorem dksX3_change_1 : cX3_change.data.toList.drop 24 = dktX3_change_1 := dk_seg dksX3_change_0 24 rfl rfl
theorem dksX3_change_2 : cX3_change.data.toList.drop 48 = dktX3_change_2 := dk_seg dksX3_change_1 24 rfl rfl
theorem dksX3_change_3 : cX3_change.data.toList.drop 72 = dktX3_change_3 := dk_seg dksX3_change_2 24 rfl rfl
theorem dksX3_change_4 : cX3_change.data.toList.drop 96 = dktX3_change_4 := dk_seg dksX3_change_3 24 rfl rfl
theorem dX3_change_0 : decode cX3_change 0 = .ok (.aload_n 0, 1) := dk_42 (dk_at dksX3_change_0 0 rfl rfl)
theorem dX3_change_1 : decode cX3_change 1 = .ok (.aload_n 0, 1) := dk_42 (dk_at dksX3_change_0 1 rfl rfl)
theorem dX3_change_2 : decode cX3_change 2 = .ok (.iload_n 1, 1) := dk_27 (dk_at dksX3_change_0 2 rfl rfl)
theorem dX3_change_3 : decode cX3_change 3 = .ok (.invokevirtual 194, 3) := dk_182 0 194 (dk_at dksX3_change_0 3 rfl rfl)
theorem dX3_change_6 : decode cX3_change 6 = .ok (.ifCond .eq 11, 3) := dk_153 0 11 (dk_at dksX3_change_0 6 rfl rfl)
theorem dX3_change_9 : decode cX3_change 9 = .ok (.iload_n 2, 1) := dk_28 (dk_at dksX3_change_0 9 rfl rfl)
theorem dX3_change_10 : decode cX3_change 10 = .ok (.ifCond .lt 7, 3) := dk_155 0 7 (dk_at dksX3_change_0 10 rfl rfl)
theorem dX3_change_13 : decode cX3_change 13 = .ok (.iconst 0, 1) := dk_3 (dk_at dksX3_change_0 13 rfl rfl)
theorem dX3_change_14 : decode cX3_change 14 = .ok (.goto 4, 3) := dk_167 0 4 (dk_at dksX3_change_0 14 rfl rfl)
theorem dX3_change_17 : decode cX3_change 17 = .ok (.iconst 1, 1) := dk_4 (dk_at dksX3_change_0 17 rfl rfl)
theorem dX3_change_18 : decode cX3_change 18 = .ok (.putfield 90, 3) := dk_181 0 90 (dk_at dksX3_change_0 18 rfl rfl)
theorem dX3_change_21 : decode cX3_change 21 = .ok (.iload_n 2, 1) := dk_28 (dk_at dksX3_change_0 21 rfl rfl)
theorem dX3_change_22 : decode cX3_change 22 = .ok (.istore_n 3, 1) := dk_62 (dk_at dksX3_change_0 22 rfl rfl)
theorem dX3_change_23 : decode cX3_change 23 = .ok (.iconst 0, 1) := dk_3 (dk_at dksX3_change_0 23 rfl rfl)
theorem dX3_change_24 : decode cX3_change 24 = .ok (.istore 4, 2) := dk_54 4 (dk_at dksX3_change_1 0 rfl rfl)
theorem dX3_change_26 : decode cX3_change 26 = .ok (.iload 4, 2) := dk_21 4 (dk_at dksX3_change_1 2 rfl rfl)
theorem dX3_change_28 : decode cX3_change 28 = .ok (.aload_n 0, 1) := dk_42 (dk_at dksX3_change_1 4 rfl rfl)
theorem dX3_change_29 : decode cX3_change 29 = .ok (.getfield 7, 3) := dk_180 0 7 (dk_at dksX3_change_1 5 rfl rfl)
theorem dX3_change_32 : decode cX3_change 32 = .ok (.iconst 0, 1) := dk_3 (dk_at dksX3_change_1 8 rfl rfl)
theorem dX3_change_33 : decode cX3_change 33 = .ok (.iaload, 1) := dk_46 (dk_at dksX3_change_1 9 rfl rfl)
theorem dX3_change_34 : decode cX3_change 34 = .ok (.if_icmp .ge 69, 3) := dk_162 0 69 (dk_at dksX3_change_1 10 rfl rfl)
theorem dX3_change_37 : decode cX3_change 37 = .ok (.aload_n 0, 1) := dk_42 (dk_at dksX3_change_1 13 rfl rfl)
theorem dX3_change_38 : decode cX3_change 38 = .ok (.getfield 90, 3) := dk_180 0 90 (dk_at dksX3_change_1 14 rfl rfl)
theorem dX3_change_41 : decode cX3_change 41 = .ok (.ifCond .ne 62, 3) := dk_154 0 62 (dk_at dksX3_change_1 17 rfl rfl)
theorem dX3_change_44 : decode cX3_change 44 = .ok (.aload_n 0, 1) := dk_42 (dk_at dksX3_change_1 20 rfl rfl)
theorem dX3_change_45 : decode cX3_change 45 = .ok (.getfield 7, 3) := dk_180 0 7 (dk_at dksX3_change_1 21 rfl rfl)
theorem dX3_change_48 : decode cX3_change 48 = .ok (.iload_n 1, 1) := dk_27 (dk_at dksX3_change_2 0 rfl rfl)
theorem dX3_change_49 : decode cX3_change 49 = .ok (.iload 4, 2) := dk_21 4 (dk_at dksX3_change_2 1 rfl rfl)
theorem dX3_change_51 : decode cX3_change 51 = .ok (.invokestatic 96, 3) := dk_184 0 96 (dk_at dksX3_change_2 3 rfl rfl)
theorem dX3_change_54 : decode cX3_change 54 = .ok (.iaload, 1) := dk_46 (dk_at dksX3_change_2 6 rfl rfl)
theorem dX3_change_55 : decode cX3_change 55 = .ok (.aload_n 0, 1) := dk_42 (dk_at dksX3_change_2 7 rfl rfl)
theorem dX3_change_56 : decode cX3_change 56 = .ok (.iload_n 1, 1) := dk_27 (dk_at dksX3_change_2 8 rfl rfl)
theorem dX3_change_57 : decode cX3_change 57 = .ok (.iload 4, 2) := dk_21 4 (dk_at dksX3_change_2 9 rfl rfl)
theorem dX3_change_59 : decode cX3_change 59 = .ok (.invokevirtual 176, 3) := dk_182 0 176 (dk_at dksX3_change_2 11 rfl rfl)
theorem dX3_change_62 : decode cX3_change 62 = .ok (.if_icmp .eq 7, 3) := dk_159 0 7 (dk_at dksX3_change_2 14 rfl rfl)
theorem dX3_change_65 : decode cX3_change 65 = .ok (.iconst 1, 1) := dk_4 (dk_at dksX3_change_2 17 rfl rfl)
theorem dX3_change_66 : decode cX3_change 66 = .ok (.goto 4, 3) := dk_167 0 4 (dk_at dksX3_change_2 18 rfl rfl)
theorem dX3_change_69 : decode cX3_change 69 = .ok (.iconst 0, 1) := dk_3 (dk_at dksX3_change_2 21 rfl rfl)
theorem dX3_change_70 : decode cX3_change 70 = .ok (.istore 5, 2) := dk_54 5 (dk_at dksX3_change_2 22 rfl rfl)
theorem dX3_change_72 : decode cX3_change 72 = .ok (.iload 5, 2) := dk_21 5 (dk_at dksX3_change_3 0 rfl rfl)
theorem dX3_change_74 : decode cX3_change 74 = .ok (.ifCond .eq 10, 3) := dk_153 0 10 (dk_at dksX3_change_3 2 rfl rfl)
theorem dX3_change_77 : decode cX3_change 77 = .ok (.iload_n 3, 1) := dk_29 (dk_at dksX3_change_3 5 rfl rfl)
theorem dX3_change_78 : decode cX3_change 78 = .ok (.ifCond .ne 6, 3) := dk_154 0 6 (dk_at dksX3_change_3 6 rfl rfl)
theorem dX3_change_81 : decode cX3_change 81 = .ok (.iload 4, 2) := dk_21 4 (dk_at dksX3_change_3 9 rfl rfl)
theorem dX3_change_83 : decode cX3_change 83 = .ok (.ireturn, 1) := dk_172 (dk_at dksX3_change_3 11 rfl rfl)
theorem dX3_change_84 : decode cX3_change 84 = .ok (.iload_n 3, 1) := dk_29 (dk_at dksX3_change_3 12 rfl rfl)
theorem dX3_change_85 : decode cX3_change 85 = .ok (.iload 5, 2) := dk_21 5 (dk_at dksX3_change_3 13 rfl rfl)
theorem dX3_change_87 : decode cX3_change 87 = .ok (.ifCond .eq 7, 3) := dk_153 0 7 (dk_at dksX3_change_3 15 rfl rfl)
theorem dX3_change_90 : decode cX3_change 90 = .ok (.iconst 1, 1) := dk_4 (dk_at dksX3_change_3 18 rfl rfl)
theorem dX3_change_91 : decode cX3_change 91 = .ok (.goto 4, 3) := dk_167 0 4 (dk_at dksX3_change_3 19 rfl rfl)
theorem dX3_change_94 : decode cX3_change 94 = .ok (.iconst 0, 1) := dk_3 (dk_at dksX3_change_3 22 rfl rfl)
theorem dX3_change_95 : decode cX3_change 95 = .ok (.isub, 1) := dk_100 (dk_at dksX3_change_3 23 rfl rfl)
theorem dX3_change_96 : decode cX3_change 96 = .ok (.istore_n 3, 1) := dk_62 (dk_at dksX3_change_4 0 rfl rfl)
theorem dX3_change_97 : decode cX3_change 97 = .ok (.iinc 4 1, 3) := dk_132 4 1 (dk_at dksX3_change_4 1 rfl rfl)
theorem dX3_change_100 : decode cX3_change 100 = .ok (.goto (-74), 3) := dk_167 255 182 (dk_at dksX3_change_4 4 rfl rfl)
theorem dX3_change_103 : decode cX3_change 103 = .ok (.aload_n 0, 1) := dk_42 (dk_at dksX3_change_4 7 rfl rfl)
theorem dX3_change_104 : decode cX3_change 104 = .ok (.getfield 90, 3) := dk_180 0 90 (dk_at dksX3_change_4 8 rfl rfl)
theorem dX3_change_107 : decode cX3_change 107 = .ok (.ifCond .le 7, 3) := dk_158 0 7 (dk_at dksX3_change_4 11 rfl rfl)
theorem dX3_change_110 : decode cX3_change 110 = .ok (.iconst 0, 1) := dk_3 (dk_at dksX3_change_4 14 rfl rfl)
theorem dX3_change_111 : decode cX3_change 111 = .ok (.goto 4, 3) := dk_167 0 4 (dk_at dksX3_change_4 15 rfl rfl)
theorem dX3_change_114 : decode cX3_change 114 = .ok (.iconst (-1), 1) := dk_2 (dk_at dksX3_change_4 18 rfl rfl)
theorem dX3_change_115 : decode cX3_change 115 = .ok (.ireturn, 1) := dk_172 (dk_at dksX3_change_4 19 rfl rfl)
abbrev cX3_longest : ByteArray := prog_18_method_44_code
def yX3_longest : MethodName := ⟨RX3, "longest", "(I)I"⟩
def dkwX3_longest_3 : List UInt8 := [167, 0, 4, 28, 61, 132, 4, 1, 167, 255, 219, 132, 3, 1, 167, 255, 193, 28, 172]
abbrev dktX3_longest_3 : List UInt8 := dkwX3_longest_3 ++ []
def dkwX3_longest_2 : List UInt8 := [3, 46, 162, 0, 32, 42, 29, 21, 4, 27, 182, 0, 210, 54, 5, 21, 5, 28, 164, 0, 8, 21, 5]
abbrev dktX3_longest_2 : List UInt8 := dkwX3_longest_2 ++ dktX3_longest_3
def dkwX3_longest_1 : List UInt8 := [180, 0, 7, 4, 46, 162, 0, 59, 42, 180, 0, 90, 154, 0, 52, 3, 54, 4, 21, 4, 42, 180, 0, 7]
abbrev dktX3_longest_1 : List UInt8 := dkwX3_longest_1 ++ dktX3_longest_2
def dkwX3_longest_0 : List UInt8 := [42, 27, 3, 4, 184, 0, 124, 153, 0, 7, 3, 167, 0, 4, 4, 181, 0, 90, 3, 61, 3, 62, 29, 42]
abbrev dktX3_longest_0 : List UInt8 := dkwX3_longest_0 ++ dktX3_longest_1
theorem dksX3_longest_0 : cX3_longest.data.toList.drop 0 = dktX3_longest_0 := by decide +kernel
theorem dksX3_longest_1 : cX3_longest.data.toList.drop 24 = dktX3_longest_1 := dk_seg dksX3_longest_0 24 rfl rfl
theorem dksX3_longest_2 : cX3_longest.data.toList.drop 48 = dktX3_longest_2 := dk_seg dksX3_longest_1 24 rfl rfl
theorem dksX3_longest_3 : cX3_longest.data.toList.drop 71 = dktX3_longest_3 := dk_seg dksX3_longest_2 23 rfl rfl
theorem dX3_longest_0 : decode cX3_longest 0 = .ok (.aload_n 0, 1) := dk_42 (dk_at dksX3_longest_0 0 rfl rfl)
theorem dX3_longest_1 : decode cX3_longest 1 = .ok (.iload_n 1, 1) := dk_27 (dk_at dksX3_longest_0 1 rfl rfl)
theorem dX3_longest_2 : decode cX3_longest 2 = .ok (.iconst 0, 1) := dk_3 (dk_at dksX3_longest_0 2 rfl rfl)
theorem dX3_longest_3 : decode cX3_longest 3 = .ok (.iconst 1, 1) := dk_4 (dk_at dksX3_longest_0 3 rfl rfl)
theorem dX3_longest_4 : decode cX3_longest 4 = .ok (.invokestatic 124, 3) := dk_184 0 124 (dk_at dksX3_longest_0 4 rfl rfl)
theorem dX3_longest_7 : decode cX3_longest 7 = .ok (.ifCond .eq 7, 3) := dk_153 0 7 (dk_at dksX3_longest_0 7 rfl rfl)
theorem dX3_longest_10 : decode cX3_longest 10 = .ok (.iconst 0, 1) := dk_3 (dk_at dksX3_longest_0 10 rfl rfl)
theorem dX3_longest_11 : decode cX3_longest 11 = .ok (.goto 4, 3) := dk_167 0 4 (dk_at dksX3_longest_0 11 rfl rfl)
theorem dX3_longest_14 : decode cX3_longest 14 = .ok (.iconst 1, 1) := dk_4 (dk_at dksX3_longest_0 14 rfl rfl)
theorem dX3_longest_15 : decode cX3_longest 15 = .ok (.putfield 90, 3) := dk_181 0 90 (dk_at dksX3_longest_0 15 rfl rfl)
theorem dX3_longest_18 : decode cX3_longest 18 = .ok (.iconst 0, 1) := dk_3 (dk_at dksX3_longest_0 18 rfl rfl)
theorem dX3_longest_19 : decode cX3_longest 19 = .ok (.istore_n 2, 1) := dk_61 (dk_at dksX3_longest_0 19 rfl rfl)
theorem dX3_longest_20 : decode cX3_longest 20 = .ok (.iconst 0, 1) := dk_3 (dk_at dksX3_longest_0 20 rfl rfl)
theorem dX3_longest_21 : decode cX3_longest 21 = .ok (.istore_n 3, 1) := dk_62 (dk_at dksX3_longest_0 21 rfl rfl)
theorem dX3_longest_22 : decode cX3_longest 22 = .ok (.iload_n 3, 1) := dk_29 (dk_at dksX3_longest_0 22 rfl rfl)
theorem dX3_longest_23 : decode cX3_longest 23 = .ok (.aload_n 0, 1) := dk_42 (dk_at dksX3_longest_0 23 rfl rfl)
theorem dX3_longest_24 : decode cX3_longest 24 = .ok (.getfield 7, 3) := dk_180 0 7 (dk_at dksX3_longest_1 0 rfl rfl)
theorem dX3_longest_27 : decode cX3_longest 27 = .ok (.iconst 1, 1) := dk_4 (dk_at dksX3_longest_1 3 rfl rfl)
theorem dX3_longest_28 : decode cX3_longest 28 = .ok (.iaload, 1) := dk_46 (dk_at dksX3_longest_1 4 rfl rfl)
theorem dX3_longest_29 : decode cX3_longest 29 = .ok (.if_icmp .ge 59, 3) := dk_162 0 59 (dk_at dksX3_longest_1 5 rfl rfl)
theorem dX3_longest_32 : decode cX3_longest 32 = .ok (.aload_n 0, 1) := dk_42 (dk_at dksX3_longest_1 8 rfl rfl)
theorem dX3_longest_33 : decode cX3_longest 33 = .ok (.getfield 90, 3) := dk_180 0 90 (dk_at dksX3_longest_1 9 rfl rfl)
theorem dX3_longest_36 : decode cX3_longest 36 = .ok (.ifCond .ne 52, 3) := dk_154 0 52 (dk_at dksX3_longest_1 12 rfl rfl)
theorem dX3_longest_39 : decode cX3_longest 39 = .ok (.iconst 0, 1) := dk_3 (dk_at dksX3_longest_1 15 rfl rfl)
theorem dX3_longest_40 : decode cX3_longest 40 = .ok (.istore 4, 2) := dk_54 4 (dk_at dksX3_longest_1 16 rfl rfl)
theorem dX3_longest_42 : decode cX3_longest 42 = .ok (.iload 4, 2) := dk_21 4 (dk_at dksX3_longest_1 18 rfl rfl)
theorem dX3_longest_44 : decode cX3_longest 44 = .ok (.aload_n 0, 1) := dk_42 (dk_at dksX3_longest_1 20 rfl rfl)
theorem dX3_longest_45 : decode cX3_longest 45 = .ok (.getfield 7, 3) := dk_180 0 7 (dk_at dksX3_longest_1 21 rfl rfl)
theorem dX3_longest_48 : decode cX3_longest 48 = .ok (.iconst 0, 1) := dk_3 (dk_at dksX3_longest_2 0 rfl rfl)
theorem dX3_longest_49 : decode cX3_longest 49 = .ok (.iaload, 1) := dk_46 (dk_at dksX3_longest_2 1 rfl rfl)
theorem dX3_longest_50 : decode cX3_longest 50 = .ok (.if_icmp .ge 32, 3) := dk_162 0 32 (dk_at dksX3_longest_2 2 rfl rfl)
theorem dX3_longest_53 : decode cX3_longest 53 = .ok (.aload_n 0, 1) := dk_42 (dk_at dksX3_longest_2 5 rfl rfl)
theorem dX3_longest_54 : decode cX3_longest 54 = .ok (.iload_n 3, 1) := dk_29 (dk_at dksX3_longest_2 6 rfl rfl)
theorem dX3_longest_55 : decode cX3_longest 55 = .ok (.iload 4, 2) := dk_21 4 (dk_at dksX3_longest_2 7 rfl rfl)
theorem dX3_longest_57 : decode cX3_longest 57 = .ok (.iload_n 1, 1) := dk_27 (dk_at dksX3_longest_2 9 rfl rfl)
theorem dX3_longest_58 : decode cX3_longest 58 = .ok (.invokevirtual 210, 3) := dk_182 0 210 (dk_at dksX3_longest_2 10 rfl rfl)
theorem dX3_longest_61 : decode cX3_longest 61 = .ok (.istore 5, 2) := dk_54 5 (dk_at dksX3_longest_2 13 rfl rfl)
theorem dX3_longest_63 : decode cX3_longest 63 = .ok (.iload 5, 2) := dk_21 5 (dk_at dksX3_longest_2 15 rfl rfl)
theorem dX3_longest_65 : decode cX3_longest 65 = .ok (.iload_n 2, 1) := dk_28 (dk_at dksX3_longest_2 17 rfl rfl)
theorem dX3_longest_66 : decode cX3_longest 66 = .ok (.if_icmp .le 8, 3) := dk_164 0 8 (dk_at dksX3_longest_2 18 rfl rfl)
theorem dX3_longest_69 : decode cX3_longest 69 = .ok (.iload 5, 2) := dk_21 5 (dk_at dksX3_longest_2 21 rfl rfl)
theorem dX3_longest_71 : decode cX3_longest 71 = .ok (.goto 4, 3) := dk_167 0 4 (dk_at dksX3_longest_3 0 rfl rfl)
theorem dX3_longest_74 : decode cX3_longest 74 = .ok (.iload_n 2, 1) := dk_28 (dk_at dksX3_longest_3 3 rfl rfl)
theorem dX3_longest_75 : decode cX3_longest 75 = .ok (.istore_n 2, 1) := dk_61 (dk_at dksX3_longest_3 4 rfl rfl)
theorem dX3_longest_76 : decode cX3_longest 76 = .ok (.iinc 4 1, 3) := dk_132 4 1 (dk_at dksX3_longest_3 5 rfl rfl)
theorem dX3_longest_79 : decode cX3_longest 79 = .ok (.goto (-37), 3) := dk_167 255 219 (dk_at dksX3_longest_3 8 rfl rfl)
theorem dX3_longest_82 : decode cX3_longest 82 = .ok (.iinc 3 1, 3) := dk_132 3 1 (dk_at dksX3_longest_3 11 rfl rfl)
theorem dX3_longest_85 : decode cX3_longest 85 = .ok (.goto (-63), 3) := dk_167 255 193 (dk_at dksX3_longest_3 14 rfl rfl)
theorem dX3_longest_88 : decode cX3_longest 88 = .ok (.iload_n 2, 1) := dk_28 (dk_at dksX3_longest_3 17 rfl rfl)
theorem dX3_longest_89 : decode cX3_longest 89 = .ok (.ireturn, 1) := dk_172 (dk_at dksX3_longest_3 18 rfl rfl)
abbrev cX3_rowFrom : ByteArray := prog_18_method_42_code
def yX3_rowFrom : MethodName := ⟨RX3, "rowFrom", "(III)I"⟩
def dkwX3_rowFrom_1 : List UInt8 := [46, 29, 160, 0, 9, 132, 4, 1, 167, 255, 227, 21, 4, 28, 100, 172]
abbrev dktX3_rowFrom_1 : List UInt8 := dkwX3_rowFrom_1 ++ []
def dkwX3_rowFrom_0 : List UInt8 := [28, 54, 4, 21, 4, 42, 180, 0, 7, 3, 46, 162, 0, 24, 42, 180, 0, 7, 27, 21, 4, 184, 0, 96]
abbrev dktX3_rowFrom_0 : List UInt8 := dkwX3_rowFrom_0 ++ dktX3_rowFrom_1
theorem dksX3_rowFrom_0 : cX3_rowFrom.data.toList.drop 0 = dktX3_rowFrom_0 := by decide +kernel
theorem dksX3_rowFrom_1 : cX3_rowFrom.data.toList.drop 24 = dktX3_rowFrom_1 := dk_seg dksX3_rowFrom_0 24 rfl rfl
theorem dX3_rowFrom_0 : decode cX3_rowFrom 0 = .ok (.iload_n 2, 1) := dk_28 (dk_at dksX3_rowFrom_0 0 rfl rfl)
theorem dX3_rowFrom_1 : decode cX3_rowFrom 1 = .ok (.istore 4, 2) := dk_54 4 (dk_at dksX3_rowFrom_0 1 rfl rfl)
theorem dX3_rowFrom_3 : decode cX3_rowFrom 3 = .ok (.iload 4, 2) := dk_21 4 (dk_at dksX3_rowFrom_0 3 rfl rfl)
theorem dX3_rowFrom_5 : decode cX3_rowFrom 5 = .ok (.aload_n 0, 1) := dk_42 (dk_at dksX3_rowFrom_0 5 rfl rfl)
theorem dX3_rowFrom_6 : decode cX3_rowFrom 6 = .ok (.getfield 7, 3) := dk_180 0 7 (dk_at dksX3_rowFrom_0 6 rfl rfl)
theorem dX3_rowFrom_9 : decode cX3_rowFrom 9 = .ok (.iconst 0, 1) := dk_3 (dk_at dksX3_rowFrom_0 9 rfl rfl)
theorem dX3_rowFrom_10 : decode cX3_rowFrom 10 = .ok (.iaload, 1) := dk_46 (dk_at dksX3_rowFrom_0 10 rfl rfl)
theorem dX3_rowFrom_11 : decode cX3_rowFrom 11 = .ok (.if_icmp .ge 24, 3) := dk_162 0 24 (dk_at dksX3_rowFrom_0 11 rfl rfl)
theorem dX3_rowFrom_14 : decode cX3_rowFrom 14 = .ok (.aload_n 0, 1) := dk_42 (dk_at dksX3_rowFrom_0 14 rfl rfl)
theorem dX3_rowFrom_15 : decode cX3_rowFrom 15 = .ok (.getfield 7, 3) := dk_180 0 7 (dk_at dksX3_rowFrom_0 15 rfl rfl)
theorem dX3_rowFrom_18 : decode cX3_rowFrom 18 = .ok (.iload_n 1, 1) := dk_27 (dk_at dksX3_rowFrom_0 18 rfl rfl)
theorem dX3_rowFrom_19 : decode cX3_rowFrom 19 = .ok (.iload 4, 2) := dk_21 4 (dk_at dksX3_rowFrom_0 19 rfl rfl)
theorem dX3_rowFrom_21 : decode cX3_rowFrom 21 = .ok (.invokestatic 96, 3) := dk_184 0 96 (dk_at dksX3_rowFrom_0 21 rfl rfl)
theorem dX3_rowFrom_24 : decode cX3_rowFrom 24 = .ok (.iaload, 1) := dk_46 (dk_at dksX3_rowFrom_1 0 rfl rfl)
theorem dX3_rowFrom_25 : decode cX3_rowFrom 25 = .ok (.iload_n 3, 1) := dk_29 (dk_at dksX3_rowFrom_1 1 rfl rfl)
theorem dX3_rowFrom_26 : decode cX3_rowFrom 26 = .ok (.if_icmp .ne 9, 3) := dk_160 0 9 (dk_at dksX3_rowFrom_1 2 rfl rfl)
theorem dX3_rowFrom_29 : decode cX3_rowFrom 29 = .ok (.iinc 4 1, 3) := dk_132 4 1 (dk_at dksX3_rowFrom_1 5 rfl rfl)
theorem dX3_rowFrom_32 : decode cX3_rowFrom 32 = .ok (.goto (-29), 3) := dk_167 255 227 (dk_at dksX3_rowFrom_1 8 rfl rfl)
theorem dX3_rowFrom_35 : decode cX3_rowFrom 35 = .ok (.iload 4, 2) := dk_21 4 (dk_at dksX3_rowFrom_1 11 rfl rfl)
theorem dX3_rowFrom_37 : decode cX3_rowFrom 37 = .ok (.iload_n 2, 1) := dk_28 (dk_at dksX3_rowFrom_1 13 rfl rfl)
theorem dX3_rowFrom_38 : decode cX3_rowFrom 38 = .ok (.isub, 1) := dk_100 (dk_at dksX3_rowFrom_1 14 rfl rfl)
theorem dX3_rowFrom_39 : decode cX3_rowFrom 39 = .ok (.ireturn, 1) := dk_172 (dk_at dksX3_rowFrom_1 15 rfl rfl)
abbrev cX3_runsOf : ByteArray := prog_18_method_45_code
def yX3_runsOf : MethodName := ⟨RX3, "runsOf", "(II)I"⟩
def dkwX3_runsOf_4 : List UInt8 := [96, 62, 132, 5, 1, 167, 255, 209, 132, 4, 1, 167, 255, 182, 29, 172]
abbrev dktX3_runsOf_4 : List UInt8 := dkwX3_runsOf_4 ++ []
def dkwX3_runsOf_3 : List UInt8 := [182, 0, 214, 153, 0, 20, 42, 21, 4, 21, 5, 27, 182, 0, 210, 28, 160, 0, 7, 4, 167, 0, 4, 3]
abbrev dktX3_runsOf_3 : List UInt8 := dkwX3_runsOf_3 ++ dktX3_runsOf_4
def dkwX3_runsOf_2 : List UInt8 := [154, 0, 62, 3, 54, 5, 21, 5, 42, 180, 0, 7, 3, 46, 162, 0, 42, 29, 42, 21, 4, 21, 5, 27]
abbrev dktX3_runsOf_2 : List UInt8 := dkwX3_runsOf_2 ++ dktX3_runsOf_3
def dkwX3_runsOf_1 : List UInt8 := [4, 181, 0, 90, 3, 62, 3, 54, 4, 21, 4, 42, 180, 0, 7, 4, 46, 162, 0, 69, 42, 180, 0, 90]
abbrev dktX3_runsOf_1 : List UInt8 := dkwX3_runsOf_1 ++ dktX3_runsOf_2
def dkwX3_runsOf_0 : List UInt8 := [42, 27, 3, 4, 184, 0, 124, 153, 0, 17, 28, 4, 16, 40, 184, 0, 124, 153, 0, 7, 3, 167, 0, 4]
abbrev dktX3_runsOf_0 : List UInt8 := dkwX3_runsOf_0 ++ dktX3_runsOf_1
theorem dksX3_runsOf_0 : cX3_runsOf.data.toList.drop 0 = dktX3_runsOf_0 := by decide +kernel
theorem dksX3_runsOf_1 : cX3_runsOf.data.toList.drop 24 = dktX3_runsOf_1 := dk_seg dksX3_runsOf_0 24 rfl rfl
theorem dksX3_runsOf_2 : cX3_runsOf.data.toList.drop 48 = dktX3_runsOf_2 := dk_seg dksX3_runsOf_1 24 rfl rfl
theorem dksX3_runsOf_3 : cX3_runsOf.data.toList.drop 72 = dktX3_runsOf_3 := dk_seg dksX3_runsOf_2 24 rfl rfl
theorem dksX3_runsOf_4 : cX3_runsOf.data.toList.drop 96 = dktX3_runsOf_4 := dk_seg dksX3_runsOf_3 24 rfl rfl
theorem dX3_runsOf_0 : decode cX3_runsOf 0 = .ok (.aload_n 0, 1) := dk_42 (dk_at dksX3_runsOf_0 0 rfl rfl)
theorem dX3_runsOf_1 : decode cX3_runsOf 1 = .ok (.iload_n 1, 1) := dk_27 (dk_at dksX3_runsOf_0 1 rfl rfl)
theorem dX3_runsOf_2 : decode cX3_runsOf 2 = .ok (.iconst 0, 1) := dk_3 (dk_at dksX3_runsOf_0 2 rfl rfl)
theorem dX3_runsOf_3 : decode cX3_runsOf 3 = .ok (.iconst 1, 1) := dk_4 (dk_at dksX3_runsOf_0 3 rfl rfl)
theorem dX3_runsOf_4 : decode cX3_runsOf 4 = .ok (.invokestatic 124, 3) := dk_184 0 124 (dk_at dksX3_runsOf_0 4 rfl rfl)
theorem dX3_runsOf_7 : decode cX3_runsOf 7 = .ok (.ifCond .eq 17, 3) := dk_153 0 17 (dk_at dksX3_runsOf_0 7 rfl rfl)
theorem dX3_runsOf_10 : decode cX3_runsOf 10 = .ok (.iload_n 2, 1) := dk_28 (dk_at dksX3_runsOf_0 10 rfl rfl)
theorem dX3_runsOf_11 : decode cX3_runsOf 11 = .ok (.iconst 1, 1) := dk_4 (dk_at dksX3_runsOf_0 11 rfl rfl)
theorem dX3_runsOf_12 : decode cX3_runsOf 12 = .ok (.bipush 40, 2) := dk_16 40 (dk_at dksX3_runsOf_0 12 rfl rfl)
theorem dX3_runsOf_14 : decode cX3_runsOf 14 = .ok (.invokestatic 124, 3) := dk_184 0 124 (dk_at dksX3_runsOf_0 14 rfl rfl)
theorem dX3_runsOf_17 : decode cX3_runsOf 17 = .ok (.ifCond .eq 7, 3) := dk_153 0 7 (dk_at dksX3_runsOf_0 17 rfl rfl)
theorem dX3_runsOf_20 : decode cX3_runsOf 20 = .ok (.iconst 0, 1) := dk_3 (dk_at dksX3_runsOf_0 20 rfl rfl)
theorem dX3_runsOf_21 : decode cX3_runsOf 21 = .ok (.goto 4, 3) := dk_167 0 4 (dk_at dksX3_runsOf_0 21 rfl rfl)
theorem dX3_runsOf_24 : decode cX3_runsOf 24 = .ok (.iconst 1, 1) := dk_4 (dk_at dksX3_runsOf_1 0 rfl rfl)
theorem dX3_runsOf_25 : decode cX3_runsOf 25 = .ok (.putfield 90, 3) := dk_181 0 90 (dk_at dksX3_runsOf_1 1 rfl rfl)
theorem dX3_runsOf_28 : decode cX3_runsOf 28 = .ok (.iconst 0, 1) := dk_3 (dk_at dksX3_runsOf_1 4 rfl rfl)
theorem dX3_runsOf_29 : decode cX3_runsOf 29 = .ok (.istore_n 3, 1) := dk_62 (dk_at dksX3_runsOf_1 5 rfl rfl)
theorem dX3_runsOf_30 : decode cX3_runsOf 30 = .ok (.iconst 0, 1) := dk_3 (dk_at dksX3_runsOf_1 6 rfl rfl)
theorem dX3_runsOf_31 : decode cX3_runsOf 31 = .ok (.istore 4, 2) := dk_54 4 (dk_at dksX3_runsOf_1 7 rfl rfl)
theorem dX3_runsOf_33 : decode cX3_runsOf 33 = .ok (.iload 4, 2) := dk_21 4 (dk_at dksX3_runsOf_1 9 rfl rfl)
theorem dX3_runsOf_35 : decode cX3_runsOf 35 = .ok (.aload_n 0, 1) := dk_42 (dk_at dksX3_runsOf_1 11 rfl rfl)
theorem dX3_runsOf_36 : decode cX3_runsOf 36 = .ok (.getfield 7, 3) := dk_180 0 7 (dk_at dksX3_runsOf_1 12 rfl rfl)
theorem dX3_runsOf_39 : decode cX3_runsOf 39 = .ok (.iconst 1, 1) := dk_4 (dk_at dksX3_runsOf_1 15 rfl rfl)
theorem dX3_runsOf_40 : decode cX3_runsOf 40 = .ok (.iaload, 1) := dk_46 (dk_at dksX3_runsOf_1 16 rfl rfl)
theorem dX3_runsOf_41 : decode cX3_runsOf 41 = .ok (.if_icmp .ge 69, 3) := dk_162 0 69 (dk_at dksX3_runsOf_1 17 rfl rfl)
theorem dX3_runsOf_44 : decode cX3_runsOf 44 = .ok (.aload_n 0, 1) := dk_42 (dk_at dksX3_runsOf_1 20 rfl rfl)
theorem dX3_runsOf_45 : decode cX3_runsOf 45 = .ok (.getfield 90, 3) := dk_180 0 90 (dk_at dksX3_runsOf_1 21 rfl rfl)
theorem dX3_runsOf_48 : decode cX3_runsOf 48 = .ok (.ifCond .ne 62, 3) := dk_154 0 62 (dk_at dksX3_runsOf_2 0 rfl rfl)
theorem dX3_runsOf_51 : decode cX3_runsOf 51 = .ok (.iconst 0, 1) := dk_3 (dk_at dksX3_runsOf_2 3 rfl rfl)
theorem dX3_runsOf_52 : decode cX3_runsOf 52 = .ok (.istore 5, 2) := dk_54 5 (dk_at dksX3_runsOf_2 4 rfl rfl)
theorem dX3_runsOf_54 : decode cX3_runsOf 54 = .ok (.iload 5, 2) := dk_21 5 (dk_at dksX3_runsOf_2 6 rfl rfl)
theorem dX3_runsOf_56 : decode cX3_runsOf 56 = .ok (.aload_n 0, 1) := dk_42 (dk_at dksX3_runsOf_2 8 rfl rfl)
theorem dX3_runsOf_57 : decode cX3_runsOf 57 = .ok (.getfield 7, 3) := dk_180 0 7 (dk_at dksX3_runsOf_2 9 rfl rfl)
theorem dX3_runsOf_60 : decode cX3_runsOf 60 = .ok (.iconst 0, 1) := dk_3 (dk_at dksX3_runsOf_2 12 rfl rfl)
theorem dX3_runsOf_61 : decode cX3_runsOf 61 = .ok (.iaload, 1) := dk_46 (dk_at dksX3_runsOf_2 13 rfl rfl)
theorem dX3_runsOf_62 : decode cX3_runsOf 62 = .ok (.if_icmp .ge 42, 3) := dk_162 0 42 (dk_at dksX3_runsOf_2 14 rfl rfl)
theorem dX3_runsOf_65 : decode cX3_runsOf 65 = .ok (.iload_n 3, 1) := dk_29 (dk_at dksX3_runsOf_2 17 rfl rfl)
theorem dX3_runsOf_66 : decode cX3_runsOf 66 = .ok (.aload_n 0, 1) := dk_42 (dk_at dksX3_runsOf_2 18 rfl rfl)
theorem dX3_runsOf_67 : decode cX3_runsOf 67 = .ok (.iload 4, 2) := dk_21 4 (dk_at dksX3_runsOf_2 19 rfl rfl)
theorem dX3_runsOf_69 : decode cX3_runsOf 69 = .ok (.iload 5, 2) := dk_21 5 (dk_at dksX3_runsOf_2 21 rfl rfl)
theorem dX3_runsOf_71 : decode cX3_runsOf 71 = .ok (.iload_n 1, 1) := dk_27 (dk_at dksX3_runsOf_2 23 rfl rfl)
theorem dX3_runsOf_72 : decode cX3_runsOf 72 = .ok (.invokevirtual 214, 3) := dk_182 0 214 (dk_at dksX3_runsOf_3 0 rfl rfl)
theorem dX3_runsOf_75 : decode cX3_runsOf 75 = .ok (.ifCond .eq 20, 3) := dk_153 0 20 (dk_at dksX3_runsOf_3 3 rfl rfl)
theorem dX3_runsOf_78 : decode cX3_runsOf 78 = .ok (.aload_n 0, 1) := dk_42 (dk_at dksX3_runsOf_3 6 rfl rfl)
theorem dX3_runsOf_79 : decode cX3_runsOf 79 = .ok (.iload 4, 2) := dk_21 4 (dk_at dksX3_runsOf_3 7 rfl rfl)
theorem dX3_runsOf_81 : decode cX3_runsOf 81 = .ok (.iload 5, 2) := dk_21 5 (dk_at dksX3_runsOf_3 9 rfl rfl)
theorem dX3_runsOf_83 : decode cX3_runsOf 83 = .ok (.iload_n 1, 1) := dk_27 (dk_at dksX3_runsOf_3 11 rfl rfl)
theorem dX3_runsOf_84 : decode cX3_runsOf 84 = .ok (.invokevirtual 210, 3) := dk_182 0 210 (dk_at dksX3_runsOf_3 12 rfl rfl)
theorem dX3_runsOf_87 : decode cX3_runsOf 87 = .ok (.iload_n 2, 1) := dk_28 (dk_at dksX3_runsOf_3 15 rfl rfl)
theorem dX3_runsOf_88 : decode cX3_runsOf 88 = .ok (.if_icmp .ne 7, 3) := dk_160 0 7 (dk_at dksX3_runsOf_3 16 rfl rfl)
theorem dX3_runsOf_91 : decode cX3_runsOf 91 = .ok (.iconst 1, 1) := dk_4 (dk_at dksX3_runsOf_3 19 rfl rfl)
theorem dX3_runsOf_92 : decode cX3_runsOf 92 = .ok (.goto 4, 3) := dk_167 0 4 (dk_at dksX3_runsOf_3 20 rfl rfl)
theorem dX3_runsOf_95 : decode cX3_runsOf 95 = .ok (.iconst 0, 1) := dk_3 (dk_at dksX3_runsOf_3 23 rfl rfl)
theorem dX3_runsOf_96 : decode cX3_runsOf 96 = .ok (.iadd, 1) := dk_96 (dk_at dksX3_runsOf_4 0 rfl rfl)
theorem dX3_runsOf_97 : decode cX3_runsOf 97 = .ok (.istore_n 3, 1) := dk_62 (dk_at dksX3_runsOf_4 1 rfl rfl)
theorem dX3_runsOf_98 : decode cX3_runsOf 98 = .ok (.iinc 5 1, 3) := dk_132 5 1 (dk_at dksX3_runsOf_4 2 rfl rfl)
theorem dX3_runsOf_101 : decode cX3_runsOf 101 = .ok (.goto (-47), 3) := dk_167 255 209 (dk_at dksX3_runsOf_4 5 rfl rfl)
theorem dX3_runsOf_104 : decode cX3_runsOf 104 = .ok (.iinc 4 1, 3) := dk_132 4 1 (dk_at dksX3_runsOf_4 8 rfl rfl)
theorem dX3_runsOf_107 : decode cX3_runsOf 107 = .ok (.goto (-74), 3) := dk_167 255 182 (dk_at dksX3_runsOf_4 11 rfl rfl)
theorem dX3_runsOf_110 : decode cX3_runsOf 110 = .ok (.iload_n 3, 1) := dk_29 (dk_at dksX3_runsOf_4 14 rfl rfl)
theorem dX3_runsOf_111 : decode cX3_runsOf 111 = .ok (.ireturn, 1) := dk_172 (dk_at dksX3_runsOf_4 15 rfl rfl)
abbrev cX3_beginsRow : ByteArray := prog_18_method_43_code
def yX3_beginsRow : MethodName := ⟨RX3, "beginsRow", "(III)Z"⟩
def dkwX3_beginsRow_1 : List UInt8 := [4, 100, 184, 0, 96, 46, 29, 159, 0, 7, 4, 167, 0, 4, 3, 172]
abbrev dktX3_beginsRow_1 : List UInt8 := dkwX3_beginsRow_1 ++ []
def dkwX3_beginsRow_0 : List UInt8 := [42, 180, 0, 7, 27, 28, 184, 0, 96, 46, 29, 160, 0, 27, 28, 153, 0, 19, 42, 180, 0, 7, 27, 28]
abbrev dktX3_beginsRow_0 : List UInt8 := dkwX3_beginsRow_0 ++ dktX3_beginsRow_1
theorem dksX3_beginsRow_0 : cX3_beginsRow.data.toList.drop 0 = dktX3_beginsRow_0 := by decide +kernel
theorem dksX3_beginsRow_1 : cX3_beginsRow.data.toList.drop 24 = dktX3_beginsRow_1 := dk_seg dksX3_beginsRow_0 24 rfl rfl
theorem dX3_beginsRow_0 : decode cX3_beginsRow 0 = .ok (.aload_n 0, 1) := dk_42 (dk_at dksX3_beginsRow_0 0 rfl rfl)
theorem dX3_beginsRow_1 : decode cX3_beginsRow 1 = .ok (.getfield 7, 3) := dk_180 0 7 (dk_at dksX3_beginsRow_0 1 rfl rfl)
theorem dX3_beginsRow_4 : decode cX3_beginsRow 4 = .ok (.iload_n 1, 1) := dk_27 (dk_at dksX3_beginsRow_0 4 rfl rfl)
theorem dX3_beginsRow_5 : decode cX3_beginsRow 5 = .ok (.iload_n 2, 1) := dk_28 (dk_at dksX3_beginsRow_0 5 rfl rfl)
theorem dX3_beginsRow_6 : decode cX3_beginsRow 6 = .ok (.invokestatic 96, 3) := dk_184 0 96 (dk_at dksX3_beginsRow_0 6 rfl rfl)
theorem dX3_beginsRow_9 : decode cX3_beginsRow 9 = .ok (.iaload, 1) := dk_46 (dk_at dksX3_beginsRow_0 9 rfl rfl)
theorem dX3_beginsRow_10 : decode cX3_beginsRow 10 = .ok (.iload_n 3, 1) := dk_29 (dk_at dksX3_beginsRow_0 10 rfl rfl)
theorem dX3_beginsRow_11 : decode cX3_beginsRow 11 = .ok (.if_icmp .ne 27, 3) := dk_160 0 27 (dk_at dksX3_beginsRow_0 11 rfl rfl)
theorem dX3_beginsRow_14 : decode cX3_beginsRow 14 = .ok (.iload_n 2, 1) := dk_28 (dk_at dksX3_beginsRow_0 14 rfl rfl)
theorem dX3_beginsRow_15 : decode cX3_beginsRow 15 = .ok (.ifCond .eq 19, 3) := dk_153 0 19 (dk_at dksX3_beginsRow_0 15 rfl rfl)
theorem dX3_beginsRow_18 : decode cX3_beginsRow 18 = .ok (.aload_n 0, 1) := dk_42 (dk_at dksX3_beginsRow_0 18 rfl rfl)
theorem dX3_beginsRow_19 : decode cX3_beginsRow 19 = .ok (.getfield 7, 3) := dk_180 0 7 (dk_at dksX3_beginsRow_0 19 rfl rfl)
theorem dX3_beginsRow_22 : decode cX3_beginsRow 22 = .ok (.iload_n 1, 1) := dk_27 (dk_at dksX3_beginsRow_0 22 rfl rfl)
theorem dX3_beginsRow_23 : decode cX3_beginsRow 23 = .ok (.iload_n 2, 1) := dk_28 (dk_at dksX3_beginsRow_0 23 rfl rfl)
theorem dX3_beginsRow_24 : decode cX3_beginsRow 24 = .ok (.iconst 1, 1) := dk_4 (dk_at dksX3_beginsRow_1 0 rfl rfl)
theorem dX3_beginsRow_25 : decode cX3_beginsRow 25 = .ok (.isub, 1) := dk_100 (dk_at dksX3_beginsRow_1 1 rfl rfl)
theorem dX3_beginsRow_26 : decode cX3_beginsRow 26 = .ok (.invokestatic 96, 3) := dk_184 0 96 (dk_at dksX3_beginsRow_1 2 rfl rfl)
theorem dX3_beginsRow_29 : decode cX3_beginsRow 29 = .ok (.iaload, 1) := dk_46 (dk_at dksX3_beginsRow_1 5 rfl rfl)
theorem dX3_beginsRow_30 : decode cX3_beginsRow 30 = .ok (.iload_n 3, 1) := dk_29 (dk_at dksX3_beginsRow_1 6 rfl rfl)
theorem dX3_beginsRow_31 : decode cX3_beginsRow 31 = .ok (.if_icmp .eq 7, 3) := dk_159 0 7 (dk_at dksX3_beginsRow_1 7 rfl rfl)
theorem dX3_beginsRow_34 : decode cX3_beginsRow 34 = .ok (.iconst 1, 1) := dk_4 (dk_at dksX3_beginsRow_1 10 rfl rfl)
theorem dX3_beginsRow_35 : decode cX3_beginsRow 35 = .ok (.goto 4, 3) := dk_167 0 4 (dk_at dksX3_beginsRow_1 11 rfl rfl)
theorem dX3_beginsRow_38 : decode cX3_beginsRow 38 = .ok (.iconst 0, 1) := dk_3 (dk_at dksX3_beginsRow_1 14 rfl rfl)
theorem dX3_beginsRow_39 : decode cX3_beginsRow 39 = .ok (.ireturn, 1) := dk_172 (dk_at dksX3_beginsRow_1 15 rfl rfl)
abbrev cX3_readBelow : ByteArray := prog_18_method_46_code
def yX3_readBelow : MethodName := ⟨RX3, "readBelow", "(II)I"⟩
def dkwX3_readBelow_5 : List UInt8 := [167, 255, 219, 29, 172]
abbrev dktX3_readBelow_5 : List UInt8 := dkwX3_readBelow_5 ++ []
def dkwX3_readBelow_4 : List UInt8 := [21, 4, 46, 42, 180, 0, 29, 21, 4, 46, 160, 0, 7, 3, 167, 0, 4, 4, 96, 62, 132, 4, 1]
abbrev dktX3_readBelow_4 : List UInt8 := dkwX3_readBelow_4 ++ dktX3_readBelow_5
def dkwX3_readBelow_3 : List UInt8 := [154, 0, 5, 2, 172, 3, 62, 3, 54, 4, 21, 4, 42, 180, 0, 93, 162, 0, 34, 29, 42, 180, 0, 44]
abbrev dktX3_readBelow_3 : List UInt8 := dkwX3_readBelow_3 ++ dktX3_readBelow_4
def dkwX3_readBelow_2 : List UInt8 := [180, 0, 7, 28, 2, 160, 0, 7, 2, 167, 0, 8, 28, 3, 184, 0, 96, 182, 0, 100, 42, 182, 0, 217]
abbrev dktX3_readBelow_2 : List UInt8 := dkwX3_readBelow_2 ++ dktX3_readBelow_3
def dkwX3_readBelow_1 : List UInt8 := [167, 0, 4, 4, 181, 0, 90, 42, 180, 0, 90, 158, 0, 5, 3, 172, 42, 27, 182, 0, 163, 42, 42]
abbrev dktX3_readBelow_1 : List UInt8 := dkwX3_readBelow_1 ++ dktX3_readBelow_2
def dkwX3_readBelow_0 : List UInt8 := [42, 42, 27, 182, 0, 194, 153, 0, 20, 28, 2, 159, 0, 11, 42, 28, 182, 0, 194, 153, 0, 7, 3]
abbrev dktX3_readBelow_0 : List UInt8 := dkwX3_readBelow_0 ++ dktX3_readBelow_1
theorem dksX3_readBelow_0 : cX3_readBelow.data.toList.drop 0 = dktX3_readBelow_0 := by decide +kernel
theorem dksX3_readBelow_1 : cX3_readBelow.data.toList.drop 23 = dktX3_readBelow_1 := dk_seg dksX3_readBelow_0 23 rfl rfl
theorem dksX3_readBelow_2 : cX3_readBelow.data.toList.drop 46 = dktX3_readBelow_2 := dk_seg dksX3_readBelow_1 23 rfl rfl
theorem dksX3_readBelow_3 : cX3_readBelow.data.toList.drop 70 = dktX3_readBelow_3 := dk_seg dksX3_readBelow_2 24 rfl rfl
theorem dksX3_readBelow_4 : cX3_readBelow.data.toList.drop 94 = dktX3_readBelow_4 := dk_seg dksX3_readBelow_3 24 rfl rfl
theorem dksX3_readBelow_5 : cX3_readBelow.data.toList.drop 117 = dktX3_readBelow_5 := dk_seg dksX3_readBelow_4 23 rfl rfl
theorem dX3_readBelow_0 : decode cX3_readBelow 0 = .ok (.aload_n 0, 1) := dk_42 (dk_at dksX3_readBelow_0 0 rfl rfl)
theorem dX3_readBelow_1 : decode cX3_readBelow 1 = .ok (.aload_n 0, 1) := dk_42 (dk_at dksX3_readBelow_0 1 rfl rfl)
theorem dX3_readBelow_2 : decode cX3_readBelow 2 = .ok (.iload_n 1, 1) := dk_27 (dk_at dksX3_readBelow_0 2 rfl rfl)
theorem dX3_readBelow_3 : decode cX3_readBelow 3 = .ok (.invokevirtual 194, 3) := dk_182 0 194 (dk_at dksX3_readBelow_0 3 rfl rfl)
theorem dX3_readBelow_6 : decode cX3_readBelow 6 = .ok (.ifCond .eq 20, 3) := dk_153 0 20 (dk_at dksX3_readBelow_0 6 rfl rfl)
theorem dX3_readBelow_9 : decode cX3_readBelow 9 = .ok (.iload_n 2, 1) := dk_28 (dk_at dksX3_readBelow_0 9 rfl rfl)
theorem dX3_readBelow_10 : decode cX3_readBelow 10 = .ok (.iconst (-1), 1) := dk_2 (dk_at dksX3_readBelow_0 10 rfl rfl)
theorem dX3_readBelow_11 : decode cX3_readBelow 11 = .ok (.if_icmp .eq 11, 3) := dk_159 0 11 (dk_at dksX3_readBelow_0 11 rfl rfl)
theorem dX3_readBelow_14 : decode cX3_readBelow 14 = .ok (.aload_n 0, 1) := dk_42 (dk_at dksX3_readBelow_0 14 rfl rfl)
theorem dX3_readBelow_15 : decode cX3_readBelow 15 = .ok (.iload_n 2, 1) := dk_28 (dk_at dksX3_readBelow_0 15 rfl rfl)
theorem dX3_readBelow_16 : decode cX3_readBelow 16 = .ok (.invokevirtual 194, 3) := dk_182 0 194 (dk_at dksX3_readBelow_0 16 rfl rfl)
theorem dX3_readBelow_19 : decode cX3_readBelow 19 = .ok (.ifCond .eq 7, 3) := dk_153 0 7 (dk_at dksX3_readBelow_0 19 rfl rfl)
theorem dX3_readBelow_22 : decode cX3_readBelow 22 = .ok (.iconst 0, 1) := dk_3 (dk_at dksX3_readBelow_0 22 rfl rfl)
theorem dX3_readBelow_23 : decode cX3_readBelow 23 = .ok (.goto 4, 3) := dk_167 0 4 (dk_at dksX3_readBelow_1 0 rfl rfl)
theorem dX3_readBelow_26 : decode cX3_readBelow 26 = .ok (.iconst 1, 1) := dk_4 (dk_at dksX3_readBelow_1 3 rfl rfl)
theorem dX3_readBelow_27 : decode cX3_readBelow 27 = .ok (.putfield 90, 3) := dk_181 0 90 (dk_at dksX3_readBelow_1 4 rfl rfl)
theorem dX3_readBelow_30 : decode cX3_readBelow 30 = .ok (.aload_n 0, 1) := dk_42 (dk_at dksX3_readBelow_1 7 rfl rfl)
theorem dX3_readBelow_31 : decode cX3_readBelow 31 = .ok (.getfield 90, 3) := dk_180 0 90 (dk_at dksX3_readBelow_1 8 rfl rfl)
theorem dX3_readBelow_34 : decode cX3_readBelow 34 = .ok (.ifCond .le 5, 3) := dk_158 0 5 (dk_at dksX3_readBelow_1 11 rfl rfl)
theorem dX3_readBelow_37 : decode cX3_readBelow 37 = .ok (.iconst 0, 1) := dk_3 (dk_at dksX3_readBelow_1 14 rfl rfl)
theorem dX3_readBelow_38 : decode cX3_readBelow 38 = .ok (.ireturn, 1) := dk_172 (dk_at dksX3_readBelow_1 15 rfl rfl)
theorem dX3_readBelow_39 : decode cX3_readBelow 39 = .ok (.aload_n 0, 1) := dk_42 (dk_at dksX3_readBelow_1 16 rfl rfl)
theorem dX3_readBelow_40 : decode cX3_readBelow 40 = .ok (.iload_n 1, 1) := dk_27 (dk_at dksX3_readBelow_1 17 rfl rfl)
theorem dX3_readBelow_41 : decode cX3_readBelow 41 = .ok (.invokevirtual 163, 3) := dk_182 0 163 (dk_at dksX3_readBelow_1 18 rfl rfl)
theorem dX3_readBelow_44 : decode cX3_readBelow 44 = .ok (.aload_n 0, 1) := dk_42 (dk_at dksX3_readBelow_1 21 rfl rfl)
theorem dX3_readBelow_45 : decode cX3_readBelow 45 = .ok (.aload_n 0, 1) := dk_42 (dk_at dksX3_readBelow_1 22 rfl rfl)
theorem dX3_readBelow_46 : decode cX3_readBelow 46 = .ok (.getfield 7, 3) := dk_180 0 7 (dk_at dksX3_readBelow_2 0 rfl rfl)
theorem dX3_readBelow_49 : decode cX3_readBelow 49 = .ok (.iload_n 2, 1) := dk_28 (dk_at dksX3_readBelow_2 3 rfl rfl)
theorem dX3_readBelow_50 : decode cX3_readBelow 50 = .ok (.iconst (-1), 1) := dk_2 (dk_at dksX3_readBelow_2 4 rfl rfl)
theorem dX3_readBelow_51 : decode cX3_readBelow 51 = .ok (.if_icmp .ne 7, 3) := dk_160 0 7 (dk_at dksX3_readBelow_2 5 rfl rfl)
theorem dX3_readBelow_54 : decode cX3_readBelow 54 = .ok (.iconst (-1), 1) := dk_2 (dk_at dksX3_readBelow_2 8 rfl rfl)
theorem dX3_readBelow_55 : decode cX3_readBelow 55 = .ok (.goto 8, 3) := dk_167 0 8 (dk_at dksX3_readBelow_2 9 rfl rfl)
theorem dX3_readBelow_58 : decode cX3_readBelow 58 = .ok (.iload_n 2, 1) := dk_28 (dk_at dksX3_readBelow_2 12 rfl rfl)
theorem dX3_readBelow_59 : decode cX3_readBelow 59 = .ok (.iconst 0, 1) := dk_3 (dk_at dksX3_readBelow_2 13 rfl rfl)
theorem dX3_readBelow_60 : decode cX3_readBelow 60 = .ok (.invokestatic 96, 3) := dk_184 0 96 (dk_at dksX3_readBelow_2 14 rfl rfl)
theorem dX3_readBelow_63 : decode cX3_readBelow 63 = .ok (.invokevirtual 100, 3) := dk_182 0 100 (dk_at dksX3_readBelow_2 17 rfl rfl)
theorem dX3_readBelow_66 : decode cX3_readBelow 66 = .ok (.aload_n 0, 1) := dk_42 (dk_at dksX3_readBelow_2 20 rfl rfl)
theorem dX3_readBelow_67 : decode cX3_readBelow 67 = .ok (.invokevirtual 217, 3) := dk_182 0 217 (dk_at dksX3_readBelow_2 21 rfl rfl)
theorem dX3_readBelow_70 : decode cX3_readBelow 70 = .ok (.ifCond .ne 5, 3) := dk_154 0 5 (dk_at dksX3_readBelow_3 0 rfl rfl)
theorem dX3_readBelow_73 : decode cX3_readBelow 73 = .ok (.iconst (-1), 1) := dk_2 (dk_at dksX3_readBelow_3 3 rfl rfl)
theorem dX3_readBelow_74 : decode cX3_readBelow 74 = .ok (.ireturn, 1) := dk_172 (dk_at dksX3_readBelow_3 4 rfl rfl)
theorem dX3_readBelow_75 : decode cX3_readBelow 75 = .ok (.iconst 0, 1) := dk_3 (dk_at dksX3_readBelow_3 5 rfl rfl)
theorem dX3_readBelow_76 : decode cX3_readBelow 76 = .ok (.istore_n 3, 1) := dk_62 (dk_at dksX3_readBelow_3 6 rfl rfl)
theorem dX3_readBelow_77 : decode cX3_readBelow 77 = .ok (.iconst 0, 1) := dk_3 (dk_at dksX3_readBelow_3 7 rfl rfl)
theorem dX3_readBelow_78 : decode cX3_readBelow 78 = .ok (.istore 4, 2) := dk_54 4 (dk_at dksX3_readBelow_3 8 rfl rfl)
theorem dX3_readBelow_80 : decode cX3_readBelow 80 = .ok (.iload 4, 2) := dk_21 4 (dk_at dksX3_readBelow_3 10 rfl rfl)
theorem dX3_readBelow_82 : decode cX3_readBelow 82 = .ok (.aload_n 0, 1) := dk_42 (dk_at dksX3_readBelow_3 12 rfl rfl)
theorem dX3_readBelow_83 : decode cX3_readBelow 83 = .ok (.getfield 93, 3) := dk_180 0 93 (dk_at dksX3_readBelow_3 13 rfl rfl)
theorem dX3_readBelow_86 : decode cX3_readBelow 86 = .ok (.if_icmp .ge 34, 3) := dk_162 0 34 (dk_at dksX3_readBelow_3 16 rfl rfl)
theorem dX3_readBelow_89 : decode cX3_readBelow 89 = .ok (.iload_n 3, 1) := dk_29 (dk_at dksX3_readBelow_3 19 rfl rfl)
theorem dX3_readBelow_90 : decode cX3_readBelow 90 = .ok (.aload_n 0, 1) := dk_42 (dk_at dksX3_readBelow_3 20 rfl rfl)
theorem dX3_readBelow_91 : decode cX3_readBelow 91 = .ok (.getfield 44, 3) := dk_180 0 44 (dk_at dksX3_readBelow_3 21 rfl rfl)
theorem dX3_readBelow_94 : decode cX3_readBelow 94 = .ok (.iload 4, 2) := dk_21 4 (dk_at dksX3_readBelow_4 0 rfl rfl)
theorem dX3_readBelow_96 : decode cX3_readBelow 96 = .ok (.iaload, 1) := dk_46 (dk_at dksX3_readBelow_4 2 rfl rfl)
theorem dX3_readBelow_97 : decode cX3_readBelow 97 = .ok (.aload_n 0, 1) := dk_42 (dk_at dksX3_readBelow_4 3 rfl rfl)
theorem dX3_readBelow_98 : decode cX3_readBelow 98 = .ok (.getfield 29, 3) := dk_180 0 29 (dk_at dksX3_readBelow_4 4 rfl rfl)
theorem dX3_readBelow_101 : decode cX3_readBelow 101 = .ok (.iload 4, 2) := dk_21 4 (dk_at dksX3_readBelow_4 7 rfl rfl)
theorem dX3_readBelow_103 : decode cX3_readBelow 103 = .ok (.iaload, 1) := dk_46 (dk_at dksX3_readBelow_4 9 rfl rfl)
theorem dX3_readBelow_104 : decode cX3_readBelow 104 = .ok (.if_icmp .ne 7, 3) := dk_160 0 7 (dk_at dksX3_readBelow_4 10 rfl rfl)
theorem dX3_readBelow_107 : decode cX3_readBelow 107 = .ok (.iconst 0, 1) := dk_3 (dk_at dksX3_readBelow_4 13 rfl rfl)
theorem dX3_readBelow_108 : decode cX3_readBelow 108 = .ok (.goto 4, 3) := dk_167 0 4 (dk_at dksX3_readBelow_4 14 rfl rfl)
theorem dX3_readBelow_111 : decode cX3_readBelow 111 = .ok (.iconst 1, 1) := dk_4 (dk_at dksX3_readBelow_4 17 rfl rfl)
theorem dX3_readBelow_112 : decode cX3_readBelow 112 = .ok (.iadd, 1) := dk_96 (dk_at dksX3_readBelow_4 18 rfl rfl)
theorem dX3_readBelow_113 : decode cX3_readBelow 113 = .ok (.istore_n 3, 1) := dk_62 (dk_at dksX3_readBelow_4 19 rfl rfl)
theorem dX3_readBelow_114 : decode cX3_readBelow 114 = .ok (.iinc 4 1, 3) := dk_132 4 1 (dk_at dksX3_readBelow_4 20 rfl rfl)
theorem dX3_readBelow_117 : decode cX3_readBelow 117 = .ok (.goto (-37), 3) := dk_167 255 219 (dk_at dksX3_readBelow_5 0 rfl rfl)
theorem dX3_readBelow_120 : decode cX3_readBelow 120 = .ok (.iload_n 3, 1) := dk_29 (dk_at dksX3_readBelow_5 3 rfl rfl)
theorem dX3_readBelow_121 : decode cX3_readBelow 121 = .ok (.ireturn, 1) := dk_172 (dk_at dksX3_readBelow_5 4 rfl rfl)
abbrev cX3_readsCode : ByteArray := prog_18_method_21_code
def yX3_readsCode : MethodName := ⟨RX3, "readsCode", "()Z"⟩
def dkwX3_readsCode_2 : List UInt8 := [167, 255, 218, 27, 153, 0, 18, 42, 180, 0, 135, 42, 180, 0, 93, 160, 0, 7, 4, 167, 0, 4, 3, 172]
abbrev dktX3_readsCode_2 : List UInt8 := dkwX3_readsCode_2 ++ []
def dkwX3_readsCode_1 : List UInt8 := [180, 0, 32, 28, 46, 42, 180, 0, 35, 28, 46, 42, 180, 0, 38, 28, 46, 182, 0, 148, 60, 132, 2, 1]
abbrev dktX3_readsCode_1 : List UInt8 := dkwX3_readsCode_1 ++ dktX3_readsCode_2
def dkwX3_readsCode_0 : List UInt8 := [42, 182, 0, 145, 4, 60, 3, 61, 28, 42, 180, 0, 111, 162, 0, 36, 27, 153, 0, 32, 42, 42]
abbrev dktX3_readsCode_0 : List UInt8 := dkwX3_readsCode_0 ++ dktX3_readsCode_1
theorem dksX3_readsCode_0 : cX3_readsCode.data.toList.drop 0 = dktX3_readsCode_0 := by decide +kernel
theorem dksX3_readsCode_1 : cX3_readsCode.data.toList.drop 22 = dktX3_readsCode_1 := dk_seg dksX3_readsCode_0 22 rfl rfl
theorem dksX3_readsCode_2 : cX3_readsCode.data.toList.drop 46 = dktX3_readsCode_2 := dk_seg dksX3_readsCode_1 24 rfl rfl
theorem dX3_readsCode_0 : decode cX3_readsCode 0 = .ok (.aload_n 0, 1) := dk_42 (dk_at dksX3_readsCode_0 0 rfl rfl)
theorem dX3_readsCode_1 : decode cX3_readsCode 1 = .ok (.invokevirtual 145, 3) := dk_182 0 145 (dk_at dksX3_readsCode_0 1 rfl rfl)
theorem dX3_readsCode_4 : decode cX3_readsCode 4 = .ok (.iconst 1, 1) := dk_4 (dk_at dksX3_readsCode_0 4 rfl rfl)
theorem dX3_readsCode_5 : decode cX3_readsCode 5 = .ok (.istore_n 1, 1) := dk_60 (dk_at dksX3_readsCode_0 5 rfl rfl)
theorem dX3_readsCode_6 : decode cX3_readsCode 6 = .ok (.iconst 0, 1) := dk_3 (dk_at dksX3_readsCode_0 6 rfl rfl)
theorem dX3_readsCode_7 : decode cX3_readsCode 7 = .ok (.istore_n 2, 1) := dk_61 (dk_at dksX3_readsCode_0 7 rfl rfl)
theorem dX3_readsCode_8 : decode cX3_readsCode 8 = .ok (.iload_n 2, 1) := dk_28 (dk_at dksX3_readsCode_0 8 rfl rfl)
theorem dX3_readsCode_9 : decode cX3_readsCode 9 = .ok (.aload_n 0, 1) := dk_42 (dk_at dksX3_readsCode_0 9 rfl rfl)
theorem dX3_readsCode_10 : decode cX3_readsCode 10 = .ok (.getfield 111, 3) := dk_180 0 111 (dk_at dksX3_readsCode_0 10 rfl rfl)
theorem dX3_readsCode_13 : decode cX3_readsCode 13 = .ok (.if_icmp .ge 36, 3) := dk_162 0 36 (dk_at dksX3_readsCode_0 13 rfl rfl)
theorem dX3_readsCode_16 : decode cX3_readsCode 16 = .ok (.iload_n 1, 1) := dk_27 (dk_at dksX3_readsCode_0 16 rfl rfl)
theorem dX3_readsCode_17 : decode cX3_readsCode 17 = .ok (.ifCond .eq 32, 3) := dk_153 0 32 (dk_at dksX3_readsCode_0 17 rfl rfl)
theorem dX3_readsCode_20 : decode cX3_readsCode 20 = .ok (.aload_n 0, 1) := dk_42 (dk_at dksX3_readsCode_0 20 rfl rfl)
theorem dX3_readsCode_21 : decode cX3_readsCode 21 = .ok (.aload_n 0, 1) := dk_42 (dk_at dksX3_readsCode_0 21 rfl rfl)
theorem dX3_readsCode_22 : decode cX3_readsCode 22 = .ok (.getfield 32, 3) := dk_180 0 32 (dk_at dksX3_readsCode_1 0 rfl rfl)
theorem dX3_readsCode_25 : decode cX3_readsCode 25 = .ok (.iload_n 2, 1) := dk_28 (dk_at dksX3_readsCode_1 3 rfl rfl)
theorem dX3_readsCode_26 : decode cX3_readsCode 26 = .ok (.iaload, 1) := dk_46 (dk_at dksX3_readsCode_1 4 rfl rfl)
theorem dX3_readsCode_27 : decode cX3_readsCode 27 = .ok (.aload_n 0, 1) := dk_42 (dk_at dksX3_readsCode_1 5 rfl rfl)
theorem dX3_readsCode_28 : decode cX3_readsCode 28 = .ok (.getfield 35, 3) := dk_180 0 35 (dk_at dksX3_readsCode_1 6 rfl rfl)
theorem dX3_readsCode_31 : decode cX3_readsCode 31 = .ok (.iload_n 2, 1) := dk_28 (dk_at dksX3_readsCode_1 9 rfl rfl)
theorem dX3_readsCode_32 : decode cX3_readsCode 32 = .ok (.iaload, 1) := dk_46 (dk_at dksX3_readsCode_1 10 rfl rfl)
theorem dX3_readsCode_33 : decode cX3_readsCode 33 = .ok (.aload_n 0, 1) := dk_42 (dk_at dksX3_readsCode_1 11 rfl rfl)
theorem dX3_readsCode_34 : decode cX3_readsCode 34 = .ok (.getfield 38, 3) := dk_180 0 38 (dk_at dksX3_readsCode_1 12 rfl rfl)
theorem dX3_readsCode_37 : decode cX3_readsCode 37 = .ok (.iload_n 2, 1) := dk_28 (dk_at dksX3_readsCode_1 15 rfl rfl)
theorem dX3_readsCode_38 : decode cX3_readsCode 38 = .ok (.iaload, 1) := dk_46 (dk_at dksX3_readsCode_1 16 rfl rfl)
theorem dX3_readsCode_39 : decode cX3_readsCode 39 = .ok (.invokevirtual 148, 3) := dk_182 0 148 (dk_at dksX3_readsCode_1 17 rfl rfl)
theorem dX3_readsCode_42 : decode cX3_readsCode 42 = .ok (.istore_n 1, 1) := dk_60 (dk_at dksX3_readsCode_1 20 rfl rfl)
theorem dX3_readsCode_43 : decode cX3_readsCode 43 = .ok (.iinc 2 1, 3) := dk_132 2 1 (dk_at dksX3_readsCode_1 21 rfl rfl)
theorem dX3_readsCode_46 : decode cX3_readsCode 46 = .ok (.goto (-38), 3) := dk_167 255 218 (dk_at dksX3_readsCode_2 0 rfl rfl)
theorem dX3_readsCode_49 : decode cX3_readsCode 49 = .ok (.iload_n 1, 1) := dk_27 (dk_at dksX3_readsCode_2 3 rfl rfl)
theorem dX3_readsCode_50 : decode cX3_readsCode 50 = .ok (.ifCond .eq 18, 3) := dk_153 0 18 (dk_at dksX3_readsCode_2 4 rfl rfl)
theorem dX3_readsCode_53 : decode cX3_readsCode 53 = .ok (.aload_n 0, 1) := dk_42 (dk_at dksX3_readsCode_2 7 rfl rfl)
theorem dX3_readsCode_54 : decode cX3_readsCode 54 = .ok (.getfield 135, 3) := dk_180 0 135 (dk_at dksX3_readsCode_2 8 rfl rfl)
theorem dX3_readsCode_57 : decode cX3_readsCode 57 = .ok (.aload_n 0, 1) := dk_42 (dk_at dksX3_readsCode_2 11 rfl rfl)
theorem dX3_readsCode_58 : decode cX3_readsCode 58 = .ok (.getfield 93, 3) := dk_180 0 93 (dk_at dksX3_readsCode_2 12 rfl rfl)
theorem dX3_readsCode_61 : decode cX3_readsCode 61 = .ok (.if_icmp .ne 7, 3) := dk_160 0 7 (dk_at dksX3_readsCode_2 15 rfl rfl)
theorem dX3_readsCode_64 : decode cX3_readsCode 64 = .ok (.iconst 1, 1) := dk_4 (dk_at dksX3_readsCode_2 18 rfl rfl)
theorem dX3_readsCode_65 : decode cX3_readsCode 65 = .ok (.goto 4, 3) := dk_167 0 4 (dk_at dksX3_readsCode_2 19 rfl rfl)
theorem dX3_readsCode_68 : decode cX3_readsCode 68 = .ok (.iconst 0, 1) := dk_3 (dk_at dksX3_readsCode_2 22 rfl rfl)
theorem dX3_readsCode_69 : decode cX3_readsCode 69 = .ok (.ireturn, 1) := dk_172 (dk_at dksX3_readsCode_2 23 rfl rfl)
abbrev cX3_startsReading : ByteArray := prog_18_method_18_code
def yX3_startsReading : MethodName := ⟨RX3, "startsReading", "()V"⟩
def dkwX3_startsReading_1 : List UInt8 := [79, 132, 1, 1, 167, 255, 240, 177]
abbrev dktX3_startsReading_1 : List UInt8 := dkwX3_startsReading_1 ++ []
def dkwX3_startsReading_0 : List UInt8 := [42, 2, 181, 0, 135, 42, 3, 181, 0, 138, 3, 60, 27, 16, 40, 162, 0, 16, 42, 180, 0, 44, 27, 3]
abbrev dktX3_startsReading_0 : List UInt8 := dkwX3_startsReading_0 ++ dktX3_startsReading_1
theorem dksX3_startsReading_0 : cX3_startsReading.data.toList.drop 0 = dktX3_startsReading_0 := by decide +kernel
theorem dksX3_startsReading_1 : cX3_startsReading.data.toList.drop 24 = dktX3_startsReading_1 := dk_seg dksX3_startsReading_0 24 rfl rfl
theorem dX3_startsReading_0 : decode cX3_startsReading 0 = .ok (.aload_n 0, 1) := dk_42 (dk_at dksX3_startsReading_0 0 rfl rfl)
theorem dX3_startsReading_1 : decode cX3_startsReading 1 = .ok (.iconst (-1), 1) := dk_2 (dk_at dksX3_startsReading_0 1 rfl rfl)
theorem dX3_startsReading_2 : decode cX3_startsReading 2 = .ok (.putfield 135, 3) := dk_181 0 135 (dk_at dksX3_startsReading_0 2 rfl rfl)
theorem dX3_startsReading_5 : decode cX3_startsReading 5 = .ok (.aload_n 0, 1) := dk_42 (dk_at dksX3_startsReading_0 5 rfl rfl)
theorem dX3_startsReading_6 : decode cX3_startsReading 6 = .ok (.iconst 0, 1) := dk_3 (dk_at dksX3_startsReading_0 6 rfl rfl)
theorem dX3_startsReading_7 : decode cX3_startsReading 7 = .ok (.putfield 138, 3) := dk_181 0 138 (dk_at dksX3_startsReading_0 7 rfl rfl)
theorem dX3_startsReading_10 : decode cX3_startsReading 10 = .ok (.iconst 0, 1) := dk_3 (dk_at dksX3_startsReading_0 10 rfl rfl)
theorem dX3_startsReading_11 : decode cX3_startsReading 11 = .ok (.istore_n 1, 1) := dk_60 (dk_at dksX3_startsReading_0 11 rfl rfl)
theorem dX3_startsReading_12 : decode cX3_startsReading 12 = .ok (.iload_n 1, 1) := dk_27 (dk_at dksX3_startsReading_0 12 rfl rfl)
theorem dX3_startsReading_13 : decode cX3_startsReading 13 = .ok (.bipush 40, 2) := dk_16 40 (dk_at dksX3_startsReading_0 13 rfl rfl)
theorem dX3_startsReading_15 : decode cX3_startsReading 15 = .ok (.if_icmp .ge 16, 3) := dk_162 0 16 (dk_at dksX3_startsReading_0 15 rfl rfl)
theorem dX3_startsReading_18 : decode cX3_startsReading 18 = .ok (.aload_n 0, 1) := dk_42 (dk_at dksX3_startsReading_0 18 rfl rfl)
theorem dX3_startsReading_19 : decode cX3_startsReading 19 = .ok (.getfield 44, 3) := dk_180 0 44 (dk_at dksX3_startsReading_0 19 rfl rfl)
theorem dX3_startsReading_22 : decode cX3_startsReading 22 = .ok (.iload_n 1, 1) := dk_27 (dk_at dksX3_startsReading_0 22 rfl rfl)
theorem dX3_startsReading_23 : decode cX3_startsReading 23 = .ok (.iconst 0, 1) := dk_3 (dk_at dksX3_startsReading_0 23 rfl rfl)
theorem dX3_startsReading_24 : decode cX3_startsReading 24 = .ok (.iastore, 1) := dk_79 (dk_at dksX3_startsReading_1 0 rfl rfl)
theorem dX3_startsReading_25 : decode cX3_startsReading 25 = .ok (.iinc 1 1, 3) := dk_132 1 1 (dk_at dksX3_startsReading_1 1 rfl rfl)
theorem dX3_startsReading_28 : decode cX3_startsReading 28 = .ok (.goto (-16), 3) := dk_167 255 240 (dk_at dksX3_startsReading_1 4 rfl rfl)
theorem dX3_startsReading_31 : decode cX3_startsReading 31 = .ok (.return_, 1) := dk_177 (dk_at dksX3_startsReading_1 7 rfl rfl)
abbrev cX3_readsMode : ByteArray := prog_18_method_20_code
def yX3_readsMode : MethodName := ⟨RX3, "readsMode", "(III)Z"⟩
def dkwX3_readsMode_8 : List UInt8 := [42, 180, 0, 138, 181, 0, 138, 4, 172]
abbrev dktX3_readsMode_8 : List UInt8 := dkwX3_readsMode_8 ++ []
def dkwX3_readsMode_7 : List UInt8 := [182, 0, 141, 42, 21, 7, 181, 0, 135, 42, 27, 4, 160, 0, 12, 4, 42, 180, 0, 138, 100, 167, 0, 7]
abbrev dktX3_readsMode_7 : List UInt8 := dkwX3_readsMode_7 ++ dktX3_readsMode_8
def dkwX3_readsMode_6 : List UInt8 := [21, 4, 21, 6, 42, 180, 0, 138, 182, 0, 141, 42, 21, 6, 21, 7, 4, 42, 180, 0, 138, 100]
abbrev dktX3_readsMode_6 : List UInt8 := dkwX3_readsMode_6 ++ dktX3_readsMode_7
def dkwX3_readsMode_5 : List UInt8 := [54, 7, 21, 7, 42, 180, 0, 135, 164, 0, 12, 21, 7, 42, 180, 0, 93, 164, 0, 5, 3, 172, 42]
abbrev dktX3_readsMode_5 : List UInt8 := dkwX3_readsMode_5 ++ dktX3_readsMode_6
def dkwX3_readsMode_4 : List UInt8 := [167, 0, 7, 21, 4, 28, 96, 54, 6, 27, 4, 160, 0, 8, 21, 6, 167, 0, 7, 21, 6, 29, 96]
abbrev dktX3_readsMode_4 : List UInt8 := dkwX3_readsMode_4 ++ dktX3_readsMode_5
def dkwX3_readsMode_3 : List UInt8 := [42, 180, 0, 138, 182, 0, 141, 42, 21, 6, 181, 0, 135, 4, 172, 27, 4, 160, 0, 10, 21, 5, 28, 96]
abbrev dktX3_readsMode_3 : List UInt8 := dkwX3_readsMode_3 ++ dktX3_readsMode_4
def dkwX3_readsMode_2 : List UInt8 := [160, 0, 10, 42, 180, 0, 93, 167, 0, 10, 42, 21, 5, 5, 182, 0, 117, 54, 6, 42, 21, 4, 21, 6]
abbrev dktX3_readsMode_2 : List UInt8 := dkwX3_readsMode_2 ++ dktX3_readsMode_3
def dkwX3_readsMode_1 : List UInt8 := [180, 0, 135, 42, 180, 0, 138, 182, 0, 117, 54, 5, 27, 154, 0, 48, 21, 5, 42, 180, 0, 93]
abbrev dktX3_readsMode_1 : List UInt8 := dkwX3_readsMode_1 ++ dktX3_readsMode_2
def dkwX3_readsMode_0 : List UInt8 := [42, 180, 0, 135, 42, 180, 0, 93, 160, 0, 5, 3, 172, 42, 180, 0, 135, 184, 0, 128, 54, 4, 42, 42]
abbrev dktX3_readsMode_0 : List UInt8 := dkwX3_readsMode_0 ++ dktX3_readsMode_1
theorem dksX3_readsMode_0 : cX3_readsMode.data.toList.drop 0 = dktX3_readsMode_0 := by decide +kernel
theorem dksX3_readsMode_1 : cX3_readsMode.data.toList.drop 24 = dktX3_readsMode_1 := dk_seg dksX3_readsMode_0 24 rfl rfl
theorem dksX3_readsMode_2 : cX3_readsMode.data.toList.drop 46 = dktX3_readsMode_2 := dk_seg dksX3_readsMode_1 22 rfl rfl
theorem dksX3_readsMode_3 : cX3_readsMode.data.toList.drop 70 = dktX3_readsMode_3 := dk_seg dksX3_readsMode_2 24 rfl rfl
theorem dksX3_readsMode_4 : cX3_readsMode.data.toList.drop 94 = dktX3_readsMode_4 := dk_seg dksX3_readsMode_3 24 rfl rfl
theorem dksX3_readsMode_5 : cX3_readsMode.data.toList.drop 117 = dktX3_readsMode_5 := dk_seg dksX3_readsMode_4 23 rfl rfl
theorem dksX3_readsMode_6 : cX3_readsMode.data.toList.drop 140 = dktX3_readsMode_6 := dk_seg dksX3_readsMode_5 23 rfl rfl
theorem dksX3_readsMode_7 : cX3_readsMode.data.toList.drop 162 = dktX3_readsMode_7 := dk_seg dksX3_readsMode_6 22 rfl rfl
theorem dksX3_readsMode_8 : cX3_readsMode.data.toList.drop 186 = dktX3_readsMode_8 := dk_seg dksX3_readsMode_7 24 rfl rfl
theorem dX3_readsMode_0 : decode cX3_readsMode 0 = .ok (.aload_n 0, 1) := dk_42 (dk_at dksX3_readsMode_0 0 rfl rfl)
theorem dX3_readsMode_1 : decode cX3_readsMode 1 = .ok (.getfield 135, 3) := dk_180 0 135 (dk_at dksX3_readsMode_0 1 rfl rfl)
theorem dX3_readsMode_4 : decode cX3_readsMode 4 = .ok (.aload_n 0, 1) := dk_42 (dk_at dksX3_readsMode_0 4 rfl rfl)
theorem dX3_readsMode_5 : decode cX3_readsMode 5 = .ok (.getfield 93, 3) := dk_180 0 93 (dk_at dksX3_readsMode_0 5 rfl rfl)
theorem dX3_readsMode_8 : decode cX3_readsMode 8 = .ok (.if_icmp .ne 5, 3) := dk_160 0 5 (dk_at dksX3_readsMode_0 8 rfl rfl)
theorem dX3_readsMode_11 : decode cX3_readsMode 11 = .ok (.iconst 0, 1) := dk_3 (dk_at dksX3_readsMode_0 11 rfl rfl)
theorem dX3_readsMode_12 : decode cX3_readsMode 12 = .ok (.ireturn, 1) := dk_172 (dk_at dksX3_readsMode_0 12 rfl rfl)
theorem dX3_readsMode_13 : decode cX3_readsMode 13 = .ok (.aload_n 0, 1) := dk_42 (dk_at dksX3_readsMode_0 13 rfl rfl)
theorem dX3_readsMode_14 : decode cX3_readsMode 14 = .ok (.getfield 135, 3) := dk_180 0 135 (dk_at dksX3_readsMode_0 14 rfl rfl)
theorem dX3_readsMode_17 : decode cX3_readsMode 17 = .ok (.invokestatic 128, 3) := dk_184 0 128 (dk_at dksX3_readsMode_0 17 rfl rfl)
theorem dX3_readsMode_20 : decode cX3_readsMode 20 = .ok (.istore 4, 2) := dk_54 4 (dk_at dksX3_readsMode_0 20 rfl rfl)
theorem dX3_readsMode_22 : decode cX3_readsMode 22 = .ok (.aload_n 0, 1) := dk_42 (dk_at dksX3_readsMode_0 22 rfl rfl)
theorem dX3_readsMode_23 : decode cX3_readsMode 23 = .ok (.aload_n 0, 1) := dk_42 (dk_at dksX3_readsMode_0 23 rfl rfl)
theorem dX3_readsMode_24 : decode cX3_readsMode 24 = .ok (.getfield 135, 3) := dk_180 0 135 (dk_at dksX3_readsMode_1 0 rfl rfl)
theorem dX3_readsMode_27 : decode cX3_readsMode 27 = .ok (.aload_n 0, 1) := dk_42 (dk_at dksX3_readsMode_1 3 rfl rfl)
theorem dX3_readsMode_28 : decode cX3_readsMode 28 = .ok (.getfield 138, 3) := dk_180 0 138 (dk_at dksX3_readsMode_1 4 rfl rfl)
theorem dX3_readsMode_31 : decode cX3_readsMode 31 = .ok (.invokevirtual 117, 3) := dk_182 0 117 (dk_at dksX3_readsMode_1 7 rfl rfl)
theorem dX3_readsMode_34 : decode cX3_readsMode 34 = .ok (.istore 5, 2) := dk_54 5 (dk_at dksX3_readsMode_1 10 rfl rfl)
theorem dX3_readsMode_36 : decode cX3_readsMode 36 = .ok (.iload_n 1, 1) := dk_27 (dk_at dksX3_readsMode_1 12 rfl rfl)
theorem dX3_readsMode_37 : decode cX3_readsMode 37 = .ok (.ifCond .ne 48, 3) := dk_154 0 48 (dk_at dksX3_readsMode_1 13 rfl rfl)
theorem dX3_readsMode_40 : decode cX3_readsMode 40 = .ok (.iload 5, 2) := dk_21 5 (dk_at dksX3_readsMode_1 16 rfl rfl)
theorem dX3_readsMode_42 : decode cX3_readsMode 42 = .ok (.aload_n 0, 1) := dk_42 (dk_at dksX3_readsMode_1 18 rfl rfl)
theorem dX3_readsMode_43 : decode cX3_readsMode 43 = .ok (.getfield 93, 3) := dk_180 0 93 (dk_at dksX3_readsMode_1 19 rfl rfl)
theorem dX3_readsMode_46 : decode cX3_readsMode 46 = .ok (.if_icmp .ne 10, 3) := dk_160 0 10 (dk_at dksX3_readsMode_2 0 rfl rfl)
theorem dX3_readsMode_49 : decode cX3_readsMode 49 = .ok (.aload_n 0, 1) := dk_42 (dk_at dksX3_readsMode_2 3 rfl rfl)
theorem dX3_readsMode_50 : decode cX3_readsMode 50 = .ok (.getfield 93, 3) := dk_180 0 93 (dk_at dksX3_readsMode_2 4 rfl rfl)
theorem dX3_readsMode_53 : decode cX3_readsMode 53 = .ok (.goto 10, 3) := dk_167 0 10 (dk_at dksX3_readsMode_2 7 rfl rfl)
theorem dX3_readsMode_56 : decode cX3_readsMode 56 = .ok (.aload_n 0, 1) := dk_42 (dk_at dksX3_readsMode_2 10 rfl rfl)
theorem dX3_readsMode_57 : decode cX3_readsMode 57 = .ok (.iload 5, 2) := dk_21 5 (dk_at dksX3_readsMode_2 11 rfl rfl)
theorem dX3_readsMode_59 : decode cX3_readsMode 59 = .ok (.iconst 2, 1) := dk_5 (dk_at dksX3_readsMode_2 13 rfl rfl)
theorem dX3_readsMode_60 : decode cX3_readsMode 60 = .ok (.invokevirtual 117, 3) := dk_182 0 117 (dk_at dksX3_readsMode_2 14 rfl rfl)
theorem dX3_readsMode_63 : decode cX3_readsMode 63 = .ok (.istore 6, 2) := dk_54 6 (dk_at dksX3_readsMode_2 17 rfl rfl)
theorem dX3_readsMode_65 : decode cX3_readsMode 65 = .ok (.aload_n 0, 1) := dk_42 (dk_at dksX3_readsMode_2 19 rfl rfl)
theorem dX3_readsMode_66 : decode cX3_readsMode 66 = .ok (.iload 4, 2) := dk_21 4 (dk_at dksX3_readsMode_2 20 rfl rfl)
theorem dX3_readsMode_68 : decode cX3_readsMode 68 = .ok (.iload 6, 2) := dk_21 6 (dk_at dksX3_readsMode_2 22 rfl rfl)
theorem dX3_readsMode_70 : decode cX3_readsMode 70 = .ok (.aload_n 0, 1) := dk_42 (dk_at dksX3_readsMode_3 0 rfl rfl)
theorem dX3_readsMode_71 : decode cX3_readsMode 71 = .ok (.getfield 138, 3) := dk_180 0 138 (dk_at dksX3_readsMode_3 1 rfl rfl)
theorem dX3_readsMode_74 : decode cX3_readsMode 74 = .ok (.invokevirtual 141, 3) := dk_182 0 141 (dk_at dksX3_readsMode_3 4 rfl rfl)
theorem dX3_readsMode_77 : decode cX3_readsMode 77 = .ok (.aload_n 0, 1) := dk_42 (dk_at dksX3_readsMode_3 7 rfl rfl)
theorem dX3_readsMode_78 : decode cX3_readsMode 78 = .ok (.iload 6, 2) := dk_21 6 (dk_at dksX3_readsMode_3 8 rfl rfl)
theorem dX3_readsMode_80 : decode cX3_readsMode 80 = .ok (.putfield 135, 3) := dk_181 0 135 (dk_at dksX3_readsMode_3 10 rfl rfl)
theorem dX3_readsMode_83 : decode cX3_readsMode 83 = .ok (.iconst 1, 1) := dk_4 (dk_at dksX3_readsMode_3 13 rfl rfl)
theorem dX3_readsMode_84 : decode cX3_readsMode 84 = .ok (.ireturn, 1) := dk_172 (dk_at dksX3_readsMode_3 14 rfl rfl)
theorem dX3_readsMode_85 : decode cX3_readsMode 85 = .ok (.iload_n 1, 1) := dk_27 (dk_at dksX3_readsMode_3 15 rfl rfl)
theorem dX3_readsMode_86 : decode cX3_readsMode 86 = .ok (.iconst 1, 1) := dk_4 (dk_at dksX3_readsMode_3 16 rfl rfl)
theorem dX3_readsMode_87 : decode cX3_readsMode 87 = .ok (.if_icmp .ne 10, 3) := dk_160 0 10 (dk_at dksX3_readsMode_3 17 rfl rfl)
theorem dX3_readsMode_90 : decode cX3_readsMode 90 = .ok (.iload 5, 2) := dk_21 5 (dk_at dksX3_readsMode_3 20 rfl rfl)
theorem dX3_readsMode_92 : decode cX3_readsMode 92 = .ok (.iload_n 2, 1) := dk_28 (dk_at dksX3_readsMode_3 22 rfl rfl)
theorem dX3_readsMode_93 : decode cX3_readsMode 93 = .ok (.iadd, 1) := dk_96 (dk_at dksX3_readsMode_3 23 rfl rfl)
theorem dX3_readsMode_94 : decode cX3_readsMode 94 = .ok (.goto 7, 3) := dk_167 0 7 (dk_at dksX3_readsMode_4 0 rfl rfl)
theorem dX3_readsMode_97 : decode cX3_readsMode 97 = .ok (.iload 4, 2) := dk_21 4 (dk_at dksX3_readsMode_4 3 rfl rfl)
theorem dX3_readsMode_99 : decode cX3_readsMode 99 = .ok (.iload_n 2, 1) := dk_28 (dk_at dksX3_readsMode_4 5 rfl rfl)
theorem dX3_readsMode_100 : decode cX3_readsMode 100 = .ok (.iadd, 1) := dk_96 (dk_at dksX3_readsMode_4 6 rfl rfl)
theorem dX3_readsMode_101 : decode cX3_readsMode 101 = .ok (.istore 6, 2) := dk_54 6 (dk_at dksX3_readsMode_4 7 rfl rfl)
theorem dX3_readsMode_103 : decode cX3_readsMode 103 = .ok (.iload_n 1, 1) := dk_27 (dk_at dksX3_readsMode_4 9 rfl rfl)
theorem dX3_readsMode_104 : decode cX3_readsMode 104 = .ok (.iconst 1, 1) := dk_4 (dk_at dksX3_readsMode_4 10 rfl rfl)
theorem dX3_readsMode_105 : decode cX3_readsMode 105 = .ok (.if_icmp .ne 8, 3) := dk_160 0 8 (dk_at dksX3_readsMode_4 11 rfl rfl)
theorem dX3_readsMode_108 : decode cX3_readsMode 108 = .ok (.iload 6, 2) := dk_21 6 (dk_at dksX3_readsMode_4 14 rfl rfl)
theorem dX3_readsMode_110 : decode cX3_readsMode 110 = .ok (.goto 7, 3) := dk_167 0 7 (dk_at dksX3_readsMode_4 16 rfl rfl)
theorem dX3_readsMode_113 : decode cX3_readsMode 113 = .ok (.iload 6, 2) := dk_21 6 (dk_at dksX3_readsMode_4 19 rfl rfl)
theorem dX3_readsMode_115 : decode cX3_readsMode 115 = .ok (.iload_n 3, 1) := dk_29 (dk_at dksX3_readsMode_4 21 rfl rfl)
theorem dX3_readsMode_116 : decode cX3_readsMode 116 = .ok (.iadd, 1) := dk_96 (dk_at dksX3_readsMode_4 22 rfl rfl)
theorem dX3_readsMode_117 : decode cX3_readsMode 117 = .ok (.istore 7, 2) := dk_54 7 (dk_at dksX3_readsMode_5 0 rfl rfl)
theorem dX3_readsMode_119 : decode cX3_readsMode 119 = .ok (.iload 7, 2) := dk_21 7 (dk_at dksX3_readsMode_5 2 rfl rfl)
theorem dX3_readsMode_121 : decode cX3_readsMode 121 = .ok (.aload_n 0, 1) := dk_42 (dk_at dksX3_readsMode_5 4 rfl rfl)
theorem dX3_readsMode_122 : decode cX3_readsMode 122 = .ok (.getfield 135, 3) := dk_180 0 135 (dk_at dksX3_readsMode_5 5 rfl rfl)
theorem dX3_readsMode_125 : decode cX3_readsMode 125 = .ok (.if_icmp .le 12, 3) := dk_164 0 12 (dk_at dksX3_readsMode_5 8 rfl rfl)
theorem dX3_readsMode_128 : decode cX3_readsMode 128 = .ok (.iload 7, 2) := dk_21 7 (dk_at dksX3_readsMode_5 11 rfl rfl)
theorem dX3_readsMode_130 : decode cX3_readsMode 130 = .ok (.aload_n 0, 1) := dk_42 (dk_at dksX3_readsMode_5 13 rfl rfl)
theorem dX3_readsMode_131 : decode cX3_readsMode 131 = .ok (.getfield 93, 3) := dk_180 0 93 (dk_at dksX3_readsMode_5 14 rfl rfl)
theorem dX3_readsMode_134 : decode cX3_readsMode 134 = .ok (.if_icmp .le 5, 3) := dk_164 0 5 (dk_at dksX3_readsMode_5 17 rfl rfl)
theorem dX3_readsMode_137 : decode cX3_readsMode 137 = .ok (.iconst 0, 1) := dk_3 (dk_at dksX3_readsMode_5 20 rfl rfl)
theorem dX3_readsMode_138 : decode cX3_readsMode 138 = .ok (.ireturn, 1) := dk_172 (dk_at dksX3_readsMode_5 21 rfl rfl)
theorem dX3_readsMode_139 : decode cX3_readsMode 139 = .ok (.aload_n 0, 1) := dk_42 (dk_at dksX3_readsMode_5 22 rfl rfl)
theorem dX3_readsMode_140 : decode cX3_readsMode 140 = .ok (.iload 4, 2) := dk_21 4 (dk_at dksX3_readsMode_6 0 rfl rfl)
theorem dX3_readsMode_142 : decode cX3_readsMode 142 = .ok (.iload 6, 2) := dk_21 6 (dk_at dksX3_readsMode_6 2 rfl rfl)
theorem dX3_readsMode_144 : decode cX3_readsMode 144 = .ok (.aload_n 0, 1) := dk_42 (dk_at dksX3_readsMode_6 4 rfl rfl)
theorem dX3_readsMode_145 : decode cX3_readsMode 145 = .ok (.getfield 138, 3) := dk_180 0 138 (dk_at dksX3_readsMode_6 5 rfl rfl)
theorem dX3_readsMode_148 : decode cX3_readsMode 148 = .ok (.invokevirtual 141, 3) := dk_182 0 141 (dk_at dksX3_readsMode_6 8 rfl rfl)
theorem dX3_readsMode_151 : decode cX3_readsMode 151 = .ok (.aload_n 0, 1) := dk_42 (dk_at dksX3_readsMode_6 11 rfl rfl)
theorem dX3_readsMode_152 : decode cX3_readsMode 152 = .ok (.iload 6, 2) := dk_21 6 (dk_at dksX3_readsMode_6 12 rfl rfl)
theorem dX3_readsMode_154 : decode cX3_readsMode 154 = .ok (.iload 7, 2) := dk_21 7 (dk_at dksX3_readsMode_6 14 rfl rfl)
theorem dX3_readsMode_156 : decode cX3_readsMode 156 = .ok (.iconst 1, 1) := dk_4 (dk_at dksX3_readsMode_6 16 rfl rfl)
theorem dX3_readsMode_157 : decode cX3_readsMode 157 = .ok (.aload_n 0, 1) := dk_42 (dk_at dksX3_readsMode_6 17 rfl rfl)
theorem dX3_readsMode_158 : decode cX3_readsMode 158 = .ok (.getfield 138, 3) := dk_180 0 138 (dk_at dksX3_readsMode_6 18 rfl rfl)
theorem dX3_readsMode_161 : decode cX3_readsMode 161 = .ok (.isub, 1) := dk_100 (dk_at dksX3_readsMode_6 21 rfl rfl)
theorem dX3_readsMode_162 : decode cX3_readsMode 162 = .ok (.invokevirtual 141, 3) := dk_182 0 141 (dk_at dksX3_readsMode_7 0 rfl rfl)
theorem dX3_readsMode_165 : decode cX3_readsMode 165 = .ok (.aload_n 0, 1) := dk_42 (dk_at dksX3_readsMode_7 3 rfl rfl)
theorem dX3_readsMode_166 : decode cX3_readsMode 166 = .ok (.iload 7, 2) := dk_21 7 (dk_at dksX3_readsMode_7 4 rfl rfl)
theorem dX3_readsMode_168 : decode cX3_readsMode 168 = .ok (.putfield 135, 3) := dk_181 0 135 (dk_at dksX3_readsMode_7 6 rfl rfl)
theorem dX3_readsMode_171 : decode cX3_readsMode 171 = .ok (.aload_n 0, 1) := dk_42 (dk_at dksX3_readsMode_7 9 rfl rfl)
theorem dX3_readsMode_172 : decode cX3_readsMode 172 = .ok (.iload_n 1, 1) := dk_27 (dk_at dksX3_readsMode_7 10 rfl rfl)
theorem dX3_readsMode_173 : decode cX3_readsMode 173 = .ok (.iconst 1, 1) := dk_4 (dk_at dksX3_readsMode_7 11 rfl rfl)
theorem dX3_readsMode_174 : decode cX3_readsMode 174 = .ok (.if_icmp .ne 12, 3) := dk_160 0 12 (dk_at dksX3_readsMode_7 12 rfl rfl)
theorem dX3_readsMode_177 : decode cX3_readsMode 177 = .ok (.iconst 1, 1) := dk_4 (dk_at dksX3_readsMode_7 15 rfl rfl)
theorem dX3_readsMode_178 : decode cX3_readsMode 178 = .ok (.aload_n 0, 1) := dk_42 (dk_at dksX3_readsMode_7 16 rfl rfl)
theorem dX3_readsMode_179 : decode cX3_readsMode 179 = .ok (.getfield 138, 3) := dk_180 0 138 (dk_at dksX3_readsMode_7 17 rfl rfl)
theorem dX3_readsMode_182 : decode cX3_readsMode 182 = .ok (.isub, 1) := dk_100 (dk_at dksX3_readsMode_7 20 rfl rfl)
theorem dX3_readsMode_183 : decode cX3_readsMode 183 = .ok (.goto 7, 3) := dk_167 0 7 (dk_at dksX3_readsMode_7 21 rfl rfl)
theorem dX3_readsMode_186 : decode cX3_readsMode 186 = .ok (.aload_n 0, 1) := dk_42 (dk_at dksX3_readsMode_8 0 rfl rfl)
theorem dX3_readsMode_187 : decode cX3_readsMode 187 = .ok (.getfield 138, 3) := dk_180 0 138 (dk_at dksX3_readsMode_8 1 rfl rfl)
theorem dX3_readsMode_190 : decode cX3_readsMode 190 = .ok (.putfield 138, 3) := dk_181 0 138 (dk_at dksX3_readsMode_8 4 rfl rfl)
theorem dX3_readsMode_193 : decode cX3_readsMode 193 = .ok (.iconst 1, 1) := dk_4 (dk_at dksX3_readsMode_8 7 rfl rfl)
theorem dX3_readsMode_194 : decode cX3_readsMode 194 = .ok (.ireturn, 1) := dk_172 (dk_at dksX3_readsMode_8 8 rfl rfl)
abbrev cX3_paints : ByteArray := prog_18_method_19_code
def yX3_paints : MethodName := ⟨RX3, "paints", "(III)V"⟩
def dkwX3_paints_0 : List UInt8 := [27, 54, 4, 21, 4, 28, 162, 0, 17, 42, 180, 0, 44, 21, 4, 29, 79, 132, 4, 1, 167, 255, 239, 177]
abbrev dktX3_paints_0 : List UInt8 := dkwX3_paints_0 ++ []
theorem dksX3_paints_0 : cX3_paints.data.toList.drop 0 = dktX3_paints_0 := by decide +kernel
theorem dX3_paints_0 : decode cX3_paints 0 = .ok (.iload_n 1, 1) := dk_27 (dk_at dksX3_paints_0 0 rfl rfl)
theorem dX3_paints_1 : decode cX3_paints 1 = .ok (.istore 4, 2) := dk_54 4 (dk_at dksX3_paints_0 1 rfl rfl)
theorem dX3_paints_3 : decode cX3_paints 3 = .ok (.iload 4, 2) := dk_21 4 (dk_at dksX3_paints_0 3 rfl rfl)
theorem dX3_paints_5 : decode cX3_paints 5 = .ok (.iload_n 2, 1) := dk_28 (dk_at dksX3_paints_0 5 rfl rfl)
theorem dX3_paints_6 : decode cX3_paints 6 = .ok (.if_icmp .ge 17, 3) := dk_162 0 17 (dk_at dksX3_paints_0 6 rfl rfl)
theorem dX3_paints_9 : decode cX3_paints 9 = .ok (.aload_n 0, 1) := dk_42 (dk_at dksX3_paints_0 9 rfl rfl)
theorem dX3_paints_10 : decode cX3_paints 10 = .ok (.getfield 44, 3) := dk_180 0 44 (dk_at dksX3_paints_0 10 rfl rfl)
theorem dX3_paints_13 : decode cX3_paints 13 = .ok (.iload 4, 2) := dk_21 4 (dk_at dksX3_paints_0 13 rfl rfl)
theorem dX3_paints_15 : decode cX3_paints 15 = .ok (.iload_n 3, 1) := dk_29 (dk_at dksX3_paints_0 15 rfl rfl)
theorem dX3_paints_16 : decode cX3_paints 16 = .ok (.iastore, 1) := dk_79 (dk_at dksX3_paints_0 16 rfl rfl)
theorem dX3_paints_17 : decode cX3_paints 17 = .ok (.iinc 4 1, 3) := dk_132 4 1 (dk_at dksX3_paints_0 17 rfl rfl)
theorem dX3_paints_20 : decode cX3_paints 20 = .ok (.goto (-17), 3) := dk_167 255 239 (dk_at dksX3_paints_0 20 rfl rfl)
theorem dX3_paints_23 : decode cX3_paints 23 = .ok (.return_, 1) := dk_177 (dk_at dksX3_paints_0 23 rfl rfl)
abbrev cX3_set : ByteArray := prog_18_method_50_code
def yX3_set : MethodName := ⟨RX3, "set", "(II)I"⟩
def dkwX3_set_2 : List UInt8 := [29, 172]
abbrev dktX3_set_2 : List UInt8 := dkwX3_set_2 ++ []
def dkwX3_set_1 : List UInt8 := [3, 172, 42, 182, 0, 227, 42, 180, 0, 7, 5, 27, 96, 46, 62, 42, 180, 0, 7, 5, 27, 96, 28, 79]
abbrev dktX3_set_1 : List UInt8 := dkwX3_set_1 ++ dktX3_set_2
def dkwX3_set_0 : List UInt8 := [42, 27, 28, 184, 0, 224, 153, 0, 7, 3, 167, 0, 4, 4, 181, 0, 90, 42, 180, 0, 90, 158, 0, 5]
abbrev dktX3_set_0 : List UInt8 := dkwX3_set_0 ++ dktX3_set_1
theorem dksX3_set_0 : cX3_set.data.toList.drop 0 = dktX3_set_0 := by decide +kernel
theorem dksX3_set_1 : cX3_set.data.toList.drop 24 = dktX3_set_1 := dk_seg dksX3_set_0 24 rfl rfl
theorem dksX3_set_2 : cX3_set.data.toList.drop 48 = dktX3_set_2 := dk_seg dksX3_set_1 24 rfl rfl
theorem dX3_set_0 : decode cX3_set 0 = .ok (.aload_n 0, 1) := dk_42 (dk_at dksX3_set_0 0 rfl rfl)
theorem dX3_set_1 : decode cX3_set 1 = .ok (.iload_n 1, 1) := dk_27 (dk_at dksX3_set_0 1 rfl rfl)
theorem dX3_set_2 : decode cX3_set 2 = .ok (.iload_n 2, 1) := dk_28 (dk_at dksX3_set_0 2 rfl rfl)
theorem dX3_set_3 : decode cX3_set 3 = .ok (.invokestatic 224, 3) := dk_184 0 224 (dk_at dksX3_set_0 3 rfl rfl)
theorem dX3_set_6 : decode cX3_set 6 = .ok (.ifCond .eq 7, 3) := dk_153 0 7 (dk_at dksX3_set_0 6 rfl rfl)
theorem dX3_set_9 : decode cX3_set 9 = .ok (.iconst 0, 1) := dk_3 (dk_at dksX3_set_0 9 rfl rfl)
theorem dX3_set_10 : decode cX3_set 10 = .ok (.goto 4, 3) := dk_167 0 4 (dk_at dksX3_set_0 10 rfl rfl)
theorem dX3_set_13 : decode cX3_set 13 = .ok (.iconst 1, 1) := dk_4 (dk_at dksX3_set_0 13 rfl rfl)
theorem dX3_set_14 : decode cX3_set 14 = .ok (.putfield 90, 3) := dk_181 0 90 (dk_at dksX3_set_0 14 rfl rfl)
theorem dX3_set_17 : decode cX3_set 17 = .ok (.aload_n 0, 1) := dk_42 (dk_at dksX3_set_0 17 rfl rfl)
theorem dX3_set_18 : decode cX3_set 18 = .ok (.getfield 90, 3) := dk_180 0 90 (dk_at dksX3_set_0 18 rfl rfl)
theorem dX3_set_21 : decode cX3_set 21 = .ok (.ifCond .le 5, 3) := dk_158 0 5 (dk_at dksX3_set_0 21 rfl rfl)
theorem dX3_set_24 : decode cX3_set 24 = .ok (.iconst 0, 1) := dk_3 (dk_at dksX3_set_1 0 rfl rfl)
theorem dX3_set_25 : decode cX3_set 25 = .ok (.ireturn, 1) := dk_172 (dk_at dksX3_set_1 1 rfl rfl)
theorem dX3_set_26 : decode cX3_set 26 = .ok (.aload_n 0, 1) := dk_42 (dk_at dksX3_set_1 2 rfl rfl)
theorem dX3_set_27 : decode cX3_set 27 = .ok (.invokevirtual 227, 3) := dk_182 0 227 (dk_at dksX3_set_1 3 rfl rfl)
theorem dX3_set_30 : decode cX3_set 30 = .ok (.aload_n 0, 1) := dk_42 (dk_at dksX3_set_1 6 rfl rfl)
theorem dX3_set_31 : decode cX3_set 31 = .ok (.getfield 7, 3) := dk_180 0 7 (dk_at dksX3_set_1 7 rfl rfl)
theorem dX3_set_34 : decode cX3_set 34 = .ok (.iconst 2, 1) := dk_5 (dk_at dksX3_set_1 10 rfl rfl)
theorem dX3_set_35 : decode cX3_set 35 = .ok (.iload_n 1, 1) := dk_27 (dk_at dksX3_set_1 11 rfl rfl)
theorem dX3_set_36 : decode cX3_set 36 = .ok (.iadd, 1) := dk_96 (dk_at dksX3_set_1 12 rfl rfl)
theorem dX3_set_37 : decode cX3_set 37 = .ok (.iaload, 1) := dk_46 (dk_at dksX3_set_1 13 rfl rfl)
theorem dX3_set_38 : decode cX3_set 38 = .ok (.istore_n 3, 1) := dk_62 (dk_at dksX3_set_1 14 rfl rfl)
theorem dX3_set_39 : decode cX3_set 39 = .ok (.aload_n 0, 1) := dk_42 (dk_at dksX3_set_1 15 rfl rfl)
theorem dX3_set_40 : decode cX3_set 40 = .ok (.getfield 7, 3) := dk_180 0 7 (dk_at dksX3_set_1 16 rfl rfl)
theorem dX3_set_43 : decode cX3_set 43 = .ok (.iconst 2, 1) := dk_5 (dk_at dksX3_set_1 19 rfl rfl)
theorem dX3_set_44 : decode cX3_set 44 = .ok (.iload_n 1, 1) := dk_27 (dk_at dksX3_set_1 20 rfl rfl)
theorem dX3_set_45 : decode cX3_set 45 = .ok (.iadd, 1) := dk_96 (dk_at dksX3_set_1 21 rfl rfl)
theorem dX3_set_46 : decode cX3_set 46 = .ok (.iload_n 2, 1) := dk_28 (dk_at dksX3_set_1 22 rfl rfl)
theorem dX3_set_47 : decode cX3_set 47 = .ok (.iastore, 1) := dk_79 (dk_at dksX3_set_1 23 rfl rfl)
theorem dX3_set_48 : decode cX3_set 48 = .ok (.iload_n 3, 1) := dk_29 (dk_at dksX3_set_2 0 rfl rfl)
theorem dX3_set_49 : decode cX3_set 49 = .ok (.ireturn, 1) := dk_172 (dk_at dksX3_set_2 1 rfl rfl)
abbrev cX3_isSetting : ByteArray := prog_18_method_49_code
def yX3_isSetting : MethodName := ⟨RX3, "isSetting", "(II)Z"⟩
def dkwX3_isSetting_1 : List UInt8 := [184, 0, 124, 153, 0, 7, 4, 167, 0, 4, 3, 172]
abbrev dktX3_isSetting_1 : List UInt8 := dkwX3_isSetting_1 ++ []
def dkwX3_isSetting_0 : List UInt8 := [26, 3, 8, 184, 0, 124, 153, 0, 27, 27, 26, 154, 0, 7, 4, 167, 0, 4, 3, 26, 184, 0, 221]
abbrev dktX3_isSetting_0 : List UInt8 := dkwX3_isSetting_0 ++ dktX3_isSetting_1
theorem dksX3_isSetting_0 : cX3_isSetting.data.toList.drop 0 = dktX3_isSetting_0 := by decide +kernel
theorem dksX3_isSetting_1 : cX3_isSetting.data.toList.drop 23 = dktX3_isSetting_1 := dk_seg dksX3_isSetting_0 23 rfl rfl
theorem dX3_isSetting_0 : decode cX3_isSetting 0 = .ok (.iload_n 0, 1) := dk_26 (dk_at dksX3_isSetting_0 0 rfl rfl)
theorem dX3_isSetting_1 : decode cX3_isSetting 1 = .ok (.iconst 0, 1) := dk_3 (dk_at dksX3_isSetting_0 1 rfl rfl)
theorem dX3_isSetting_2 : decode cX3_isSetting 2 = .ok (.iconst 5, 1) := dk_8 (dk_at dksX3_isSetting_0 2 rfl rfl)
theorem dX3_isSetting_3 : decode cX3_isSetting 3 = .ok (.invokestatic 124, 3) := dk_184 0 124 (dk_at dksX3_isSetting_0 3 rfl rfl)
theorem dX3_isSetting_6 : decode cX3_isSetting 6 = .ok (.ifCond .eq 27, 3) := dk_153 0 27 (dk_at dksX3_isSetting_0 6 rfl rfl)
theorem dX3_isSetting_9 : decode cX3_isSetting 9 = .ok (.iload_n 1, 1) := dk_27 (dk_at dksX3_isSetting_0 9 rfl rfl)
theorem dX3_isSetting_10 : decode cX3_isSetting 10 = .ok (.iload_n 0, 1) := dk_26 (dk_at dksX3_isSetting_0 10 rfl rfl)
theorem dX3_isSetting_11 : decode cX3_isSetting 11 = .ok (.ifCond .ne 7, 3) := dk_154 0 7 (dk_at dksX3_isSetting_0 11 rfl rfl)
theorem dX3_isSetting_14 : decode cX3_isSetting 14 = .ok (.iconst 1, 1) := dk_4 (dk_at dksX3_isSetting_0 14 rfl rfl)
theorem dX3_isSetting_15 : decode cX3_isSetting 15 = .ok (.goto 4, 3) := dk_167 0 4 (dk_at dksX3_isSetting_0 15 rfl rfl)
theorem dX3_isSetting_18 : decode cX3_isSetting 18 = .ok (.iconst 0, 1) := dk_3 (dk_at dksX3_isSetting_0 18 rfl rfl)
theorem dX3_isSetting_19 : decode cX3_isSetting 19 = .ok (.iload_n 0, 1) := dk_26 (dk_at dksX3_isSetting_0 19 rfl rfl)
theorem dX3_isSetting_20 : decode cX3_isSetting 20 = .ok (.invokestatic 221, 3) := dk_184 0 221 (dk_at dksX3_isSetting_0 20 rfl rfl)
theorem dX3_isSetting_23 : decode cX3_isSetting 23 = .ok (.invokestatic 124, 3) := dk_184 0 124 (dk_at dksX3_isSetting_1 0 rfl rfl)
theorem dX3_isSetting_26 : decode cX3_isSetting 26 = .ok (.ifCond .eq 7, 3) := dk_153 0 7 (dk_at dksX3_isSetting_1 3 rfl rfl)
theorem dX3_isSetting_29 : decode cX3_isSetting 29 = .ok (.iconst 1, 1) := dk_4 (dk_at dksX3_isSetting_1 6 rfl rfl)
theorem dX3_isSetting_30 : decode cX3_isSetting 30 = .ok (.goto 4, 3) := dk_167 0 4 (dk_at dksX3_isSetting_1 7 rfl rfl)
theorem dX3_isSetting_33 : decode cX3_isSetting 33 = .ok (.iconst 0, 1) := dk_3 (dk_at dksX3_isSetting_1 10 rfl rfl)
theorem dX3_isSetting_34 : decode cX3_isSetting 34 = .ok (.ireturn, 1) := dk_172 (dk_at dksX3_isSetting_1 11 rfl rfl)
abbrev cX3_highOf : ByteArray := prog_18_method_48_code
def yX3_highOf : MethodName := ⟨RX3, "highOf", "(I)I"⟩
def dkwX3_highOf_1 : List UInt8 := [6, 160, 0, 8, 16, 9, 167, 0, 5, 16, 99, 172]
abbrev dktX3_highOf_1 : List UInt8 := dkwX3_highOf_1 ++ []
def dkwX3_highOf_0 : List UInt8 := [26, 154, 0, 8, 16, 8, 167, 0, 29, 26, 4, 159, 0, 8, 26, 5, 160, 0, 7, 4, 167, 0, 15, 26]
abbrev dktX3_highOf_0 : List UInt8 := dkwX3_highOf_0 ++ dktX3_highOf_1
theorem dksX3_highOf_0 : cX3_highOf.data.toList.drop 0 = dktX3_highOf_0 := by decide +kernel
theorem dksX3_highOf_1 : cX3_highOf.data.toList.drop 24 = dktX3_highOf_1 := dk_seg dksX3_highOf_0 24 rfl rfl
theorem dX3_highOf_0 : decode cX3_highOf 0 = .ok (.iload_n 0, 1) := dk_26 (dk_at dksX3_highOf_0 0 rfl rfl)
theorem dX3_highOf_1 : decode cX3_highOf 1 = .ok (.ifCond .ne 8, 3) := dk_154 0 8 (dk_at dksX3_highOf_0 1 rfl rfl)
theorem dX3_highOf_4 : decode cX3_highOf 4 = .ok (.bipush 8, 2) := dk_16 8 (dk_at dksX3_highOf_0 4 rfl rfl)
theorem dX3_highOf_6 : decode cX3_highOf 6 = .ok (.goto 29, 3) := dk_167 0 29 (dk_at dksX3_highOf_0 6 rfl rfl)
theorem dX3_highOf_9 : decode cX3_highOf 9 = .ok (.iload_n 0, 1) := dk_26 (dk_at dksX3_highOf_0 9 rfl rfl)
theorem dX3_highOf_10 : decode cX3_highOf 10 = .ok (.iconst 1, 1) := dk_4 (dk_at dksX3_highOf_0 10 rfl rfl)
theorem dX3_highOf_11 : decode cX3_highOf 11 = .ok (.if_icmp .eq 8, 3) := dk_159 0 8 (dk_at dksX3_highOf_0 11 rfl rfl)
theorem dX3_highOf_14 : decode cX3_highOf 14 = .ok (.iload_n 0, 1) := dk_26 (dk_at dksX3_highOf_0 14 rfl rfl)
theorem dX3_highOf_15 : decode cX3_highOf 15 = .ok (.iconst 2, 1) := dk_5 (dk_at dksX3_highOf_0 15 rfl rfl)
theorem dX3_highOf_16 : decode cX3_highOf 16 = .ok (.if_icmp .ne 7, 3) := dk_160 0 7 (dk_at dksX3_highOf_0 16 rfl rfl)
theorem dX3_highOf_19 : decode cX3_highOf 19 = .ok (.iconst 1, 1) := dk_4 (dk_at dksX3_highOf_0 19 rfl rfl)
theorem dX3_highOf_20 : decode cX3_highOf 20 = .ok (.goto 15, 3) := dk_167 0 15 (dk_at dksX3_highOf_0 20 rfl rfl)
theorem dX3_highOf_23 : decode cX3_highOf 23 = .ok (.iload_n 0, 1) := dk_26 (dk_at dksX3_highOf_0 23 rfl rfl)
theorem dX3_highOf_24 : decode cX3_highOf 24 = .ok (.iconst 3, 1) := dk_6 (dk_at dksX3_highOf_1 0 rfl rfl)
theorem dX3_highOf_25 : decode cX3_highOf 25 = .ok (.if_icmp .ne 8, 3) := dk_160 0 8 (dk_at dksX3_highOf_1 1 rfl rfl)
theorem dX3_highOf_28 : decode cX3_highOf 28 = .ok (.bipush 9, 2) := dk_16 9 (dk_at dksX3_highOf_1 4 rfl rfl)
theorem dX3_highOf_30 : decode cX3_highOf 30 = .ok (.goto 5, 3) := dk_167 0 5 (dk_at dksX3_highOf_1 6 rfl rfl)
theorem dX3_highOf_33 : decode cX3_highOf 33 = .ok (.bipush 99, 2) := dk_16 99 (dk_at dksX3_highOf_1 9 rfl rfl)
theorem dX3_highOf_35 : decode cX3_highOf 35 = .ok (.ireturn, 1) := dk_172 (dk_at dksX3_highOf_1 11 rfl rfl)
abbrev cX3_keeps : ByteArray := prog_18_method_47_code
def yX3_keeps : MethodName := ⟨RX3, "keeps", "()V"⟩
def dkwX3_keeps_3 : List UInt8 := [89, 180, 0, 191, 4, 96, 181, 0, 191, 177]
abbrev dktX3_keeps_3 : List UInt8 := dkwX3_keeps_3 ++ []
def dkwX3_keeps_2 : List UInt8 := [181, 0, 191, 42, 180, 0, 7, 3, 42, 180, 0, 16, 17, 3, 60, 42, 180, 0, 191, 104, 184, 0, 86, 42]
abbrev dktX3_keeps_2 : List UInt8 := dkwX3_keeps_2 ++ dktX3_keeps_3
def dkwX3_keeps_1 : List UInt8 := [180, 0, 16, 27, 17, 3, 60, 96, 46, 79, 132, 1, 1, 167, 255, 230, 42, 89, 180, 0, 191, 4, 100]
abbrev dktX3_keeps_1 : List UInt8 := dkwX3_keeps_1 ++ dktX3_keeps_2
def dkwX3_keeps_0 : List UInt8 := [42, 180, 0, 191, 16, 10, 160, 0, 44, 3, 60, 27, 17, 29, 28, 162, 0, 25, 42, 180, 0, 16, 27, 42]
abbrev dktX3_keeps_0 : List UInt8 := dkwX3_keeps_0 ++ dktX3_keeps_1
theorem dksX3_keeps_0 : cX3_keeps.data.toList.drop 0 = dktX3_keeps_0 := by decide +kernel
theorem dksX3_keeps_1 : cX3_keeps.data.toList.drop 24 = dktX3_keeps_1 := dk_seg dksX3_keeps_0 24 rfl rfl
theorem dksX3_keeps_2 : cX3_keeps.data.toList.drop 47 = dktX3_keeps_2 := dk_seg dksX3_keeps_1 23 rfl rfl
theorem dksX3_keeps_3 : cX3_keeps.data.toList.drop 71 = dktX3_keeps_3 := dk_seg dksX3_keeps_2 24 rfl rfl
theorem dX3_keeps_0 : decode cX3_keeps 0 = .ok (.aload_n 0, 1) := dk_42 (dk_at dksX3_keeps_0 0 rfl rfl)
theorem dX3_keeps_1 : decode cX3_keeps 1 = .ok (.getfield 191, 3) := dk_180 0 191 (dk_at dksX3_keeps_0 1 rfl rfl)
theorem dX3_keeps_4 : decode cX3_keeps 4 = .ok (.bipush 10, 2) := dk_16 10 (dk_at dksX3_keeps_0 4 rfl rfl)
theorem dX3_keeps_6 : decode cX3_keeps 6 = .ok (.if_icmp .ne 44, 3) := dk_160 0 44 (dk_at dksX3_keeps_0 6 rfl rfl)
theorem dX3_keeps_9 : decode cX3_keeps 9 = .ok (.iconst 0, 1) := dk_3 (dk_at dksX3_keeps_0 9 rfl rfl)
theorem dX3_keeps_10 : decode cX3_keeps 10 = .ok (.istore_n 1, 1) := dk_60 (dk_at dksX3_keeps_0 10 rfl rfl)
theorem dX3_keeps_11 : decode cX3_keeps 11 = .ok (.iload_n 1, 1) := dk_27 (dk_at dksX3_keeps_0 11 rfl rfl)
theorem dX3_keeps_12 : decode cX3_keeps 12 = .ok (.sipush 7452, 3) := dk_17 29 28 (dk_at dksX3_keeps_0 12 rfl rfl)
theorem dX3_keeps_15 : decode cX3_keeps 15 = .ok (.if_icmp .ge 25, 3) := dk_162 0 25 (dk_at dksX3_keeps_0 15 rfl rfl)
theorem dX3_keeps_18 : decode cX3_keeps 18 = .ok (.aload_n 0, 1) := dk_42 (dk_at dksX3_keeps_0 18 rfl rfl)
theorem dX3_keeps_19 : decode cX3_keeps 19 = .ok (.getfield 16, 3) := dk_180 0 16 (dk_at dksX3_keeps_0 19 rfl rfl)
theorem dX3_keeps_22 : decode cX3_keeps 22 = .ok (.iload_n 1, 1) := dk_27 (dk_at dksX3_keeps_0 22 rfl rfl)
theorem dX3_keeps_23 : decode cX3_keeps 23 = .ok (.aload_n 0, 1) := dk_42 (dk_at dksX3_keeps_0 23 rfl rfl)
theorem dX3_keeps_24 : decode cX3_keeps 24 = .ok (.getfield 16, 3) := dk_180 0 16 (dk_at dksX3_keeps_1 0 rfl rfl)
theorem dX3_keeps_27 : decode cX3_keeps 27 = .ok (.iload_n 1, 1) := dk_27 (dk_at dksX3_keeps_1 3 rfl rfl)
theorem dX3_keeps_28 : decode cX3_keeps 28 = .ok (.sipush 828, 3) := dk_17 3 60 (dk_at dksX3_keeps_1 4 rfl rfl)
theorem dX3_keeps_31 : decode cX3_keeps 31 = .ok (.iadd, 1) := dk_96 (dk_at dksX3_keeps_1 7 rfl rfl)
theorem dX3_keeps_32 : decode cX3_keeps 32 = .ok (.iaload, 1) := dk_46 (dk_at dksX3_keeps_1 8 rfl rfl)
theorem dX3_keeps_33 : decode cX3_keeps 33 = .ok (.iastore, 1) := dk_79 (dk_at dksX3_keeps_1 9 rfl rfl)
theorem dX3_keeps_34 : decode cX3_keeps 34 = .ok (.iinc 1 1, 3) := dk_132 1 1 (dk_at dksX3_keeps_1 10 rfl rfl)
theorem dX3_keeps_37 : decode cX3_keeps 37 = .ok (.goto (-26), 3) := dk_167 255 230 (dk_at dksX3_keeps_1 13 rfl rfl)
theorem dX3_keeps_40 : decode cX3_keeps 40 = .ok (.aload_n 0, 1) := dk_42 (dk_at dksX3_keeps_1 16 rfl rfl)
theorem dX3_keeps_41 : decode cX3_keeps 41 = .ok (.dup, 1) := dk_89 (dk_at dksX3_keeps_1 17 rfl rfl)
theorem dX3_keeps_42 : decode cX3_keeps 42 = .ok (.getfield 191, 3) := dk_180 0 191 (dk_at dksX3_keeps_1 18 rfl rfl)
theorem dX3_keeps_45 : decode cX3_keeps 45 = .ok (.iconst 1, 1) := dk_4 (dk_at dksX3_keeps_1 21 rfl rfl)
theorem dX3_keeps_46 : decode cX3_keeps 46 = .ok (.isub, 1) := dk_100 (dk_at dksX3_keeps_1 22 rfl rfl)
theorem dX3_keeps_47 : decode cX3_keeps 47 = .ok (.putfield 191, 3) := dk_181 0 191 (dk_at dksX3_keeps_2 0 rfl rfl)
theorem dX3_keeps_50 : decode cX3_keeps 50 = .ok (.aload_n 0, 1) := dk_42 (dk_at dksX3_keeps_2 3 rfl rfl)
theorem dX3_keeps_51 : decode cX3_keeps 51 = .ok (.getfield 7, 3) := dk_180 0 7 (dk_at dksX3_keeps_2 4 rfl rfl)
theorem dX3_keeps_54 : decode cX3_keeps 54 = .ok (.iconst 0, 1) := dk_3 (dk_at dksX3_keeps_2 7 rfl rfl)
theorem dX3_keeps_55 : decode cX3_keeps 55 = .ok (.aload_n 0, 1) := dk_42 (dk_at dksX3_keeps_2 8 rfl rfl)
theorem dX3_keeps_56 : decode cX3_keeps 56 = .ok (.getfield 16, 3) := dk_180 0 16 (dk_at dksX3_keeps_2 9 rfl rfl)
theorem dX3_keeps_59 : decode cX3_keeps 59 = .ok (.sipush 828, 3) := dk_17 3 60 (dk_at dksX3_keeps_2 12 rfl rfl)
theorem dX3_keeps_62 : decode cX3_keeps 62 = .ok (.aload_n 0, 1) := dk_42 (dk_at dksX3_keeps_2 15 rfl rfl)
theorem dX3_keeps_63 : decode cX3_keeps 63 = .ok (.getfield 191, 3) := dk_180 0 191 (dk_at dksX3_keeps_2 16 rfl rfl)
theorem dX3_keeps_66 : decode cX3_keeps 66 = .ok (.imul, 1) := dk_104 (dk_at dksX3_keeps_2 19 rfl rfl)
theorem dX3_keeps_67 : decode cX3_keeps 67 = .ok (.invokestatic 86, 3) := dk_184 0 86 (dk_at dksX3_keeps_2 20 rfl rfl)
theorem dX3_keeps_70 : decode cX3_keeps 70 = .ok (.aload_n 0, 1) := dk_42 (dk_at dksX3_keeps_2 23 rfl rfl)
theorem dX3_keeps_71 : decode cX3_keeps 71 = .ok (.dup, 1) := dk_89 (dk_at dksX3_keeps_3 0 rfl rfl)
theorem dX3_keeps_72 : decode cX3_keeps 72 = .ok (.getfield 191, 3) := dk_180 0 191 (dk_at dksX3_keeps_3 1 rfl rfl)
theorem dX3_keeps_75 : decode cX3_keeps 75 = .ok (.iconst 1, 1) := dk_4 (dk_at dksX3_keeps_3 4 rfl rfl)
theorem dX3_keeps_76 : decode cX3_keeps 76 = .ok (.iadd, 1) := dk_96 (dk_at dksX3_keeps_3 5 rfl rfl)
theorem dX3_keeps_77 : decode cX3_keeps 77 = .ok (.putfield 191, 3) := dk_181 0 191 (dk_at dksX3_keeps_3 6 rfl rfl)
theorem dX3_keeps_80 : decode cX3_keeps 80 = .ok (.return_, 1) := dk_177 (dk_at dksX3_keeps_3 9 rfl rfl)
abbrev cX3_lose : ByteArray := prog_18_method_51_code
def yX3_lose : MethodName := ⟨RX3, "lose", "(II)I"⟩
def dkwX3_lose_2 : List UInt8 := [180, 0, 7, 16, 8, 27, 96, 46, 62, 42, 180, 0, 7, 16, 8, 27, 96, 28, 79, 29, 172]
abbrev dktX3_lose_2 : List UInt8 := dkwX3_lose_2 ++ []
def dkwX3_lose_1 : List UInt8 := [3, 167, 0, 4, 5, 181, 0, 90, 42, 180, 0, 90, 158, 0, 5, 3, 172, 42, 182, 0, 227, 42]
abbrev dktX3_lose_1 : List UInt8 := dkwX3_lose_1 ++ dktX3_lose_2
def dkwX3_lose_0 : List UInt8 := [42, 27, 3, 16, 19, 184, 0, 124, 154, 0, 7, 4, 167, 0, 17, 28, 3, 8, 184, 0, 124, 153, 0, 7]
abbrev dktX3_lose_0 : List UInt8 := dkwX3_lose_0 ++ dktX3_lose_1
theorem dksX3_lose_0 : cX3_lose.data.toList.drop 0 = dktX3_lose_0 := by decide +kernel
theorem dksX3_lose_1 : cX3_lose.data.toList.drop 24 = dktX3_lose_1 := dk_seg dksX3_lose_0 24 rfl rfl
theorem dksX3_lose_2 : cX3_lose.data.toList.drop 46 = dktX3_lose_2 := dk_seg dksX3_lose_1 22 rfl rfl
theorem dX3_lose_0 : decode cX3_lose 0 = .ok (.aload_n 0, 1) := dk_42 (dk_at dksX3_lose_0 0 rfl rfl)
theorem dX3_lose_1 : decode cX3_lose 1 = .ok (.iload_n 1, 1) := dk_27 (dk_at dksX3_lose_0 1 rfl rfl)
theorem dX3_lose_2 : decode cX3_lose 2 = .ok (.iconst 0, 1) := dk_3 (dk_at dksX3_lose_0 2 rfl rfl)
theorem dX3_lose_3 : decode cX3_lose 3 = .ok (.bipush 19, 2) := dk_16 19 (dk_at dksX3_lose_0 3 rfl rfl)
theorem dX3_lose_5 : decode cX3_lose 5 = .ok (.invokestatic 124, 3) := dk_184 0 124 (dk_at dksX3_lose_0 5 rfl rfl)
theorem dX3_lose_8 : decode cX3_lose 8 = .ok (.ifCond .ne 7, 3) := dk_154 0 7 (dk_at dksX3_lose_0 8 rfl rfl)
theorem dX3_lose_11 : decode cX3_lose 11 = .ok (.iconst 1, 1) := dk_4 (dk_at dksX3_lose_0 11 rfl rfl)
theorem dX3_lose_12 : decode cX3_lose 12 = .ok (.goto 17, 3) := dk_167 0 17 (dk_at dksX3_lose_0 12 rfl rfl)
theorem dX3_lose_15 : decode cX3_lose 15 = .ok (.iload_n 2, 1) := dk_28 (dk_at dksX3_lose_0 15 rfl rfl)
theorem dX3_lose_16 : decode cX3_lose 16 = .ok (.iconst 0, 1) := dk_3 (dk_at dksX3_lose_0 16 rfl rfl)
theorem dX3_lose_17 : decode cX3_lose 17 = .ok (.iconst 5, 1) := dk_8 (dk_at dksX3_lose_0 17 rfl rfl)
theorem dX3_lose_18 : decode cX3_lose 18 = .ok (.invokestatic 124, 3) := dk_184 0 124 (dk_at dksX3_lose_0 18 rfl rfl)
theorem dX3_lose_21 : decode cX3_lose 21 = .ok (.ifCond .eq 7, 3) := dk_153 0 7 (dk_at dksX3_lose_0 21 rfl rfl)
theorem dX3_lose_24 : decode cX3_lose 24 = .ok (.iconst 0, 1) := dk_3 (dk_at dksX3_lose_1 0 rfl rfl)
theorem dX3_lose_25 : decode cX3_lose 25 = .ok (.goto 4, 3) := dk_167 0 4 (dk_at dksX3_lose_1 1 rfl rfl)
theorem dX3_lose_28 : decode cX3_lose 28 = .ok (.iconst 2, 1) := dk_5 (dk_at dksX3_lose_1 4 rfl rfl)
theorem dX3_lose_29 : decode cX3_lose 29 = .ok (.putfield 90, 3) := dk_181 0 90 (dk_at dksX3_lose_1 5 rfl rfl)
theorem dX3_lose_32 : decode cX3_lose 32 = .ok (.aload_n 0, 1) := dk_42 (dk_at dksX3_lose_1 8 rfl rfl)
theorem dX3_lose_33 : decode cX3_lose 33 = .ok (.getfield 90, 3) := dk_180 0 90 (dk_at dksX3_lose_1 9 rfl rfl)
theorem dX3_lose_36 : decode cX3_lose 36 = .ok (.ifCond .le 5, 3) := dk_158 0 5 (dk_at dksX3_lose_1 12 rfl rfl)
theorem dX3_lose_39 : decode cX3_lose 39 = .ok (.iconst 0, 1) := dk_3 (dk_at dksX3_lose_1 15 rfl rfl)
theorem dX3_lose_40 : decode cX3_lose 40 = .ok (.ireturn, 1) := dk_172 (dk_at dksX3_lose_1 16 rfl rfl)
theorem dX3_lose_41 : decode cX3_lose 41 = .ok (.aload_n 0, 1) := dk_42 (dk_at dksX3_lose_1 17 rfl rfl)
theorem dX3_lose_42 : decode cX3_lose 42 = .ok (.invokevirtual 227, 3) := dk_182 0 227 (dk_at dksX3_lose_1 18 rfl rfl)
theorem dX3_lose_45 : decode cX3_lose 45 = .ok (.aload_n 0, 1) := dk_42 (dk_at dksX3_lose_1 21 rfl rfl)
theorem dX3_lose_46 : decode cX3_lose 46 = .ok (.getfield 7, 3) := dk_180 0 7 (dk_at dksX3_lose_2 0 rfl rfl)
theorem dX3_lose_49 : decode cX3_lose 49 = .ok (.bipush 8, 2) := dk_16 8 (dk_at dksX3_lose_2 3 rfl rfl)
theorem dX3_lose_51 : decode cX3_lose 51 = .ok (.iload_n 1, 1) := dk_27 (dk_at dksX3_lose_2 5 rfl rfl)
theorem dX3_lose_52 : decode cX3_lose 52 = .ok (.iadd, 1) := dk_96 (dk_at dksX3_lose_2 6 rfl rfl)
theorem dX3_lose_53 : decode cX3_lose 53 = .ok (.iaload, 1) := dk_46 (dk_at dksX3_lose_2 7 rfl rfl)
theorem dX3_lose_54 : decode cX3_lose 54 = .ok (.istore_n 3, 1) := dk_62 (dk_at dksX3_lose_2 8 rfl rfl)
theorem dX3_lose_55 : decode cX3_lose 55 = .ok (.aload_n 0, 1) := dk_42 (dk_at dksX3_lose_2 9 rfl rfl)
theorem dX3_lose_56 : decode cX3_lose 56 = .ok (.getfield 7, 3) := dk_180 0 7 (dk_at dksX3_lose_2 10 rfl rfl)
theorem dX3_lose_59 : decode cX3_lose 59 = .ok (.bipush 8, 2) := dk_16 8 (dk_at dksX3_lose_2 13 rfl rfl)
theorem dX3_lose_61 : decode cX3_lose 61 = .ok (.iload_n 1, 1) := dk_27 (dk_at dksX3_lose_2 15 rfl rfl)
theorem dX3_lose_62 : decode cX3_lose 62 = .ok (.iadd, 1) := dk_96 (dk_at dksX3_lose_2 16 rfl rfl)
theorem dX3_lose_63 : decode cX3_lose 63 = .ok (.iload_n 2, 1) := dk_28 (dk_at dksX3_lose_2 17 rfl rfl)
theorem dX3_lose_64 : decode cX3_lose 64 = .ok (.iastore, 1) := dk_79 (dk_at dksX3_lose_2 18 rfl rfl)
theorem dX3_lose_65 : decode cX3_lose 65 = .ok (.iload_n 3, 1) := dk_29 (dk_at dksX3_lose_2 19 rfl rfl)
theorem dX3_lose_66 : decode cX3_lose 66 = .ok (.ireturn, 1) := dk_172 (dk_at dksX3_lose_2 20 rfl rfl)
abbrev cX3_addLine : ByteArray := prog_18_method_55_code
def yX3_addLine : MethodName := ⟨RX3, "addLine", "(II)I"⟩
def dkwX3_addLine_3 : List UInt8 := [180, 0, 7, 4, 92, 46, 4, 96, 79, 29, 172]
abbrev dktX3_addLine_3 : List UInt8 := dkwX3_addLine_3 ++ []
def dkwX3_addLine_2 : List UInt8 := [42, 180, 0, 7, 4, 46, 62, 42, 29, 182, 0, 233, 42, 29, 27, 28, 4, 182, 0, 236, 54, 4, 42]
abbrev dktX3_addLine_2 : List UInt8 := dkwX3_addLine_2 ++ dktX3_addLine_3
def dkwX3_addLine_1 : List UInt8 := [162, 0, 7, 3, 167, 0, 4, 5, 181, 0, 90, 42, 180, 0, 90, 158, 0, 5, 3, 172, 42, 182, 0, 227]
abbrev dktX3_addLine_1 : List UInt8 := dkwX3_addLine_1 ++ dktX3_addLine_2
def dkwX3_addLine_0 : List UInt8 := [42, 42, 27, 28, 182, 0, 230, 154, 0, 7, 4, 167, 0, 19, 42, 180, 0, 7, 4, 46, 16, 20]
abbrev dktX3_addLine_0 : List UInt8 := dkwX3_addLine_0 ++ dktX3_addLine_1
theorem dksX3_addLine_0 : cX3_addLine.data.toList.drop 0 = dktX3_addLine_0 := by decide +kernel
theorem dksX3_addLine_1 : cX3_addLine.data.toList.drop 22 = dktX3_addLine_1 := dk_seg dksX3_addLine_0 22 rfl rfl
theorem dksX3_addLine_2 : cX3_addLine.data.toList.drop 46 = dktX3_addLine_2 := dk_seg dksX3_addLine_1 24 rfl rfl
theorem dksX3_addLine_3 : cX3_addLine.data.toList.drop 69 = dktX3_addLine_3 := dk_seg dksX3_addLine_2 23 rfl rfl
theorem dX3_addLine_0 : decode cX3_addLine 0 = .ok (.aload_n 0, 1) := dk_42 (dk_at dksX3_addLine_0 0 rfl rfl)
theorem dX3_addLine_1 : decode cX3_addLine 1 = .ok (.aload_n 0, 1) := dk_42 (dk_at dksX3_addLine_0 1 rfl rfl)
theorem dX3_addLine_2 : decode cX3_addLine 2 = .ok (.iload_n 1, 1) := dk_27 (dk_at dksX3_addLine_0 2 rfl rfl)
theorem dX3_addLine_3 : decode cX3_addLine 3 = .ok (.iload_n 2, 1) := dk_28 (dk_at dksX3_addLine_0 3 rfl rfl)
theorem dX3_addLine_4 : decode cX3_addLine 4 = .ok (.invokevirtual 230, 3) := dk_182 0 230 (dk_at dksX3_addLine_0 4 rfl rfl)
theorem dX3_addLine_7 : decode cX3_addLine 7 = .ok (.ifCond .ne 7, 3) := dk_154 0 7 (dk_at dksX3_addLine_0 7 rfl rfl)
theorem dX3_addLine_10 : decode cX3_addLine 10 = .ok (.iconst 1, 1) := dk_4 (dk_at dksX3_addLine_0 10 rfl rfl)
theorem dX3_addLine_11 : decode cX3_addLine 11 = .ok (.goto 19, 3) := dk_167 0 19 (dk_at dksX3_addLine_0 11 rfl rfl)
theorem dX3_addLine_14 : decode cX3_addLine 14 = .ok (.aload_n 0, 1) := dk_42 (dk_at dksX3_addLine_0 14 rfl rfl)
theorem dX3_addLine_15 : decode cX3_addLine 15 = .ok (.getfield 7, 3) := dk_180 0 7 (dk_at dksX3_addLine_0 15 rfl rfl)
theorem dX3_addLine_18 : decode cX3_addLine 18 = .ok (.iconst 1, 1) := dk_4 (dk_at dksX3_addLine_0 18 rfl rfl)
theorem dX3_addLine_19 : decode cX3_addLine 19 = .ok (.iaload, 1) := dk_46 (dk_at dksX3_addLine_0 19 rfl rfl)
theorem dX3_addLine_20 : decode cX3_addLine 20 = .ok (.bipush 20, 2) := dk_16 20 (dk_at dksX3_addLine_0 20 rfl rfl)
theorem dX3_addLine_22 : decode cX3_addLine 22 = .ok (.if_icmp .ge 7, 3) := dk_162 0 7 (dk_at dksX3_addLine_1 0 rfl rfl)
theorem dX3_addLine_25 : decode cX3_addLine 25 = .ok (.iconst 0, 1) := dk_3 (dk_at dksX3_addLine_1 3 rfl rfl)
theorem dX3_addLine_26 : decode cX3_addLine 26 = .ok (.goto 4, 3) := dk_167 0 4 (dk_at dksX3_addLine_1 4 rfl rfl)
theorem dX3_addLine_29 : decode cX3_addLine 29 = .ok (.iconst 2, 1) := dk_5 (dk_at dksX3_addLine_1 7 rfl rfl)
theorem dX3_addLine_30 : decode cX3_addLine 30 = .ok (.putfield 90, 3) := dk_181 0 90 (dk_at dksX3_addLine_1 8 rfl rfl)
theorem dX3_addLine_33 : decode cX3_addLine 33 = .ok (.aload_n 0, 1) := dk_42 (dk_at dksX3_addLine_1 11 rfl rfl)
theorem dX3_addLine_34 : decode cX3_addLine 34 = .ok (.getfield 90, 3) := dk_180 0 90 (dk_at dksX3_addLine_1 12 rfl rfl)
theorem dX3_addLine_37 : decode cX3_addLine 37 = .ok (.ifCond .le 5, 3) := dk_158 0 5 (dk_at dksX3_addLine_1 15 rfl rfl)
theorem dX3_addLine_40 : decode cX3_addLine 40 = .ok (.iconst 0, 1) := dk_3 (dk_at dksX3_addLine_1 18 rfl rfl)
theorem dX3_addLine_41 : decode cX3_addLine 41 = .ok (.ireturn, 1) := dk_172 (dk_at dksX3_addLine_1 19 rfl rfl)
theorem dX3_addLine_42 : decode cX3_addLine 42 = .ok (.aload_n 0, 1) := dk_42 (dk_at dksX3_addLine_1 20 rfl rfl)
theorem dX3_addLine_43 : decode cX3_addLine 43 = .ok (.invokevirtual 227, 3) := dk_182 0 227 (dk_at dksX3_addLine_1 21 rfl rfl)
theorem dX3_addLine_46 : decode cX3_addLine 46 = .ok (.aload_n 0, 1) := dk_42 (dk_at dksX3_addLine_2 0 rfl rfl)
theorem dX3_addLine_47 : decode cX3_addLine 47 = .ok (.getfield 7, 3) := dk_180 0 7 (dk_at dksX3_addLine_2 1 rfl rfl)
theorem dX3_addLine_50 : decode cX3_addLine 50 = .ok (.iconst 1, 1) := dk_4 (dk_at dksX3_addLine_2 4 rfl rfl)
theorem dX3_addLine_51 : decode cX3_addLine 51 = .ok (.iaload, 1) := dk_46 (dk_at dksX3_addLine_2 5 rfl rfl)
theorem dX3_addLine_52 : decode cX3_addLine 52 = .ok (.istore_n 3, 1) := dk_62 (dk_at dksX3_addLine_2 6 rfl rfl)
theorem dX3_addLine_53 : decode cX3_addLine 53 = .ok (.aload_n 0, 1) := dk_42 (dk_at dksX3_addLine_2 7 rfl rfl)
theorem dX3_addLine_54 : decode cX3_addLine 54 = .ok (.iload_n 3, 1) := dk_29 (dk_at dksX3_addLine_2 8 rfl rfl)
theorem dX3_addLine_55 : decode cX3_addLine 55 = .ok (.invokevirtual 233, 3) := dk_182 0 233 (dk_at dksX3_addLine_2 9 rfl rfl)
theorem dX3_addLine_58 : decode cX3_addLine 58 = .ok (.aload_n 0, 1) := dk_42 (dk_at dksX3_addLine_2 12 rfl rfl)
theorem dX3_addLine_59 : decode cX3_addLine 59 = .ok (.iload_n 3, 1) := dk_29 (dk_at dksX3_addLine_2 13 rfl rfl)
theorem dX3_addLine_60 : decode cX3_addLine 60 = .ok (.iload_n 1, 1) := dk_27 (dk_at dksX3_addLine_2 14 rfl rfl)
theorem dX3_addLine_61 : decode cX3_addLine 61 = .ok (.iload_n 2, 1) := dk_28 (dk_at dksX3_addLine_2 15 rfl rfl)
theorem dX3_addLine_62 : decode cX3_addLine 62 = .ok (.iconst 1, 1) := dk_4 (dk_at dksX3_addLine_2 16 rfl rfl)
theorem dX3_addLine_63 : decode cX3_addLine 63 = .ok (.invokevirtual 236, 3) := dk_182 0 236 (dk_at dksX3_addLine_2 17 rfl rfl)
theorem dX3_addLine_66 : decode cX3_addLine 66 = .ok (.istore 4, 2) := dk_54 4 (dk_at dksX3_addLine_2 20 rfl rfl)
theorem dX3_addLine_68 : decode cX3_addLine 68 = .ok (.aload_n 0, 1) := dk_42 (dk_at dksX3_addLine_2 22 rfl rfl)
theorem dX3_addLine_69 : decode cX3_addLine 69 = .ok (.getfield 7, 3) := dk_180 0 7 (dk_at dksX3_addLine_3 0 rfl rfl)
theorem dX3_addLine_72 : decode cX3_addLine 72 = .ok (.iconst 1, 1) := dk_4 (dk_at dksX3_addLine_3 3 rfl rfl)
theorem dX3_addLine_73 : decode cX3_addLine 73 = .ok (.dup2, 1) := dk_92 (dk_at dksX3_addLine_3 4 rfl rfl)
theorem dX3_addLine_74 : decode cX3_addLine 74 = .ok (.iaload, 1) := dk_46 (dk_at dksX3_addLine_3 5 rfl rfl)
theorem dX3_addLine_75 : decode cX3_addLine 75 = .ok (.iconst 1, 1) := dk_4 (dk_at dksX3_addLine_3 6 rfl rfl)
theorem dX3_addLine_76 : decode cX3_addLine 76 = .ok (.iadd, 1) := dk_96 (dk_at dksX3_addLine_3 7 rfl rfl)
theorem dX3_addLine_77 : decode cX3_addLine 77 = .ok (.iastore, 1) := dk_79 (dk_at dksX3_addLine_3 8 rfl rfl)
theorem dX3_addLine_78 : decode cX3_addLine 78 = .ok (.iload_n 3, 1) := dk_29 (dk_at dksX3_addLine_3 9 rfl rfl)
theorem dX3_addLine_79 : decode cX3_addLine 79 = .ok (.ireturn, 1) := dk_172 (dk_at dksX3_addLine_3 10 rfl rfl)
abbrev cX3_isPart : ByteArray := prog_18_method_52_code
def yX3_isPart : MethodName := ⟨RX3, "isPart", "(II)Z"⟩
def dkwX3_isPart_1 : List UInt8 := [184, 0, 124, 153, 0, 7, 4, 167, 0, 4, 3, 172]
abbrev dktX3_isPart_1 : List UInt8 := dkwX3_isPart_1 ++ []
def dkwX3_isPart_0 : List UInt8 := [27, 3, 42, 180, 0, 7, 3, 46, 184, 0, 124, 153, 0, 21, 28, 27, 42, 180, 0, 7, 3, 46]
abbrev dktX3_isPart_0 : List UInt8 := dkwX3_isPart_0 ++ dktX3_isPart_1
theorem dksX3_isPart_0 : cX3_isPart.data.toList.drop 0 = dktX3_isPart_0 := by decide +kernel
theorem dksX3_isPart_1 : cX3_isPart.data.toList.drop 22 = dktX3_isPart_1 := dk_seg dksX3_isPart_0 22 rfl rfl
theorem dX3_isPart_0 : decode cX3_isPart 0 = .ok (.iload_n 1, 1) := dk_27 (dk_at dksX3_isPart_0 0 rfl rfl)
theorem dX3_isPart_1 : decode cX3_isPart 1 = .ok (.iconst 0, 1) := dk_3 (dk_at dksX3_isPart_0 1 rfl rfl)
theorem dX3_isPart_2 : decode cX3_isPart 2 = .ok (.aload_n 0, 1) := dk_42 (dk_at dksX3_isPart_0 2 rfl rfl)
theorem dX3_isPart_3 : decode cX3_isPart 3 = .ok (.getfield 7, 3) := dk_180 0 7 (dk_at dksX3_isPart_0 3 rfl rfl)
theorem dX3_isPart_6 : decode cX3_isPart 6 = .ok (.iconst 0, 1) := dk_3 (dk_at dksX3_isPart_0 6 rfl rfl)
theorem dX3_isPart_7 : decode cX3_isPart 7 = .ok (.iaload, 1) := dk_46 (dk_at dksX3_isPart_0 7 rfl rfl)
theorem dX3_isPart_8 : decode cX3_isPart 8 = .ok (.invokestatic 124, 3) := dk_184 0 124 (dk_at dksX3_isPart_0 8 rfl rfl)
theorem dX3_isPart_11 : decode cX3_isPart 11 = .ok (.ifCond .eq 21, 3) := dk_153 0 21 (dk_at dksX3_isPart_0 11 rfl rfl)
theorem dX3_isPart_14 : decode cX3_isPart 14 = .ok (.iload_n 2, 1) := dk_28 (dk_at dksX3_isPart_0 14 rfl rfl)
theorem dX3_isPart_15 : decode cX3_isPart 15 = .ok (.iload_n 1, 1) := dk_27 (dk_at dksX3_isPart_0 15 rfl rfl)
theorem dX3_isPart_16 : decode cX3_isPart 16 = .ok (.aload_n 0, 1) := dk_42 (dk_at dksX3_isPart_0 16 rfl rfl)
theorem dX3_isPart_17 : decode cX3_isPart 17 = .ok (.getfield 7, 3) := dk_180 0 7 (dk_at dksX3_isPart_0 17 rfl rfl)
theorem dX3_isPart_20 : decode cX3_isPart 20 = .ok (.iconst 0, 1) := dk_3 (dk_at dksX3_isPart_0 20 rfl rfl)
theorem dX3_isPart_21 : decode cX3_isPart 21 = .ok (.iaload, 1) := dk_46 (dk_at dksX3_isPart_0 21 rfl rfl)
theorem dX3_isPart_22 : decode cX3_isPart 22 = .ok (.invokestatic 124, 3) := dk_184 0 124 (dk_at dksX3_isPart_1 0 rfl rfl)
theorem dX3_isPart_25 : decode cX3_isPart 25 = .ok (.ifCond .eq 7, 3) := dk_153 0 7 (dk_at dksX3_isPart_1 3 rfl rfl)
theorem dX3_isPart_28 : decode cX3_isPart 28 = .ok (.iconst 1, 1) := dk_4 (dk_at dksX3_isPart_1 6 rfl rfl)
theorem dX3_isPart_29 : decode cX3_isPart 29 = .ok (.goto 4, 3) := dk_167 0 4 (dk_at dksX3_isPart_1 7 rfl rfl)
theorem dX3_isPart_32 : decode cX3_isPart 32 = .ok (.iconst 0, 1) := dk_3 (dk_at dksX3_isPart_1 10 rfl rfl)
theorem dX3_isPart_33 : decode cX3_isPart 33 = .ok (.ireturn, 1) := dk_172 (dk_at dksX3_isPart_1 11 rfl rfl)
abbrev cX3_clearsLine : ByteArray := prog_18_method_53_code
def yX3_clearsLine : MethodName := ⟨RX3, "clearsLine", "(I)V"⟩
def dkwX3_clearsLine_1 : List UInt8 := [167, 255, 236, 177]
abbrev dktX3_clearsLine_1 : List UInt8 := dkwX3_clearsLine_1 ++ []
def dkwX3_clearsLine_0 : List UInt8 := [3, 61, 28, 16, 40, 162, 0, 20, 42, 180, 0, 7, 27, 28, 184, 0, 96, 3, 79, 132, 2, 1]
abbrev dktX3_clearsLine_0 : List UInt8 := dkwX3_clearsLine_0 ++ dktX3_clearsLine_1
theorem dksX3_clearsLine_0 : cX3_clearsLine.data.toList.drop 0 = dktX3_clearsLine_0 := by decide +kernel
theorem dksX3_clearsLine_1 : cX3_clearsLine.data.toList.drop 22 = dktX3_clearsLine_1 := dk_seg dksX3_clearsLine_0 22 rfl rfl
theorem dX3_clearsLine_0 : decode cX3_clearsLine 0 = .ok (.iconst 0, 1) := dk_3 (dk_at dksX3_clearsLine_0 0 rfl rfl)
theorem dX3_clearsLine_1 : decode cX3_clearsLine 1 = .ok (.istore_n 2, 1) := dk_61 (dk_at dksX3_clearsLine_0 1 rfl rfl)
theorem dX3_clearsLine_2 : decode cX3_clearsLine 2 = .ok (.iload_n 2, 1) := dk_28 (dk_at dksX3_clearsLine_0 2 rfl rfl)
theorem dX3_clearsLine_3 : decode cX3_clearsLine 3 = .ok (.bipush 40, 2) := dk_16 40 (dk_at dksX3_clearsLine_0 3 rfl rfl)
theorem dX3_clearsLine_5 : decode cX3_clearsLine 5 = .ok (.if_icmp .ge 20, 3) := dk_162 0 20 (dk_at dksX3_clearsLine_0 5 rfl rfl)
theorem dX3_clearsLine_8 : decode cX3_clearsLine 8 = .ok (.aload_n 0, 1) := dk_42 (dk_at dksX3_clearsLine_0 8 rfl rfl)
theorem dX3_clearsLine_9 : decode cX3_clearsLine 9 = .ok (.getfield 7, 3) := dk_180 0 7 (dk_at dksX3_clearsLine_0 9 rfl rfl)
theorem dX3_clearsLine_12 : decode cX3_clearsLine 12 = .ok (.iload_n 1, 1) := dk_27 (dk_at dksX3_clearsLine_0 12 rfl rfl)
theorem dX3_clearsLine_13 : decode cX3_clearsLine 13 = .ok (.iload_n 2, 1) := dk_28 (dk_at dksX3_clearsLine_0 13 rfl rfl)
theorem dX3_clearsLine_14 : decode cX3_clearsLine 14 = .ok (.invokestatic 96, 3) := dk_184 0 96 (dk_at dksX3_clearsLine_0 14 rfl rfl)
theorem dX3_clearsLine_17 : decode cX3_clearsLine 17 = .ok (.iconst 0, 1) := dk_3 (dk_at dksX3_clearsLine_0 17 rfl rfl)
theorem dX3_clearsLine_18 : decode cX3_clearsLine 18 = .ok (.iastore, 1) := dk_79 (dk_at dksX3_clearsLine_0 18 rfl rfl)
theorem dX3_clearsLine_19 : decode cX3_clearsLine 19 = .ok (.iinc 2 1, 3) := dk_132 2 1 (dk_at dksX3_clearsLine_0 19 rfl rfl)
theorem dX3_clearsLine_22 : decode cX3_clearsLine 22 = .ok (.goto (-20), 3) := dk_167 255 236 (dk_at dksX3_clearsLine_1 0 rfl rfl)
theorem dX3_clearsLine_25 : decode cX3_clearsLine 25 = .ok (.return_, 1) := dk_177 (dk_at dksX3_clearsLine_1 3 rfl rfl)
abbrev cX3_paintsLine : ByteArray := prog_18_method_54_code
def yX3_paintsLine : MethodName := ⟨RX3, "paintsLine", "(IIII)I"⟩
def dkwX3_paintsLine_2 : List UInt8 := [21, 4, 79, 132, 6, 1, 167, 255, 208, 21, 5, 172]
abbrev dktX3_paintsLine_2 : List UInt8 := dkwX3_paintsLine_2 ++ []
def dkwX3_paintsLine_1 : List UInt8 := [46, 21, 4, 160, 0, 7, 3, 167, 0, 4, 4, 96, 54, 5, 42, 180, 0, 7, 27, 21, 6, 184, 0, 96]
abbrev dktX3_paintsLine_1 : List UInt8 := dkwX3_paintsLine_1 ++ dktX3_paintsLine_2
def dkwX3_paintsLine_0 : List UInt8 := [3, 54, 5, 28, 54, 6, 21, 6, 29, 162, 0, 48, 21, 5, 42, 180, 0, 7, 27, 21, 6, 184, 0, 96]
abbrev dktX3_paintsLine_0 : List UInt8 := dkwX3_paintsLine_0 ++ dktX3_paintsLine_1
theorem dksX3_paintsLine_0 : cX3_paintsLine.data.toList.drop 0 = dktX3_paintsLine_0 := by decide +kernel
theorem dksX3_paintsLine_1 : cX3_paintsLine.data.toList.drop 24 = dktX3_paintsLine_1 := dk_seg dksX3_paintsLine_0 24 rfl rfl
theorem dksX3_paintsLine_2 : cX3_paintsLine.data.toList.drop 48 = dktX3_paintsLine_2 := dk_seg dksX3_paintsLine_1 24 rfl rfl
theorem dX3_paintsLine_0 : decode cX3_paintsLine 0 = .ok (.iconst 0, 1) := dk_3 (dk_at dksX3_paintsLine_0 0 rfl rfl)
theorem dX3_paintsLine_1 : decode cX3_paintsLine 1 = .ok (.istore 5, 2) := dk_54 5 (dk_at dksX3_paintsLine_0 1 rfl rfl)
theorem dX3_paintsLine_3 : decode cX3_paintsLine 3 = .ok (.iload_n 2, 1) := dk_28 (dk_at dksX3_paintsLine_0 3 rfl rfl)
theorem dX3_paintsLine_4 : decode cX3_paintsLine 4 = .ok (.istore 6, 2) := dk_54 6 (dk_at dksX3_paintsLine_0 4 rfl rfl)
theorem dX3_paintsLine_6 : decode cX3_paintsLine 6 = .ok (.iload 6, 2) := dk_21 6 (dk_at dksX3_paintsLine_0 6 rfl rfl)
theorem dX3_paintsLine_8 : decode cX3_paintsLine 8 = .ok (.iload_n 3, 1) := dk_29 (dk_at dksX3_paintsLine_0 8 rfl rfl)
theorem dX3_paintsLine_9 : decode cX3_paintsLine 9 = .ok (.if_icmp .ge 48, 3) := dk_162 0 48 (dk_at dksX3_paintsLine_0 9 rfl rfl)
theorem dX3_paintsLine_12 : decode cX3_paintsLine 12 = .ok (.iload 5, 2) := dk_21 5 (dk_at dksX3_paintsLine_0 12 rfl rfl)
theorem dX3_paintsLine_14 : decode cX3_paintsLine 14 = .ok (.aload_n 0, 1) := dk_42 (dk_at dksX3_paintsLine_0 14 rfl rfl)
theorem dX3_paintsLine_15 : decode cX3_paintsLine 15 = .ok (.getfield 7, 3) := dk_180 0 7 (dk_at dksX3_paintsLine_0 15 rfl rfl)
theorem dX3_paintsLine_18 : decode cX3_paintsLine 18 = .ok (.iload_n 1, 1) := dk_27 (dk_at dksX3_paintsLine_0 18 rfl rfl)
theorem dX3_paintsLine_19 : decode cX3_paintsLine 19 = .ok (.iload 6, 2) := dk_21 6 (dk_at dksX3_paintsLine_0 19 rfl rfl)
theorem dX3_paintsLine_21 : decode cX3_paintsLine 21 = .ok (.invokestatic 96, 3) := dk_184 0 96 (dk_at dksX3_paintsLine_0 21 rfl rfl)
theorem dX3_paintsLine_24 : decode cX3_paintsLine 24 = .ok (.iaload, 1) := dk_46 (dk_at dksX3_paintsLine_1 0 rfl rfl)
theorem dX3_paintsLine_25 : decode cX3_paintsLine 25 = .ok (.iload 4, 2) := dk_21 4 (dk_at dksX3_paintsLine_1 1 rfl rfl)
theorem dX3_paintsLine_27 : decode cX3_paintsLine 27 = .ok (.if_icmp .ne 7, 3) := dk_160 0 7 (dk_at dksX3_paintsLine_1 3 rfl rfl)
theorem dX3_paintsLine_30 : decode cX3_paintsLine 30 = .ok (.iconst 0, 1) := dk_3 (dk_at dksX3_paintsLine_1 6 rfl rfl)
theorem dX3_paintsLine_31 : decode cX3_paintsLine 31 = .ok (.goto 4, 3) := dk_167 0 4 (dk_at dksX3_paintsLine_1 7 rfl rfl)
theorem dX3_paintsLine_34 : decode cX3_paintsLine 34 = .ok (.iconst 1, 1) := dk_4 (dk_at dksX3_paintsLine_1 10 rfl rfl)
theorem dX3_paintsLine_35 : decode cX3_paintsLine 35 = .ok (.iadd, 1) := dk_96 (dk_at dksX3_paintsLine_1 11 rfl rfl)
theorem dX3_paintsLine_36 : decode cX3_paintsLine 36 = .ok (.istore 5, 2) := dk_54 5 (dk_at dksX3_paintsLine_1 12 rfl rfl)
theorem dX3_paintsLine_38 : decode cX3_paintsLine 38 = .ok (.aload_n 0, 1) := dk_42 (dk_at dksX3_paintsLine_1 14 rfl rfl)
theorem dX3_paintsLine_39 : decode cX3_paintsLine 39 = .ok (.getfield 7, 3) := dk_180 0 7 (dk_at dksX3_paintsLine_1 15 rfl rfl)
theorem dX3_paintsLine_42 : decode cX3_paintsLine 42 = .ok (.iload_n 1, 1) := dk_27 (dk_at dksX3_paintsLine_1 18 rfl rfl)
theorem dX3_paintsLine_43 : decode cX3_paintsLine 43 = .ok (.iload 6, 2) := dk_21 6 (dk_at dksX3_paintsLine_1 19 rfl rfl)
theorem dX3_paintsLine_45 : decode cX3_paintsLine 45 = .ok (.invokestatic 96, 3) := dk_184 0 96 (dk_at dksX3_paintsLine_1 21 rfl rfl)
theorem dX3_paintsLine_48 : decode cX3_paintsLine 48 = .ok (.iload 4, 2) := dk_21 4 (dk_at dksX3_paintsLine_2 0 rfl rfl)
theorem dX3_paintsLine_50 : decode cX3_paintsLine 50 = .ok (.iastore, 1) := dk_79 (dk_at dksX3_paintsLine_2 2 rfl rfl)
theorem dX3_paintsLine_51 : decode cX3_paintsLine 51 = .ok (.iinc 6 1, 3) := dk_132 6 1 (dk_at dksX3_paintsLine_2 3 rfl rfl)
theorem dX3_paintsLine_54 : decode cX3_paintsLine 54 = .ok (.goto (-48), 3) := dk_167 255 208 (dk_at dksX3_paintsLine_2 6 rfl rfl)
theorem dX3_paintsLine_57 : decode cX3_paintsLine 57 = .ok (.iload 5, 2) := dk_21 5 (dk_at dksX3_paintsLine_2 9 rfl rfl)
theorem dX3_paintsLine_59 : decode cX3_paintsLine 59 = .ok (.ireturn, 1) := dk_172 (dk_at dksX3_paintsLine_2 11 rfl rfl)
abbrev cX3_paint : ByteArray := prog_18_method_56_code
def yX3_paint : MethodName := ⟨RX3, "paint", "(IIII)I"⟩
def dkwX3_paint_2 : List UInt8 := [172, 42, 182, 0, 227, 42, 27, 28, 29, 21, 4, 182, 0, 236, 172]
abbrev dktX3_paint_2 : List UInt8 := dkwX3_paint_2 ++ []
def dkwX3_paint_1 : List UInt8 := [3, 4, 184, 0, 124, 153, 0, 7, 3, 167, 0, 4, 5, 181, 0, 90, 42, 180, 0, 90, 158, 0, 5, 3]
abbrev dktX3_paint_1 : List UInt8 := dkwX3_paint_1 ++ dktX3_paint_2
def dkwX3_paint_0 : List UInt8 := [42, 42, 27, 182, 0, 194, 154, 0, 7, 4, 167, 0, 27, 42, 28, 29, 182, 0, 230, 153, 0, 17, 21, 4]
abbrev dktX3_paint_0 : List UInt8 := dkwX3_paint_0 ++ dktX3_paint_1
theorem dksX3_paint_0 : cX3_paint.data.toList.drop 0 = dktX3_paint_0 := by decide +kernel
theorem dksX3_paint_1 : cX3_paint.data.toList.drop 24 = dktX3_paint_1 := dk_seg dksX3_paint_0 24 rfl rfl
theorem dksX3_paint_2 : cX3_paint.data.toList.drop 48 = dktX3_paint_2 := dk_seg dksX3_paint_1 24 rfl rfl
theorem dX3_paint_0 : decode cX3_paint 0 = .ok (.aload_n 0, 1) := dk_42 (dk_at dksX3_paint_0 0 rfl rfl)
theorem dX3_paint_1 : decode cX3_paint 1 = .ok (.aload_n 0, 1) := dk_42 (dk_at dksX3_paint_0 1 rfl rfl)
theorem dX3_paint_2 : decode cX3_paint 2 = .ok (.iload_n 1, 1) := dk_27 (dk_at dksX3_paint_0 2 rfl rfl)
theorem dX3_paint_3 : decode cX3_paint 3 = .ok (.invokevirtual 194, 3) := dk_182 0 194 (dk_at dksX3_paint_0 3 rfl rfl)
theorem dX3_paint_6 : decode cX3_paint 6 = .ok (.ifCond .ne 7, 3) := dk_154 0 7 (dk_at dksX3_paint_0 6 rfl rfl)
theorem dX3_paint_9 : decode cX3_paint 9 = .ok (.iconst 1, 1) := dk_4 (dk_at dksX3_paint_0 9 rfl rfl)
theorem dX3_paint_10 : decode cX3_paint 10 = .ok (.goto 27, 3) := dk_167 0 27 (dk_at dksX3_paint_0 10 rfl rfl)
theorem dX3_paint_13 : decode cX3_paint 13 = .ok (.aload_n 0, 1) := dk_42 (dk_at dksX3_paint_0 13 rfl rfl)
theorem dX3_paint_14 : decode cX3_paint 14 = .ok (.iload_n 2, 1) := dk_28 (dk_at dksX3_paint_0 14 rfl rfl)
theorem dX3_paint_15 : decode cX3_paint 15 = .ok (.iload_n 3, 1) := dk_29 (dk_at dksX3_paint_0 15 rfl rfl)
theorem dX3_paint_16 : decode cX3_paint 16 = .ok (.invokevirtual 230, 3) := dk_182 0 230 (dk_at dksX3_paint_0 16 rfl rfl)
theorem dX3_paint_19 : decode cX3_paint 19 = .ok (.ifCond .eq 17, 3) := dk_153 0 17 (dk_at dksX3_paint_0 19 rfl rfl)
theorem dX3_paint_22 : decode cX3_paint 22 = .ok (.iload 4, 2) := dk_21 4 (dk_at dksX3_paint_0 22 rfl rfl)
theorem dX3_paint_24 : decode cX3_paint 24 = .ok (.iconst 0, 1) := dk_3 (dk_at dksX3_paint_1 0 rfl rfl)
theorem dX3_paint_25 : decode cX3_paint 25 = .ok (.iconst 1, 1) := dk_4 (dk_at dksX3_paint_1 1 rfl rfl)
theorem dX3_paint_26 : decode cX3_paint 26 = .ok (.invokestatic 124, 3) := dk_184 0 124 (dk_at dksX3_paint_1 2 rfl rfl)
theorem dX3_paint_29 : decode cX3_paint 29 = .ok (.ifCond .eq 7, 3) := dk_153 0 7 (dk_at dksX3_paint_1 5 rfl rfl)
theorem dX3_paint_32 : decode cX3_paint 32 = .ok (.iconst 0, 1) := dk_3 (dk_at dksX3_paint_1 8 rfl rfl)
theorem dX3_paint_33 : decode cX3_paint 33 = .ok (.goto 4, 3) := dk_167 0 4 (dk_at dksX3_paint_1 9 rfl rfl)
theorem dX3_paint_36 : decode cX3_paint 36 = .ok (.iconst 2, 1) := dk_5 (dk_at dksX3_paint_1 12 rfl rfl)
theorem dX3_paint_37 : decode cX3_paint 37 = .ok (.putfield 90, 3) := dk_181 0 90 (dk_at dksX3_paint_1 13 rfl rfl)
theorem dX3_paint_40 : decode cX3_paint 40 = .ok (.aload_n 0, 1) := dk_42 (dk_at dksX3_paint_1 16 rfl rfl)
theorem dX3_paint_41 : decode cX3_paint 41 = .ok (.getfield 90, 3) := dk_180 0 90 (dk_at dksX3_paint_1 17 rfl rfl)
theorem dX3_paint_44 : decode cX3_paint 44 = .ok (.ifCond .le 5, 3) := dk_158 0 5 (dk_at dksX3_paint_1 20 rfl rfl)
theorem dX3_paint_47 : decode cX3_paint 47 = .ok (.iconst 0, 1) := dk_3 (dk_at dksX3_paint_1 23 rfl rfl)
theorem dX3_paint_48 : decode cX3_paint 48 = .ok (.ireturn, 1) := dk_172 (dk_at dksX3_paint_2 0 rfl rfl)
theorem dX3_paint_49 : decode cX3_paint 49 = .ok (.aload_n 0, 1) := dk_42 (dk_at dksX3_paint_2 1 rfl rfl)
theorem dX3_paint_50 : decode cX3_paint 50 = .ok (.invokevirtual 227, 3) := dk_182 0 227 (dk_at dksX3_paint_2 2 rfl rfl)
theorem dX3_paint_53 : decode cX3_paint 53 = .ok (.aload_n 0, 1) := dk_42 (dk_at dksX3_paint_2 5 rfl rfl)
theorem dX3_paint_54 : decode cX3_paint 54 = .ok (.iload_n 1, 1) := dk_27 (dk_at dksX3_paint_2 6 rfl rfl)
theorem dX3_paint_55 : decode cX3_paint 55 = .ok (.iload_n 2, 1) := dk_28 (dk_at dksX3_paint_2 7 rfl rfl)
theorem dX3_paint_56 : decode cX3_paint 56 = .ok (.iload_n 3, 1) := dk_29 (dk_at dksX3_paint_2 8 rfl rfl)
theorem dX3_paint_57 : decode cX3_paint 57 = .ok (.iload 4, 2) := dk_21 4 (dk_at dksX3_paint_2 9 rfl rfl)
theorem dX3_paint_59 : decode cX3_paint 59 = .ok (.invokevirtual 236, 3) := dk_182 0 236 (dk_at dksX3_paint_2 11 rfl rfl)
theorem dX3_paint_62 : decode cX3_paint 62 = .ok (.ireturn, 1) := dk_172 (dk_at dksX3_paint_2 14 rfl rfl)
abbrev cX3_shift : ByteArray := prog_18_method_57_code
def yX3_shift : MethodName := ⟨RX3, "shift", "(II)I"⟩
def dkwX3_shift_4 : List UInt8 := [167, 0, 4, 3, 79, 132, 3, 1, 167, 255, 207, 42, 27, 182, 0, 179, 172]
abbrev dktX3_shift_4 : List UInt8 := dkwX3_shift_4 ++ []
def dkwX3_shift_3 : List UInt8 := [100, 3, 42, 180, 0, 93, 4, 100, 184, 0, 124, 153, 0, 14, 42, 180, 0, 29, 29, 28, 100, 46]
abbrev dktX3_shift_3 : List UInt8 := dkwX3_shift_3 ++ dktX3_shift_4
def dkwX3_shift_2 : List UInt8 := [182, 0, 154, 3, 62, 29, 42, 180, 0, 93, 162, 0, 47, 42, 180, 0, 7, 27, 29, 184, 0, 96, 29, 28]
abbrev dktX3_shift_2 : List UInt8 := dkwX3_shift_2 ++ dktX3_shift_3
def dkwX3_shift_1 : List UInt8 := [3, 167, 0, 4, 5, 181, 0, 90, 42, 180, 0, 90, 158, 0, 5, 3, 172, 42, 182, 0, 227, 42, 27]
abbrev dktX3_shift_1 : List UInt8 := dkwX3_shift_1 ++ dktX3_shift_2
def dkwX3_shift_0 : List UInt8 := [42, 42, 27, 182, 0, 194, 154, 0, 7, 4, 167, 0, 19, 28, 16, 216, 16, 40, 184, 0, 124, 153, 0, 7]
abbrev dktX3_shift_0 : List UInt8 := dkwX3_shift_0 ++ dktX3_shift_1
theorem dksX3_shift_0 : cX3_shift.data.toList.drop 0 = dktX3_shift_0 := by decide +kernel
theorem dksX3_shift_1 : cX3_shift.data.toList.drop 24 = dktX3_shift_1 := dk_seg dksX3_shift_0 24 rfl rfl
theorem dksX3_shift_2 : cX3_shift.data.toList.drop 47 = dktX3_shift_2 := dk_seg dksX3_shift_1 23 rfl rfl
theorem dksX3_shift_3 : cX3_shift.data.toList.drop 71 = dktX3_shift_3 := dk_seg dksX3_shift_2 24 rfl rfl
theorem dksX3_shift_4 : cX3_shift.data.toList.drop 93 = dktX3_shift_4 := dk_seg dksX3_shift_3 22 rfl rfl
theorem dX3_shift_0 : decode cX3_shift 0 = .ok (.aload_n 0, 1) := dk_42 (dk_at dksX3_shift_0 0 rfl rfl)
theorem dX3_shift_1 : decode cX3_shift 1 = .ok (.aload_n 0, 1) := dk_42 (dk_at dksX3_shift_0 1 rfl rfl)
theorem dX3_shift_2 : decode cX3_shift 2 = .ok (.iload_n 1, 1) := dk_27 (dk_at dksX3_shift_0 2 rfl rfl)
theorem dX3_shift_3 : decode cX3_shift 3 = .ok (.invokevirtual 194, 3) := dk_182 0 194 (dk_at dksX3_shift_0 3 rfl rfl)
theorem dX3_shift_6 : decode cX3_shift 6 = .ok (.ifCond .ne 7, 3) := dk_154 0 7 (dk_at dksX3_shift_0 6 rfl rfl)
theorem dX3_shift_9 : decode cX3_shift 9 = .ok (.iconst 1, 1) := dk_4 (dk_at dksX3_shift_0 9 rfl rfl)
theorem dX3_shift_10 : decode cX3_shift 10 = .ok (.goto 19, 3) := dk_167 0 19 (dk_at dksX3_shift_0 10 rfl rfl)
theorem dX3_shift_13 : decode cX3_shift 13 = .ok (.iload_n 2, 1) := dk_28 (dk_at dksX3_shift_0 13 rfl rfl)
theorem dX3_shift_14 : decode cX3_shift 14 = .ok (.bipush (-40), 2) := dk_16 216 (dk_at dksX3_shift_0 14 rfl rfl)
theorem dX3_shift_16 : decode cX3_shift 16 = .ok (.bipush 40, 2) := dk_16 40 (dk_at dksX3_shift_0 16 rfl rfl)
theorem dX3_shift_18 : decode cX3_shift 18 = .ok (.invokestatic 124, 3) := dk_184 0 124 (dk_at dksX3_shift_0 18 rfl rfl)
theorem dX3_shift_21 : decode cX3_shift 21 = .ok (.ifCond .eq 7, 3) := dk_153 0 7 (dk_at dksX3_shift_0 21 rfl rfl)
theorem dX3_shift_24 : decode cX3_shift 24 = .ok (.iconst 0, 1) := dk_3 (dk_at dksX3_shift_1 0 rfl rfl)
theorem dX3_shift_25 : decode cX3_shift 25 = .ok (.goto 4, 3) := dk_167 0 4 (dk_at dksX3_shift_1 1 rfl rfl)
theorem dX3_shift_28 : decode cX3_shift 28 = .ok (.iconst 2, 1) := dk_5 (dk_at dksX3_shift_1 4 rfl rfl)
theorem dX3_shift_29 : decode cX3_shift 29 = .ok (.putfield 90, 3) := dk_181 0 90 (dk_at dksX3_shift_1 5 rfl rfl)
theorem dX3_shift_32 : decode cX3_shift 32 = .ok (.aload_n 0, 1) := dk_42 (dk_at dksX3_shift_1 8 rfl rfl)
theorem dX3_shift_33 : decode cX3_shift 33 = .ok (.getfield 90, 3) := dk_180 0 90 (dk_at dksX3_shift_1 9 rfl rfl)
theorem dX3_shift_36 : decode cX3_shift 36 = .ok (.ifCond .le 5, 3) := dk_158 0 5 (dk_at dksX3_shift_1 12 rfl rfl)
theorem dX3_shift_39 : decode cX3_shift 39 = .ok (.iconst 0, 1) := dk_3 (dk_at dksX3_shift_1 15 rfl rfl)
theorem dX3_shift_40 : decode cX3_shift 40 = .ok (.ireturn, 1) := dk_172 (dk_at dksX3_shift_1 16 rfl rfl)
theorem dX3_shift_41 : decode cX3_shift 41 = .ok (.aload_n 0, 1) := dk_42 (dk_at dksX3_shift_1 17 rfl rfl)
theorem dX3_shift_42 : decode cX3_shift 42 = .ok (.invokevirtual 227, 3) := dk_182 0 227 (dk_at dksX3_shift_1 18 rfl rfl)
theorem dX3_shift_45 : decode cX3_shift 45 = .ok (.aload_n 0, 1) := dk_42 (dk_at dksX3_shift_1 21 rfl rfl)
theorem dX3_shift_46 : decode cX3_shift 46 = .ok (.iload_n 1, 1) := dk_27 (dk_at dksX3_shift_1 22 rfl rfl)
theorem dX3_shift_47 : decode cX3_shift 47 = .ok (.invokevirtual 154, 3) := dk_182 0 154 (dk_at dksX3_shift_2 0 rfl rfl)
theorem dX3_shift_50 : decode cX3_shift 50 = .ok (.iconst 0, 1) := dk_3 (dk_at dksX3_shift_2 3 rfl rfl)
theorem dX3_shift_51 : decode cX3_shift 51 = .ok (.istore_n 3, 1) := dk_62 (dk_at dksX3_shift_2 4 rfl rfl)
theorem dX3_shift_52 : decode cX3_shift 52 = .ok (.iload_n 3, 1) := dk_29 (dk_at dksX3_shift_2 5 rfl rfl)
theorem dX3_shift_53 : decode cX3_shift 53 = .ok (.aload_n 0, 1) := dk_42 (dk_at dksX3_shift_2 6 rfl rfl)
theorem dX3_shift_54 : decode cX3_shift 54 = .ok (.getfield 93, 3) := dk_180 0 93 (dk_at dksX3_shift_2 7 rfl rfl)
theorem dX3_shift_57 : decode cX3_shift 57 = .ok (.if_icmp .ge 47, 3) := dk_162 0 47 (dk_at dksX3_shift_2 10 rfl rfl)
theorem dX3_shift_60 : decode cX3_shift 60 = .ok (.aload_n 0, 1) := dk_42 (dk_at dksX3_shift_2 13 rfl rfl)
theorem dX3_shift_61 : decode cX3_shift 61 = .ok (.getfield 7, 3) := dk_180 0 7 (dk_at dksX3_shift_2 14 rfl rfl)
theorem dX3_shift_64 : decode cX3_shift 64 = .ok (.iload_n 1, 1) := dk_27 (dk_at dksX3_shift_2 17 rfl rfl)
theorem dX3_shift_65 : decode cX3_shift 65 = .ok (.iload_n 3, 1) := dk_29 (dk_at dksX3_shift_2 18 rfl rfl)
theorem dX3_shift_66 : decode cX3_shift 66 = .ok (.invokestatic 96, 3) := dk_184 0 96 (dk_at dksX3_shift_2 19 rfl rfl)
theorem dX3_shift_69 : decode cX3_shift 69 = .ok (.iload_n 3, 1) := dk_29 (dk_at dksX3_shift_2 22 rfl rfl)
theorem dX3_shift_70 : decode cX3_shift 70 = .ok (.iload_n 2, 1) := dk_28 (dk_at dksX3_shift_2 23 rfl rfl)
theorem dX3_shift_71 : decode cX3_shift 71 = .ok (.isub, 1) := dk_100 (dk_at dksX3_shift_3 0 rfl rfl)
theorem dX3_shift_72 : decode cX3_shift 72 = .ok (.iconst 0, 1) := dk_3 (dk_at dksX3_shift_3 1 rfl rfl)
theorem dX3_shift_73 : decode cX3_shift 73 = .ok (.aload_n 0, 1) := dk_42 (dk_at dksX3_shift_3 2 rfl rfl)
theorem dX3_shift_74 : decode cX3_shift 74 = .ok (.getfield 93, 3) := dk_180 0 93 (dk_at dksX3_shift_3 3 rfl rfl)
theorem dX3_shift_77 : decode cX3_shift 77 = .ok (.iconst 1, 1) := dk_4 (dk_at dksX3_shift_3 6 rfl rfl)
theorem dX3_shift_78 : decode cX3_shift 78 = .ok (.isub, 1) := dk_100 (dk_at dksX3_shift_3 7 rfl rfl)
theorem dX3_shift_79 : decode cX3_shift 79 = .ok (.invokestatic 124, 3) := dk_184 0 124 (dk_at dksX3_shift_3 8 rfl rfl)
theorem dX3_shift_82 : decode cX3_shift 82 = .ok (.ifCond .eq 14, 3) := dk_153 0 14 (dk_at dksX3_shift_3 11 rfl rfl)
theorem dX3_shift_85 : decode cX3_shift 85 = .ok (.aload_n 0, 1) := dk_42 (dk_at dksX3_shift_3 14 rfl rfl)
theorem dX3_shift_86 : decode cX3_shift 86 = .ok (.getfield 29, 3) := dk_180 0 29 (dk_at dksX3_shift_3 15 rfl rfl)
theorem dX3_shift_89 : decode cX3_shift 89 = .ok (.iload_n 3, 1) := dk_29 (dk_at dksX3_shift_3 18 rfl rfl)
theorem dX3_shift_90 : decode cX3_shift 90 = .ok (.iload_n 2, 1) := dk_28 (dk_at dksX3_shift_3 19 rfl rfl)
theorem dX3_shift_91 : decode cX3_shift 91 = .ok (.isub, 1) := dk_100 (dk_at dksX3_shift_3 20 rfl rfl)
theorem dX3_shift_92 : decode cX3_shift 92 = .ok (.iaload, 1) := dk_46 (dk_at dksX3_shift_3 21 rfl rfl)
theorem dX3_shift_93 : decode cX3_shift 93 = .ok (.goto 4, 3) := dk_167 0 4 (dk_at dksX3_shift_4 0 rfl rfl)
theorem dX3_shift_96 : decode cX3_shift 96 = .ok (.iconst 0, 1) := dk_3 (dk_at dksX3_shift_4 3 rfl rfl)
theorem dX3_shift_97 : decode cX3_shift 97 = .ok (.iastore, 1) := dk_79 (dk_at dksX3_shift_4 4 rfl rfl)
theorem dX3_shift_98 : decode cX3_shift 98 = .ok (.iinc 3 1, 3) := dk_132 3 1 (dk_at dksX3_shift_4 5 rfl rfl)
theorem dX3_shift_101 : decode cX3_shift 101 = .ok (.goto (-49), 3) := dk_167 255 207 (dk_at dksX3_shift_4 8 rfl rfl)
theorem dX3_shift_104 : decode cX3_shift 104 = .ok (.aload_n 0, 1) := dk_42 (dk_at dksX3_shift_4 11 rfl rfl)
theorem dX3_shift_105 : decode cX3_shift 105 = .ok (.iload_n 1, 1) := dk_27 (dk_at dksX3_shift_4 12 rfl rfl)
theorem dX3_shift_106 : decode cX3_shift 106 = .ok (.invokevirtual 179, 3) := dk_182 0 179 (dk_at dksX3_shift_4 13 rfl rfl)
theorem dX3_shift_109 : decode cX3_shift 109 = .ok (.ireturn, 1) := dk_172 (dk_at dksX3_shift_4 16 rfl rfl)
abbrev cX3_copyLine : ByteArray := prog_18_method_59_code
def yX3_copyLine : MethodName := ⟨RX3, "copyLine", "(II)I"⟩
def dkwX3_copyLine_6 : List UInt8 := [180, 0, 7, 4, 46, 172]
abbrev dktX3_copyLine_6 : List UInt8 := dkwX3_copyLine_6 ++ []
def dkwX3_copyLine_5 : List UInt8 := [180, 0, 29, 29, 46, 79, 132, 3, 1, 167, 255, 231, 42, 180, 0, 7, 4, 92, 46, 4, 96, 79, 42]
abbrev dktX3_copyLine_5 : List UInt8 := dkwX3_copyLine_5 ++ dktX3_copyLine_6
def dkwX3_copyLine_4 : List UInt8 := [132, 3, 255, 167, 255, 240, 3, 62, 29, 16, 40, 162, 0, 25, 42, 180, 0, 7, 28, 29, 184, 0, 96, 42]
abbrev dktX3_copyLine_4 : List UInt8 := dkwX3_copyLine_4 ++ dktX3_copyLine_5
def dkwX3_copyLine_3 : List UInt8 := [182, 0, 104, 42, 180, 0, 7, 4, 46, 62, 29, 28, 164, 0, 17, 42, 29, 4, 100, 29, 182, 0, 240]
abbrev dktX3_copyLine_3 : List UInt8 := dkwX3_copyLine_3 ++ dktX3_copyLine_4
def dkwX3_copyLine_2 : List UInt8 := [180, 0, 90, 158, 0, 5, 3, 172, 42, 182, 0, 227, 42, 42, 180, 0, 7, 27, 3, 184, 0, 96]
abbrev dktX3_copyLine_2 : List UInt8 := dkwX3_copyLine_2 ++ dktX3_copyLine_3
def dkwX3_copyLine_1 : List UInt8 := [167, 0, 19, 42, 180, 0, 7, 4, 46, 16, 20, 162, 0, 7, 3, 167, 0, 4, 5, 181, 0, 90, 42]
abbrev dktX3_copyLine_1 : List UInt8 := dkwX3_copyLine_1 ++ dktX3_copyLine_2
def dkwX3_copyLine_0 : List UInt8 := [42, 42, 27, 182, 0, 194, 153, 0, 17, 28, 3, 42, 180, 0, 7, 4, 46, 184, 0, 124, 154, 0, 7, 4]
abbrev dktX3_copyLine_0 : List UInt8 := dkwX3_copyLine_0 ++ dktX3_copyLine_1
theorem dksX3_copyLine_0 : cX3_copyLine.data.toList.drop 0 = dktX3_copyLine_0 := by decide +kernel
theorem dksX3_copyLine_1 : cX3_copyLine.data.toList.drop 24 = dktX3_copyLine_1 := dk_seg dksX3_copyLine_0 24 rfl rfl
theorem dksX3_copyLine_2 : cX3_copyLine.data.toList.drop 47 = dktX3_copyLine_2 := dk_seg dksX3_copyLine_1 23 rfl rfl
theorem dksX3_copyLine_3 : cX3_copyLine.data.toList.drop 69 = dktX3_copyLine_3 := dk_seg dksX3_copyLine_2 22 rfl rfl
theorem dksX3_copyLine_4 : cX3_copyLine.data.toList.drop 92 = dktX3_copyLine_4 := dk_seg dksX3_copyLine_3 23 rfl rfl
theorem dksX3_copyLine_5 : cX3_copyLine.data.toList.drop 116 = dktX3_copyLine_5 := dk_seg dksX3_copyLine_4 24 rfl rfl
theorem dksX3_copyLine_6 : cX3_copyLine.data.toList.drop 139 = dktX3_copyLine_6 := dk_seg dksX3_copyLine_5 23 rfl rfl
theorem dX3_copyLine_0 : decode cX3_copyLine 0 = .ok (.aload_n 0, 1) := dk_42 (dk_at dksX3_copyLine_0 0 rfl rfl)
theorem dX3_copyLine_1 : decode cX3_copyLine 1 = .ok (.aload_n 0, 1) := dk_42 (dk_at dksX3_copyLine_0 1 rfl rfl)
theorem dX3_copyLine_2 : decode cX3_copyLine 2 = .ok (.iload_n 1, 1) := dk_27 (dk_at dksX3_copyLine_0 2 rfl rfl)
theorem dX3_copyLine_3 : decode cX3_copyLine 3 = .ok (.invokevirtual 194, 3) := dk_182 0 194 (dk_at dksX3_copyLine_0 3 rfl rfl)
theorem dX3_copyLine_6 : decode cX3_copyLine 6 = .ok (.ifCond .eq 17, 3) := dk_153 0 17 (dk_at dksX3_copyLine_0 6 rfl rfl)
theorem dX3_copyLine_9 : decode cX3_copyLine 9 = .ok (.iload_n 2, 1) := dk_28 (dk_at dksX3_copyLine_0 9 rfl rfl)
theorem dX3_copyLine_10 : decode cX3_copyLine 10 = .ok (.iconst 0, 1) := dk_3 (dk_at dksX3_copyLine_0 10 rfl rfl)
theorem dX3_copyLine_11 : decode cX3_copyLine 11 = .ok (.aload_n 0, 1) := dk_42 (dk_at dksX3_copyLine_0 11 rfl rfl)
theorem dX3_copyLine_12 : decode cX3_copyLine 12 = .ok (.getfield 7, 3) := dk_180 0 7 (dk_at dksX3_copyLine_0 12 rfl rfl)
theorem dX3_copyLine_15 : decode cX3_copyLine 15 = .ok (.iconst 1, 1) := dk_4 (dk_at dksX3_copyLine_0 15 rfl rfl)
theorem dX3_copyLine_16 : decode cX3_copyLine 16 = .ok (.iaload, 1) := dk_46 (dk_at dksX3_copyLine_0 16 rfl rfl)
theorem dX3_copyLine_17 : decode cX3_copyLine 17 = .ok (.invokestatic 124, 3) := dk_184 0 124 (dk_at dksX3_copyLine_0 17 rfl rfl)
theorem dX3_copyLine_20 : decode cX3_copyLine 20 = .ok (.ifCond .ne 7, 3) := dk_154 0 7 (dk_at dksX3_copyLine_0 20 rfl rfl)
theorem dX3_copyLine_23 : decode cX3_copyLine 23 = .ok (.iconst 1, 1) := dk_4 (dk_at dksX3_copyLine_0 23 rfl rfl)
theorem dX3_copyLine_24 : decode cX3_copyLine 24 = .ok (.goto 19, 3) := dk_167 0 19 (dk_at dksX3_copyLine_1 0 rfl rfl)
theorem dX3_copyLine_27 : decode cX3_copyLine 27 = .ok (.aload_n 0, 1) := dk_42 (dk_at dksX3_copyLine_1 3 rfl rfl)
theorem dX3_copyLine_28 : decode cX3_copyLine 28 = .ok (.getfield 7, 3) := dk_180 0 7 (dk_at dksX3_copyLine_1 4 rfl rfl)
theorem dX3_copyLine_31 : decode cX3_copyLine 31 = .ok (.iconst 1, 1) := dk_4 (dk_at dksX3_copyLine_1 7 rfl rfl)
theorem dX3_copyLine_32 : decode cX3_copyLine 32 = .ok (.iaload, 1) := dk_46 (dk_at dksX3_copyLine_1 8 rfl rfl)
theorem dX3_copyLine_33 : decode cX3_copyLine 33 = .ok (.bipush 20, 2) := dk_16 20 (dk_at dksX3_copyLine_1 9 rfl rfl)
theorem dX3_copyLine_35 : decode cX3_copyLine 35 = .ok (.if_icmp .ge 7, 3) := dk_162 0 7 (dk_at dksX3_copyLine_1 11 rfl rfl)
theorem dX3_copyLine_38 : decode cX3_copyLine 38 = .ok (.iconst 0, 1) := dk_3 (dk_at dksX3_copyLine_1 14 rfl rfl)
theorem dX3_copyLine_39 : decode cX3_copyLine 39 = .ok (.goto 4, 3) := dk_167 0 4 (dk_at dksX3_copyLine_1 15 rfl rfl)
theorem dX3_copyLine_42 : decode cX3_copyLine 42 = .ok (.iconst 2, 1) := dk_5 (dk_at dksX3_copyLine_1 18 rfl rfl)
theorem dX3_copyLine_43 : decode cX3_copyLine 43 = .ok (.putfield 90, 3) := dk_181 0 90 (dk_at dksX3_copyLine_1 19 rfl rfl)
theorem dX3_copyLine_46 : decode cX3_copyLine 46 = .ok (.aload_n 0, 1) := dk_42 (dk_at dksX3_copyLine_1 22 rfl rfl)
theorem dX3_copyLine_47 : decode cX3_copyLine 47 = .ok (.getfield 90, 3) := dk_180 0 90 (dk_at dksX3_copyLine_2 0 rfl rfl)
theorem dX3_copyLine_50 : decode cX3_copyLine 50 = .ok (.ifCond .le 5, 3) := dk_158 0 5 (dk_at dksX3_copyLine_2 3 rfl rfl)
theorem dX3_copyLine_53 : decode cX3_copyLine 53 = .ok (.iconst 0, 1) := dk_3 (dk_at dksX3_copyLine_2 6 rfl rfl)
theorem dX3_copyLine_54 : decode cX3_copyLine 54 = .ok (.ireturn, 1) := dk_172 (dk_at dksX3_copyLine_2 7 rfl rfl)
theorem dX3_copyLine_55 : decode cX3_copyLine 55 = .ok (.aload_n 0, 1) := dk_42 (dk_at dksX3_copyLine_2 8 rfl rfl)
theorem dX3_copyLine_56 : decode cX3_copyLine 56 = .ok (.invokevirtual 227, 3) := dk_182 0 227 (dk_at dksX3_copyLine_2 9 rfl rfl)
theorem dX3_copyLine_59 : decode cX3_copyLine 59 = .ok (.aload_n 0, 1) := dk_42 (dk_at dksX3_copyLine_2 12 rfl rfl)
theorem dX3_copyLine_60 : decode cX3_copyLine 60 = .ok (.aload_n 0, 1) := dk_42 (dk_at dksX3_copyLine_2 13 rfl rfl)
theorem dX3_copyLine_61 : decode cX3_copyLine 61 = .ok (.getfield 7, 3) := dk_180 0 7 (dk_at dksX3_copyLine_2 14 rfl rfl)
theorem dX3_copyLine_64 : decode cX3_copyLine 64 = .ok (.iload_n 1, 1) := dk_27 (dk_at dksX3_copyLine_2 17 rfl rfl)
theorem dX3_copyLine_65 : decode cX3_copyLine 65 = .ok (.iconst 0, 1) := dk_3 (dk_at dksX3_copyLine_2 18 rfl rfl)
theorem dX3_copyLine_66 : decode cX3_copyLine 66 = .ok (.invokestatic 96, 3) := dk_184 0 96 (dk_at dksX3_copyLine_2 19 rfl rfl)
theorem dX3_copyLine_69 : decode cX3_copyLine 69 = .ok (.invokevirtual 104, 3) := dk_182 0 104 (dk_at dksX3_copyLine_3 0 rfl rfl)
theorem dX3_copyLine_72 : decode cX3_copyLine 72 = .ok (.aload_n 0, 1) := dk_42 (dk_at dksX3_copyLine_3 3 rfl rfl)
theorem dX3_copyLine_73 : decode cX3_copyLine 73 = .ok (.getfield 7, 3) := dk_180 0 7 (dk_at dksX3_copyLine_3 4 rfl rfl)
theorem dX3_copyLine_76 : decode cX3_copyLine 76 = .ok (.iconst 1, 1) := dk_4 (dk_at dksX3_copyLine_3 7 rfl rfl)
theorem dX3_copyLine_77 : decode cX3_copyLine 77 = .ok (.iaload, 1) := dk_46 (dk_at dksX3_copyLine_3 8 rfl rfl)
theorem dX3_copyLine_78 : decode cX3_copyLine 78 = .ok (.istore_n 3, 1) := dk_62 (dk_at dksX3_copyLine_3 9 rfl rfl)
theorem dX3_copyLine_79 : decode cX3_copyLine 79 = .ok (.iload_n 3, 1) := dk_29 (dk_at dksX3_copyLine_3 10 rfl rfl)
theorem dX3_copyLine_80 : decode cX3_copyLine 80 = .ok (.iload_n 2, 1) := dk_28 (dk_at dksX3_copyLine_3 11 rfl rfl)
theorem dX3_copyLine_81 : decode cX3_copyLine 81 = .ok (.if_icmp .le 17, 3) := dk_164 0 17 (dk_at dksX3_copyLine_3 12 rfl rfl)
theorem dX3_copyLine_84 : decode cX3_copyLine 84 = .ok (.aload_n 0, 1) := dk_42 (dk_at dksX3_copyLine_3 15 rfl rfl)
theorem dX3_copyLine_85 : decode cX3_copyLine 85 = .ok (.iload_n 3, 1) := dk_29 (dk_at dksX3_copyLine_3 16 rfl rfl)
theorem dX3_copyLine_86 : decode cX3_copyLine 86 = .ok (.iconst 1, 1) := dk_4 (dk_at dksX3_copyLine_3 17 rfl rfl)
theorem dX3_copyLine_87 : decode cX3_copyLine 87 = .ok (.isub, 1) := dk_100 (dk_at dksX3_copyLine_3 18 rfl rfl)
theorem dX3_copyLine_88 : decode cX3_copyLine 88 = .ok (.iload_n 3, 1) := dk_29 (dk_at dksX3_copyLine_3 19 rfl rfl)
theorem dX3_copyLine_89 : decode cX3_copyLine 89 = .ok (.invokevirtual 240, 3) := dk_182 0 240 (dk_at dksX3_copyLine_3 20 rfl rfl)
theorem dX3_copyLine_92 : decode cX3_copyLine 92 = .ok (.iinc 3 (-1), 3) := dk_132 3 255 (dk_at dksX3_copyLine_4 0 rfl rfl)
theorem dX3_copyLine_95 : decode cX3_copyLine 95 = .ok (.goto (-16), 3) := dk_167 255 240 (dk_at dksX3_copyLine_4 3 rfl rfl)
theorem dX3_copyLine_98 : decode cX3_copyLine 98 = .ok (.iconst 0, 1) := dk_3 (dk_at dksX3_copyLine_4 6 rfl rfl)
theorem dX3_copyLine_99 : decode cX3_copyLine 99 = .ok (.istore_n 3, 1) := dk_62 (dk_at dksX3_copyLine_4 7 rfl rfl)
theorem dX3_copyLine_100 : decode cX3_copyLine 100 = .ok (.iload_n 3, 1) := dk_29 (dk_at dksX3_copyLine_4 8 rfl rfl)
theorem dX3_copyLine_101 : decode cX3_copyLine 101 = .ok (.bipush 40, 2) := dk_16 40 (dk_at dksX3_copyLine_4 9 rfl rfl)
theorem dX3_copyLine_103 : decode cX3_copyLine 103 = .ok (.if_icmp .ge 25, 3) := dk_162 0 25 (dk_at dksX3_copyLine_4 11 rfl rfl)
theorem dX3_copyLine_106 : decode cX3_copyLine 106 = .ok (.aload_n 0, 1) := dk_42 (dk_at dksX3_copyLine_4 14 rfl rfl)
theorem dX3_copyLine_107 : decode cX3_copyLine 107 = .ok (.getfield 7, 3) := dk_180 0 7 (dk_at dksX3_copyLine_4 15 rfl rfl)
theorem dX3_copyLine_110 : decode cX3_copyLine 110 = .ok (.iload_n 2, 1) := dk_28 (dk_at dksX3_copyLine_4 18 rfl rfl)
theorem dX3_copyLine_111 : decode cX3_copyLine 111 = .ok (.iload_n 3, 1) := dk_29 (dk_at dksX3_copyLine_4 19 rfl rfl)
theorem dX3_copyLine_112 : decode cX3_copyLine 112 = .ok (.invokestatic 96, 3) := dk_184 0 96 (dk_at dksX3_copyLine_4 20 rfl rfl)
theorem dX3_copyLine_115 : decode cX3_copyLine 115 = .ok (.aload_n 0, 1) := dk_42 (dk_at dksX3_copyLine_4 23 rfl rfl)
theorem dX3_copyLine_116 : decode cX3_copyLine 116 = .ok (.getfield 29, 3) := dk_180 0 29 (dk_at dksX3_copyLine_5 0 rfl rfl)
theorem dX3_copyLine_119 : decode cX3_copyLine 119 = .ok (.iload_n 3, 1) := dk_29 (dk_at dksX3_copyLine_5 3 rfl rfl)
theorem dX3_copyLine_120 : decode cX3_copyLine 120 = .ok (.iaload, 1) := dk_46 (dk_at dksX3_copyLine_5 4 rfl rfl)
theorem dX3_copyLine_121 : decode cX3_copyLine 121 = .ok (.iastore, 1) := dk_79 (dk_at dksX3_copyLine_5 5 rfl rfl)
theorem dX3_copyLine_122 : decode cX3_copyLine 122 = .ok (.iinc 3 1, 3) := dk_132 3 1 (dk_at dksX3_copyLine_5 6 rfl rfl)
theorem dX3_copyLine_125 : decode cX3_copyLine 125 = .ok (.goto (-25), 3) := dk_167 255 231 (dk_at dksX3_copyLine_5 9 rfl rfl)
theorem dX3_copyLine_128 : decode cX3_copyLine 128 = .ok (.aload_n 0, 1) := dk_42 (dk_at dksX3_copyLine_5 12 rfl rfl)
theorem dX3_copyLine_129 : decode cX3_copyLine 129 = .ok (.getfield 7, 3) := dk_180 0 7 (dk_at dksX3_copyLine_5 13 rfl rfl)
theorem dX3_copyLine_132 : decode cX3_copyLine 132 = .ok (.iconst 1, 1) := dk_4 (dk_at dksX3_copyLine_5 16 rfl rfl)
theorem dX3_copyLine_133 : decode cX3_copyLine 133 = .ok (.dup2, 1) := dk_92 (dk_at dksX3_copyLine_5 17 rfl rfl)
theorem dX3_copyLine_134 : decode cX3_copyLine 134 = .ok (.iaload, 1) := dk_46 (dk_at dksX3_copyLine_5 18 rfl rfl)
theorem dX3_copyLine_135 : decode cX3_copyLine 135 = .ok (.iconst 1, 1) := dk_4 (dk_at dksX3_copyLine_5 19 rfl rfl)
theorem dX3_copyLine_136 : decode cX3_copyLine 136 = .ok (.iadd, 1) := dk_96 (dk_at dksX3_copyLine_5 20 rfl rfl)
theorem dX3_copyLine_137 : decode cX3_copyLine 137 = .ok (.iastore, 1) := dk_79 (dk_at dksX3_copyLine_5 21 rfl rfl)
theorem dX3_copyLine_138 : decode cX3_copyLine 138 = .ok (.aload_n 0, 1) := dk_42 (dk_at dksX3_copyLine_5 22 rfl rfl)
theorem dX3_copyLine_139 : decode cX3_copyLine 139 = .ok (.getfield 7, 3) := dk_180 0 7 (dk_at dksX3_copyLine_6 0 rfl rfl)
theorem dX3_copyLine_142 : decode cX3_copyLine 142 = .ok (.iconst 1, 1) := dk_4 (dk_at dksX3_copyLine_6 3 rfl rfl)
theorem dX3_copyLine_143 : decode cX3_copyLine 143 = .ok (.iaload, 1) := dk_46 (dk_at dksX3_copyLine_6 4 rfl rfl)
theorem dX3_copyLine_144 : decode cX3_copyLine 144 = .ok (.ireturn, 1) := dk_172 (dk_at dksX3_copyLine_6 5 rfl rfl)
abbrev cX3_movesLine : ByteArray := prog_18_method_58_code
def yX3_movesLine : MethodName := ⟨RX3, "movesLine", "(II)V"⟩
def dkwX3_movesLine_1 : List UInt8 := [184, 0, 96, 46, 79, 132, 3, 1, 167, 255, 227, 177]
abbrev dktX3_movesLine_1 : List UInt8 := dkwX3_movesLine_1 ++ []
def dkwX3_movesLine_0 : List UInt8 := [3, 62, 29, 16, 40, 162, 0, 29, 42, 180, 0, 7, 28, 29, 184, 0, 96, 42, 180, 0, 7, 27, 29]
abbrev dktX3_movesLine_0 : List UInt8 := dkwX3_movesLine_0 ++ dktX3_movesLine_1
theorem dksX3_movesLine_0 : cX3_movesLine.data.toList.drop 0 = dktX3_movesLine_0 := by decide +kernel
theorem dksX3_movesLine_1 : cX3_movesLine.data.toList.drop 23 = dktX3_movesLine_1 := dk_seg dksX3_movesLine_0 23 rfl rfl
theorem dX3_movesLine_0 : decode cX3_movesLine 0 = .ok (.iconst 0, 1) := dk_3 (dk_at dksX3_movesLine_0 0 rfl rfl)
theorem dX3_movesLine_1 : decode cX3_movesLine 1 = .ok (.istore_n 3, 1) := dk_62 (dk_at dksX3_movesLine_0 1 rfl rfl)
theorem dX3_movesLine_2 : decode cX3_movesLine 2 = .ok (.iload_n 3, 1) := dk_29 (dk_at dksX3_movesLine_0 2 rfl rfl)
theorem dX3_movesLine_3 : decode cX3_movesLine 3 = .ok (.bipush 40, 2) := dk_16 40 (dk_at dksX3_movesLine_0 3 rfl rfl)
theorem dX3_movesLine_5 : decode cX3_movesLine 5 = .ok (.if_icmp .ge 29, 3) := dk_162 0 29 (dk_at dksX3_movesLine_0 5 rfl rfl)
theorem dX3_movesLine_8 : decode cX3_movesLine 8 = .ok (.aload_n 0, 1) := dk_42 (dk_at dksX3_movesLine_0 8 rfl rfl)
theorem dX3_movesLine_9 : decode cX3_movesLine 9 = .ok (.getfield 7, 3) := dk_180 0 7 (dk_at dksX3_movesLine_0 9 rfl rfl)
theorem dX3_movesLine_12 : decode cX3_movesLine 12 = .ok (.iload_n 2, 1) := dk_28 (dk_at dksX3_movesLine_0 12 rfl rfl)
theorem dX3_movesLine_13 : decode cX3_movesLine 13 = .ok (.iload_n 3, 1) := dk_29 (dk_at dksX3_movesLine_0 13 rfl rfl)
theorem dX3_movesLine_14 : decode cX3_movesLine 14 = .ok (.invokestatic 96, 3) := dk_184 0 96 (dk_at dksX3_movesLine_0 14 rfl rfl)
theorem dX3_movesLine_17 : decode cX3_movesLine 17 = .ok (.aload_n 0, 1) := dk_42 (dk_at dksX3_movesLine_0 17 rfl rfl)
theorem dX3_movesLine_18 : decode cX3_movesLine 18 = .ok (.getfield 7, 3) := dk_180 0 7 (dk_at dksX3_movesLine_0 18 rfl rfl)
theorem dX3_movesLine_21 : decode cX3_movesLine 21 = .ok (.iload_n 1, 1) := dk_27 (dk_at dksX3_movesLine_0 21 rfl rfl)
theorem dX3_movesLine_22 : decode cX3_movesLine 22 = .ok (.iload_n 3, 1) := dk_29 (dk_at dksX3_movesLine_0 22 rfl rfl)
theorem dX3_movesLine_23 : decode cX3_movesLine 23 = .ok (.invokestatic 96, 3) := dk_184 0 96 (dk_at dksX3_movesLine_1 0 rfl rfl)
theorem dX3_movesLine_26 : decode cX3_movesLine 26 = .ok (.iaload, 1) := dk_46 (dk_at dksX3_movesLine_1 3 rfl rfl)
theorem dX3_movesLine_27 : decode cX3_movesLine 27 = .ok (.iastore, 1) := dk_79 (dk_at dksX3_movesLine_1 4 rfl rfl)
theorem dX3_movesLine_28 : decode cX3_movesLine 28 = .ok (.iinc 3 1, 3) := dk_132 3 1 (dk_at dksX3_movesLine_1 5 rfl rfl)
theorem dX3_movesLine_31 : decode cX3_movesLine 31 = .ok (.goto (-29), 3) := dk_167 255 227 (dk_at dksX3_movesLine_1 8 rfl rfl)
theorem dX3_movesLine_34 : decode cX3_movesLine 34 = .ok (.return_, 1) := dk_177 (dk_at dksX3_movesLine_1 11 rfl rfl)
abbrev cX3_removeLine : ByteArray := prog_18_method_60_code
def yX3_removeLine : MethodName := ⟨RX3, "removeLine", "(I)I"⟩
def dkwX3_removeLine_3 : List UInt8 := [46, 182, 0, 233, 42, 180, 0, 7, 4, 46, 172]
abbrev dktX3_removeLine_3 : List UInt8 := dkwX3_removeLine_3 ++ []
def dkwX3_removeLine_2 : List UInt8 := [46, 162, 0, 17, 42, 28, 4, 96, 28, 182, 0, 240, 132, 2, 1, 167, 255, 235, 42, 42, 180, 0, 7, 4]
abbrev dktX3_removeLine_2 : List UInt8 := dkwX3_removeLine_2 ++ dktX3_removeLine_3
def dkwX3_removeLine_1 : List UInt8 := [3, 172, 42, 182, 0, 227, 42, 180, 0, 7, 4, 92, 46, 4, 100, 79, 27, 61, 28, 42, 180, 0, 7, 4]
abbrev dktX3_removeLine_1 : List UInt8 := dkwX3_removeLine_1 ++ dktX3_removeLine_2
def dkwX3_removeLine_0 : List UInt8 := [42, 42, 27, 182, 0, 194, 153, 0, 7, 3, 167, 0, 4, 4, 181, 0, 90, 42, 180, 0, 90, 158, 0, 5]
abbrev dktX3_removeLine_0 : List UInt8 := dkwX3_removeLine_0 ++ dktX3_removeLine_1
theorem dksX3_removeLine_0 : cX3_removeLine.data.toList.drop 0 = dktX3_removeLine_0 := by decide +kernel
theorem dksX3_removeLine_1 : cX3_removeLine.data.toList.drop 24 = dktX3_removeLine_1 := dk_seg dksX3_removeLine_0 24 rfl rfl
theorem dksX3_removeLine_2 : cX3_removeLine.data.toList.drop 48 = dktX3_removeLine_2 := dk_seg dksX3_removeLine_1 24 rfl rfl
theorem dksX3_removeLine_3 : cX3_removeLine.data.toList.drop 72 = dktX3_removeLine_3 := dk_seg dksX3_removeLine_2 24 rfl rfl
theorem dX3_removeLine_0 : decode cX3_removeLine 0 = .ok (.aload_n 0, 1) := dk_42 (dk_at dksX3_removeLine_0 0 rfl rfl)
theorem dX3_removeLine_1 : decode cX3_removeLine 1 = .ok (.aload_n 0, 1) := dk_42 (dk_at dksX3_removeLine_0 1 rfl rfl)
theorem dX3_removeLine_2 : decode cX3_removeLine 2 = .ok (.iload_n 1, 1) := dk_27 (dk_at dksX3_removeLine_0 2 rfl rfl)
theorem dX3_removeLine_3 : decode cX3_removeLine 3 = .ok (.invokevirtual 194, 3) := dk_182 0 194 (dk_at dksX3_removeLine_0 3 rfl rfl)
theorem dX3_removeLine_6 : decode cX3_removeLine 6 = .ok (.ifCond .eq 7, 3) := dk_153 0 7 (dk_at dksX3_removeLine_0 6 rfl rfl)
theorem dX3_removeLine_9 : decode cX3_removeLine 9 = .ok (.iconst 0, 1) := dk_3 (dk_at dksX3_removeLine_0 9 rfl rfl)
theorem dX3_removeLine_10 : decode cX3_removeLine 10 = .ok (.goto 4, 3) := dk_167 0 4 (dk_at dksX3_removeLine_0 10 rfl rfl)
theorem dX3_removeLine_13 : decode cX3_removeLine 13 = .ok (.iconst 1, 1) := dk_4 (dk_at dksX3_removeLine_0 13 rfl rfl)
theorem dX3_removeLine_14 : decode cX3_removeLine 14 = .ok (.putfield 90, 3) := dk_181 0 90 (dk_at dksX3_removeLine_0 14 rfl rfl)
theorem dX3_removeLine_17 : decode cX3_removeLine 17 = .ok (.aload_n 0, 1) := dk_42 (dk_at dksX3_removeLine_0 17 rfl rfl)
theorem dX3_removeLine_18 : decode cX3_removeLine 18 = .ok (.getfield 90, 3) := dk_180 0 90 (dk_at dksX3_removeLine_0 18 rfl rfl)
theorem dX3_removeLine_21 : decode cX3_removeLine 21 = .ok (.ifCond .le 5, 3) := dk_158 0 5 (dk_at dksX3_removeLine_0 21 rfl rfl)
theorem dX3_removeLine_24 : decode cX3_removeLine 24 = .ok (.iconst 0, 1) := dk_3 (dk_at dksX3_removeLine_1 0 rfl rfl)
theorem dX3_removeLine_25 : decode cX3_removeLine 25 = .ok (.ireturn, 1) := dk_172 (dk_at dksX3_removeLine_1 1 rfl rfl)
theorem dX3_removeLine_26 : decode cX3_removeLine 26 = .ok (.aload_n 0, 1) := dk_42 (dk_at dksX3_removeLine_1 2 rfl rfl)
theorem dX3_removeLine_27 : decode cX3_removeLine 27 = .ok (.invokevirtual 227, 3) := dk_182 0 227 (dk_at dksX3_removeLine_1 3 rfl rfl)
theorem dX3_removeLine_30 : decode cX3_removeLine 30 = .ok (.aload_n 0, 1) := dk_42 (dk_at dksX3_removeLine_1 6 rfl rfl)
theorem dX3_removeLine_31 : decode cX3_removeLine 31 = .ok (.getfield 7, 3) := dk_180 0 7 (dk_at dksX3_removeLine_1 7 rfl rfl)
theorem dX3_removeLine_34 : decode cX3_removeLine 34 = .ok (.iconst 1, 1) := dk_4 (dk_at dksX3_removeLine_1 10 rfl rfl)
theorem dX3_removeLine_35 : decode cX3_removeLine 35 = .ok (.dup2, 1) := dk_92 (dk_at dksX3_removeLine_1 11 rfl rfl)
theorem dX3_removeLine_36 : decode cX3_removeLine 36 = .ok (.iaload, 1) := dk_46 (dk_at dksX3_removeLine_1 12 rfl rfl)
theorem dX3_removeLine_37 : decode cX3_removeLine 37 = .ok (.iconst 1, 1) := dk_4 (dk_at dksX3_removeLine_1 13 rfl rfl)
theorem dX3_removeLine_38 : decode cX3_removeLine 38 = .ok (.isub, 1) := dk_100 (dk_at dksX3_removeLine_1 14 rfl rfl)
theorem dX3_removeLine_39 : decode cX3_removeLine 39 = .ok (.iastore, 1) := dk_79 (dk_at dksX3_removeLine_1 15 rfl rfl)
theorem dX3_removeLine_40 : decode cX3_removeLine 40 = .ok (.iload_n 1, 1) := dk_27 (dk_at dksX3_removeLine_1 16 rfl rfl)
theorem dX3_removeLine_41 : decode cX3_removeLine 41 = .ok (.istore_n 2, 1) := dk_61 (dk_at dksX3_removeLine_1 17 rfl rfl)
theorem dX3_removeLine_42 : decode cX3_removeLine 42 = .ok (.iload_n 2, 1) := dk_28 (dk_at dksX3_removeLine_1 18 rfl rfl)
theorem dX3_removeLine_43 : decode cX3_removeLine 43 = .ok (.aload_n 0, 1) := dk_42 (dk_at dksX3_removeLine_1 19 rfl rfl)
theorem dX3_removeLine_44 : decode cX3_removeLine 44 = .ok (.getfield 7, 3) := dk_180 0 7 (dk_at dksX3_removeLine_1 20 rfl rfl)
theorem dX3_removeLine_47 : decode cX3_removeLine 47 = .ok (.iconst 1, 1) := dk_4 (dk_at dksX3_removeLine_1 23 rfl rfl)
theorem dX3_removeLine_48 : decode cX3_removeLine 48 = .ok (.iaload, 1) := dk_46 (dk_at dksX3_removeLine_2 0 rfl rfl)
theorem dX3_removeLine_49 : decode cX3_removeLine 49 = .ok (.if_icmp .ge 17, 3) := dk_162 0 17 (dk_at dksX3_removeLine_2 1 rfl rfl)
theorem dX3_removeLine_52 : decode cX3_removeLine 52 = .ok (.aload_n 0, 1) := dk_42 (dk_at dksX3_removeLine_2 4 rfl rfl)
theorem dX3_removeLine_53 : decode cX3_removeLine 53 = .ok (.iload_n 2, 1) := dk_28 (dk_at dksX3_removeLine_2 5 rfl rfl)
theorem dX3_removeLine_54 : decode cX3_removeLine 54 = .ok (.iconst 1, 1) := dk_4 (dk_at dksX3_removeLine_2 6 rfl rfl)
theorem dX3_removeLine_55 : decode cX3_removeLine 55 = .ok (.iadd, 1) := dk_96 (dk_at dksX3_removeLine_2 7 rfl rfl)
theorem dX3_removeLine_56 : decode cX3_removeLine 56 = .ok (.iload_n 2, 1) := dk_28 (dk_at dksX3_removeLine_2 8 rfl rfl)
theorem dX3_removeLine_57 : decode cX3_removeLine 57 = .ok (.invokevirtual 240, 3) := dk_182 0 240 (dk_at dksX3_removeLine_2 9 rfl rfl)
theorem dX3_removeLine_60 : decode cX3_removeLine 60 = .ok (.iinc 2 1, 3) := dk_132 2 1 (dk_at dksX3_removeLine_2 12 rfl rfl)
theorem dX3_removeLine_63 : decode cX3_removeLine 63 = .ok (.goto (-21), 3) := dk_167 255 235 (dk_at dksX3_removeLine_2 15 rfl rfl)
theorem dX3_removeLine_66 : decode cX3_removeLine 66 = .ok (.aload_n 0, 1) := dk_42 (dk_at dksX3_removeLine_2 18 rfl rfl)
theorem dX3_removeLine_67 : decode cX3_removeLine 67 = .ok (.aload_n 0, 1) := dk_42 (dk_at dksX3_removeLine_2 19 rfl rfl)
theorem dX3_removeLine_68 : decode cX3_removeLine 68 = .ok (.getfield 7, 3) := dk_180 0 7 (dk_at dksX3_removeLine_2 20 rfl rfl)
theorem dX3_removeLine_71 : decode cX3_removeLine 71 = .ok (.iconst 1, 1) := dk_4 (dk_at dksX3_removeLine_2 23 rfl rfl)
theorem dX3_removeLine_72 : decode cX3_removeLine 72 = .ok (.iaload, 1) := dk_46 (dk_at dksX3_removeLine_3 0 rfl rfl)
theorem dX3_removeLine_73 : decode cX3_removeLine 73 = .ok (.invokevirtual 233, 3) := dk_182 0 233 (dk_at dksX3_removeLine_3 1 rfl rfl)
theorem dX3_removeLine_76 : decode cX3_removeLine 76 = .ok (.aload_n 0, 1) := dk_42 (dk_at dksX3_removeLine_3 4 rfl rfl)
theorem dX3_removeLine_77 : decode cX3_removeLine 77 = .ok (.getfield 7, 3) := dk_180 0 7 (dk_at dksX3_removeLine_3 5 rfl rfl)
theorem dX3_removeLine_80 : decode cX3_removeLine 80 = .ok (.iconst 1, 1) := dk_4 (dk_at dksX3_removeLine_3 8 rfl rfl)
theorem dX3_removeLine_81 : decode cX3_removeLine 81 = .ok (.iaload, 1) := dk_46 (dk_at dksX3_removeLine_3 9 rfl rfl)
theorem dX3_removeLine_82 : decode cX3_removeLine 82 = .ok (.ireturn, 1) := dk_172 (dk_at dksX3_removeLine_3 10 rfl rfl)
abbrev cX3_invert : ByteArray := prog_18_method_61_code
def yX3_invert : MethodName := ⟨RX3, "invert", "(I)I"⟩
def dkwX3_invert_3 : List UInt8 := [182, 0, 179, 172]
abbrev dktX3_invert_3 : List UInt8 := dkwX3_invert_3 ++ []
def dkwX3_invert_2 : List UInt8 := [184, 0, 96, 4, 42, 180, 0, 7, 27, 28, 184, 0, 96, 46, 100, 79, 132, 2, 1, 167, 255, 221, 42, 27]
abbrev dktX3_invert_2 : List UInt8 := dkwX3_invert_2 ++ dktX3_invert_3
def dkwX3_invert_1 : List UInt8 := [3, 172, 42, 182, 0, 227, 3, 61, 28, 42, 180, 0, 7, 3, 46, 162, 0, 31, 42, 180, 0, 7, 27, 28]
abbrev dktX3_invert_1 : List UInt8 := dkwX3_invert_1 ++ dktX3_invert_2
def dkwX3_invert_0 : List UInt8 := [42, 42, 27, 182, 0, 194, 153, 0, 7, 3, 167, 0, 4, 4, 181, 0, 90, 42, 180, 0, 90, 158, 0, 5]
abbrev dktX3_invert_0 : List UInt8 := dkwX3_invert_0 ++ dktX3_invert_1
theorem dksX3_invert_0 : cX3_invert.data.toList.drop 0 = dktX3_invert_0 := by decide +kernel
theorem dksX3_invert_1 : cX3_invert.data.toList.drop 24 = dktX3_invert_1 := dk_seg dksX3_invert_0 24 rfl rfl
theorem dksX3_invert_2 : cX3_invert.data.toList.drop 48 = dktX3_invert_2 := dk_seg dksX3_invert_1 24 rfl rfl
theorem dksX3_invert_3 : cX3_invert.data.toList.drop 72 = dktX3_invert_3 := dk_seg dksX3_invert_2 24 rfl rfl
theorem dX3_invert_0 : decode cX3_invert 0 = .ok (.aload_n 0, 1) := dk_42 (dk_at dksX3_invert_0 0 rfl rfl)
theorem dX3_invert_1 : decode cX3_invert 1 = .ok (.aload_n 0, 1) := dk_42 (dk_at dksX3_invert_0 1 rfl rfl)
theorem dX3_invert_2 : decode cX3_invert 2 = .ok (.iload_n 1, 1) := dk_27 (dk_at dksX3_invert_0 2 rfl rfl)
theorem dX3_invert_3 : decode cX3_invert 3 = .ok (.invokevirtual 194, 3) := dk_182 0 194 (dk_at dksX3_invert_0 3 rfl rfl)
theorem dX3_invert_6 : decode cX3_invert 6 = .ok (.ifCond .eq 7, 3) := dk_153 0 7 (dk_at dksX3_invert_0 6 rfl rfl)
theorem dX3_invert_9 : decode cX3_invert 9 = .ok (.iconst 0, 1) := dk_3 (dk_at dksX3_invert_0 9 rfl rfl)
theorem dX3_invert_10 : decode cX3_invert 10 = .ok (.goto 4, 3) := dk_167 0 4 (dk_at dksX3_invert_0 10 rfl rfl)
theorem dX3_invert_13 : decode cX3_invert 13 = .ok (.iconst 1, 1) := dk_4 (dk_at dksX3_invert_0 13 rfl rfl)
theorem dX3_invert_14 : decode cX3_invert 14 = .ok (.putfield 90, 3) := dk_181 0 90 (dk_at dksX3_invert_0 14 rfl rfl)
theorem dX3_invert_17 : decode cX3_invert 17 = .ok (.aload_n 0, 1) := dk_42 (dk_at dksX3_invert_0 17 rfl rfl)
theorem dX3_invert_18 : decode cX3_invert 18 = .ok (.getfield 90, 3) := dk_180 0 90 (dk_at dksX3_invert_0 18 rfl rfl)
theorem dX3_invert_21 : decode cX3_invert 21 = .ok (.ifCond .le 5, 3) := dk_158 0 5 (dk_at dksX3_invert_0 21 rfl rfl)
theorem dX3_invert_24 : decode cX3_invert 24 = .ok (.iconst 0, 1) := dk_3 (dk_at dksX3_invert_1 0 rfl rfl)
theorem dX3_invert_25 : decode cX3_invert 25 = .ok (.ireturn, 1) := dk_172 (dk_at dksX3_invert_1 1 rfl rfl)
theorem dX3_invert_26 : decode cX3_invert 26 = .ok (.aload_n 0, 1) := dk_42 (dk_at dksX3_invert_1 2 rfl rfl)
theorem dX3_invert_27 : decode cX3_invert 27 = .ok (.invokevirtual 227, 3) := dk_182 0 227 (dk_at dksX3_invert_1 3 rfl rfl)
theorem dX3_invert_30 : decode cX3_invert 30 = .ok (.iconst 0, 1) := dk_3 (dk_at dksX3_invert_1 6 rfl rfl)
theorem dX3_invert_31 : decode cX3_invert 31 = .ok (.istore_n 2, 1) := dk_61 (dk_at dksX3_invert_1 7 rfl rfl)
theorem dX3_invert_32 : decode cX3_invert 32 = .ok (.iload_n 2, 1) := dk_28 (dk_at dksX3_invert_1 8 rfl rfl)
theorem dX3_invert_33 : decode cX3_invert 33 = .ok (.aload_n 0, 1) := dk_42 (dk_at dksX3_invert_1 9 rfl rfl)
theorem dX3_invert_34 : decode cX3_invert 34 = .ok (.getfield 7, 3) := dk_180 0 7 (dk_at dksX3_invert_1 10 rfl rfl)
theorem dX3_invert_37 : decode cX3_invert 37 = .ok (.iconst 0, 1) := dk_3 (dk_at dksX3_invert_1 13 rfl rfl)
theorem dX3_invert_38 : decode cX3_invert 38 = .ok (.iaload, 1) := dk_46 (dk_at dksX3_invert_1 14 rfl rfl)
theorem dX3_invert_39 : decode cX3_invert 39 = .ok (.if_icmp .ge 31, 3) := dk_162 0 31 (dk_at dksX3_invert_1 15 rfl rfl)
theorem dX3_invert_42 : decode cX3_invert 42 = .ok (.aload_n 0, 1) := dk_42 (dk_at dksX3_invert_1 18 rfl rfl)
theorem dX3_invert_43 : decode cX3_invert 43 = .ok (.getfield 7, 3) := dk_180 0 7 (dk_at dksX3_invert_1 19 rfl rfl)
theorem dX3_invert_46 : decode cX3_invert 46 = .ok (.iload_n 1, 1) := dk_27 (dk_at dksX3_invert_1 22 rfl rfl)
theorem dX3_invert_47 : decode cX3_invert 47 = .ok (.iload_n 2, 1) := dk_28 (dk_at dksX3_invert_1 23 rfl rfl)
theorem dX3_invert_48 : decode cX3_invert 48 = .ok (.invokestatic 96, 3) := dk_184 0 96 (dk_at dksX3_invert_2 0 rfl rfl)
theorem dX3_invert_51 : decode cX3_invert 51 = .ok (.iconst 1, 1) := dk_4 (dk_at dksX3_invert_2 3 rfl rfl)
theorem dX3_invert_52 : decode cX3_invert 52 = .ok (.aload_n 0, 1) := dk_42 (dk_at dksX3_invert_2 4 rfl rfl)
theorem dX3_invert_53 : decode cX3_invert 53 = .ok (.getfield 7, 3) := dk_180 0 7 (dk_at dksX3_invert_2 5 rfl rfl)
theorem dX3_invert_56 : decode cX3_invert 56 = .ok (.iload_n 1, 1) := dk_27 (dk_at dksX3_invert_2 8 rfl rfl)
theorem dX3_invert_57 : decode cX3_invert 57 = .ok (.iload_n 2, 1) := dk_28 (dk_at dksX3_invert_2 9 rfl rfl)
theorem dX3_invert_58 : decode cX3_invert 58 = .ok (.invokestatic 96, 3) := dk_184 0 96 (dk_at dksX3_invert_2 10 rfl rfl)
theorem dX3_invert_61 : decode cX3_invert 61 = .ok (.iaload, 1) := dk_46 (dk_at dksX3_invert_2 13 rfl rfl)
theorem dX3_invert_62 : decode cX3_invert 62 = .ok (.isub, 1) := dk_100 (dk_at dksX3_invert_2 14 rfl rfl)
theorem dX3_invert_63 : decode cX3_invert 63 = .ok (.iastore, 1) := dk_79 (dk_at dksX3_invert_2 15 rfl rfl)
theorem dX3_invert_64 : decode cX3_invert 64 = .ok (.iinc 2 1, 3) := dk_132 2 1 (dk_at dksX3_invert_2 16 rfl rfl)
theorem dX3_invert_67 : decode cX3_invert 67 = .ok (.goto (-35), 3) := dk_167 255 221 (dk_at dksX3_invert_2 19 rfl rfl)
theorem dX3_invert_70 : decode cX3_invert 70 = .ok (.aload_n 0, 1) := dk_42 (dk_at dksX3_invert_2 22 rfl rfl)
theorem dX3_invert_71 : decode cX3_invert 71 = .ok (.iload_n 1, 1) := dk_27 (dk_at dksX3_invert_2 23 rfl rfl)
theorem dX3_invert_72 : decode cX3_invert 72 = .ok (.invokevirtual 179, 3) := dk_182 0 179 (dk_at dksX3_invert_3 0 rfl rfl)
theorem dX3_invert_75 : decode cX3_invert 75 = .ok (.ireturn, 1) := dk_172 (dk_at dksX3_invert_3 3 rfl rfl)
abbrev cX3_swap : ByteArray := prog_18_method_62_code
def yX3_swap : MethodName := ⟨RX3, "swap", "(II)I"⟩
def dkwX3_swap_4 : List UInt8 := [132, 4, 1, 167, 255, 228, 29, 172]
abbrev dktX3_swap_4 : List UInt8 := dkwX3_swap_4 ++ []
def dkwX3_swap_3 : List UInt8 := [16, 40, 162, 0, 27, 42, 180, 0, 7, 28, 21, 4, 184, 0, 96, 42, 180, 0, 29, 21, 4, 46, 79]
abbrev dktX3_swap_3 : List UInt8 := dkwX3_swap_3 ++ dktX3_swap_4
def dkwX3_swap_2 : List UInt8 := [42, 180, 0, 7, 27, 3, 184, 0, 96, 182, 0, 104, 42, 28, 27, 182, 0, 240, 3, 54, 4, 21, 4]
abbrev dktX3_swap_2 : List UInt8 := dkwX3_swap_2 ++ dktX3_swap_3
def dkwX3_swap_1 : List UInt8 := [181, 0, 90, 42, 180, 0, 90, 158, 0, 5, 3, 172, 42, 27, 28, 182, 0, 185, 62, 42, 182, 0, 227, 42]
abbrev dktX3_swap_1 : List UInt8 := dkwX3_swap_1 ++ dktX3_swap_2
def dkwX3_swap_0 : List UInt8 := [42, 42, 27, 182, 0, 194, 153, 0, 15, 42, 28, 182, 0, 194, 153, 0, 7, 3, 167, 0, 4, 4]
abbrev dktX3_swap_0 : List UInt8 := dkwX3_swap_0 ++ dktX3_swap_1
theorem dksX3_swap_0 : cX3_swap.data.toList.drop 0 = dktX3_swap_0 := by decide +kernel
theorem dksX3_swap_1 : cX3_swap.data.toList.drop 22 = dktX3_swap_1 := dk_seg dksX3_swap_0 22 rfl rfl
theorem dksX3_swap_2 : cX3_swap.data.toList.drop 46 = dktX3_swap_2 := dk_seg dksX3_swap_1 24 rfl rfl
theorem dksX3_swap_3 : cX3_swap.data.toList.drop 69 = dktX3_swap_3 := dk_seg dksX3_swap_2 23 rfl rfl
theorem dksX3_swap_4 : cX3_swap.data.toList.drop 92 = dktX3_swap_4 := dk_seg dksX3_swap_3 23 rfl rfl
theorem dX3_swap_0 : decode cX3_swap 0 = .ok (.aload_n 0, 1) := dk_42 (dk_at dksX3_swap_0 0 rfl rfl)
theorem dX3_swap_1 : decode cX3_swap 1 = .ok (.aload_n 0, 1) := dk_42 (dk_at dksX3_swap_0 1 rfl rfl)
theorem dX3_swap_2 : decode cX3_swap 2 = .ok (.iload_n 1, 1) := dk_27 (dk_at dksX3_swap_0 2 rfl rfl)
theorem dX3_swap_3 : decode cX3_swap 3 = .ok (.invokevirtual 194, 3) := dk_182 0 194 (dk_at dksX3_swap_0 3 rfl rfl)
theorem dX3_swap_6 : decode cX3_swap 6 = .ok (.ifCond .eq 15, 3) := dk_153 0 15 (dk_at dksX3_swap_0 6 rfl rfl)
theorem dX3_swap_9 : decode cX3_swap 9 = .ok (.aload_n 0, 1) := dk_42 (dk_at dksX3_swap_0 9 rfl rfl)
theorem dX3_swap_10 : decode cX3_swap 10 = .ok (.iload_n 2, 1) := dk_28 (dk_at dksX3_swap_0 10 rfl rfl)
theorem dX3_swap_11 : decode cX3_swap 11 = .ok (.invokevirtual 194, 3) := dk_182 0 194 (dk_at dksX3_swap_0 11 rfl rfl)
theorem dX3_swap_14 : decode cX3_swap 14 = .ok (.ifCond .eq 7, 3) := dk_153 0 7 (dk_at dksX3_swap_0 14 rfl rfl)
theorem dX3_swap_17 : decode cX3_swap 17 = .ok (.iconst 0, 1) := dk_3 (dk_at dksX3_swap_0 17 rfl rfl)
theorem dX3_swap_18 : decode cX3_swap 18 = .ok (.goto 4, 3) := dk_167 0 4 (dk_at dksX3_swap_0 18 rfl rfl)
theorem dX3_swap_21 : decode cX3_swap 21 = .ok (.iconst 1, 1) := dk_4 (dk_at dksX3_swap_0 21 rfl rfl)
theorem dX3_swap_22 : decode cX3_swap 22 = .ok (.putfield 90, 3) := dk_181 0 90 (dk_at dksX3_swap_1 0 rfl rfl)
theorem dX3_swap_25 : decode cX3_swap 25 = .ok (.aload_n 0, 1) := dk_42 (dk_at dksX3_swap_1 3 rfl rfl)
theorem dX3_swap_26 : decode cX3_swap 26 = .ok (.getfield 90, 3) := dk_180 0 90 (dk_at dksX3_swap_1 4 rfl rfl)
theorem dX3_swap_29 : decode cX3_swap 29 = .ok (.ifCond .le 5, 3) := dk_158 0 5 (dk_at dksX3_swap_1 7 rfl rfl)
theorem dX3_swap_32 : decode cX3_swap 32 = .ok (.iconst 0, 1) := dk_3 (dk_at dksX3_swap_1 10 rfl rfl)
theorem dX3_swap_33 : decode cX3_swap 33 = .ok (.ireturn, 1) := dk_172 (dk_at dksX3_swap_1 11 rfl rfl)
theorem dX3_swap_34 : decode cX3_swap 34 = .ok (.aload_n 0, 1) := dk_42 (dk_at dksX3_swap_1 12 rfl rfl)
theorem dX3_swap_35 : decode cX3_swap 35 = .ok (.iload_n 1, 1) := dk_27 (dk_at dksX3_swap_1 13 rfl rfl)
theorem dX3_swap_36 : decode cX3_swap 36 = .ok (.iload_n 2, 1) := dk_28 (dk_at dksX3_swap_1 14 rfl rfl)
theorem dX3_swap_37 : decode cX3_swap 37 = .ok (.invokevirtual 185, 3) := dk_182 0 185 (dk_at dksX3_swap_1 15 rfl rfl)
theorem dX3_swap_40 : decode cX3_swap 40 = .ok (.istore_n 3, 1) := dk_62 (dk_at dksX3_swap_1 18 rfl rfl)
theorem dX3_swap_41 : decode cX3_swap 41 = .ok (.aload_n 0, 1) := dk_42 (dk_at dksX3_swap_1 19 rfl rfl)
theorem dX3_swap_42 : decode cX3_swap 42 = .ok (.invokevirtual 227, 3) := dk_182 0 227 (dk_at dksX3_swap_1 20 rfl rfl)
theorem dX3_swap_45 : decode cX3_swap 45 = .ok (.aload_n 0, 1) := dk_42 (dk_at dksX3_swap_1 23 rfl rfl)
theorem dX3_swap_46 : decode cX3_swap 46 = .ok (.aload_n 0, 1) := dk_42 (dk_at dksX3_swap_2 0 rfl rfl)
theorem dX3_swap_47 : decode cX3_swap 47 = .ok (.getfield 7, 3) := dk_180 0 7 (dk_at dksX3_swap_2 1 rfl rfl)
theorem dX3_swap_50 : decode cX3_swap 50 = .ok (.iload_n 1, 1) := dk_27 (dk_at dksX3_swap_2 4 rfl rfl)
theorem dX3_swap_51 : decode cX3_swap 51 = .ok (.iconst 0, 1) := dk_3 (dk_at dksX3_swap_2 5 rfl rfl)
theorem dX3_swap_52 : decode cX3_swap 52 = .ok (.invokestatic 96, 3) := dk_184 0 96 (dk_at dksX3_swap_2 6 rfl rfl)
theorem dX3_swap_55 : decode cX3_swap 55 = .ok (.invokevirtual 104, 3) := dk_182 0 104 (dk_at dksX3_swap_2 9 rfl rfl)
theorem dX3_swap_58 : decode cX3_swap 58 = .ok (.aload_n 0, 1) := dk_42 (dk_at dksX3_swap_2 12 rfl rfl)
theorem dX3_swap_59 : decode cX3_swap 59 = .ok (.iload_n 2, 1) := dk_28 (dk_at dksX3_swap_2 13 rfl rfl)
theorem dX3_swap_60 : decode cX3_swap 60 = .ok (.iload_n 1, 1) := dk_27 (dk_at dksX3_swap_2 14 rfl rfl)
theorem dX3_swap_61 : decode cX3_swap 61 = .ok (.invokevirtual 240, 3) := dk_182 0 240 (dk_at dksX3_swap_2 15 rfl rfl)
theorem dX3_swap_64 : decode cX3_swap 64 = .ok (.iconst 0, 1) := dk_3 (dk_at dksX3_swap_2 18 rfl rfl)
theorem dX3_swap_65 : decode cX3_swap 65 = .ok (.istore 4, 2) := dk_54 4 (dk_at dksX3_swap_2 19 rfl rfl)
theorem dX3_swap_67 : decode cX3_swap 67 = .ok (.iload 4, 2) := dk_21 4 (dk_at dksX3_swap_2 21 rfl rfl)
theorem dX3_swap_69 : decode cX3_swap 69 = .ok (.bipush 40, 2) := dk_16 40 (dk_at dksX3_swap_3 0 rfl rfl)
theorem dX3_swap_71 : decode cX3_swap 71 = .ok (.if_icmp .ge 27, 3) := dk_162 0 27 (dk_at dksX3_swap_3 2 rfl rfl)
theorem dX3_swap_74 : decode cX3_swap 74 = .ok (.aload_n 0, 1) := dk_42 (dk_at dksX3_swap_3 5 rfl rfl)
theorem dX3_swap_75 : decode cX3_swap 75 = .ok (.getfield 7, 3) := dk_180 0 7 (dk_at dksX3_swap_3 6 rfl rfl)
theorem dX3_swap_78 : decode cX3_swap 78 = .ok (.iload_n 2, 1) := dk_28 (dk_at dksX3_swap_3 9 rfl rfl)
theorem dX3_swap_79 : decode cX3_swap 79 = .ok (.iload 4, 2) := dk_21 4 (dk_at dksX3_swap_3 10 rfl rfl)
theorem dX3_swap_81 : decode cX3_swap 81 = .ok (.invokestatic 96, 3) := dk_184 0 96 (dk_at dksX3_swap_3 12 rfl rfl)
theorem dX3_swap_84 : decode cX3_swap 84 = .ok (.aload_n 0, 1) := dk_42 (dk_at dksX3_swap_3 15 rfl rfl)
theorem dX3_swap_85 : decode cX3_swap 85 = .ok (.getfield 29, 3) := dk_180 0 29 (dk_at dksX3_swap_3 16 rfl rfl)
theorem dX3_swap_88 : decode cX3_swap 88 = .ok (.iload 4, 2) := dk_21 4 (dk_at dksX3_swap_3 19 rfl rfl)
theorem dX3_swap_90 : decode cX3_swap 90 = .ok (.iaload, 1) := dk_46 (dk_at dksX3_swap_3 21 rfl rfl)
theorem dX3_swap_91 : decode cX3_swap 91 = .ok (.iastore, 1) := dk_79 (dk_at dksX3_swap_3 22 rfl rfl)
theorem dX3_swap_92 : decode cX3_swap 92 = .ok (.iinc 4 1, 3) := dk_132 4 1 (dk_at dksX3_swap_4 0 rfl rfl)
theorem dX3_swap_95 : decode cX3_swap 95 = .ok (.goto (-28), 3) := dk_167 255 228 (dk_at dksX3_swap_4 3 rfl rfl)
theorem dX3_swap_98 : decode cX3_swap 98 = .ok (.iload_n 3, 1) := dk_29 (dk_at dksX3_swap_4 6 rfl rfl)
theorem dX3_swap_99 : decode cX3_swap 99 = .ok (.ireturn, 1) := dk_172 (dk_at dksX3_swap_4 7 rfl rfl)
abbrev cX3_sent : ByteArray := prog_18_method_72_code
def yX3_sent : MethodName := ⟨RX3, "sent", "(I)I"⟩
def dkwX3_sent_4 : List UInt8 := [172, 42, 180, 1, 0, 172, 42, 27, 6, 100, 182, 1, 27, 172]
abbrev dktX3_sent_4 : List UInt8 := dkwX3_sent_4 ++ []
def dkwX3_sent_3 : List UInt8 := [42, 180, 0, 244, 172, 42, 180, 0, 247, 172, 42, 180, 1, 6, 172, 42, 182, 1, 24, 172, 42, 180, 0, 250]
abbrev dktX3_sent_3 : List UInt8 := dkwX3_sent_3 ++ dktX3_sent_4
def dkwX3_sent_2 : List UInt8 := [170, 0, 0, 0, 0, 0, 85, 0, 0, 0, 0, 0, 0, 0, 9, 0, 0, 0, 55, 0, 0, 0, 60, 0, 0, 0, 65, 0, 0, 0, 85, 0, 0, 0, 85, 0, 0, 0, 85, 0, 0, 0, 85, 0, 0, 0, 70, 0, 0, 0, 75, 0, 0, 0, 80]
abbrev dktX3_sent_2 : List UInt8 := dkwX3_sent_2 ++ dktX3_sent_3
def dkwX3_sent_1 : List UInt8 := [158, 0, 5, 3, 172, 42, 182, 1, 21, 27]
abbrev dktX3_sent_1 : List UInt8 := dkwX3_sent_1 ++ dktX3_sent_2
def dkwX3_sent_0 : List UInt8 := [42, 27, 3, 16, 9, 184, 0, 124, 153, 0, 7, 3, 167, 0, 4, 4, 181, 0, 90, 42, 180, 0, 90]
abbrev dktX3_sent_0 : List UInt8 := dkwX3_sent_0 ++ dktX3_sent_1
theorem dksX3_sent_0 : cX3_sent.data.toList.drop 0 = dktX3_sent_0 := by decide +kernel
theorem dksX3_sent_1 : cX3_sent.data.toList.drop 23 = dktX3_sent_1 := dk_seg dksX3_sent_0 23 rfl rfl
theorem dksX3_sent_2 : cX3_sent.data.toList.drop 33 = dktX3_sent_2 := dk_seg dksX3_sent_1 10 rfl rfl
theorem dksX3_sent_3 : cX3_sent.data.toList.drop 88 = dktX3_sent_3 := dk_seg dksX3_sent_2 55 rfl rfl
theorem dksX3_sent_4 : cX3_sent.data.toList.drop 112 = dktX3_sent_4 := dk_seg dksX3_sent_3 24 rfl rfl
theorem dX3_sent_0 : decode cX3_sent 0 = .ok (.aload_n 0, 1) := dk_42 (dk_at dksX3_sent_0 0 rfl rfl)
theorem dX3_sent_1 : decode cX3_sent 1 = .ok (.iload_n 1, 1) := dk_27 (dk_at dksX3_sent_0 1 rfl rfl)
theorem dX3_sent_2 : decode cX3_sent 2 = .ok (.iconst 0, 1) := dk_3 (dk_at dksX3_sent_0 2 rfl rfl)
theorem dX3_sent_3 : decode cX3_sent 3 = .ok (.bipush 9, 2) := dk_16 9 (dk_at dksX3_sent_0 3 rfl rfl)
theorem dX3_sent_5 : decode cX3_sent 5 = .ok (.invokestatic 124, 3) := dk_184 0 124 (dk_at dksX3_sent_0 5 rfl rfl)
theorem dX3_sent_8 : decode cX3_sent 8 = .ok (.ifCond .eq 7, 3) := dk_153 0 7 (dk_at dksX3_sent_0 8 rfl rfl)
theorem dX3_sent_11 : decode cX3_sent 11 = .ok (.iconst 0, 1) := dk_3 (dk_at dksX3_sent_0 11 rfl rfl)
theorem dX3_sent_12 : decode cX3_sent 12 = .ok (.goto 4, 3) := dk_167 0 4 (dk_at dksX3_sent_0 12 rfl rfl)
theorem dX3_sent_15 : decode cX3_sent 15 = .ok (.iconst 1, 1) := dk_4 (dk_at dksX3_sent_0 15 rfl rfl)
theorem dX3_sent_16 : decode cX3_sent 16 = .ok (.putfield 90, 3) := dk_181 0 90 (dk_at dksX3_sent_0 16 rfl rfl)
theorem dX3_sent_19 : decode cX3_sent 19 = .ok (.aload_n 0, 1) := dk_42 (dk_at dksX3_sent_0 19 rfl rfl)
theorem dX3_sent_20 : decode cX3_sent 20 = .ok (.getfield 90, 3) := dk_180 0 90 (dk_at dksX3_sent_0 20 rfl rfl)
theorem dX3_sent_23 : decode cX3_sent 23 = .ok (.ifCond .le 5, 3) := dk_158 0 5 (dk_at dksX3_sent_1 0 rfl rfl)
theorem dX3_sent_26 : decode cX3_sent 26 = .ok (.iconst 0, 1) := dk_3 (dk_at dksX3_sent_1 3 rfl rfl)
theorem dX3_sent_27 : decode cX3_sent 27 = .ok (.ireturn, 1) := dk_172 (dk_at dksX3_sent_1 4 rfl rfl)
theorem dX3_sent_28 : decode cX3_sent 28 = .ok (.aload_n 0, 1) := dk_42 (dk_at dksX3_sent_1 5 rfl rfl)
theorem dX3_sent_29 : decode cX3_sent 29 = .ok (.invokevirtual 277, 3) := dk_182 1 21 (dk_at dksX3_sent_1 6 rfl rfl)
theorem dX3_sent_32 : decode cX3_sent 32 = .ok (.iload_n 1, 1) := dk_27 (dk_at dksX3_sent_1 9 rfl rfl)
theorem dX3_sent_33 : decode cX3_sent 33 = .ok (.tableswitch 85 0 9 #[55, 60, 65, 85, 85, 85, 85, 70, 75, 80], 55) := by decide +kernel
theorem dX3_sent_88 : decode cX3_sent 88 = .ok (.aload_n 0, 1) := dk_42 (dk_at dksX3_sent_3 0 rfl rfl)
theorem dX3_sent_89 : decode cX3_sent 89 = .ok (.getfield 244, 3) := dk_180 0 244 (dk_at dksX3_sent_3 1 rfl rfl)
theorem dX3_sent_92 : decode cX3_sent 92 = .ok (.ireturn, 1) := dk_172 (dk_at dksX3_sent_3 4 rfl rfl)
theorem dX3_sent_93 : decode cX3_sent 93 = .ok (.aload_n 0, 1) := dk_42 (dk_at dksX3_sent_3 5 rfl rfl)
theorem dX3_sent_94 : decode cX3_sent 94 = .ok (.getfield 247, 3) := dk_180 0 247 (dk_at dksX3_sent_3 6 rfl rfl)
theorem dX3_sent_97 : decode cX3_sent 97 = .ok (.ireturn, 1) := dk_172 (dk_at dksX3_sent_3 9 rfl rfl)
theorem dX3_sent_98 : decode cX3_sent 98 = .ok (.aload_n 0, 1) := dk_42 (dk_at dksX3_sent_3 10 rfl rfl)
theorem dX3_sent_99 : decode cX3_sent 99 = .ok (.getfield 262, 3) := dk_180 1 6 (dk_at dksX3_sent_3 11 rfl rfl)
theorem dX3_sent_102 : decode cX3_sent 102 = .ok (.ireturn, 1) := dk_172 (dk_at dksX3_sent_3 14 rfl rfl)
theorem dX3_sent_103 : decode cX3_sent 103 = .ok (.aload_n 0, 1) := dk_42 (dk_at dksX3_sent_3 15 rfl rfl)
theorem dX3_sent_104 : decode cX3_sent 104 = .ok (.invokevirtual 280, 3) := dk_182 1 24 (dk_at dksX3_sent_3 16 rfl rfl)
theorem dX3_sent_107 : decode cX3_sent 107 = .ok (.ireturn, 1) := dk_172 (dk_at dksX3_sent_3 19 rfl rfl)
theorem dX3_sent_108 : decode cX3_sent 108 = .ok (.aload_n 0, 1) := dk_42 (dk_at dksX3_sent_3 20 rfl rfl)
theorem dX3_sent_109 : decode cX3_sent 109 = .ok (.getfield 250, 3) := dk_180 0 250 (dk_at dksX3_sent_3 21 rfl rfl)
theorem dX3_sent_112 : decode cX3_sent 112 = .ok (.ireturn, 1) := dk_172 (dk_at dksX3_sent_4 0 rfl rfl)
theorem dX3_sent_113 : decode cX3_sent 113 = .ok (.aload_n 0, 1) := dk_42 (dk_at dksX3_sent_4 1 rfl rfl)
theorem dX3_sent_114 : decode cX3_sent 114 = .ok (.getfield 256, 3) := dk_180 1 0 (dk_at dksX3_sent_4 2 rfl rfl)
theorem dX3_sent_117 : decode cX3_sent 117 = .ok (.ireturn, 1) := dk_172 (dk_at dksX3_sent_4 5 rfl rfl)
theorem dX3_sent_118 : decode cX3_sent 118 = .ok (.aload_n 0, 1) := dk_42 (dk_at dksX3_sent_4 6 rfl rfl)
theorem dX3_sent_119 : decode cX3_sent 119 = .ok (.iload_n 1, 1) := dk_27 (dk_at dksX3_sent_4 7 rfl rfl)
theorem dX3_sent_120 : decode cX3_sent 120 = .ok (.iconst 3, 1) := dk_6 (dk_at dksX3_sent_4 8 rfl rfl)
theorem dX3_sent_121 : decode cX3_sent 121 = .ok (.isub, 1) := dk_100 (dk_at dksX3_sent_4 9 rfl rfl)
theorem dX3_sent_122 : decode cX3_sent 122 = .ok (.invokevirtual 283, 3) := dk_182 1 27 (dk_at dksX3_sent_4 10 rfl rfl)
theorem dX3_sent_125 : decode cX3_sent 125 = .ok (.ireturn, 1) := dk_172 (dk_at dksX3_sent_4 13 rfl rfl)
abbrev cX3_sendsPage : ByteArray := prog_18_method_69_code
def yX3_sendsPage : MethodName := ⟨RX3, "sendsPage", "()V"⟩
def dkwX3_sendsPage_0 : List UInt8 := [42, 182, 1, 15, 42, 182, 1, 18, 177]
abbrev dktX3_sendsPage_0 : List UInt8 := dkwX3_sendsPage_0 ++ []
theorem dksX3_sendsPage_0 : cX3_sendsPage.data.toList.drop 0 = dktX3_sendsPage_0 := by decide +kernel
theorem dX3_sendsPage_0 : decode cX3_sendsPage 0 = .ok (.aload_n 0, 1) := dk_42 (dk_at dksX3_sendsPage_0 0 rfl rfl)
theorem dX3_sendsPage_1 : decode cX3_sendsPage 1 = .ok (.invokevirtual 271, 3) := dk_182 1 15 (dk_at dksX3_sendsPage_0 1 rfl rfl)
theorem dX3_sendsPage_4 : decode cX3_sendsPage 4 = .ok (.aload_n 0, 1) := dk_42 (dk_at dksX3_sendsPage_0 4 rfl rfl)
theorem dX3_sendsPage_5 : decode cX3_sendsPage 5 = .ok (.invokevirtual 274, 3) := dk_182 1 18 (dk_at dksX3_sendsPage_0 5 rfl rfl)
theorem dX3_sendsPage_8 : decode cX3_sendsPage 8 = .ok (.return_, 1) := dk_177 (dk_at dksX3_sendsPage_0 8 rfl rfl)
abbrev cX3_laysLosses : ByteArray := prog_18_method_63_code
def yX3_laysLosses : MethodName := ⟨RX3, "laysLosses", "()V"⟩
def dkwX3_laysLosses_1 : List UInt8 := [132, 1, 1, 167, 255, 232, 177]
abbrev dktX3_laysLosses_1 : List UInt8 := dkwX3_laysLosses_1 ++ []
def dkwX3_laysLosses_0 : List UInt8 := [3, 60, 27, 16, 20, 162, 0, 24, 42, 180, 0, 65, 27, 42, 180, 0, 7, 16, 8, 27, 96, 46, 79]
abbrev dktX3_laysLosses_0 : List UInt8 := dkwX3_laysLosses_0 ++ dktX3_laysLosses_1
theorem dksX3_laysLosses_0 : cX3_laysLosses.data.toList.drop 0 = dktX3_laysLosses_0 := by decide +kernel
theorem dksX3_laysLosses_1 : cX3_laysLosses.data.toList.drop 23 = dktX3_laysLosses_1 := dk_seg dksX3_laysLosses_0 23 rfl rfl
theorem dX3_laysLosses_0 : decode cX3_laysLosses 0 = .ok (.iconst 0, 1) := dk_3 (dk_at dksX3_laysLosses_0 0 rfl rfl)
theorem dX3_laysLosses_1 : decode cX3_laysLosses 1 = .ok (.istore_n 1, 1) := dk_60 (dk_at dksX3_laysLosses_0 1 rfl rfl)
theorem dX3_laysLosses_2 : decode cX3_laysLosses 2 = .ok (.iload_n 1, 1) := dk_27 (dk_at dksX3_laysLosses_0 2 rfl rfl)
theorem dX3_laysLosses_3 : decode cX3_laysLosses 3 = .ok (.bipush 20, 2) := dk_16 20 (dk_at dksX3_laysLosses_0 3 rfl rfl)
theorem dX3_laysLosses_5 : decode cX3_laysLosses 5 = .ok (.if_icmp .ge 24, 3) := dk_162 0 24 (dk_at dksX3_laysLosses_0 5 rfl rfl)
theorem dX3_laysLosses_8 : decode cX3_laysLosses 8 = .ok (.aload_n 0, 1) := dk_42 (dk_at dksX3_laysLosses_0 8 rfl rfl)
theorem dX3_laysLosses_9 : decode cX3_laysLosses 9 = .ok (.getfield 65, 3) := dk_180 0 65 (dk_at dksX3_laysLosses_0 9 rfl rfl)
theorem dX3_laysLosses_12 : decode cX3_laysLosses 12 = .ok (.iload_n 1, 1) := dk_27 (dk_at dksX3_laysLosses_0 12 rfl rfl)
theorem dX3_laysLosses_13 : decode cX3_laysLosses 13 = .ok (.aload_n 0, 1) := dk_42 (dk_at dksX3_laysLosses_0 13 rfl rfl)
theorem dX3_laysLosses_14 : decode cX3_laysLosses 14 = .ok (.getfield 7, 3) := dk_180 0 7 (dk_at dksX3_laysLosses_0 14 rfl rfl)
theorem dX3_laysLosses_17 : decode cX3_laysLosses 17 = .ok (.bipush 8, 2) := dk_16 8 (dk_at dksX3_laysLosses_0 17 rfl rfl)
theorem dX3_laysLosses_19 : decode cX3_laysLosses 19 = .ok (.iload_n 1, 1) := dk_27 (dk_at dksX3_laysLosses_0 19 rfl rfl)
theorem dX3_laysLosses_20 : decode cX3_laysLosses 20 = .ok (.iadd, 1) := dk_96 (dk_at dksX3_laysLosses_0 20 rfl rfl)
theorem dX3_laysLosses_21 : decode cX3_laysLosses 21 = .ok (.iaload, 1) := dk_46 (dk_at dksX3_laysLosses_0 21 rfl rfl)
theorem dX3_laysLosses_22 : decode cX3_laysLosses 22 = .ok (.iastore, 1) := dk_79 (dk_at dksX3_laysLosses_0 22 rfl rfl)
theorem dX3_laysLosses_23 : decode cX3_laysLosses 23 = .ok (.iinc 1 1, 3) := dk_132 1 1 (dk_at dksX3_laysLosses_1 0 rfl rfl)
theorem dX3_laysLosses_26 : decode cX3_laysLosses 26 = .ok (.goto (-24), 3) := dk_167 255 232 (dk_at dksX3_laysLosses_1 3 rfl rfl)
theorem dX3_laysLosses_29 : decode cX3_laysLosses 29 = .ok (.return_, 1) := dk_177 (dk_at dksX3_laysLosses_1 6 rfl rfl)
abbrev cX3_sendsAll : ByteArray := prog_18_method_68_code
def yX3_sendsAll : MethodName := ⟨RX3, "sendsAll", "()V"⟩
def dkwX3_sendsAll_6 : List UInt8 := [182, 0, 204, 60, 167, 255, 181, 28, 158, 0, 9, 42, 27, 28, 182, 1, 12, 132, 1, 1, 167, 255, 165, 177]
abbrev dktX3_sendsAll_6 : List UInt8 := dkwX3_sendsAll_6 ++ []
def dkwX3_sendsAll_5 : List UInt8 := [46, 4, 96, 79, 42, 89, 180, 0, 244, 42, 180, 0, 7, 16, 7, 46, 96, 181, 0, 244, 42, 27]
abbrev dktX3_sendsAll_5 : List UInt8 := dkwX3_sendsAll_5 ++ dktX3_sendsAll_6
def dkwX3_sendsAll_4 : List UInt8 := [180, 0, 7, 8, 46, 162, 0, 48, 42, 89, 180, 1, 6, 4, 96, 181, 1, 6, 42, 180, 0, 62, 27, 92]
abbrev dktX3_sendsAll_4 : List UInt8 := dkwX3_sendsAll_4 ++ dktX3_sendsAll_5
def dkwX3_sendsAll_3 : List UInt8 := [180, 0, 7, 4, 46, 162, 0, 87, 42, 27, 182, 1, 9, 61, 28, 158, 0, 61, 42, 180, 1, 6, 42]
abbrev dktX3_sendsAll_3 : List UInt8 := dkwX3_sendsAll_3 ++ dktX3_sendsAll_4
def dkwX3_sendsAll_2 : List UInt8 := [42, 3, 181, 0, 247, 42, 3, 181, 1, 6, 42, 3, 181, 0, 250, 42, 3, 181, 1, 0, 3, 60, 27, 42]
abbrev dktX3_sendsAll_2 : List UInt8 := dkwX3_sendsAll_2 ++ dktX3_sendsAll_3
def dkwX3_sendsAll_1 : List UInt8 := [180, 0, 59, 27, 3, 79, 42, 180, 0, 62, 27, 3, 79, 132, 1, 1, 167, 255, 219, 42, 3, 181, 0, 244]
abbrev dktX3_sendsAll_1 : List UInt8 := dkwX3_sendsAll_1 ++ dktX3_sendsAll_2
def dkwX3_sendsAll_0 : List UInt8 := [3, 60, 27, 16, 20, 162, 0, 37, 42, 180, 0, 53, 27, 3, 79, 42, 180, 0, 56, 27, 3, 79, 42]
abbrev dktX3_sendsAll_0 : List UInt8 := dkwX3_sendsAll_0 ++ dktX3_sendsAll_1
theorem dksX3_sendsAll_0 : cX3_sendsAll.data.toList.drop 0 = dktX3_sendsAll_0 := by decide +kernel
theorem dksX3_sendsAll_1 : cX3_sendsAll.data.toList.drop 23 = dktX3_sendsAll_1 := dk_seg dksX3_sendsAll_0 23 rfl rfl
theorem dksX3_sendsAll_2 : cX3_sendsAll.data.toList.drop 47 = dktX3_sendsAll_2 := dk_seg dksX3_sendsAll_1 24 rfl rfl
theorem dksX3_sendsAll_3 : cX3_sendsAll.data.toList.drop 71 = dktX3_sendsAll_3 := dk_seg dksX3_sendsAll_2 24 rfl rfl
theorem dksX3_sendsAll_4 : cX3_sendsAll.data.toList.drop 94 = dktX3_sendsAll_4 := dk_seg dksX3_sendsAll_3 23 rfl rfl
theorem dksX3_sendsAll_5 : cX3_sendsAll.data.toList.drop 118 = dktX3_sendsAll_5 := dk_seg dksX3_sendsAll_4 24 rfl rfl
theorem dksX3_sendsAll_6 : cX3_sendsAll.data.toList.drop 140 = dktX3_sendsAll_6 := dk_seg dksX3_sendsAll_5 22 rfl rfl
theorem dX3_sendsAll_0 : decode cX3_sendsAll 0 = .ok (.iconst 0, 1) := dk_3 (dk_at dksX3_sendsAll_0 0 rfl rfl)
theorem dX3_sendsAll_1 : decode cX3_sendsAll 1 = .ok (.istore_n 1, 1) := dk_60 (dk_at dksX3_sendsAll_0 1 rfl rfl)
theorem dX3_sendsAll_2 : decode cX3_sendsAll 2 = .ok (.iload_n 1, 1) := dk_27 (dk_at dksX3_sendsAll_0 2 rfl rfl)
theorem dX3_sendsAll_3 : decode cX3_sendsAll 3 = .ok (.bipush 20, 2) := dk_16 20 (dk_at dksX3_sendsAll_0 3 rfl rfl)
theorem dX3_sendsAll_5 : decode cX3_sendsAll 5 = .ok (.if_icmp .ge 37, 3) := dk_162 0 37 (dk_at dksX3_sendsAll_0 5 rfl rfl)
theorem dX3_sendsAll_8 : decode cX3_sendsAll 8 = .ok (.aload_n 0, 1) := dk_42 (dk_at dksX3_sendsAll_0 8 rfl rfl)
theorem dX3_sendsAll_9 : decode cX3_sendsAll 9 = .ok (.getfield 53, 3) := dk_180 0 53 (dk_at dksX3_sendsAll_0 9 rfl rfl)
theorem dX3_sendsAll_12 : decode cX3_sendsAll 12 = .ok (.iload_n 1, 1) := dk_27 (dk_at dksX3_sendsAll_0 12 rfl rfl)
theorem dX3_sendsAll_13 : decode cX3_sendsAll 13 = .ok (.iconst 0, 1) := dk_3 (dk_at dksX3_sendsAll_0 13 rfl rfl)
theorem dX3_sendsAll_14 : decode cX3_sendsAll 14 = .ok (.iastore, 1) := dk_79 (dk_at dksX3_sendsAll_0 14 rfl rfl)
theorem dX3_sendsAll_15 : decode cX3_sendsAll 15 = .ok (.aload_n 0, 1) := dk_42 (dk_at dksX3_sendsAll_0 15 rfl rfl)
theorem dX3_sendsAll_16 : decode cX3_sendsAll 16 = .ok (.getfield 56, 3) := dk_180 0 56 (dk_at dksX3_sendsAll_0 16 rfl rfl)
theorem dX3_sendsAll_19 : decode cX3_sendsAll 19 = .ok (.iload_n 1, 1) := dk_27 (dk_at dksX3_sendsAll_0 19 rfl rfl)
theorem dX3_sendsAll_20 : decode cX3_sendsAll 20 = .ok (.iconst 0, 1) := dk_3 (dk_at dksX3_sendsAll_0 20 rfl rfl)
theorem dX3_sendsAll_21 : decode cX3_sendsAll 21 = .ok (.iastore, 1) := dk_79 (dk_at dksX3_sendsAll_0 21 rfl rfl)
theorem dX3_sendsAll_22 : decode cX3_sendsAll 22 = .ok (.aload_n 0, 1) := dk_42 (dk_at dksX3_sendsAll_0 22 rfl rfl)
theorem dX3_sendsAll_23 : decode cX3_sendsAll 23 = .ok (.getfield 59, 3) := dk_180 0 59 (dk_at dksX3_sendsAll_1 0 rfl rfl)
theorem dX3_sendsAll_26 : decode cX3_sendsAll 26 = .ok (.iload_n 1, 1) := dk_27 (dk_at dksX3_sendsAll_1 3 rfl rfl)
theorem dX3_sendsAll_27 : decode cX3_sendsAll 27 = .ok (.iconst 0, 1) := dk_3 (dk_at dksX3_sendsAll_1 4 rfl rfl)
theorem dX3_sendsAll_28 : decode cX3_sendsAll 28 = .ok (.iastore, 1) := dk_79 (dk_at dksX3_sendsAll_1 5 rfl rfl)
theorem dX3_sendsAll_29 : decode cX3_sendsAll 29 = .ok (.aload_n 0, 1) := dk_42 (dk_at dksX3_sendsAll_1 6 rfl rfl)
theorem dX3_sendsAll_30 : decode cX3_sendsAll 30 = .ok (.getfield 62, 3) := dk_180 0 62 (dk_at dksX3_sendsAll_1 7 rfl rfl)
theorem dX3_sendsAll_33 : decode cX3_sendsAll 33 = .ok (.iload_n 1, 1) := dk_27 (dk_at dksX3_sendsAll_1 10 rfl rfl)
theorem dX3_sendsAll_34 : decode cX3_sendsAll 34 = .ok (.iconst 0, 1) := dk_3 (dk_at dksX3_sendsAll_1 11 rfl rfl)
theorem dX3_sendsAll_35 : decode cX3_sendsAll 35 = .ok (.iastore, 1) := dk_79 (dk_at dksX3_sendsAll_1 12 rfl rfl)
theorem dX3_sendsAll_36 : decode cX3_sendsAll 36 = .ok (.iinc 1 1, 3) := dk_132 1 1 (dk_at dksX3_sendsAll_1 13 rfl rfl)
theorem dX3_sendsAll_39 : decode cX3_sendsAll 39 = .ok (.goto (-37), 3) := dk_167 255 219 (dk_at dksX3_sendsAll_1 16 rfl rfl)
theorem dX3_sendsAll_42 : decode cX3_sendsAll 42 = .ok (.aload_n 0, 1) := dk_42 (dk_at dksX3_sendsAll_1 19 rfl rfl)
theorem dX3_sendsAll_43 : decode cX3_sendsAll 43 = .ok (.iconst 0, 1) := dk_3 (dk_at dksX3_sendsAll_1 20 rfl rfl)
theorem dX3_sendsAll_44 : decode cX3_sendsAll 44 = .ok (.putfield 244, 3) := dk_181 0 244 (dk_at dksX3_sendsAll_1 21 rfl rfl)
theorem dX3_sendsAll_47 : decode cX3_sendsAll 47 = .ok (.aload_n 0, 1) := dk_42 (dk_at dksX3_sendsAll_2 0 rfl rfl)
theorem dX3_sendsAll_48 : decode cX3_sendsAll 48 = .ok (.iconst 0, 1) := dk_3 (dk_at dksX3_sendsAll_2 1 rfl rfl)
theorem dX3_sendsAll_49 : decode cX3_sendsAll 49 = .ok (.putfield 247, 3) := dk_181 0 247 (dk_at dksX3_sendsAll_2 2 rfl rfl)
theorem dX3_sendsAll_52 : decode cX3_sendsAll 52 = .ok (.aload_n 0, 1) := dk_42 (dk_at dksX3_sendsAll_2 5 rfl rfl)
theorem dX3_sendsAll_53 : decode cX3_sendsAll 53 = .ok (.iconst 0, 1) := dk_3 (dk_at dksX3_sendsAll_2 6 rfl rfl)
theorem dX3_sendsAll_54 : decode cX3_sendsAll 54 = .ok (.putfield 262, 3) := dk_181 1 6 (dk_at dksX3_sendsAll_2 7 rfl rfl)
theorem dX3_sendsAll_57 : decode cX3_sendsAll 57 = .ok (.aload_n 0, 1) := dk_42 (dk_at dksX3_sendsAll_2 10 rfl rfl)
theorem dX3_sendsAll_58 : decode cX3_sendsAll 58 = .ok (.iconst 0, 1) := dk_3 (dk_at dksX3_sendsAll_2 11 rfl rfl)
theorem dX3_sendsAll_59 : decode cX3_sendsAll 59 = .ok (.putfield 250, 3) := dk_181 0 250 (dk_at dksX3_sendsAll_2 12 rfl rfl)
theorem dX3_sendsAll_62 : decode cX3_sendsAll 62 = .ok (.aload_n 0, 1) := dk_42 (dk_at dksX3_sendsAll_2 15 rfl rfl)
theorem dX3_sendsAll_63 : decode cX3_sendsAll 63 = .ok (.iconst 0, 1) := dk_3 (dk_at dksX3_sendsAll_2 16 rfl rfl)
theorem dX3_sendsAll_64 : decode cX3_sendsAll 64 = .ok (.putfield 256, 3) := dk_181 1 0 (dk_at dksX3_sendsAll_2 17 rfl rfl)
theorem dX3_sendsAll_67 : decode cX3_sendsAll 67 = .ok (.iconst 0, 1) := dk_3 (dk_at dksX3_sendsAll_2 20 rfl rfl)
theorem dX3_sendsAll_68 : decode cX3_sendsAll 68 = .ok (.istore_n 1, 1) := dk_60 (dk_at dksX3_sendsAll_2 21 rfl rfl)
theorem dX3_sendsAll_69 : decode cX3_sendsAll 69 = .ok (.iload_n 1, 1) := dk_27 (dk_at dksX3_sendsAll_2 22 rfl rfl)
theorem dX3_sendsAll_70 : decode cX3_sendsAll 70 = .ok (.aload_n 0, 1) := dk_42 (dk_at dksX3_sendsAll_2 23 rfl rfl)
theorem dX3_sendsAll_71 : decode cX3_sendsAll 71 = .ok (.getfield 7, 3) := dk_180 0 7 (dk_at dksX3_sendsAll_3 0 rfl rfl)
theorem dX3_sendsAll_74 : decode cX3_sendsAll 74 = .ok (.iconst 1, 1) := dk_4 (dk_at dksX3_sendsAll_3 3 rfl rfl)
theorem dX3_sendsAll_75 : decode cX3_sendsAll 75 = .ok (.iaload, 1) := dk_46 (dk_at dksX3_sendsAll_3 4 rfl rfl)
theorem dX3_sendsAll_76 : decode cX3_sendsAll 76 = .ok (.if_icmp .ge 87, 3) := dk_162 0 87 (dk_at dksX3_sendsAll_3 5 rfl rfl)
theorem dX3_sendsAll_79 : decode cX3_sendsAll 79 = .ok (.aload_n 0, 1) := dk_42 (dk_at dksX3_sendsAll_3 8 rfl rfl)
theorem dX3_sendsAll_80 : decode cX3_sendsAll 80 = .ok (.iload_n 1, 1) := dk_27 (dk_at dksX3_sendsAll_3 9 rfl rfl)
theorem dX3_sendsAll_81 : decode cX3_sendsAll 81 = .ok (.invokevirtual 265, 3) := dk_182 1 9 (dk_at dksX3_sendsAll_3 10 rfl rfl)
theorem dX3_sendsAll_84 : decode cX3_sendsAll 84 = .ok (.istore_n 2, 1) := dk_61 (dk_at dksX3_sendsAll_3 13 rfl rfl)
theorem dX3_sendsAll_85 : decode cX3_sendsAll 85 = .ok (.iload_n 2, 1) := dk_28 (dk_at dksX3_sendsAll_3 14 rfl rfl)
theorem dX3_sendsAll_86 : decode cX3_sendsAll 86 = .ok (.ifCond .le 61, 3) := dk_158 0 61 (dk_at dksX3_sendsAll_3 15 rfl rfl)
theorem dX3_sendsAll_89 : decode cX3_sendsAll 89 = .ok (.aload_n 0, 1) := dk_42 (dk_at dksX3_sendsAll_3 18 rfl rfl)
theorem dX3_sendsAll_90 : decode cX3_sendsAll 90 = .ok (.getfield 262, 3) := dk_180 1 6 (dk_at dksX3_sendsAll_3 19 rfl rfl)
theorem dX3_sendsAll_93 : decode cX3_sendsAll 93 = .ok (.aload_n 0, 1) := dk_42 (dk_at dksX3_sendsAll_3 22 rfl rfl)
theorem dX3_sendsAll_94 : decode cX3_sendsAll 94 = .ok (.getfield 7, 3) := dk_180 0 7 (dk_at dksX3_sendsAll_4 0 rfl rfl)
theorem dX3_sendsAll_97 : decode cX3_sendsAll 97 = .ok (.iconst 5, 1) := dk_8 (dk_at dksX3_sendsAll_4 3 rfl rfl)
theorem dX3_sendsAll_98 : decode cX3_sendsAll 98 = .ok (.iaload, 1) := dk_46 (dk_at dksX3_sendsAll_4 4 rfl rfl)
theorem dX3_sendsAll_99 : decode cX3_sendsAll 99 = .ok (.if_icmp .ge 48, 3) := dk_162 0 48 (dk_at dksX3_sendsAll_4 5 rfl rfl)
theorem dX3_sendsAll_102 : decode cX3_sendsAll 102 = .ok (.aload_n 0, 1) := dk_42 (dk_at dksX3_sendsAll_4 8 rfl rfl)
theorem dX3_sendsAll_103 : decode cX3_sendsAll 103 = .ok (.dup, 1) := dk_89 (dk_at dksX3_sendsAll_4 9 rfl rfl)
theorem dX3_sendsAll_104 : decode cX3_sendsAll 104 = .ok (.getfield 262, 3) := dk_180 1 6 (dk_at dksX3_sendsAll_4 10 rfl rfl)
theorem dX3_sendsAll_107 : decode cX3_sendsAll 107 = .ok (.iconst 1, 1) := dk_4 (dk_at dksX3_sendsAll_4 13 rfl rfl)
theorem dX3_sendsAll_108 : decode cX3_sendsAll 108 = .ok (.iadd, 1) := dk_96 (dk_at dksX3_sendsAll_4 14 rfl rfl)
theorem dX3_sendsAll_109 : decode cX3_sendsAll 109 = .ok (.putfield 262, 3) := dk_181 1 6 (dk_at dksX3_sendsAll_4 15 rfl rfl)
theorem dX3_sendsAll_112 : decode cX3_sendsAll 112 = .ok (.aload_n 0, 1) := dk_42 (dk_at dksX3_sendsAll_4 18 rfl rfl)
theorem dX3_sendsAll_113 : decode cX3_sendsAll 113 = .ok (.getfield 62, 3) := dk_180 0 62 (dk_at dksX3_sendsAll_4 19 rfl rfl)
theorem dX3_sendsAll_116 : decode cX3_sendsAll 116 = .ok (.iload_n 1, 1) := dk_27 (dk_at dksX3_sendsAll_4 22 rfl rfl)
theorem dX3_sendsAll_117 : decode cX3_sendsAll 117 = .ok (.dup2, 1) := dk_92 (dk_at dksX3_sendsAll_4 23 rfl rfl)
theorem dX3_sendsAll_118 : decode cX3_sendsAll 118 = .ok (.iaload, 1) := dk_46 (dk_at dksX3_sendsAll_5 0 rfl rfl)
theorem dX3_sendsAll_119 : decode cX3_sendsAll 119 = .ok (.iconst 1, 1) := dk_4 (dk_at dksX3_sendsAll_5 1 rfl rfl)
theorem dX3_sendsAll_120 : decode cX3_sendsAll 120 = .ok (.iadd, 1) := dk_96 (dk_at dksX3_sendsAll_5 2 rfl rfl)
theorem dX3_sendsAll_121 : decode cX3_sendsAll 121 = .ok (.iastore, 1) := dk_79 (dk_at dksX3_sendsAll_5 3 rfl rfl)
theorem dX3_sendsAll_122 : decode cX3_sendsAll 122 = .ok (.aload_n 0, 1) := dk_42 (dk_at dksX3_sendsAll_5 4 rfl rfl)
theorem dX3_sendsAll_123 : decode cX3_sendsAll 123 = .ok (.dup, 1) := dk_89 (dk_at dksX3_sendsAll_5 5 rfl rfl)
theorem dX3_sendsAll_124 : decode cX3_sendsAll 124 = .ok (.getfield 244, 3) := dk_180 0 244 (dk_at dksX3_sendsAll_5 6 rfl rfl)
theorem dX3_sendsAll_127 : decode cX3_sendsAll 127 = .ok (.aload_n 0, 1) := dk_42 (dk_at dksX3_sendsAll_5 9 rfl rfl)
theorem dX3_sendsAll_128 : decode cX3_sendsAll 128 = .ok (.getfield 7, 3) := dk_180 0 7 (dk_at dksX3_sendsAll_5 10 rfl rfl)
theorem dX3_sendsAll_131 : decode cX3_sendsAll 131 = .ok (.bipush 7, 2) := dk_16 7 (dk_at dksX3_sendsAll_5 13 rfl rfl)
theorem dX3_sendsAll_133 : decode cX3_sendsAll 133 = .ok (.iaload, 1) := dk_46 (dk_at dksX3_sendsAll_5 15 rfl rfl)
theorem dX3_sendsAll_134 : decode cX3_sendsAll 134 = .ok (.iadd, 1) := dk_96 (dk_at dksX3_sendsAll_5 16 rfl rfl)
theorem dX3_sendsAll_135 : decode cX3_sendsAll 135 = .ok (.putfield 244, 3) := dk_181 0 244 (dk_at dksX3_sendsAll_5 17 rfl rfl)
theorem dX3_sendsAll_138 : decode cX3_sendsAll 138 = .ok (.aload_n 0, 1) := dk_42 (dk_at dksX3_sendsAll_5 20 rfl rfl)
theorem dX3_sendsAll_139 : decode cX3_sendsAll 139 = .ok (.iload_n 1, 1) := dk_27 (dk_at dksX3_sendsAll_5 21 rfl rfl)
theorem dX3_sendsAll_140 : decode cX3_sendsAll 140 = .ok (.invokevirtual 204, 3) := dk_182 0 204 (dk_at dksX3_sendsAll_6 0 rfl rfl)
theorem dX3_sendsAll_143 : decode cX3_sendsAll 143 = .ok (.istore_n 1, 1) := dk_60 (dk_at dksX3_sendsAll_6 3 rfl rfl)
theorem dX3_sendsAll_144 : decode cX3_sendsAll 144 = .ok (.goto (-75), 3) := dk_167 255 181 (dk_at dksX3_sendsAll_6 4 rfl rfl)
theorem dX3_sendsAll_147 : decode cX3_sendsAll 147 = .ok (.iload_n 2, 1) := dk_28 (dk_at dksX3_sendsAll_6 7 rfl rfl)
theorem dX3_sendsAll_148 : decode cX3_sendsAll 148 = .ok (.ifCond .le 9, 3) := dk_158 0 9 (dk_at dksX3_sendsAll_6 8 rfl rfl)
theorem dX3_sendsAll_151 : decode cX3_sendsAll 151 = .ok (.aload_n 0, 1) := dk_42 (dk_at dksX3_sendsAll_6 11 rfl rfl)
theorem dX3_sendsAll_152 : decode cX3_sendsAll 152 = .ok (.iload_n 1, 1) := dk_27 (dk_at dksX3_sendsAll_6 12 rfl rfl)
theorem dX3_sendsAll_153 : decode cX3_sendsAll 153 = .ok (.iload_n 2, 1) := dk_28 (dk_at dksX3_sendsAll_6 13 rfl rfl)
theorem dX3_sendsAll_154 : decode cX3_sendsAll 154 = .ok (.invokevirtual 268, 3) := dk_182 1 12 (dk_at dksX3_sendsAll_6 14 rfl rfl)
theorem dX3_sendsAll_157 : decode cX3_sendsAll 157 = .ok (.iinc 1 1, 3) := dk_132 1 1 (dk_at dksX3_sendsAll_6 17 rfl rfl)
theorem dX3_sendsAll_160 : decode cX3_sendsAll 160 = .ok (.goto (-91), 3) := dk_167 255 165 (dk_at dksX3_sendsAll_6 20 rfl rfl)
theorem dX3_sendsAll_163 : decode cX3_sendsAll 163 = .ok (.return_, 1) := dk_177 (dk_at dksX3_sendsAll_6 23 rfl rfl)
abbrev cX3_sends : ByteArray := prog_18_method_67_code
def yX3_sends : MethodName := ⟨RX3, "sends", "(I)I"⟩
def dkwX3_sends_6 : List UInt8 := [154, 0, 7, 3, 167, 0, 4, 6, 79, 3, 172]
abbrev dktX3_sends_6 : List UInt8 := dkwX3_sends_6 ++ []
def dkwX3_sends_5 : List UInt8 := [42, 180, 0, 44, 29, 46, 79, 132, 3, 1, 167, 255, 230, 42, 180, 0, 53, 27, 42, 27, 182, 1, 3]
abbrev dktX3_sends_5 : List UInt8 := dkwX3_sends_5 ++ dktX3_sends_6
def dkwX3_sends_4 : List UInt8 := [96, 181, 1, 0, 5, 172, 3, 62, 29, 16, 40, 162, 0, 26, 42, 180, 0, 50, 16, 40, 27, 104, 29, 96]
abbrev dktX3_sends_4 : List UInt8 := dkwX3_sends_4 ++ dktX3_sends_5
def dkwX3_sends_3 : List UInt8 := [180, 0, 250, 4, 96, 181, 0, 250, 4, 172, 42, 27, 182, 0, 253, 154, 0, 15, 42, 89, 180, 1, 0, 4]
abbrev dktX3_sends_3 : List UInt8 := dkwX3_sends_3 ++ dktX3_sends_4
def dkwX3_sends_2 : List UInt8 := [27, 92, 46, 4, 96, 79, 42, 180, 0, 56, 27, 46, 42, 180, 0, 65, 27, 46, 163, 0, 15, 42, 89]
abbrev dktX3_sends_2 : List UInt8 := dkwX3_sends_2 ++ dktX3_sends_3
def dkwX3_sends_1 : List UInt8 := [42, 89, 180, 0, 244, 28, 96, 181, 0, 244, 42, 89, 180, 0, 247, 4, 96, 181, 0, 247, 42, 180, 0, 56]
abbrev dktX3_sends_1 : List UInt8 := dkwX3_sends_1 ++ dktX3_sends_2
def dkwX3_sends_0 : List UInt8 := [42, 180, 0, 7, 16, 6, 46, 42, 27, 182, 0, 201, 96, 61, 42, 180, 0, 59, 27, 92, 46, 28, 96, 79]
abbrev dktX3_sends_0 : List UInt8 := dkwX3_sends_0 ++ dktX3_sends_1
theorem dksX3_sends_0 : cX3_sends.data.toList.drop 0 = dktX3_sends_0 := by decide +kernel
theorem dksX3_sends_1 : cX3_sends.data.toList.drop 24 = dktX3_sends_1 := dk_seg dksX3_sends_0 24 rfl rfl
theorem dksX3_sends_2 : cX3_sends.data.toList.drop 48 = dktX3_sends_2 := dk_seg dksX3_sends_1 24 rfl rfl
theorem dksX3_sends_3 : cX3_sends.data.toList.drop 71 = dktX3_sends_3 := dk_seg dksX3_sends_2 23 rfl rfl
theorem dksX3_sends_4 : cX3_sends.data.toList.drop 95 = dktX3_sends_4 := dk_seg dksX3_sends_3 24 rfl rfl
theorem dksX3_sends_5 : cX3_sends.data.toList.drop 119 = dktX3_sends_5 := dk_seg dksX3_sends_4 24 rfl rfl
theorem dksX3_sends_6 : cX3_sends.data.toList.drop 142 = dktX3_sends_6 := dk_seg dksX3_sends_5 23 rfl rfl
theorem dX3_sends_0 : decode cX3_sends 0 = .ok (.aload_n 0, 1) := dk_42 (dk_at dksX3_sends_0 0 rfl rfl)
theorem dX3_sends_1 : decode cX3_sends 1 = .ok (.getfield 7, 3) := dk_180 0 7 (dk_at dksX3_sends_0 1 rfl rfl)
theorem dX3_sends_4 : decode cX3_sends 4 = .ok (.bipush 6, 2) := dk_16 6 (dk_at dksX3_sends_0 4 rfl rfl)
theorem dX3_sends_6 : decode cX3_sends 6 = .ok (.iaload, 1) := dk_46 (dk_at dksX3_sends_0 6 rfl rfl)
theorem dX3_sends_7 : decode cX3_sends 7 = .ok (.aload_n 0, 1) := dk_42 (dk_at dksX3_sends_0 7 rfl rfl)
theorem dX3_sends_8 : decode cX3_sends 8 = .ok (.iload_n 1, 1) := dk_27 (dk_at dksX3_sends_0 8 rfl rfl)
theorem dX3_sends_9 : decode cX3_sends 9 = .ok (.invokevirtual 201, 3) := dk_182 0 201 (dk_at dksX3_sends_0 9 rfl rfl)
theorem dX3_sends_12 : decode cX3_sends 12 = .ok (.iadd, 1) := dk_96 (dk_at dksX3_sends_0 12 rfl rfl)
theorem dX3_sends_13 : decode cX3_sends 13 = .ok (.istore_n 2, 1) := dk_61 (dk_at dksX3_sends_0 13 rfl rfl)
theorem dX3_sends_14 : decode cX3_sends 14 = .ok (.aload_n 0, 1) := dk_42 (dk_at dksX3_sends_0 14 rfl rfl)
theorem dX3_sends_15 : decode cX3_sends 15 = .ok (.getfield 59, 3) := dk_180 0 59 (dk_at dksX3_sends_0 15 rfl rfl)
theorem dX3_sends_18 : decode cX3_sends 18 = .ok (.iload_n 1, 1) := dk_27 (dk_at dksX3_sends_0 18 rfl rfl)
theorem dX3_sends_19 : decode cX3_sends 19 = .ok (.dup2, 1) := dk_92 (dk_at dksX3_sends_0 19 rfl rfl)
theorem dX3_sends_20 : decode cX3_sends 20 = .ok (.iaload, 1) := dk_46 (dk_at dksX3_sends_0 20 rfl rfl)
theorem dX3_sends_21 : decode cX3_sends 21 = .ok (.iload_n 2, 1) := dk_28 (dk_at dksX3_sends_0 21 rfl rfl)
theorem dX3_sends_22 : decode cX3_sends 22 = .ok (.iadd, 1) := dk_96 (dk_at dksX3_sends_0 22 rfl rfl)
theorem dX3_sends_23 : decode cX3_sends 23 = .ok (.iastore, 1) := dk_79 (dk_at dksX3_sends_0 23 rfl rfl)
theorem dX3_sends_24 : decode cX3_sends 24 = .ok (.aload_n 0, 1) := dk_42 (dk_at dksX3_sends_1 0 rfl rfl)
theorem dX3_sends_25 : decode cX3_sends 25 = .ok (.dup, 1) := dk_89 (dk_at dksX3_sends_1 1 rfl rfl)
theorem dX3_sends_26 : decode cX3_sends 26 = .ok (.getfield 244, 3) := dk_180 0 244 (dk_at dksX3_sends_1 2 rfl rfl)
theorem dX3_sends_29 : decode cX3_sends 29 = .ok (.iload_n 2, 1) := dk_28 (dk_at dksX3_sends_1 5 rfl rfl)
theorem dX3_sends_30 : decode cX3_sends 30 = .ok (.iadd, 1) := dk_96 (dk_at dksX3_sends_1 6 rfl rfl)
theorem dX3_sends_31 : decode cX3_sends 31 = .ok (.putfield 244, 3) := dk_181 0 244 (dk_at dksX3_sends_1 7 rfl rfl)
theorem dX3_sends_34 : decode cX3_sends 34 = .ok (.aload_n 0, 1) := dk_42 (dk_at dksX3_sends_1 10 rfl rfl)
theorem dX3_sends_35 : decode cX3_sends 35 = .ok (.dup, 1) := dk_89 (dk_at dksX3_sends_1 11 rfl rfl)
theorem dX3_sends_36 : decode cX3_sends 36 = .ok (.getfield 247, 3) := dk_180 0 247 (dk_at dksX3_sends_1 12 rfl rfl)
theorem dX3_sends_39 : decode cX3_sends 39 = .ok (.iconst 1, 1) := dk_4 (dk_at dksX3_sends_1 15 rfl rfl)
theorem dX3_sends_40 : decode cX3_sends 40 = .ok (.iadd, 1) := dk_96 (dk_at dksX3_sends_1 16 rfl rfl)
theorem dX3_sends_41 : decode cX3_sends 41 = .ok (.putfield 247, 3) := dk_181 0 247 (dk_at dksX3_sends_1 17 rfl rfl)
theorem dX3_sends_44 : decode cX3_sends 44 = .ok (.aload_n 0, 1) := dk_42 (dk_at dksX3_sends_1 20 rfl rfl)
theorem dX3_sends_45 : decode cX3_sends 45 = .ok (.getfield 56, 3) := dk_180 0 56 (dk_at dksX3_sends_1 21 rfl rfl)
theorem dX3_sends_48 : decode cX3_sends 48 = .ok (.iload_n 1, 1) := dk_27 (dk_at dksX3_sends_2 0 rfl rfl)
theorem dX3_sends_49 : decode cX3_sends 49 = .ok (.dup2, 1) := dk_92 (dk_at dksX3_sends_2 1 rfl rfl)
theorem dX3_sends_50 : decode cX3_sends 50 = .ok (.iaload, 1) := dk_46 (dk_at dksX3_sends_2 2 rfl rfl)
theorem dX3_sends_51 : decode cX3_sends 51 = .ok (.iconst 1, 1) := dk_4 (dk_at dksX3_sends_2 3 rfl rfl)
theorem dX3_sends_52 : decode cX3_sends 52 = .ok (.iadd, 1) := dk_96 (dk_at dksX3_sends_2 4 rfl rfl)
theorem dX3_sends_53 : decode cX3_sends 53 = .ok (.iastore, 1) := dk_79 (dk_at dksX3_sends_2 5 rfl rfl)
theorem dX3_sends_54 : decode cX3_sends 54 = .ok (.aload_n 0, 1) := dk_42 (dk_at dksX3_sends_2 6 rfl rfl)
theorem dX3_sends_55 : decode cX3_sends 55 = .ok (.getfield 56, 3) := dk_180 0 56 (dk_at dksX3_sends_2 7 rfl rfl)
theorem dX3_sends_58 : decode cX3_sends 58 = .ok (.iload_n 1, 1) := dk_27 (dk_at dksX3_sends_2 10 rfl rfl)
theorem dX3_sends_59 : decode cX3_sends 59 = .ok (.iaload, 1) := dk_46 (dk_at dksX3_sends_2 11 rfl rfl)
theorem dX3_sends_60 : decode cX3_sends 60 = .ok (.aload_n 0, 1) := dk_42 (dk_at dksX3_sends_2 12 rfl rfl)
theorem dX3_sends_61 : decode cX3_sends 61 = .ok (.getfield 65, 3) := dk_180 0 65 (dk_at dksX3_sends_2 13 rfl rfl)
theorem dX3_sends_64 : decode cX3_sends 64 = .ok (.iload_n 1, 1) := dk_27 (dk_at dksX3_sends_2 16 rfl rfl)
theorem dX3_sends_65 : decode cX3_sends 65 = .ok (.iaload, 1) := dk_46 (dk_at dksX3_sends_2 17 rfl rfl)
theorem dX3_sends_66 : decode cX3_sends 66 = .ok (.if_icmp .gt 15, 3) := dk_163 0 15 (dk_at dksX3_sends_2 18 rfl rfl)
theorem dX3_sends_69 : decode cX3_sends 69 = .ok (.aload_n 0, 1) := dk_42 (dk_at dksX3_sends_2 21 rfl rfl)
theorem dX3_sends_70 : decode cX3_sends 70 = .ok (.dup, 1) := dk_89 (dk_at dksX3_sends_2 22 rfl rfl)
theorem dX3_sends_71 : decode cX3_sends 71 = .ok (.getfield 250, 3) := dk_180 0 250 (dk_at dksX3_sends_3 0 rfl rfl)
theorem dX3_sends_74 : decode cX3_sends 74 = .ok (.iconst 1, 1) := dk_4 (dk_at dksX3_sends_3 3 rfl rfl)
theorem dX3_sends_75 : decode cX3_sends 75 = .ok (.iadd, 1) := dk_96 (dk_at dksX3_sends_3 4 rfl rfl)
theorem dX3_sends_76 : decode cX3_sends 76 = .ok (.putfield 250, 3) := dk_181 0 250 (dk_at dksX3_sends_3 5 rfl rfl)
theorem dX3_sends_79 : decode cX3_sends 79 = .ok (.iconst 1, 1) := dk_4 (dk_at dksX3_sends_3 8 rfl rfl)
theorem dX3_sends_80 : decode cX3_sends 80 = .ok (.ireturn, 1) := dk_172 (dk_at dksX3_sends_3 9 rfl rfl)
theorem dX3_sends_81 : decode cX3_sends 81 = .ok (.aload_n 0, 1) := dk_42 (dk_at dksX3_sends_3 10 rfl rfl)
theorem dX3_sends_82 : decode cX3_sends 82 = .ok (.iload_n 1, 1) := dk_27 (dk_at dksX3_sends_3 11 rfl rfl)
theorem dX3_sends_83 : decode cX3_sends 83 = .ok (.invokevirtual 253, 3) := dk_182 0 253 (dk_at dksX3_sends_3 12 rfl rfl)
theorem dX3_sends_86 : decode cX3_sends 86 = .ok (.ifCond .ne 15, 3) := dk_154 0 15 (dk_at dksX3_sends_3 15 rfl rfl)
theorem dX3_sends_89 : decode cX3_sends 89 = .ok (.aload_n 0, 1) := dk_42 (dk_at dksX3_sends_3 18 rfl rfl)
theorem dX3_sends_90 : decode cX3_sends 90 = .ok (.dup, 1) := dk_89 (dk_at dksX3_sends_3 19 rfl rfl)
theorem dX3_sends_91 : decode cX3_sends 91 = .ok (.getfield 256, 3) := dk_180 1 0 (dk_at dksX3_sends_3 20 rfl rfl)
theorem dX3_sends_94 : decode cX3_sends 94 = .ok (.iconst 1, 1) := dk_4 (dk_at dksX3_sends_3 23 rfl rfl)
theorem dX3_sends_95 : decode cX3_sends 95 = .ok (.iadd, 1) := dk_96 (dk_at dksX3_sends_4 0 rfl rfl)
theorem dX3_sends_96 : decode cX3_sends 96 = .ok (.putfield 256, 3) := dk_181 1 0 (dk_at dksX3_sends_4 1 rfl rfl)
theorem dX3_sends_99 : decode cX3_sends 99 = .ok (.iconst 2, 1) := dk_5 (dk_at dksX3_sends_4 4 rfl rfl)
theorem dX3_sends_100 : decode cX3_sends 100 = .ok (.ireturn, 1) := dk_172 (dk_at dksX3_sends_4 5 rfl rfl)
theorem dX3_sends_101 : decode cX3_sends 101 = .ok (.iconst 0, 1) := dk_3 (dk_at dksX3_sends_4 6 rfl rfl)
theorem dX3_sends_102 : decode cX3_sends 102 = .ok (.istore_n 3, 1) := dk_62 (dk_at dksX3_sends_4 7 rfl rfl)
theorem dX3_sends_103 : decode cX3_sends 103 = .ok (.iload_n 3, 1) := dk_29 (dk_at dksX3_sends_4 8 rfl rfl)
theorem dX3_sends_104 : decode cX3_sends 104 = .ok (.bipush 40, 2) := dk_16 40 (dk_at dksX3_sends_4 9 rfl rfl)
theorem dX3_sends_106 : decode cX3_sends 106 = .ok (.if_icmp .ge 26, 3) := dk_162 0 26 (dk_at dksX3_sends_4 11 rfl rfl)
theorem dX3_sends_109 : decode cX3_sends 109 = .ok (.aload_n 0, 1) := dk_42 (dk_at dksX3_sends_4 14 rfl rfl)
theorem dX3_sends_110 : decode cX3_sends 110 = .ok (.getfield 50, 3) := dk_180 0 50 (dk_at dksX3_sends_4 15 rfl rfl)
theorem dX3_sends_113 : decode cX3_sends 113 = .ok (.bipush 40, 2) := dk_16 40 (dk_at dksX3_sends_4 18 rfl rfl)
theorem dX3_sends_115 : decode cX3_sends 115 = .ok (.iload_n 1, 1) := dk_27 (dk_at dksX3_sends_4 20 rfl rfl)
theorem dX3_sends_116 : decode cX3_sends 116 = .ok (.imul, 1) := dk_104 (dk_at dksX3_sends_4 21 rfl rfl)
theorem dX3_sends_117 : decode cX3_sends 117 = .ok (.iload_n 3, 1) := dk_29 (dk_at dksX3_sends_4 22 rfl rfl)
theorem dX3_sends_118 : decode cX3_sends 118 = .ok (.iadd, 1) := dk_96 (dk_at dksX3_sends_4 23 rfl rfl)
theorem dX3_sends_119 : decode cX3_sends 119 = .ok (.aload_n 0, 1) := dk_42 (dk_at dksX3_sends_5 0 rfl rfl)
theorem dX3_sends_120 : decode cX3_sends 120 = .ok (.getfield 44, 3) := dk_180 0 44 (dk_at dksX3_sends_5 1 rfl rfl)
theorem dX3_sends_123 : decode cX3_sends 123 = .ok (.iload_n 3, 1) := dk_29 (dk_at dksX3_sends_5 4 rfl rfl)
theorem dX3_sends_124 : decode cX3_sends 124 = .ok (.iaload, 1) := dk_46 (dk_at dksX3_sends_5 5 rfl rfl)
theorem dX3_sends_125 : decode cX3_sends 125 = .ok (.iastore, 1) := dk_79 (dk_at dksX3_sends_5 6 rfl rfl)
theorem dX3_sends_126 : decode cX3_sends 126 = .ok (.iinc 3 1, 3) := dk_132 3 1 (dk_at dksX3_sends_5 7 rfl rfl)
theorem dX3_sends_129 : decode cX3_sends 129 = .ok (.goto (-26), 3) := dk_167 255 230 (dk_at dksX3_sends_5 10 rfl rfl)
theorem dX3_sends_132 : decode cX3_sends 132 = .ok (.aload_n 0, 1) := dk_42 (dk_at dksX3_sends_5 13 rfl rfl)
theorem dX3_sends_133 : decode cX3_sends 133 = .ok (.getfield 53, 3) := dk_180 0 53 (dk_at dksX3_sends_5 14 rfl rfl)
theorem dX3_sends_136 : decode cX3_sends 136 = .ok (.iload_n 1, 1) := dk_27 (dk_at dksX3_sends_5 17 rfl rfl)
theorem dX3_sends_137 : decode cX3_sends 137 = .ok (.aload_n 0, 1) := dk_42 (dk_at dksX3_sends_5 18 rfl rfl)
theorem dX3_sends_138 : decode cX3_sends 138 = .ok (.iload_n 1, 1) := dk_27 (dk_at dksX3_sends_5 19 rfl rfl)
theorem dX3_sends_139 : decode cX3_sends 139 = .ok (.invokevirtual 259, 3) := dk_182 1 3 (dk_at dksX3_sends_5 20 rfl rfl)
theorem dX3_sends_142 : decode cX3_sends 142 = .ok (.ifCond .ne 7, 3) := dk_154 0 7 (dk_at dksX3_sends_6 0 rfl rfl)
theorem dX3_sends_145 : decode cX3_sends 145 = .ok (.iconst 0, 1) := dk_3 (dk_at dksX3_sends_6 3 rfl rfl)
theorem dX3_sends_146 : decode cX3_sends 146 = .ok (.goto 4, 3) := dk_167 0 4 (dk_at dksX3_sends_6 4 rfl rfl)
theorem dX3_sends_149 : decode cX3_sends 149 = .ok (.iconst 3, 1) := dk_6 (dk_at dksX3_sends_6 7 rfl rfl)
theorem dX3_sends_150 : decode cX3_sends 150 = .ok (.iastore, 1) := dk_79 (dk_at dksX3_sends_6 8 rfl rfl)
theorem dX3_sends_151 : decode cX3_sends 151 = .ok (.iconst 0, 1) := dk_3 (dk_at dksX3_sends_6 9 rfl rfl)
theorem dX3_sends_152 : decode cX3_sends 152 = .ok (.ireturn, 1) := dk_172 (dk_at dksX3_sends_6 10 rfl rfl)
abbrev cX3_isRead : ByteArray := prog_18_method_66_code
def yX3_isRead : MethodName := ⟨RX3, "isRead", "(I)Z"⟩
def dkwX3_isRead_2 : List UInt8 := [16, 40, 27, 4, 100, 104, 182, 0, 100, 42, 182, 0, 217, 172]
abbrev dktX3_isRead_2 : List UInt8 := dkwX3_isRead_2 ++ []
def dkwX3_isRead_1 : List UInt8 := [180, 0, 44, 29, 42, 180, 0, 29, 29, 46, 79, 132, 3, 1, 167, 255, 235, 4, 172, 42, 42, 180, 0, 50]
abbrev dktX3_isRead_1 : List UInt8 := dkwX3_isRead_1 ++ dktX3_isRead_2
def dkwX3_isRead_0 : List UInt8 := [42, 27, 182, 0, 173, 61, 42, 27, 182, 0, 163, 28, 153, 0, 31, 3, 62, 29, 16, 40, 162, 0, 21, 42]
abbrev dktX3_isRead_0 : List UInt8 := dkwX3_isRead_0 ++ dktX3_isRead_1
theorem dksX3_isRead_0 : cX3_isRead.data.toList.drop 0 = dktX3_isRead_0 := by decide +kernel
theorem dksX3_isRead_1 : cX3_isRead.data.toList.drop 24 = dktX3_isRead_1 := dk_seg dksX3_isRead_0 24 rfl rfl
theorem dksX3_isRead_2 : cX3_isRead.data.toList.drop 48 = dktX3_isRead_2 := dk_seg dksX3_isRead_1 24 rfl rfl
theorem dX3_isRead_0 : decode cX3_isRead 0 = .ok (.aload_n 0, 1) := dk_42 (dk_at dksX3_isRead_0 0 rfl rfl)
theorem dX3_isRead_1 : decode cX3_isRead 1 = .ok (.iload_n 1, 1) := dk_27 (dk_at dksX3_isRead_0 1 rfl rfl)
theorem dX3_isRead_2 : decode cX3_isRead 2 = .ok (.invokevirtual 173, 3) := dk_182 0 173 (dk_at dksX3_isRead_0 2 rfl rfl)
theorem dX3_isRead_5 : decode cX3_isRead 5 = .ok (.istore_n 2, 1) := dk_61 (dk_at dksX3_isRead_0 5 rfl rfl)
theorem dX3_isRead_6 : decode cX3_isRead 6 = .ok (.aload_n 0, 1) := dk_42 (dk_at dksX3_isRead_0 6 rfl rfl)
theorem dX3_isRead_7 : decode cX3_isRead 7 = .ok (.iload_n 1, 1) := dk_27 (dk_at dksX3_isRead_0 7 rfl rfl)
theorem dX3_isRead_8 : decode cX3_isRead 8 = .ok (.invokevirtual 163, 3) := dk_182 0 163 (dk_at dksX3_isRead_0 8 rfl rfl)
theorem dX3_isRead_11 : decode cX3_isRead 11 = .ok (.iload_n 2, 1) := dk_28 (dk_at dksX3_isRead_0 11 rfl rfl)
theorem dX3_isRead_12 : decode cX3_isRead 12 = .ok (.ifCond .eq 31, 3) := dk_153 0 31 (dk_at dksX3_isRead_0 12 rfl rfl)
theorem dX3_isRead_15 : decode cX3_isRead 15 = .ok (.iconst 0, 1) := dk_3 (dk_at dksX3_isRead_0 15 rfl rfl)
theorem dX3_isRead_16 : decode cX3_isRead 16 = .ok (.istore_n 3, 1) := dk_62 (dk_at dksX3_isRead_0 16 rfl rfl)
theorem dX3_isRead_17 : decode cX3_isRead 17 = .ok (.iload_n 3, 1) := dk_29 (dk_at dksX3_isRead_0 17 rfl rfl)
theorem dX3_isRead_18 : decode cX3_isRead 18 = .ok (.bipush 40, 2) := dk_16 40 (dk_at dksX3_isRead_0 18 rfl rfl)
theorem dX3_isRead_20 : decode cX3_isRead 20 = .ok (.if_icmp .ge 21, 3) := dk_162 0 21 (dk_at dksX3_isRead_0 20 rfl rfl)
theorem dX3_isRead_23 : decode cX3_isRead 23 = .ok (.aload_n 0, 1) := dk_42 (dk_at dksX3_isRead_0 23 rfl rfl)
theorem dX3_isRead_24 : decode cX3_isRead 24 = .ok (.getfield 44, 3) := dk_180 0 44 (dk_at dksX3_isRead_1 0 rfl rfl)
theorem dX3_isRead_27 : decode cX3_isRead 27 = .ok (.iload_n 3, 1) := dk_29 (dk_at dksX3_isRead_1 3 rfl rfl)
theorem dX3_isRead_28 : decode cX3_isRead 28 = .ok (.aload_n 0, 1) := dk_42 (dk_at dksX3_isRead_1 4 rfl rfl)
theorem dX3_isRead_29 : decode cX3_isRead 29 = .ok (.getfield 29, 3) := dk_180 0 29 (dk_at dksX3_isRead_1 5 rfl rfl)
theorem dX3_isRead_32 : decode cX3_isRead 32 = .ok (.iload_n 3, 1) := dk_29 (dk_at dksX3_isRead_1 8 rfl rfl)
theorem dX3_isRead_33 : decode cX3_isRead 33 = .ok (.iaload, 1) := dk_46 (dk_at dksX3_isRead_1 9 rfl rfl)
theorem dX3_isRead_34 : decode cX3_isRead 34 = .ok (.iastore, 1) := dk_79 (dk_at dksX3_isRead_1 10 rfl rfl)
theorem dX3_isRead_35 : decode cX3_isRead 35 = .ok (.iinc 3 1, 3) := dk_132 3 1 (dk_at dksX3_isRead_1 11 rfl rfl)
theorem dX3_isRead_38 : decode cX3_isRead 38 = .ok (.goto (-21), 3) := dk_167 255 235 (dk_at dksX3_isRead_1 14 rfl rfl)
theorem dX3_isRead_41 : decode cX3_isRead 41 = .ok (.iconst 1, 1) := dk_4 (dk_at dksX3_isRead_1 17 rfl rfl)
theorem dX3_isRead_42 : decode cX3_isRead 42 = .ok (.ireturn, 1) := dk_172 (dk_at dksX3_isRead_1 18 rfl rfl)
theorem dX3_isRead_43 : decode cX3_isRead 43 = .ok (.aload_n 0, 1) := dk_42 (dk_at dksX3_isRead_1 19 rfl rfl)
theorem dX3_isRead_44 : decode cX3_isRead 44 = .ok (.aload_n 0, 1) := dk_42 (dk_at dksX3_isRead_1 20 rfl rfl)
theorem dX3_isRead_45 : decode cX3_isRead 45 = .ok (.getfield 50, 3) := dk_180 0 50 (dk_at dksX3_isRead_1 21 rfl rfl)
theorem dX3_isRead_48 : decode cX3_isRead 48 = .ok (.bipush 40, 2) := dk_16 40 (dk_at dksX3_isRead_2 0 rfl rfl)
theorem dX3_isRead_50 : decode cX3_isRead 50 = .ok (.iload_n 1, 1) := dk_27 (dk_at dksX3_isRead_2 2 rfl rfl)
theorem dX3_isRead_51 : decode cX3_isRead 51 = .ok (.iconst 1, 1) := dk_4 (dk_at dksX3_isRead_2 3 rfl rfl)
theorem dX3_isRead_52 : decode cX3_isRead 52 = .ok (.isub, 1) := dk_100 (dk_at dksX3_isRead_2 4 rfl rfl)
theorem dX3_isRead_53 : decode cX3_isRead 53 = .ok (.imul, 1) := dk_104 (dk_at dksX3_isRead_2 5 rfl rfl)
theorem dX3_isRead_54 : decode cX3_isRead 54 = .ok (.invokevirtual 100, 3) := dk_182 0 100 (dk_at dksX3_isRead_2 6 rfl rfl)
theorem dX3_isRead_57 : decode cX3_isRead 57 = .ok (.aload_n 0, 1) := dk_42 (dk_at dksX3_isRead_2 9 rfl rfl)
theorem dX3_isRead_58 : decode cX3_isRead 58 = .ok (.invokevirtual 217, 3) := dk_182 0 217 (dk_at dksX3_isRead_2 10 rfl rfl)
theorem dX3_isRead_61 : decode cX3_isRead 61 = .ok (.ireturn, 1) := dk_172 (dk_at dksX3_isRead_2 13 rfl rfl)
abbrev cX3_wrongIn : ByteArray := prog_18_method_65_code
def yX3_wrongIn : MethodName := ⟨RX3, "wrongIn", "(I)I"⟩
def dkwX3_wrongIn_2 : List UInt8 := [132, 3, 1, 167, 255, 211, 28, 172]
abbrev dktX3_wrongIn_2 : List UInt8 := dkwX3_wrongIn_2 ++ []
def dkwX3_wrongIn_1 : List UInt8 := [96, 46, 42, 180, 0, 7, 27, 29, 184, 0, 96, 46, 160, 0, 7, 3, 167, 0, 4, 4, 96, 61]
abbrev dktX3_wrongIn_1 : List UInt8 := dkwX3_wrongIn_1 ++ dktX3_wrongIn_2
def dkwX3_wrongIn_0 : List UInt8 := [3, 61, 3, 62, 29, 42, 180, 0, 7, 3, 46, 162, 0, 41, 28, 42, 180, 0, 50, 16, 40, 27, 104, 29]
abbrev dktX3_wrongIn_0 : List UInt8 := dkwX3_wrongIn_0 ++ dktX3_wrongIn_1
theorem dksX3_wrongIn_0 : cX3_wrongIn.data.toList.drop 0 = dktX3_wrongIn_0 := by decide +kernel
theorem dksX3_wrongIn_1 : cX3_wrongIn.data.toList.drop 24 = dktX3_wrongIn_1 := dk_seg dksX3_wrongIn_0 24 rfl rfl
theorem dksX3_wrongIn_2 : cX3_wrongIn.data.toList.drop 46 = dktX3_wrongIn_2 := dk_seg dksX3_wrongIn_1 22 rfl rfl
theorem dX3_wrongIn_0 : decode cX3_wrongIn 0 = .ok (.iconst 0, 1) := dk_3 (dk_at dksX3_wrongIn_0 0 rfl rfl)
theorem dX3_wrongIn_1 : decode cX3_wrongIn 1 = .ok (.istore_n 2, 1) := dk_61 (dk_at dksX3_wrongIn_0 1 rfl rfl)
theorem dX3_wrongIn_2 : decode cX3_wrongIn 2 = .ok (.iconst 0, 1) := dk_3 (dk_at dksX3_wrongIn_0 2 rfl rfl)
theorem dX3_wrongIn_3 : decode cX3_wrongIn 3 = .ok (.istore_n 3, 1) := dk_62 (dk_at dksX3_wrongIn_0 3 rfl rfl)
theorem dX3_wrongIn_4 : decode cX3_wrongIn 4 = .ok (.iload_n 3, 1) := dk_29 (dk_at dksX3_wrongIn_0 4 rfl rfl)
theorem dX3_wrongIn_5 : decode cX3_wrongIn 5 = .ok (.aload_n 0, 1) := dk_42 (dk_at dksX3_wrongIn_0 5 rfl rfl)
theorem dX3_wrongIn_6 : decode cX3_wrongIn 6 = .ok (.getfield 7, 3) := dk_180 0 7 (dk_at dksX3_wrongIn_0 6 rfl rfl)
theorem dX3_wrongIn_9 : decode cX3_wrongIn 9 = .ok (.iconst 0, 1) := dk_3 (dk_at dksX3_wrongIn_0 9 rfl rfl)
theorem dX3_wrongIn_10 : decode cX3_wrongIn 10 = .ok (.iaload, 1) := dk_46 (dk_at dksX3_wrongIn_0 10 rfl rfl)
theorem dX3_wrongIn_11 : decode cX3_wrongIn 11 = .ok (.if_icmp .ge 41, 3) := dk_162 0 41 (dk_at dksX3_wrongIn_0 11 rfl rfl)
theorem dX3_wrongIn_14 : decode cX3_wrongIn 14 = .ok (.iload_n 2, 1) := dk_28 (dk_at dksX3_wrongIn_0 14 rfl rfl)
theorem dX3_wrongIn_15 : decode cX3_wrongIn 15 = .ok (.aload_n 0, 1) := dk_42 (dk_at dksX3_wrongIn_0 15 rfl rfl)
theorem dX3_wrongIn_16 : decode cX3_wrongIn 16 = .ok (.getfield 50, 3) := dk_180 0 50 (dk_at dksX3_wrongIn_0 16 rfl rfl)
theorem dX3_wrongIn_19 : decode cX3_wrongIn 19 = .ok (.bipush 40, 2) := dk_16 40 (dk_at dksX3_wrongIn_0 19 rfl rfl)
theorem dX3_wrongIn_21 : decode cX3_wrongIn 21 = .ok (.iload_n 1, 1) := dk_27 (dk_at dksX3_wrongIn_0 21 rfl rfl)
theorem dX3_wrongIn_22 : decode cX3_wrongIn 22 = .ok (.imul, 1) := dk_104 (dk_at dksX3_wrongIn_0 22 rfl rfl)
theorem dX3_wrongIn_23 : decode cX3_wrongIn 23 = .ok (.iload_n 3, 1) := dk_29 (dk_at dksX3_wrongIn_0 23 rfl rfl)
theorem dX3_wrongIn_24 : decode cX3_wrongIn 24 = .ok (.iadd, 1) := dk_96 (dk_at dksX3_wrongIn_1 0 rfl rfl)
theorem dX3_wrongIn_25 : decode cX3_wrongIn 25 = .ok (.iaload, 1) := dk_46 (dk_at dksX3_wrongIn_1 1 rfl rfl)
theorem dX3_wrongIn_26 : decode cX3_wrongIn 26 = .ok (.aload_n 0, 1) := dk_42 (dk_at dksX3_wrongIn_1 2 rfl rfl)
theorem dX3_wrongIn_27 : decode cX3_wrongIn 27 = .ok (.getfield 7, 3) := dk_180 0 7 (dk_at dksX3_wrongIn_1 3 rfl rfl)
theorem dX3_wrongIn_30 : decode cX3_wrongIn 30 = .ok (.iload_n 1, 1) := dk_27 (dk_at dksX3_wrongIn_1 6 rfl rfl)
theorem dX3_wrongIn_31 : decode cX3_wrongIn 31 = .ok (.iload_n 3, 1) := dk_29 (dk_at dksX3_wrongIn_1 7 rfl rfl)
theorem dX3_wrongIn_32 : decode cX3_wrongIn 32 = .ok (.invokestatic 96, 3) := dk_184 0 96 (dk_at dksX3_wrongIn_1 8 rfl rfl)
theorem dX3_wrongIn_35 : decode cX3_wrongIn 35 = .ok (.iaload, 1) := dk_46 (dk_at dksX3_wrongIn_1 11 rfl rfl)
theorem dX3_wrongIn_36 : decode cX3_wrongIn 36 = .ok (.if_icmp .ne 7, 3) := dk_160 0 7 (dk_at dksX3_wrongIn_1 12 rfl rfl)
theorem dX3_wrongIn_39 : decode cX3_wrongIn 39 = .ok (.iconst 0, 1) := dk_3 (dk_at dksX3_wrongIn_1 15 rfl rfl)
theorem dX3_wrongIn_40 : decode cX3_wrongIn 40 = .ok (.goto 4, 3) := dk_167 0 4 (dk_at dksX3_wrongIn_1 16 rfl rfl)
theorem dX3_wrongIn_43 : decode cX3_wrongIn 43 = .ok (.iconst 1, 1) := dk_4 (dk_at dksX3_wrongIn_1 19 rfl rfl)
theorem dX3_wrongIn_44 : decode cX3_wrongIn 44 = .ok (.iadd, 1) := dk_96 (dk_at dksX3_wrongIn_1 20 rfl rfl)
theorem dX3_wrongIn_45 : decode cX3_wrongIn 45 = .ok (.istore_n 2, 1) := dk_61 (dk_at dksX3_wrongIn_1 21 rfl rfl)
theorem dX3_wrongIn_46 : decode cX3_wrongIn 46 = .ok (.iinc 3 1, 3) := dk_132 3 1 (dk_at dksX3_wrongIn_2 0 rfl rfl)
theorem dX3_wrongIn_49 : decode cX3_wrongIn 49 = .ok (.goto (-45), 3) := dk_167 255 211 (dk_at dksX3_wrongIn_2 3 rfl rfl)
theorem dX3_wrongIn_52 : decode cX3_wrongIn 52 = .ok (.iload_n 2, 1) := dk_28 (dk_at dksX3_wrongIn_2 6 rfl rfl)
theorem dX3_wrongIn_53 : decode cX3_wrongIn 53 = .ok (.ireturn, 1) := dk_172 (dk_at dksX3_wrongIn_2 7 rfl rfl)
abbrev cX3_fills : ByteArray := prog_18_method_64_code
def yX3_fills : MethodName := ⟨RX3, "fills", "(II)V"⟩
def dkwX3_fills_2 : List UInt8 := [46, 79, 132, 3, 1, 167, 255, 205, 42, 180, 0, 53, 27, 28, 79, 177]
abbrev dktX3_fills_2 : List UInt8 := dkwX3_fills_2 ++ []
def dkwX3_fills_1 : List UInt8 := [4, 159, 0, 7, 27, 154, 0, 7, 3, 167, 0, 16, 42, 180, 0, 50, 16, 40, 27, 4, 100, 104, 29, 96]
abbrev dktX3_fills_1 : List UInt8 := dkwX3_fills_1 ++ dktX3_fills_2
def dkwX3_fills_0 : List UInt8 := [3, 62, 29, 16, 40, 162, 0, 51, 42, 180, 0, 50, 16, 40, 27, 104, 29, 96, 42, 180, 0, 7, 7, 46]
abbrev dktX3_fills_0 : List UInt8 := dkwX3_fills_0 ++ dktX3_fills_1
theorem dksX3_fills_0 : cX3_fills.data.toList.drop 0 = dktX3_fills_0 := by decide +kernel
theorem dksX3_fills_1 : cX3_fills.data.toList.drop 24 = dktX3_fills_1 := dk_seg dksX3_fills_0 24 rfl rfl
theorem dksX3_fills_2 : cX3_fills.data.toList.drop 48 = dktX3_fills_2 := dk_seg dksX3_fills_1 24 rfl rfl
theorem dX3_fills_0 : decode cX3_fills 0 = .ok (.iconst 0, 1) := dk_3 (dk_at dksX3_fills_0 0 rfl rfl)
theorem dX3_fills_1 : decode cX3_fills 1 = .ok (.istore_n 3, 1) := dk_62 (dk_at dksX3_fills_0 1 rfl rfl)
theorem dX3_fills_2 : decode cX3_fills 2 = .ok (.iload_n 3, 1) := dk_29 (dk_at dksX3_fills_0 2 rfl rfl)
theorem dX3_fills_3 : decode cX3_fills 3 = .ok (.bipush 40, 2) := dk_16 40 (dk_at dksX3_fills_0 3 rfl rfl)
theorem dX3_fills_5 : decode cX3_fills 5 = .ok (.if_icmp .ge 51, 3) := dk_162 0 51 (dk_at dksX3_fills_0 5 rfl rfl)
theorem dX3_fills_8 : decode cX3_fills 8 = .ok (.aload_n 0, 1) := dk_42 (dk_at dksX3_fills_0 8 rfl rfl)
theorem dX3_fills_9 : decode cX3_fills 9 = .ok (.getfield 50, 3) := dk_180 0 50 (dk_at dksX3_fills_0 9 rfl rfl)
theorem dX3_fills_12 : decode cX3_fills 12 = .ok (.bipush 40, 2) := dk_16 40 (dk_at dksX3_fills_0 12 rfl rfl)
theorem dX3_fills_14 : decode cX3_fills 14 = .ok (.iload_n 1, 1) := dk_27 (dk_at dksX3_fills_0 14 rfl rfl)
theorem dX3_fills_15 : decode cX3_fills 15 = .ok (.imul, 1) := dk_104 (dk_at dksX3_fills_0 15 rfl rfl)
theorem dX3_fills_16 : decode cX3_fills 16 = .ok (.iload_n 3, 1) := dk_29 (dk_at dksX3_fills_0 16 rfl rfl)
theorem dX3_fills_17 : decode cX3_fills 17 = .ok (.iadd, 1) := dk_96 (dk_at dksX3_fills_0 17 rfl rfl)
theorem dX3_fills_18 : decode cX3_fills 18 = .ok (.aload_n 0, 1) := dk_42 (dk_at dksX3_fills_0 18 rfl rfl)
theorem dX3_fills_19 : decode cX3_fills 19 = .ok (.getfield 7, 3) := dk_180 0 7 (dk_at dksX3_fills_0 19 rfl rfl)
theorem dX3_fills_22 : decode cX3_fills 22 = .ok (.iconst 4, 1) := dk_7 (dk_at dksX3_fills_0 22 rfl rfl)
theorem dX3_fills_23 : decode cX3_fills 23 = .ok (.iaload, 1) := dk_46 (dk_at dksX3_fills_0 23 rfl rfl)
theorem dX3_fills_24 : decode cX3_fills 24 = .ok (.iconst 1, 1) := dk_4 (dk_at dksX3_fills_1 0 rfl rfl)
theorem dX3_fills_25 : decode cX3_fills 25 = .ok (.if_icmp .eq 7, 3) := dk_159 0 7 (dk_at dksX3_fills_1 1 rfl rfl)
theorem dX3_fills_28 : decode cX3_fills 28 = .ok (.iload_n 1, 1) := dk_27 (dk_at dksX3_fills_1 4 rfl rfl)
theorem dX3_fills_29 : decode cX3_fills 29 = .ok (.ifCond .ne 7, 3) := dk_154 0 7 (dk_at dksX3_fills_1 5 rfl rfl)
theorem dX3_fills_32 : decode cX3_fills 32 = .ok (.iconst 0, 1) := dk_3 (dk_at dksX3_fills_1 8 rfl rfl)
theorem dX3_fills_33 : decode cX3_fills 33 = .ok (.goto 16, 3) := dk_167 0 16 (dk_at dksX3_fills_1 9 rfl rfl)
theorem dX3_fills_36 : decode cX3_fills 36 = .ok (.aload_n 0, 1) := dk_42 (dk_at dksX3_fills_1 12 rfl rfl)
theorem dX3_fills_37 : decode cX3_fills 37 = .ok (.getfield 50, 3) := dk_180 0 50 (dk_at dksX3_fills_1 13 rfl rfl)
theorem dX3_fills_40 : decode cX3_fills 40 = .ok (.bipush 40, 2) := dk_16 40 (dk_at dksX3_fills_1 16 rfl rfl)
theorem dX3_fills_42 : decode cX3_fills 42 = .ok (.iload_n 1, 1) := dk_27 (dk_at dksX3_fills_1 18 rfl rfl)
theorem dX3_fills_43 : decode cX3_fills 43 = .ok (.iconst 1, 1) := dk_4 (dk_at dksX3_fills_1 19 rfl rfl)
theorem dX3_fills_44 : decode cX3_fills 44 = .ok (.isub, 1) := dk_100 (dk_at dksX3_fills_1 20 rfl rfl)
theorem dX3_fills_45 : decode cX3_fills 45 = .ok (.imul, 1) := dk_104 (dk_at dksX3_fills_1 21 rfl rfl)
theorem dX3_fills_46 : decode cX3_fills 46 = .ok (.iload_n 3, 1) := dk_29 (dk_at dksX3_fills_1 22 rfl rfl)
theorem dX3_fills_47 : decode cX3_fills 47 = .ok (.iadd, 1) := dk_96 (dk_at dksX3_fills_1 23 rfl rfl)
theorem dX3_fills_48 : decode cX3_fills 48 = .ok (.iaload, 1) := dk_46 (dk_at dksX3_fills_2 0 rfl rfl)
theorem dX3_fills_49 : decode cX3_fills 49 = .ok (.iastore, 1) := dk_79 (dk_at dksX3_fills_2 1 rfl rfl)
theorem dX3_fills_50 : decode cX3_fills 50 = .ok (.iinc 3 1, 3) := dk_132 3 1 (dk_at dksX3_fills_2 2 rfl rfl)
theorem dX3_fills_53 : decode cX3_fills 53 = .ok (.goto (-51), 3) := dk_167 255 205 (dk_at dksX3_fills_2 5 rfl rfl)
theorem dX3_fills_56 : decode cX3_fills 56 = .ok (.aload_n 0, 1) := dk_42 (dk_at dksX3_fills_2 8 rfl rfl)
theorem dX3_fills_57 : decode cX3_fills 57 = .ok (.getfield 53, 3) := dk_180 0 53 (dk_at dksX3_fills_2 9 rfl rfl)
theorem dX3_fills_60 : decode cX3_fills 60 = .ok (.iload_n 1, 1) := dk_27 (dk_at dksX3_fills_2 12 rfl rfl)
theorem dX3_fills_61 : decode cX3_fills 61 = .ok (.iload_n 2, 1) := dk_28 (dk_at dksX3_fills_2 13 rfl rfl)
theorem dX3_fills_62 : decode cX3_fills 62 = .ok (.iastore, 1) := dk_79 (dk_at dksX3_fills_2 14 rfl rfl)
theorem dX3_fills_63 : decode cX3_fills 63 = .ok (.return_, 1) := dk_177 (dk_at dksX3_fills_2 15 rfl rfl)
abbrev cX3_wrongDots : ByteArray := prog_18_method_70_code
def yX3_wrongDots : MethodName := ⟨RX3, "wrongDots", "()I"⟩
def dkwX3_wrongDots_1 : List UInt8 := [132, 2, 1, 167, 255, 235, 27, 172]
abbrev dktX3_wrongDots_1 : List UInt8 := dkwX3_wrongDots_1 ++ []
def dkwX3_wrongDots_0 : List UInt8 := [3, 60, 3, 61, 28, 42, 180, 0, 7, 4, 46, 162, 0, 17, 27, 42, 28, 182, 1, 3, 96, 60]
abbrev dktX3_wrongDots_0 : List UInt8 := dkwX3_wrongDots_0 ++ dktX3_wrongDots_1
theorem dksX3_wrongDots_0 : cX3_wrongDots.data.toList.drop 0 = dktX3_wrongDots_0 := by decide +kernel
theorem dksX3_wrongDots_1 : cX3_wrongDots.data.toList.drop 22 = dktX3_wrongDots_1 := dk_seg dksX3_wrongDots_0 22 rfl rfl
theorem dX3_wrongDots_0 : decode cX3_wrongDots 0 = .ok (.iconst 0, 1) := dk_3 (dk_at dksX3_wrongDots_0 0 rfl rfl)
theorem dX3_wrongDots_1 : decode cX3_wrongDots 1 = .ok (.istore_n 1, 1) := dk_60 (dk_at dksX3_wrongDots_0 1 rfl rfl)
theorem dX3_wrongDots_2 : decode cX3_wrongDots 2 = .ok (.iconst 0, 1) := dk_3 (dk_at dksX3_wrongDots_0 2 rfl rfl)
theorem dX3_wrongDots_3 : decode cX3_wrongDots 3 = .ok (.istore_n 2, 1) := dk_61 (dk_at dksX3_wrongDots_0 3 rfl rfl)
theorem dX3_wrongDots_4 : decode cX3_wrongDots 4 = .ok (.iload_n 2, 1) := dk_28 (dk_at dksX3_wrongDots_0 4 rfl rfl)
theorem dX3_wrongDots_5 : decode cX3_wrongDots 5 = .ok (.aload_n 0, 1) := dk_42 (dk_at dksX3_wrongDots_0 5 rfl rfl)
theorem dX3_wrongDots_6 : decode cX3_wrongDots 6 = .ok (.getfield 7, 3) := dk_180 0 7 (dk_at dksX3_wrongDots_0 6 rfl rfl)
theorem dX3_wrongDots_9 : decode cX3_wrongDots 9 = .ok (.iconst 1, 1) := dk_4 (dk_at dksX3_wrongDots_0 9 rfl rfl)
theorem dX3_wrongDots_10 : decode cX3_wrongDots 10 = .ok (.iaload, 1) := dk_46 (dk_at dksX3_wrongDots_0 10 rfl rfl)
theorem dX3_wrongDots_11 : decode cX3_wrongDots 11 = .ok (.if_icmp .ge 17, 3) := dk_162 0 17 (dk_at dksX3_wrongDots_0 11 rfl rfl)
theorem dX3_wrongDots_14 : decode cX3_wrongDots 14 = .ok (.iload_n 1, 1) := dk_27 (dk_at dksX3_wrongDots_0 14 rfl rfl)
theorem dX3_wrongDots_15 : decode cX3_wrongDots 15 = .ok (.aload_n 0, 1) := dk_42 (dk_at dksX3_wrongDots_0 15 rfl rfl)
theorem dX3_wrongDots_16 : decode cX3_wrongDots 16 = .ok (.iload_n 2, 1) := dk_28 (dk_at dksX3_wrongDots_0 16 rfl rfl)
theorem dX3_wrongDots_17 : decode cX3_wrongDots 17 = .ok (.invokevirtual 259, 3) := dk_182 1 3 (dk_at dksX3_wrongDots_0 17 rfl rfl)
theorem dX3_wrongDots_20 : decode cX3_wrongDots 20 = .ok (.iadd, 1) := dk_96 (dk_at dksX3_wrongDots_0 20 rfl rfl)
theorem dX3_wrongDots_21 : decode cX3_wrongDots 21 = .ok (.istore_n 1, 1) := dk_60 (dk_at dksX3_wrongDots_0 21 rfl rfl)
theorem dX3_wrongDots_22 : decode cX3_wrongDots 22 = .ok (.iinc 2 1, 3) := dk_132 2 1 (dk_at dksX3_wrongDots_1 0 rfl rfl)
theorem dX3_wrongDots_25 : decode cX3_wrongDots 25 = .ok (.goto (-21), 3) := dk_167 255 235 (dk_at dksX3_wrongDots_1 3 rfl rfl)
theorem dX3_wrongDots_28 : decode cX3_wrongDots 28 = .ok (.iload_n 1, 1) := dk_27 (dk_at dksX3_wrongDots_1 6 rfl rfl)
theorem dX3_wrongDots_29 : decode cX3_wrongDots 29 = .ok (.ireturn, 1) := dk_172 (dk_at dksX3_wrongDots_1 7 rfl rfl)
abbrev cX3_statesOf : ByteArray := prog_18_method_71_code
def yX3_statesOf : MethodName := ⟨RX3, "statesOf", "(I)I"⟩
def dkwX3_statesOf_1 : List UInt8 := [160, 0, 7, 4, 167, 0, 4, 3, 96, 61, 132, 3, 1, 167, 255, 225, 28, 172]
abbrev dktX3_statesOf_1 : List UInt8 := dkwX3_statesOf_1 ++ []
def dkwX3_statesOf_0 : List UInt8 := [3, 61, 3, 62, 29, 42, 180, 0, 7, 4, 46, 162, 0, 27, 28, 42, 180, 0, 53, 29, 46, 27]
abbrev dktX3_statesOf_0 : List UInt8 := dkwX3_statesOf_0 ++ dktX3_statesOf_1
theorem dksX3_statesOf_0 : cX3_statesOf.data.toList.drop 0 = dktX3_statesOf_0 := by decide +kernel
theorem dksX3_statesOf_1 : cX3_statesOf.data.toList.drop 22 = dktX3_statesOf_1 := dk_seg dksX3_statesOf_0 22 rfl rfl
theorem dX3_statesOf_0 : decode cX3_statesOf 0 = .ok (.iconst 0, 1) := dk_3 (dk_at dksX3_statesOf_0 0 rfl rfl)
theorem dX3_statesOf_1 : decode cX3_statesOf 1 = .ok (.istore_n 2, 1) := dk_61 (dk_at dksX3_statesOf_0 1 rfl rfl)
theorem dX3_statesOf_2 : decode cX3_statesOf 2 = .ok (.iconst 0, 1) := dk_3 (dk_at dksX3_statesOf_0 2 rfl rfl)
theorem dX3_statesOf_3 : decode cX3_statesOf 3 = .ok (.istore_n 3, 1) := dk_62 (dk_at dksX3_statesOf_0 3 rfl rfl)
theorem dX3_statesOf_4 : decode cX3_statesOf 4 = .ok (.iload_n 3, 1) := dk_29 (dk_at dksX3_statesOf_0 4 rfl rfl)
theorem dX3_statesOf_5 : decode cX3_statesOf 5 = .ok (.aload_n 0, 1) := dk_42 (dk_at dksX3_statesOf_0 5 rfl rfl)
theorem dX3_statesOf_6 : decode cX3_statesOf 6 = .ok (.getfield 7, 3) := dk_180 0 7 (dk_at dksX3_statesOf_0 6 rfl rfl)
theorem dX3_statesOf_9 : decode cX3_statesOf 9 = .ok (.iconst 1, 1) := dk_4 (dk_at dksX3_statesOf_0 9 rfl rfl)
theorem dX3_statesOf_10 : decode cX3_statesOf 10 = .ok (.iaload, 1) := dk_46 (dk_at dksX3_statesOf_0 10 rfl rfl)
theorem dX3_statesOf_11 : decode cX3_statesOf 11 = .ok (.if_icmp .ge 27, 3) := dk_162 0 27 (dk_at dksX3_statesOf_0 11 rfl rfl)
theorem dX3_statesOf_14 : decode cX3_statesOf 14 = .ok (.iload_n 2, 1) := dk_28 (dk_at dksX3_statesOf_0 14 rfl rfl)
theorem dX3_statesOf_15 : decode cX3_statesOf 15 = .ok (.aload_n 0, 1) := dk_42 (dk_at dksX3_statesOf_0 15 rfl rfl)
theorem dX3_statesOf_16 : decode cX3_statesOf 16 = .ok (.getfield 53, 3) := dk_180 0 53 (dk_at dksX3_statesOf_0 16 rfl rfl)
theorem dX3_statesOf_19 : decode cX3_statesOf 19 = .ok (.iload_n 3, 1) := dk_29 (dk_at dksX3_statesOf_0 19 rfl rfl)
theorem dX3_statesOf_20 : decode cX3_statesOf 20 = .ok (.iaload, 1) := dk_46 (dk_at dksX3_statesOf_0 20 rfl rfl)
theorem dX3_statesOf_21 : decode cX3_statesOf 21 = .ok (.iload_n 1, 1) := dk_27 (dk_at dksX3_statesOf_0 21 rfl rfl)
theorem dX3_statesOf_22 : decode cX3_statesOf 22 = .ok (.if_icmp .ne 7, 3) := dk_160 0 7 (dk_at dksX3_statesOf_1 0 rfl rfl)
theorem dX3_statesOf_25 : decode cX3_statesOf 25 = .ok (.iconst 1, 1) := dk_4 (dk_at dksX3_statesOf_1 3 rfl rfl)
theorem dX3_statesOf_26 : decode cX3_statesOf 26 = .ok (.goto 4, 3) := dk_167 0 4 (dk_at dksX3_statesOf_1 4 rfl rfl)
theorem dX3_statesOf_29 : decode cX3_statesOf 29 = .ok (.iconst 0, 1) := dk_3 (dk_at dksX3_statesOf_1 7 rfl rfl)
theorem dX3_statesOf_30 : decode cX3_statesOf 30 = .ok (.iadd, 1) := dk_96 (dk_at dksX3_statesOf_1 8 rfl rfl)
theorem dX3_statesOf_31 : decode cX3_statesOf 31 = .ok (.istore_n 2, 1) := dk_61 (dk_at dksX3_statesOf_1 9 rfl rfl)
theorem dX3_statesOf_32 : decode cX3_statesOf 32 = .ok (.iinc 3 1, 3) := dk_132 3 1 (dk_at dksX3_statesOf_1 10 rfl rfl)
theorem dX3_statesOf_35 : decode cX3_statesOf 35 = .ok (.goto (-31), 3) := dk_167 255 225 (dk_at dksX3_statesOf_1 13 rfl rfl)
theorem dX3_statesOf_38 : decode cX3_statesOf 38 = .ok (.iload_n 2, 1) := dk_28 (dk_at dksX3_statesOf_1 16 rfl rfl)
theorem dX3_statesOf_39 : decode cX3_statesOf 39 = .ok (.ireturn, 1) := dk_172 (dk_at dksX3_statesOf_1 17 rfl rfl)
abbrev cX3_sentLine : ByteArray := prog_18_method_73_code
def yX3_sentLine : MethodName := ⟨RX3, "sentLine", "(II)I"⟩
def dkwX3_sentLine_4 : List UInt8 := [167, 0, 9, 42, 180, 0, 62, 27, 46, 172]
abbrev dktX3_sentLine_4 : List UInt8 := dkwX3_sentLine_4 ++ []
def dkwX3_sentLine_3 : List UInt8 := [5, 160, 0, 12, 42, 180, 0, 59, 27, 46, 167, 0, 22, 28, 6, 160, 0, 11, 42, 27, 182, 1, 3]
abbrev dktX3_sentLine_3 : List UInt8 := dkwX3_sentLine_3 ++ dktX3_sentLine_4
def dkwX3_sentLine_2 : List UInt8 := [42, 180, 0, 53, 27, 46, 167, 0, 50, 28, 4, 160, 0, 12, 42, 180, 0, 56, 27, 46, 167, 0, 36, 28]
abbrev dktX3_sentLine_2 : List UInt8 := dkwX3_sentLine_2 ++ dktX3_sentLine_3
def dkwX3_sentLine_1 : List UInt8 := [167, 0, 4, 5, 181, 0, 90, 42, 180, 0, 90, 158, 0, 5, 3, 172, 42, 182, 1, 21, 28, 154, 0, 12]
abbrev dktX3_sentLine_1 : List UInt8 := dkwX3_sentLine_1 ++ dktX3_sentLine_2
def dkwX3_sentLine_0 : List UInt8 := [42, 42, 27, 182, 0, 194, 154, 0, 7, 4, 167, 0, 17, 28, 3, 7, 184, 0, 124, 153, 0, 7, 3]
abbrev dktX3_sentLine_0 : List UInt8 := dkwX3_sentLine_0 ++ dktX3_sentLine_1
theorem dksX3_sentLine_0 : cX3_sentLine.data.toList.drop 0 = dktX3_sentLine_0 := by decide +kernel
theorem dksX3_sentLine_1 : cX3_sentLine.data.toList.drop 23 = dktX3_sentLine_1 := dk_seg dksX3_sentLine_0 23 rfl rfl
theorem dksX3_sentLine_2 : cX3_sentLine.data.toList.drop 47 = dktX3_sentLine_2 := dk_seg dksX3_sentLine_1 24 rfl rfl
theorem dksX3_sentLine_3 : cX3_sentLine.data.toList.drop 71 = dktX3_sentLine_3 := dk_seg dksX3_sentLine_2 24 rfl rfl
theorem dksX3_sentLine_4 : cX3_sentLine.data.toList.drop 94 = dktX3_sentLine_4 := dk_seg dksX3_sentLine_3 23 rfl rfl
theorem dX3_sentLine_0 : decode cX3_sentLine 0 = .ok (.aload_n 0, 1) := dk_42 (dk_at dksX3_sentLine_0 0 rfl rfl)
theorem dX3_sentLine_1 : decode cX3_sentLine 1 = .ok (.aload_n 0, 1) := dk_42 (dk_at dksX3_sentLine_0 1 rfl rfl)
theorem dX3_sentLine_2 : decode cX3_sentLine 2 = .ok (.iload_n 1, 1) := dk_27 (dk_at dksX3_sentLine_0 2 rfl rfl)
theorem dX3_sentLine_3 : decode cX3_sentLine 3 = .ok (.invokevirtual 194, 3) := dk_182 0 194 (dk_at dksX3_sentLine_0 3 rfl rfl)
theorem dX3_sentLine_6 : decode cX3_sentLine 6 = .ok (.ifCond .ne 7, 3) := dk_154 0 7 (dk_at dksX3_sentLine_0 6 rfl rfl)
theorem dX3_sentLine_9 : decode cX3_sentLine 9 = .ok (.iconst 1, 1) := dk_4 (dk_at dksX3_sentLine_0 9 rfl rfl)
theorem dX3_sentLine_10 : decode cX3_sentLine 10 = .ok (.goto 17, 3) := dk_167 0 17 (dk_at dksX3_sentLine_0 10 rfl rfl)
theorem dX3_sentLine_13 : decode cX3_sentLine 13 = .ok (.iload_n 2, 1) := dk_28 (dk_at dksX3_sentLine_0 13 rfl rfl)
theorem dX3_sentLine_14 : decode cX3_sentLine 14 = .ok (.iconst 0, 1) := dk_3 (dk_at dksX3_sentLine_0 14 rfl rfl)
theorem dX3_sentLine_15 : decode cX3_sentLine 15 = .ok (.iconst 4, 1) := dk_7 (dk_at dksX3_sentLine_0 15 rfl rfl)
theorem dX3_sentLine_16 : decode cX3_sentLine 16 = .ok (.invokestatic 124, 3) := dk_184 0 124 (dk_at dksX3_sentLine_0 16 rfl rfl)
theorem dX3_sentLine_19 : decode cX3_sentLine 19 = .ok (.ifCond .eq 7, 3) := dk_153 0 7 (dk_at dksX3_sentLine_0 19 rfl rfl)
theorem dX3_sentLine_22 : decode cX3_sentLine 22 = .ok (.iconst 0, 1) := dk_3 (dk_at dksX3_sentLine_0 22 rfl rfl)
theorem dX3_sentLine_23 : decode cX3_sentLine 23 = .ok (.goto 4, 3) := dk_167 0 4 (dk_at dksX3_sentLine_1 0 rfl rfl)
theorem dX3_sentLine_26 : decode cX3_sentLine 26 = .ok (.iconst 2, 1) := dk_5 (dk_at dksX3_sentLine_1 3 rfl rfl)
theorem dX3_sentLine_27 : decode cX3_sentLine 27 = .ok (.putfield 90, 3) := dk_181 0 90 (dk_at dksX3_sentLine_1 4 rfl rfl)
theorem dX3_sentLine_30 : decode cX3_sentLine 30 = .ok (.aload_n 0, 1) := dk_42 (dk_at dksX3_sentLine_1 7 rfl rfl)
theorem dX3_sentLine_31 : decode cX3_sentLine 31 = .ok (.getfield 90, 3) := dk_180 0 90 (dk_at dksX3_sentLine_1 8 rfl rfl)
theorem dX3_sentLine_34 : decode cX3_sentLine 34 = .ok (.ifCond .le 5, 3) := dk_158 0 5 (dk_at dksX3_sentLine_1 11 rfl rfl)
theorem dX3_sentLine_37 : decode cX3_sentLine 37 = .ok (.iconst 0, 1) := dk_3 (dk_at dksX3_sentLine_1 14 rfl rfl)
theorem dX3_sentLine_38 : decode cX3_sentLine 38 = .ok (.ireturn, 1) := dk_172 (dk_at dksX3_sentLine_1 15 rfl rfl)
theorem dX3_sentLine_39 : decode cX3_sentLine 39 = .ok (.aload_n 0, 1) := dk_42 (dk_at dksX3_sentLine_1 16 rfl rfl)
theorem dX3_sentLine_40 : decode cX3_sentLine 40 = .ok (.invokevirtual 277, 3) := dk_182 1 21 (dk_at dksX3_sentLine_1 17 rfl rfl)
theorem dX3_sentLine_43 : decode cX3_sentLine 43 = .ok (.iload_n 2, 1) := dk_28 (dk_at dksX3_sentLine_1 20 rfl rfl)
theorem dX3_sentLine_44 : decode cX3_sentLine 44 = .ok (.ifCond .ne 12, 3) := dk_154 0 12 (dk_at dksX3_sentLine_1 21 rfl rfl)
theorem dX3_sentLine_47 : decode cX3_sentLine 47 = .ok (.aload_n 0, 1) := dk_42 (dk_at dksX3_sentLine_2 0 rfl rfl)
theorem dX3_sentLine_48 : decode cX3_sentLine 48 = .ok (.getfield 53, 3) := dk_180 0 53 (dk_at dksX3_sentLine_2 1 rfl rfl)
theorem dX3_sentLine_51 : decode cX3_sentLine 51 = .ok (.iload_n 1, 1) := dk_27 (dk_at dksX3_sentLine_2 4 rfl rfl)
theorem dX3_sentLine_52 : decode cX3_sentLine 52 = .ok (.iaload, 1) := dk_46 (dk_at dksX3_sentLine_2 5 rfl rfl)
theorem dX3_sentLine_53 : decode cX3_sentLine 53 = .ok (.goto 50, 3) := dk_167 0 50 (dk_at dksX3_sentLine_2 6 rfl rfl)
theorem dX3_sentLine_56 : decode cX3_sentLine 56 = .ok (.iload_n 2, 1) := dk_28 (dk_at dksX3_sentLine_2 9 rfl rfl)
theorem dX3_sentLine_57 : decode cX3_sentLine 57 = .ok (.iconst 1, 1) := dk_4 (dk_at dksX3_sentLine_2 10 rfl rfl)
theorem dX3_sentLine_58 : decode cX3_sentLine 58 = .ok (.if_icmp .ne 12, 3) := dk_160 0 12 (dk_at dksX3_sentLine_2 11 rfl rfl)
theorem dX3_sentLine_61 : decode cX3_sentLine 61 = .ok (.aload_n 0, 1) := dk_42 (dk_at dksX3_sentLine_2 14 rfl rfl)
theorem dX3_sentLine_62 : decode cX3_sentLine 62 = .ok (.getfield 56, 3) := dk_180 0 56 (dk_at dksX3_sentLine_2 15 rfl rfl)
theorem dX3_sentLine_65 : decode cX3_sentLine 65 = .ok (.iload_n 1, 1) := dk_27 (dk_at dksX3_sentLine_2 18 rfl rfl)
theorem dX3_sentLine_66 : decode cX3_sentLine 66 = .ok (.iaload, 1) := dk_46 (dk_at dksX3_sentLine_2 19 rfl rfl)
theorem dX3_sentLine_67 : decode cX3_sentLine 67 = .ok (.goto 36, 3) := dk_167 0 36 (dk_at dksX3_sentLine_2 20 rfl rfl)
theorem dX3_sentLine_70 : decode cX3_sentLine 70 = .ok (.iload_n 2, 1) := dk_28 (dk_at dksX3_sentLine_2 23 rfl rfl)
theorem dX3_sentLine_71 : decode cX3_sentLine 71 = .ok (.iconst 2, 1) := dk_5 (dk_at dksX3_sentLine_3 0 rfl rfl)
theorem dX3_sentLine_72 : decode cX3_sentLine 72 = .ok (.if_icmp .ne 12, 3) := dk_160 0 12 (dk_at dksX3_sentLine_3 1 rfl rfl)
theorem dX3_sentLine_75 : decode cX3_sentLine 75 = .ok (.aload_n 0, 1) := dk_42 (dk_at dksX3_sentLine_3 4 rfl rfl)
theorem dX3_sentLine_76 : decode cX3_sentLine 76 = .ok (.getfield 59, 3) := dk_180 0 59 (dk_at dksX3_sentLine_3 5 rfl rfl)
theorem dX3_sentLine_79 : decode cX3_sentLine 79 = .ok (.iload_n 1, 1) := dk_27 (dk_at dksX3_sentLine_3 8 rfl rfl)
theorem dX3_sentLine_80 : decode cX3_sentLine 80 = .ok (.iaload, 1) := dk_46 (dk_at dksX3_sentLine_3 9 rfl rfl)
theorem dX3_sentLine_81 : decode cX3_sentLine 81 = .ok (.goto 22, 3) := dk_167 0 22 (dk_at dksX3_sentLine_3 10 rfl rfl)
theorem dX3_sentLine_84 : decode cX3_sentLine 84 = .ok (.iload_n 2, 1) := dk_28 (dk_at dksX3_sentLine_3 13 rfl rfl)
theorem dX3_sentLine_85 : decode cX3_sentLine 85 = .ok (.iconst 3, 1) := dk_6 (dk_at dksX3_sentLine_3 14 rfl rfl)
theorem dX3_sentLine_86 : decode cX3_sentLine 86 = .ok (.if_icmp .ne 11, 3) := dk_160 0 11 (dk_at dksX3_sentLine_3 15 rfl rfl)
theorem dX3_sentLine_89 : decode cX3_sentLine 89 = .ok (.aload_n 0, 1) := dk_42 (dk_at dksX3_sentLine_3 18 rfl rfl)
theorem dX3_sentLine_90 : decode cX3_sentLine 90 = .ok (.iload_n 1, 1) := dk_27 (dk_at dksX3_sentLine_3 19 rfl rfl)
theorem dX3_sentLine_91 : decode cX3_sentLine 91 = .ok (.invokevirtual 259, 3) := dk_182 1 3 (dk_at dksX3_sentLine_3 20 rfl rfl)
theorem dX3_sentLine_94 : decode cX3_sentLine 94 = .ok (.goto 9, 3) := dk_167 0 9 (dk_at dksX3_sentLine_4 0 rfl rfl)
theorem dX3_sentLine_97 : decode cX3_sentLine 97 = .ok (.aload_n 0, 1) := dk_42 (dk_at dksX3_sentLine_4 3 rfl rfl)
theorem dX3_sentLine_98 : decode cX3_sentLine 98 = .ok (.getfield 62, 3) := dk_180 0 62 (dk_at dksX3_sentLine_4 4 rfl rfl)
theorem dX3_sentLine_101 : decode cX3_sentLine 101 = .ok (.iload_n 1, 1) := dk_27 (dk_at dksX3_sentLine_4 7 rfl rfl)
theorem dX3_sentLine_102 : decode cX3_sentLine 102 = .ok (.iaload, 1) := dk_46 (dk_at dksX3_sentLine_4 8 rfl rfl)
theorem dX3_sentLine_103 : decode cX3_sentLine 103 = .ok (.ireturn, 1) := dk_172 (dk_at dksX3_sentLine_4 9 rfl rfl)
abbrev cX3_received : ByteArray := prog_18_method_74_code
def yX3_received : MethodName := ⟨RX3, "received", "(II)I"⟩
def dkwX3_received_1 : List UInt8 := [158, 0, 5, 3, 172, 42, 182, 1, 21, 42, 180, 0, 50, 16, 40, 27, 104, 28, 96, 46, 172]
abbrev dktX3_received_1 : List UInt8 := dkwX3_received_1 ++ []
def dkwX3_received_0 : List UInt8 := [42, 42, 27, 28, 182, 0, 197, 153, 0, 7, 3, 167, 0, 4, 4, 181, 0, 90, 42, 180, 0, 90]
abbrev dktX3_received_0 : List UInt8 := dkwX3_received_0 ++ dktX3_received_1
theorem dksX3_received_0 : cX3_received.data.toList.drop 0 = dktX3_received_0 := by decide +kernel
theorem dksX3_received_1 : cX3_received.data.toList.drop 22 = dktX3_received_1 := dk_seg dksX3_received_0 22 rfl rfl
theorem dX3_received_0 : decode cX3_received 0 = .ok (.aload_n 0, 1) := dk_42 (dk_at dksX3_received_0 0 rfl rfl)
theorem dX3_received_1 : decode cX3_received 1 = .ok (.aload_n 0, 1) := dk_42 (dk_at dksX3_received_0 1 rfl rfl)
theorem dX3_received_2 : decode cX3_received 2 = .ok (.iload_n 1, 1) := dk_27 (dk_at dksX3_received_0 2 rfl rfl)
theorem dX3_received_3 : decode cX3_received 3 = .ok (.iload_n 2, 1) := dk_28 (dk_at dksX3_received_0 3 rfl rfl)
theorem dX3_received_4 : decode cX3_received 4 = .ok (.invokevirtual 197, 3) := dk_182 0 197 (dk_at dksX3_received_0 4 rfl rfl)
theorem dX3_received_7 : decode cX3_received 7 = .ok (.ifCond .eq 7, 3) := dk_153 0 7 (dk_at dksX3_received_0 7 rfl rfl)
theorem dX3_received_10 : decode cX3_received 10 = .ok (.iconst 0, 1) := dk_3 (dk_at dksX3_received_0 10 rfl rfl)
theorem dX3_received_11 : decode cX3_received 11 = .ok (.goto 4, 3) := dk_167 0 4 (dk_at dksX3_received_0 11 rfl rfl)
theorem dX3_received_14 : decode cX3_received 14 = .ok (.iconst 1, 1) := dk_4 (dk_at dksX3_received_0 14 rfl rfl)
theorem dX3_received_15 : decode cX3_received 15 = .ok (.putfield 90, 3) := dk_181 0 90 (dk_at dksX3_received_0 15 rfl rfl)
theorem dX3_received_18 : decode cX3_received 18 = .ok (.aload_n 0, 1) := dk_42 (dk_at dksX3_received_0 18 rfl rfl)
theorem dX3_received_19 : decode cX3_received 19 = .ok (.getfield 90, 3) := dk_180 0 90 (dk_at dksX3_received_0 19 rfl rfl)
theorem dX3_received_22 : decode cX3_received 22 = .ok (.ifCond .le 5, 3) := dk_158 0 5 (dk_at dksX3_received_1 0 rfl rfl)
theorem dX3_received_25 : decode cX3_received 25 = .ok (.iconst 0, 1) := dk_3 (dk_at dksX3_received_1 3 rfl rfl)
theorem dX3_received_26 : decode cX3_received 26 = .ok (.ireturn, 1) := dk_172 (dk_at dksX3_received_1 4 rfl rfl)
theorem dX3_received_27 : decode cX3_received 27 = .ok (.aload_n 0, 1) := dk_42 (dk_at dksX3_received_1 5 rfl rfl)
theorem dX3_received_28 : decode cX3_received 28 = .ok (.invokevirtual 277, 3) := dk_182 1 21 (dk_at dksX3_received_1 6 rfl rfl)
theorem dX3_received_31 : decode cX3_received 31 = .ok (.aload_n 0, 1) := dk_42 (dk_at dksX3_received_1 9 rfl rfl)
theorem dX3_received_32 : decode cX3_received 32 = .ok (.getfield 50, 3) := dk_180 0 50 (dk_at dksX3_received_1 10 rfl rfl)
theorem dX3_received_35 : decode cX3_received 35 = .ok (.bipush 40, 2) := dk_16 40 (dk_at dksX3_received_1 13 rfl rfl)
theorem dX3_received_37 : decode cX3_received 37 = .ok (.iload_n 1, 1) := dk_27 (dk_at dksX3_received_1 15 rfl rfl)
theorem dX3_received_38 : decode cX3_received 38 = .ok (.imul, 1) := dk_104 (dk_at dksX3_received_1 16 rfl rfl)
theorem dX3_received_39 : decode cX3_received 39 = .ok (.iload_n 2, 1) := dk_28 (dk_at dksX3_received_1 17 rfl rfl)
theorem dX3_received_40 : decode cX3_received 40 = .ok (.iadd, 1) := dk_96 (dk_at dksX3_received_1 18 rfl rfl)
theorem dX3_received_41 : decode cX3_received 41 = .ok (.iaload, 1) := dk_46 (dk_at dksX3_received_1 19 rfl rfl)
theorem dX3_received_42 : decode cX3_received 42 = .ok (.ireturn, 1) := dk_172 (dk_at dksX3_received_1 20 rfl rfl)
abbrev cX3_harm : ByteArray := prog_18_method_77_code
def yX3_harm : MethodName := ⟨RX3, "harm", "(II)I"⟩
def dkwX3_harm_2 : List UInt8 := [182, 1, 33, 172]
abbrev dktX3_harm_2 : List UInt8 := dkwX3_harm_2 ++ []
def dkwX3_harm_1 : List UInt8 := [167, 0, 4, 5, 181, 0, 90, 42, 180, 0, 90, 158, 0, 5, 3, 172, 42, 27, 182, 1, 30, 42, 28]
abbrev dktX3_harm_1 : List UInt8 := dkwX3_harm_1 ++ dktX3_harm_2
def dkwX3_harm_0 : List UInt8 := [42, 42, 27, 182, 0, 194, 154, 0, 7, 4, 167, 0, 17, 28, 3, 5, 184, 0, 124, 153, 0, 7, 3]
abbrev dktX3_harm_0 : List UInt8 := dkwX3_harm_0 ++ dktX3_harm_1
theorem dksX3_harm_0 : cX3_harm.data.toList.drop 0 = dktX3_harm_0 := by decide +kernel
theorem dksX3_harm_1 : cX3_harm.data.toList.drop 23 = dktX3_harm_1 := dk_seg dksX3_harm_0 23 rfl rfl
theorem dksX3_harm_2 : cX3_harm.data.toList.drop 46 = dktX3_harm_2 := dk_seg dksX3_harm_1 23 rfl rfl
theorem dX3_harm_0 : decode cX3_harm 0 = .ok (.aload_n 0, 1) := dk_42 (dk_at dksX3_harm_0 0 rfl rfl)
theorem dX3_harm_1 : decode cX3_harm 1 = .ok (.aload_n 0, 1) := dk_42 (dk_at dksX3_harm_0 1 rfl rfl)
theorem dX3_harm_2 : decode cX3_harm 2 = .ok (.iload_n 1, 1) := dk_27 (dk_at dksX3_harm_0 2 rfl rfl)
theorem dX3_harm_3 : decode cX3_harm 3 = .ok (.invokevirtual 194, 3) := dk_182 0 194 (dk_at dksX3_harm_0 3 rfl rfl)
theorem dX3_harm_6 : decode cX3_harm 6 = .ok (.ifCond .ne 7, 3) := dk_154 0 7 (dk_at dksX3_harm_0 6 rfl rfl)
theorem dX3_harm_9 : decode cX3_harm 9 = .ok (.iconst 1, 1) := dk_4 (dk_at dksX3_harm_0 9 rfl rfl)
theorem dX3_harm_10 : decode cX3_harm 10 = .ok (.goto 17, 3) := dk_167 0 17 (dk_at dksX3_harm_0 10 rfl rfl)
theorem dX3_harm_13 : decode cX3_harm 13 = .ok (.iload_n 2, 1) := dk_28 (dk_at dksX3_harm_0 13 rfl rfl)
theorem dX3_harm_14 : decode cX3_harm 14 = .ok (.iconst 0, 1) := dk_3 (dk_at dksX3_harm_0 14 rfl rfl)
theorem dX3_harm_15 : decode cX3_harm 15 = .ok (.iconst 2, 1) := dk_5 (dk_at dksX3_harm_0 15 rfl rfl)
theorem dX3_harm_16 : decode cX3_harm 16 = .ok (.invokestatic 124, 3) := dk_184 0 124 (dk_at dksX3_harm_0 16 rfl rfl)
theorem dX3_harm_19 : decode cX3_harm 19 = .ok (.ifCond .eq 7, 3) := dk_153 0 7 (dk_at dksX3_harm_0 19 rfl rfl)
theorem dX3_harm_22 : decode cX3_harm 22 = .ok (.iconst 0, 1) := dk_3 (dk_at dksX3_harm_0 22 rfl rfl)
theorem dX3_harm_23 : decode cX3_harm 23 = .ok (.goto 4, 3) := dk_167 0 4 (dk_at dksX3_harm_1 0 rfl rfl)
theorem dX3_harm_26 : decode cX3_harm 26 = .ok (.iconst 2, 1) := dk_5 (dk_at dksX3_harm_1 3 rfl rfl)
theorem dX3_harm_27 : decode cX3_harm 27 = .ok (.putfield 90, 3) := dk_181 0 90 (dk_at dksX3_harm_1 4 rfl rfl)
theorem dX3_harm_30 : decode cX3_harm 30 = .ok (.aload_n 0, 1) := dk_42 (dk_at dksX3_harm_1 7 rfl rfl)
theorem dX3_harm_31 : decode cX3_harm 31 = .ok (.getfield 90, 3) := dk_180 0 90 (dk_at dksX3_harm_1 8 rfl rfl)
theorem dX3_harm_34 : decode cX3_harm 34 = .ok (.ifCond .le 5, 3) := dk_158 0 5 (dk_at dksX3_harm_1 11 rfl rfl)
theorem dX3_harm_37 : decode cX3_harm 37 = .ok (.iconst 0, 1) := dk_3 (dk_at dksX3_harm_1 14 rfl rfl)
theorem dX3_harm_38 : decode cX3_harm 38 = .ok (.ireturn, 1) := dk_172 (dk_at dksX3_harm_1 15 rfl rfl)
theorem dX3_harm_39 : decode cX3_harm 39 = .ok (.aload_n 0, 1) := dk_42 (dk_at dksX3_harm_1 16 rfl rfl)
theorem dX3_harm_40 : decode cX3_harm 40 = .ok (.iload_n 1, 1) := dk_27 (dk_at dksX3_harm_1 17 rfl rfl)
theorem dX3_harm_41 : decode cX3_harm 41 = .ok (.invokevirtual 286, 3) := dk_182 1 30 (dk_at dksX3_harm_1 18 rfl rfl)
theorem dX3_harm_44 : decode cX3_harm 44 = .ok (.aload_n 0, 1) := dk_42 (dk_at dksX3_harm_1 21 rfl rfl)
theorem dX3_harm_45 : decode cX3_harm 45 = .ok (.iload_n 2, 1) := dk_28 (dk_at dksX3_harm_1 22 rfl rfl)
theorem dX3_harm_46 : decode cX3_harm 46 = .ok (.invokevirtual 289, 3) := dk_182 1 33 (dk_at dksX3_harm_2 0 rfl rfl)
theorem dX3_harm_49 : decode cX3_harm 49 = .ok (.ireturn, 1) := dk_172 (dk_at dksX3_harm_2 3 rfl rfl)
abbrev cX3_sendsHarmed : ByteArray := prog_18_method_75_code
def yX3_sendsHarmed : MethodName := ⟨RX3, "sendsHarmed", "(I)V"⟩
def dkwX3_sendsHarmed_2 : List UInt8 := [42, 180, 0, 7, 8, 28, 79, 177]
abbrev dktX3_sendsHarmed_2 : List UInt8 := dkwX3_sendsHarmed_2 ++ []
def dkwX3_sendsHarmed_1 : List UInt8 := [132, 2, 1, 167, 255, 231, 42, 180, 0, 7, 8, 46, 61, 42, 180, 0, 7, 8, 3, 79, 42, 182, 1, 18]
abbrev dktX3_sendsHarmed_1 : List UInt8 := dkwX3_sendsHarmed_1 ++ dktX3_sendsHarmed_2
def dkwX3_sendsHarmed_0 : List UInt8 := [3, 61, 28, 16, 20, 162, 0, 25, 42, 180, 0, 65, 28, 28, 27, 160, 0, 7, 4, 167, 0, 4, 3, 79]
abbrev dktX3_sendsHarmed_0 : List UInt8 := dkwX3_sendsHarmed_0 ++ dktX3_sendsHarmed_1
theorem dksX3_sendsHarmed_0 : cX3_sendsHarmed.data.toList.drop 0 = dktX3_sendsHarmed_0 := by decide +kernel
theorem dksX3_sendsHarmed_1 : cX3_sendsHarmed.data.toList.drop 24 = dktX3_sendsHarmed_1 := dk_seg dksX3_sendsHarmed_0 24 rfl rfl
theorem dksX3_sendsHarmed_2 : cX3_sendsHarmed.data.toList.drop 48 = dktX3_sendsHarmed_2 := dk_seg dksX3_sendsHarmed_1 24 rfl rfl
theorem dX3_sendsHarmed_0 : decode cX3_sendsHarmed 0 = .ok (.iconst 0, 1) := dk_3 (dk_at dksX3_sendsHarmed_0 0 rfl rfl)
theorem dX3_sendsHarmed_1 : decode cX3_sendsHarmed 1 = .ok (.istore_n 2, 1) := dk_61 (dk_at dksX3_sendsHarmed_0 1 rfl rfl)
theorem dX3_sendsHarmed_2 : decode cX3_sendsHarmed 2 = .ok (.iload_n 2, 1) := dk_28 (dk_at dksX3_sendsHarmed_0 2 rfl rfl)
theorem dX3_sendsHarmed_3 : decode cX3_sendsHarmed 3 = .ok (.bipush 20, 2) := dk_16 20 (dk_at dksX3_sendsHarmed_0 3 rfl rfl)
theorem dX3_sendsHarmed_5 : decode cX3_sendsHarmed 5 = .ok (.if_icmp .ge 25, 3) := dk_162 0 25 (dk_at dksX3_sendsHarmed_0 5 rfl rfl)
theorem dX3_sendsHarmed_8 : decode cX3_sendsHarmed 8 = .ok (.aload_n 0, 1) := dk_42 (dk_at dksX3_sendsHarmed_0 8 rfl rfl)
theorem dX3_sendsHarmed_9 : decode cX3_sendsHarmed 9 = .ok (.getfield 65, 3) := dk_180 0 65 (dk_at dksX3_sendsHarmed_0 9 rfl rfl)
theorem dX3_sendsHarmed_12 : decode cX3_sendsHarmed 12 = .ok (.iload_n 2, 1) := dk_28 (dk_at dksX3_sendsHarmed_0 12 rfl rfl)
theorem dX3_sendsHarmed_13 : decode cX3_sendsHarmed 13 = .ok (.iload_n 2, 1) := dk_28 (dk_at dksX3_sendsHarmed_0 13 rfl rfl)
theorem dX3_sendsHarmed_14 : decode cX3_sendsHarmed 14 = .ok (.iload_n 1, 1) := dk_27 (dk_at dksX3_sendsHarmed_0 14 rfl rfl)
theorem dX3_sendsHarmed_15 : decode cX3_sendsHarmed 15 = .ok (.if_icmp .ne 7, 3) := dk_160 0 7 (dk_at dksX3_sendsHarmed_0 15 rfl rfl)
theorem dX3_sendsHarmed_18 : decode cX3_sendsHarmed 18 = .ok (.iconst 1, 1) := dk_4 (dk_at dksX3_sendsHarmed_0 18 rfl rfl)
theorem dX3_sendsHarmed_19 : decode cX3_sendsHarmed 19 = .ok (.goto 4, 3) := dk_167 0 4 (dk_at dksX3_sendsHarmed_0 19 rfl rfl)
theorem dX3_sendsHarmed_22 : decode cX3_sendsHarmed 22 = .ok (.iconst 0, 1) := dk_3 (dk_at dksX3_sendsHarmed_0 22 rfl rfl)
theorem dX3_sendsHarmed_23 : decode cX3_sendsHarmed 23 = .ok (.iastore, 1) := dk_79 (dk_at dksX3_sendsHarmed_0 23 rfl rfl)
theorem dX3_sendsHarmed_24 : decode cX3_sendsHarmed 24 = .ok (.iinc 2 1, 3) := dk_132 2 1 (dk_at dksX3_sendsHarmed_1 0 rfl rfl)
theorem dX3_sendsHarmed_27 : decode cX3_sendsHarmed 27 = .ok (.goto (-25), 3) := dk_167 255 231 (dk_at dksX3_sendsHarmed_1 3 rfl rfl)
theorem dX3_sendsHarmed_30 : decode cX3_sendsHarmed 30 = .ok (.aload_n 0, 1) := dk_42 (dk_at dksX3_sendsHarmed_1 6 rfl rfl)
theorem dX3_sendsHarmed_31 : decode cX3_sendsHarmed 31 = .ok (.getfield 7, 3) := dk_180 0 7 (dk_at dksX3_sendsHarmed_1 7 rfl rfl)
theorem dX3_sendsHarmed_34 : decode cX3_sendsHarmed 34 = .ok (.iconst 5, 1) := dk_8 (dk_at dksX3_sendsHarmed_1 10 rfl rfl)
theorem dX3_sendsHarmed_35 : decode cX3_sendsHarmed 35 = .ok (.iaload, 1) := dk_46 (dk_at dksX3_sendsHarmed_1 11 rfl rfl)
theorem dX3_sendsHarmed_36 : decode cX3_sendsHarmed 36 = .ok (.istore_n 2, 1) := dk_61 (dk_at dksX3_sendsHarmed_1 12 rfl rfl)
theorem dX3_sendsHarmed_37 : decode cX3_sendsHarmed 37 = .ok (.aload_n 0, 1) := dk_42 (dk_at dksX3_sendsHarmed_1 13 rfl rfl)
theorem dX3_sendsHarmed_38 : decode cX3_sendsHarmed 38 = .ok (.getfield 7, 3) := dk_180 0 7 (dk_at dksX3_sendsHarmed_1 14 rfl rfl)
theorem dX3_sendsHarmed_41 : decode cX3_sendsHarmed 41 = .ok (.iconst 5, 1) := dk_8 (dk_at dksX3_sendsHarmed_1 17 rfl rfl)
theorem dX3_sendsHarmed_42 : decode cX3_sendsHarmed 42 = .ok (.iconst 0, 1) := dk_3 (dk_at dksX3_sendsHarmed_1 18 rfl rfl)
theorem dX3_sendsHarmed_43 : decode cX3_sendsHarmed 43 = .ok (.iastore, 1) := dk_79 (dk_at dksX3_sendsHarmed_1 19 rfl rfl)
theorem dX3_sendsHarmed_44 : decode cX3_sendsHarmed 44 = .ok (.aload_n 0, 1) := dk_42 (dk_at dksX3_sendsHarmed_1 20 rfl rfl)
theorem dX3_sendsHarmed_45 : decode cX3_sendsHarmed 45 = .ok (.invokevirtual 274, 3) := dk_182 1 18 (dk_at dksX3_sendsHarmed_1 21 rfl rfl)
theorem dX3_sendsHarmed_48 : decode cX3_sendsHarmed 48 = .ok (.aload_n 0, 1) := dk_42 (dk_at dksX3_sendsHarmed_2 0 rfl rfl)
theorem dX3_sendsHarmed_49 : decode cX3_sendsHarmed 49 = .ok (.getfield 7, 3) := dk_180 0 7 (dk_at dksX3_sendsHarmed_2 1 rfl rfl)
theorem dX3_sendsHarmed_52 : decode cX3_sendsHarmed 52 = .ok (.iconst 5, 1) := dk_8 (dk_at dksX3_sendsHarmed_2 4 rfl rfl)
theorem dX3_sendsHarmed_53 : decode cX3_sendsHarmed 53 = .ok (.iload_n 2, 1) := dk_28 (dk_at dksX3_sendsHarmed_2 5 rfl rfl)
theorem dX3_sendsHarmed_54 : decode cX3_sendsHarmed 54 = .ok (.iastore, 1) := dk_79 (dk_at dksX3_sendsHarmed_2 6 rfl rfl)
theorem dX3_sendsHarmed_55 : decode cX3_sendsHarmed 55 = .ok (.return_, 1) := dk_177 (dk_at dksX3_sendsHarmed_2 7 rfl rfl)
abbrev cX3_harmOf : ByteArray := prog_18_method_76_code
def yX3_harmOf : MethodName := ⟨RX3, "harmOf", "(I)I"⟩
def dkwX3_harmOf_3 : List UInt8 := [167, 0, 16, 27, 4, 160, 0, 10, 42, 182, 1, 24, 167, 0, 4, 29, 172]
abbrev dktX3_harmOf_3 : List UInt8 := dkwX3_harmOf_3 ++ []
def dkwX3_harmOf_2 : List UInt8 := [21, 5, 153, 0, 8, 21, 4, 167, 0, 4, 29, 62, 132, 4, 1, 167, 255, 201, 27, 154, 0, 7, 28]
abbrev dktX3_harmOf_2 : List UInt8 := dkwX3_harmOf_2 ++ dktX3_harmOf_3
def dkwX3_harmOf_1 : List UInt8 := [158, 0, 7, 4, 167, 0, 4, 3, 54, 5, 28, 21, 5, 153, 0, 7, 4, 167, 0, 4, 3, 96, 61]
abbrev dktX3_harmOf_1 : List UInt8 := dkwX3_harmOf_1 ++ dktX3_harmOf_2
def dkwX3_harmOf_0 : List UInt8 := [3, 61, 2, 62, 3, 54, 4, 21, 4, 42, 180, 0, 7, 4, 46, 162, 0, 50, 42, 21, 4, 182, 1, 3]
abbrev dktX3_harmOf_0 : List UInt8 := dkwX3_harmOf_0 ++ dktX3_harmOf_1
theorem dksX3_harmOf_0 : cX3_harmOf.data.toList.drop 0 = dktX3_harmOf_0 := by decide +kernel
theorem dksX3_harmOf_1 : cX3_harmOf.data.toList.drop 24 = dktX3_harmOf_1 := dk_seg dksX3_harmOf_0 24 rfl rfl
theorem dksX3_harmOf_2 : cX3_harmOf.data.toList.drop 47 = dktX3_harmOf_2 := dk_seg dksX3_harmOf_1 23 rfl rfl
theorem dksX3_harmOf_3 : cX3_harmOf.data.toList.drop 70 = dktX3_harmOf_3 := dk_seg dksX3_harmOf_2 23 rfl rfl
theorem dX3_harmOf_0 : decode cX3_harmOf 0 = .ok (.iconst 0, 1) := dk_3 (dk_at dksX3_harmOf_0 0 rfl rfl)
theorem dX3_harmOf_1 : decode cX3_harmOf 1 = .ok (.istore_n 2, 1) := dk_61 (dk_at dksX3_harmOf_0 1 rfl rfl)
theorem dX3_harmOf_2 : decode cX3_harmOf 2 = .ok (.iconst (-1), 1) := dk_2 (dk_at dksX3_harmOf_0 2 rfl rfl)
theorem dX3_harmOf_3 : decode cX3_harmOf 3 = .ok (.istore_n 3, 1) := dk_62 (dk_at dksX3_harmOf_0 3 rfl rfl)
theorem dX3_harmOf_4 : decode cX3_harmOf 4 = .ok (.iconst 0, 1) := dk_3 (dk_at dksX3_harmOf_0 4 rfl rfl)
theorem dX3_harmOf_5 : decode cX3_harmOf 5 = .ok (.istore 4, 2) := dk_54 4 (dk_at dksX3_harmOf_0 5 rfl rfl)
theorem dX3_harmOf_7 : decode cX3_harmOf 7 = .ok (.iload 4, 2) := dk_21 4 (dk_at dksX3_harmOf_0 7 rfl rfl)
theorem dX3_harmOf_9 : decode cX3_harmOf 9 = .ok (.aload_n 0, 1) := dk_42 (dk_at dksX3_harmOf_0 9 rfl rfl)
theorem dX3_harmOf_10 : decode cX3_harmOf 10 = .ok (.getfield 7, 3) := dk_180 0 7 (dk_at dksX3_harmOf_0 10 rfl rfl)
theorem dX3_harmOf_13 : decode cX3_harmOf 13 = .ok (.iconst 1, 1) := dk_4 (dk_at dksX3_harmOf_0 13 rfl rfl)
theorem dX3_harmOf_14 : decode cX3_harmOf 14 = .ok (.iaload, 1) := dk_46 (dk_at dksX3_harmOf_0 14 rfl rfl)
theorem dX3_harmOf_15 : decode cX3_harmOf 15 = .ok (.if_icmp .ge 50, 3) := dk_162 0 50 (dk_at dksX3_harmOf_0 15 rfl rfl)
theorem dX3_harmOf_18 : decode cX3_harmOf 18 = .ok (.aload_n 0, 1) := dk_42 (dk_at dksX3_harmOf_0 18 rfl rfl)
theorem dX3_harmOf_19 : decode cX3_harmOf 19 = .ok (.iload 4, 2) := dk_21 4 (dk_at dksX3_harmOf_0 19 rfl rfl)
theorem dX3_harmOf_21 : decode cX3_harmOf 21 = .ok (.invokevirtual 259, 3) := dk_182 1 3 (dk_at dksX3_harmOf_0 21 rfl rfl)
theorem dX3_harmOf_24 : decode cX3_harmOf 24 = .ok (.ifCond .le 7, 3) := dk_158 0 7 (dk_at dksX3_harmOf_1 0 rfl rfl)
theorem dX3_harmOf_27 : decode cX3_harmOf 27 = .ok (.iconst 1, 1) := dk_4 (dk_at dksX3_harmOf_1 3 rfl rfl)
theorem dX3_harmOf_28 : decode cX3_harmOf 28 = .ok (.goto 4, 3) := dk_167 0 4 (dk_at dksX3_harmOf_1 4 rfl rfl)
theorem dX3_harmOf_31 : decode cX3_harmOf 31 = .ok (.iconst 0, 1) := dk_3 (dk_at dksX3_harmOf_1 7 rfl rfl)
theorem dX3_harmOf_32 : decode cX3_harmOf 32 = .ok (.istore 5, 2) := dk_54 5 (dk_at dksX3_harmOf_1 8 rfl rfl)
theorem dX3_harmOf_34 : decode cX3_harmOf 34 = .ok (.iload_n 2, 1) := dk_28 (dk_at dksX3_harmOf_1 10 rfl rfl)
theorem dX3_harmOf_35 : decode cX3_harmOf 35 = .ok (.iload 5, 2) := dk_21 5 (dk_at dksX3_harmOf_1 11 rfl rfl)
theorem dX3_harmOf_37 : decode cX3_harmOf 37 = .ok (.ifCond .eq 7, 3) := dk_153 0 7 (dk_at dksX3_harmOf_1 13 rfl rfl)
theorem dX3_harmOf_40 : decode cX3_harmOf 40 = .ok (.iconst 1, 1) := dk_4 (dk_at dksX3_harmOf_1 16 rfl rfl)
theorem dX3_harmOf_41 : decode cX3_harmOf 41 = .ok (.goto 4, 3) := dk_167 0 4 (dk_at dksX3_harmOf_1 17 rfl rfl)
theorem dX3_harmOf_44 : decode cX3_harmOf 44 = .ok (.iconst 0, 1) := dk_3 (dk_at dksX3_harmOf_1 20 rfl rfl)
theorem dX3_harmOf_45 : decode cX3_harmOf 45 = .ok (.iadd, 1) := dk_96 (dk_at dksX3_harmOf_1 21 rfl rfl)
theorem dX3_harmOf_46 : decode cX3_harmOf 46 = .ok (.istore_n 2, 1) := dk_61 (dk_at dksX3_harmOf_1 22 rfl rfl)
theorem dX3_harmOf_47 : decode cX3_harmOf 47 = .ok (.iload 5, 2) := dk_21 5 (dk_at dksX3_harmOf_2 0 rfl rfl)
theorem dX3_harmOf_49 : decode cX3_harmOf 49 = .ok (.ifCond .eq 8, 3) := dk_153 0 8 (dk_at dksX3_harmOf_2 2 rfl rfl)
theorem dX3_harmOf_52 : decode cX3_harmOf 52 = .ok (.iload 4, 2) := dk_21 4 (dk_at dksX3_harmOf_2 5 rfl rfl)
theorem dX3_harmOf_54 : decode cX3_harmOf 54 = .ok (.goto 4, 3) := dk_167 0 4 (dk_at dksX3_harmOf_2 7 rfl rfl)
theorem dX3_harmOf_57 : decode cX3_harmOf 57 = .ok (.iload_n 3, 1) := dk_29 (dk_at dksX3_harmOf_2 10 rfl rfl)
theorem dX3_harmOf_58 : decode cX3_harmOf 58 = .ok (.istore_n 3, 1) := dk_62 (dk_at dksX3_harmOf_2 11 rfl rfl)
theorem dX3_harmOf_59 : decode cX3_harmOf 59 = .ok (.iinc 4 1, 3) := dk_132 4 1 (dk_at dksX3_harmOf_2 12 rfl rfl)
theorem dX3_harmOf_62 : decode cX3_harmOf 62 = .ok (.goto (-55), 3) := dk_167 255 201 (dk_at dksX3_harmOf_2 15 rfl rfl)
theorem dX3_harmOf_65 : decode cX3_harmOf 65 = .ok (.iload_n 1, 1) := dk_27 (dk_at dksX3_harmOf_2 18 rfl rfl)
theorem dX3_harmOf_66 : decode cX3_harmOf 66 = .ok (.ifCond .ne 7, 3) := dk_154 0 7 (dk_at dksX3_harmOf_2 19 rfl rfl)
theorem dX3_harmOf_69 : decode cX3_harmOf 69 = .ok (.iload_n 2, 1) := dk_28 (dk_at dksX3_harmOf_2 22 rfl rfl)
theorem dX3_harmOf_70 : decode cX3_harmOf 70 = .ok (.goto 16, 3) := dk_167 0 16 (dk_at dksX3_harmOf_3 0 rfl rfl)
theorem dX3_harmOf_73 : decode cX3_harmOf 73 = .ok (.iload_n 1, 1) := dk_27 (dk_at dksX3_harmOf_3 3 rfl rfl)
theorem dX3_harmOf_74 : decode cX3_harmOf 74 = .ok (.iconst 1, 1) := dk_4 (dk_at dksX3_harmOf_3 4 rfl rfl)
theorem dX3_harmOf_75 : decode cX3_harmOf 75 = .ok (.if_icmp .ne 10, 3) := dk_160 0 10 (dk_at dksX3_harmOf_3 5 rfl rfl)
theorem dX3_harmOf_78 : decode cX3_harmOf 78 = .ok (.aload_n 0, 1) := dk_42 (dk_at dksX3_harmOf_3 8 rfl rfl)
theorem dX3_harmOf_79 : decode cX3_harmOf 79 = .ok (.invokevirtual 280, 3) := dk_182 1 24 (dk_at dksX3_harmOf_3 9 rfl rfl)
theorem dX3_harmOf_82 : decode cX3_harmOf 82 = .ok (.goto 4, 3) := dk_167 0 4 (dk_at dksX3_harmOf_3 12 rfl rfl)
theorem dX3_harmOf_85 : decode cX3_harmOf 85 = .ok (.iload_n 3, 1) := dk_29 (dk_at dksX3_harmOf_3 15 rfl rfl)
theorem dX3_harmOf_86 : decode cX3_harmOf 86 = .ok (.ireturn, 1) := dk_172 (dk_at dksX3_harmOf_3 16 rfl rfl)
abbrev cX3_worst : ByteArray := prog_18_method_78_code
def yX3_worst : MethodName := ⟨RX3, "worst", "()I"⟩
def dkwX3_worst_2 : List UInt8 := [61, 132, 3, 1, 167, 255, 216, 27, 172]
abbrev dktX3_worst_2 : List UInt8 := dkwX3_worst_2 ++ []
def dkwX3_worst_1 : List UInt8 := [182, 1, 30, 42, 182, 1, 24, 54, 4, 27, 2, 159, 0, 9, 21, 4, 28, 164, 0, 8, 29, 60, 21, 4]
abbrev dktX3_worst_1 : List UInt8 := dkwX3_worst_1 ++ dktX3_worst_2
def dkwX3_worst_0 : List UInt8 := [42, 3, 181, 0, 90, 2, 60, 3, 61, 3, 62, 29, 42, 180, 0, 7, 4, 46, 162, 0, 36, 42, 29]
abbrev dktX3_worst_0 : List UInt8 := dkwX3_worst_0 ++ dktX3_worst_1
theorem dksX3_worst_0 : cX3_worst.data.toList.drop 0 = dktX3_worst_0 := by decide +kernel
theorem dksX3_worst_1 : cX3_worst.data.toList.drop 23 = dktX3_worst_1 := dk_seg dksX3_worst_0 23 rfl rfl
theorem dksX3_worst_2 : cX3_worst.data.toList.drop 47 = dktX3_worst_2 := dk_seg dksX3_worst_1 24 rfl rfl
theorem dX3_worst_0 : decode cX3_worst 0 = .ok (.aload_n 0, 1) := dk_42 (dk_at dksX3_worst_0 0 rfl rfl)
theorem dX3_worst_1 : decode cX3_worst 1 = .ok (.iconst 0, 1) := dk_3 (dk_at dksX3_worst_0 1 rfl rfl)
theorem dX3_worst_2 : decode cX3_worst 2 = .ok (.putfield 90, 3) := dk_181 0 90 (dk_at dksX3_worst_0 2 rfl rfl)
theorem dX3_worst_5 : decode cX3_worst 5 = .ok (.iconst (-1), 1) := dk_2 (dk_at dksX3_worst_0 5 rfl rfl)
theorem dX3_worst_6 : decode cX3_worst 6 = .ok (.istore_n 1, 1) := dk_60 (dk_at dksX3_worst_0 6 rfl rfl)
theorem dX3_worst_7 : decode cX3_worst 7 = .ok (.iconst 0, 1) := dk_3 (dk_at dksX3_worst_0 7 rfl rfl)
theorem dX3_worst_8 : decode cX3_worst 8 = .ok (.istore_n 2, 1) := dk_61 (dk_at dksX3_worst_0 8 rfl rfl)
theorem dX3_worst_9 : decode cX3_worst 9 = .ok (.iconst 0, 1) := dk_3 (dk_at dksX3_worst_0 9 rfl rfl)
theorem dX3_worst_10 : decode cX3_worst 10 = .ok (.istore_n 3, 1) := dk_62 (dk_at dksX3_worst_0 10 rfl rfl)
theorem dX3_worst_11 : decode cX3_worst 11 = .ok (.iload_n 3, 1) := dk_29 (dk_at dksX3_worst_0 11 rfl rfl)
theorem dX3_worst_12 : decode cX3_worst 12 = .ok (.aload_n 0, 1) := dk_42 (dk_at dksX3_worst_0 12 rfl rfl)
theorem dX3_worst_13 : decode cX3_worst 13 = .ok (.getfield 7, 3) := dk_180 0 7 (dk_at dksX3_worst_0 13 rfl rfl)
theorem dX3_worst_16 : decode cX3_worst 16 = .ok (.iconst 1, 1) := dk_4 (dk_at dksX3_worst_0 16 rfl rfl)
theorem dX3_worst_17 : decode cX3_worst 17 = .ok (.iaload, 1) := dk_46 (dk_at dksX3_worst_0 17 rfl rfl)
theorem dX3_worst_18 : decode cX3_worst 18 = .ok (.if_icmp .ge 36, 3) := dk_162 0 36 (dk_at dksX3_worst_0 18 rfl rfl)
theorem dX3_worst_21 : decode cX3_worst 21 = .ok (.aload_n 0, 1) := dk_42 (dk_at dksX3_worst_0 21 rfl rfl)
theorem dX3_worst_22 : decode cX3_worst 22 = .ok (.iload_n 3, 1) := dk_29 (dk_at dksX3_worst_0 22 rfl rfl)
theorem dX3_worst_23 : decode cX3_worst 23 = .ok (.invokevirtual 286, 3) := dk_182 1 30 (dk_at dksX3_worst_1 0 rfl rfl)
theorem dX3_worst_26 : decode cX3_worst 26 = .ok (.aload_n 0, 1) := dk_42 (dk_at dksX3_worst_1 3 rfl rfl)
theorem dX3_worst_27 : decode cX3_worst 27 = .ok (.invokevirtual 280, 3) := dk_182 1 24 (dk_at dksX3_worst_1 4 rfl rfl)
theorem dX3_worst_30 : decode cX3_worst 30 = .ok (.istore 4, 2) := dk_54 4 (dk_at dksX3_worst_1 7 rfl rfl)
theorem dX3_worst_32 : decode cX3_worst 32 = .ok (.iload_n 1, 1) := dk_27 (dk_at dksX3_worst_1 9 rfl rfl)
theorem dX3_worst_33 : decode cX3_worst 33 = .ok (.iconst (-1), 1) := dk_2 (dk_at dksX3_worst_1 10 rfl rfl)
theorem dX3_worst_34 : decode cX3_worst 34 = .ok (.if_icmp .eq 9, 3) := dk_159 0 9 (dk_at dksX3_worst_1 11 rfl rfl)
theorem dX3_worst_37 : decode cX3_worst 37 = .ok (.iload 4, 2) := dk_21 4 (dk_at dksX3_worst_1 14 rfl rfl)
theorem dX3_worst_39 : decode cX3_worst 39 = .ok (.iload_n 2, 1) := dk_28 (dk_at dksX3_worst_1 16 rfl rfl)
theorem dX3_worst_40 : decode cX3_worst 40 = .ok (.if_icmp .le 8, 3) := dk_164 0 8 (dk_at dksX3_worst_1 17 rfl rfl)
theorem dX3_worst_43 : decode cX3_worst 43 = .ok (.iload_n 3, 1) := dk_29 (dk_at dksX3_worst_1 20 rfl rfl)
theorem dX3_worst_44 : decode cX3_worst 44 = .ok (.istore_n 1, 1) := dk_60 (dk_at dksX3_worst_1 21 rfl rfl)
theorem dX3_worst_45 : decode cX3_worst 45 = .ok (.iload 4, 2) := dk_21 4 (dk_at dksX3_worst_1 22 rfl rfl)
theorem dX3_worst_47 : decode cX3_worst 47 = .ok (.istore_n 2, 1) := dk_61 (dk_at dksX3_worst_2 0 rfl rfl)
theorem dX3_worst_48 : decode cX3_worst 48 = .ok (.iinc 3 1, 3) := dk_132 3 1 (dk_at dksX3_worst_2 1 rfl rfl)
theorem dX3_worst_51 : decode cX3_worst 51 = .ok (.goto (-40), 3) := dk_167 255 216 (dk_at dksX3_worst_2 4 rfl rfl)
theorem dX3_worst_54 : decode cX3_worst 54 = .ok (.iload_n 1, 1) := dk_27 (dk_at dksX3_worst_2 7 rfl rfl)
theorem dX3_worst_55 : decode cX3_worst 55 = .ok (.ireturn, 1) := dk_172 (dk_at dksX3_worst_2 8 rfl rfl)
abbrev cX3_bestEvery : ByteArray := prog_18_method_79_code
def yX3_bestEvery : MethodName := ⟨RX3, "bestEvery", "()I"⟩
def dkwX3_bestEvery_4 : List UInt8 := [180, 0, 7, 5, 27, 79, 28, 172]
abbrev dktX3_bestEvery_4 : List UInt8 := dkwX3_bestEvery_4 ++ []
def dkwX3_bestEvery_3 : List UInt8 := [162, 0, 15, 21, 5, 61, 21, 6, 62, 42, 180, 0, 244, 54, 4, 132, 5, 1, 167, 255, 190, 42]
abbrev dktX3_bestEvery_3 : List UInt8 := dkwX3_bestEvery_3 ++ dktX3_bestEvery_4
def dkwX3_bestEvery_2 : List UInt8 := [2, 159, 0, 24, 21, 6, 29, 161, 0, 18, 21, 6, 29, 160, 0, 24, 42, 180, 0, 244, 21, 4]
abbrev dktX3_bestEvery_2 : List UInt8 := dkwX3_bestEvery_2 ++ dktX3_bestEvery_3
def dkwX3_bestEvery_1 : List UInt8 := [16, 8, 163, 0, 65, 42, 180, 0, 7, 5, 21, 5, 79, 42, 182, 1, 21, 42, 182, 1, 24, 54, 6, 28]
abbrev dktX3_bestEvery_1 : List UInt8 := dkwX3_bestEvery_1 ++ dktX3_bestEvery_2
def dkwX3_bestEvery_0 : List UInt8 := [42, 3, 181, 0, 90, 42, 180, 0, 7, 5, 46, 60, 2, 61, 3, 62, 3, 54, 4, 4, 54, 5, 21, 5]
abbrev dktX3_bestEvery_0 : List UInt8 := dkwX3_bestEvery_0 ++ dktX3_bestEvery_1
theorem dksX3_bestEvery_0 : cX3_bestEvery.data.toList.drop 0 = dktX3_bestEvery_0 := by decide +kernel
theorem dksX3_bestEvery_1 : cX3_bestEvery.data.toList.drop 24 = dktX3_bestEvery_1 := dk_seg dksX3_bestEvery_0 24 rfl rfl
theorem dksX3_bestEvery_2 : cX3_bestEvery.data.toList.drop 48 = dktX3_bestEvery_2 := dk_seg dksX3_bestEvery_1 24 rfl rfl
theorem dksX3_bestEvery_3 : cX3_bestEvery.data.toList.drop 70 = dktX3_bestEvery_3 := dk_seg dksX3_bestEvery_2 22 rfl rfl
theorem dksX3_bestEvery_4 : cX3_bestEvery.data.toList.drop 92 = dktX3_bestEvery_4 := dk_seg dksX3_bestEvery_3 22 rfl rfl
theorem dX3_bestEvery_0 : decode cX3_bestEvery 0 = .ok (.aload_n 0, 1) := dk_42 (dk_at dksX3_bestEvery_0 0 rfl rfl)
theorem dX3_bestEvery_1 : decode cX3_bestEvery 1 = .ok (.iconst 0, 1) := dk_3 (dk_at dksX3_bestEvery_0 1 rfl rfl)
theorem dX3_bestEvery_2 : decode cX3_bestEvery 2 = .ok (.putfield 90, 3) := dk_181 0 90 (dk_at dksX3_bestEvery_0 2 rfl rfl)
theorem dX3_bestEvery_5 : decode cX3_bestEvery 5 = .ok (.aload_n 0, 1) := dk_42 (dk_at dksX3_bestEvery_0 5 rfl rfl)
theorem dX3_bestEvery_6 : decode cX3_bestEvery 6 = .ok (.getfield 7, 3) := dk_180 0 7 (dk_at dksX3_bestEvery_0 6 rfl rfl)
theorem dX3_bestEvery_9 : decode cX3_bestEvery 9 = .ok (.iconst 2, 1) := dk_5 (dk_at dksX3_bestEvery_0 9 rfl rfl)
theorem dX3_bestEvery_10 : decode cX3_bestEvery 10 = .ok (.iaload, 1) := dk_46 (dk_at dksX3_bestEvery_0 10 rfl rfl)
theorem dX3_bestEvery_11 : decode cX3_bestEvery 11 = .ok (.istore_n 1, 1) := dk_60 (dk_at dksX3_bestEvery_0 11 rfl rfl)
theorem dX3_bestEvery_12 : decode cX3_bestEvery 12 = .ok (.iconst (-1), 1) := dk_2 (dk_at dksX3_bestEvery_0 12 rfl rfl)
theorem dX3_bestEvery_13 : decode cX3_bestEvery 13 = .ok (.istore_n 2, 1) := dk_61 (dk_at dksX3_bestEvery_0 13 rfl rfl)
theorem dX3_bestEvery_14 : decode cX3_bestEvery 14 = .ok (.iconst 0, 1) := dk_3 (dk_at dksX3_bestEvery_0 14 rfl rfl)
theorem dX3_bestEvery_15 : decode cX3_bestEvery 15 = .ok (.istore_n 3, 1) := dk_62 (dk_at dksX3_bestEvery_0 15 rfl rfl)
theorem dX3_bestEvery_16 : decode cX3_bestEvery 16 = .ok (.iconst 0, 1) := dk_3 (dk_at dksX3_bestEvery_0 16 rfl rfl)
theorem dX3_bestEvery_17 : decode cX3_bestEvery 17 = .ok (.istore 4, 2) := dk_54 4 (dk_at dksX3_bestEvery_0 17 rfl rfl)
theorem dX3_bestEvery_19 : decode cX3_bestEvery 19 = .ok (.iconst 1, 1) := dk_4 (dk_at dksX3_bestEvery_0 19 rfl rfl)
theorem dX3_bestEvery_20 : decode cX3_bestEvery 20 = .ok (.istore 5, 2) := dk_54 5 (dk_at dksX3_bestEvery_0 20 rfl rfl)
theorem dX3_bestEvery_22 : decode cX3_bestEvery 22 = .ok (.iload 5, 2) := dk_21 5 (dk_at dksX3_bestEvery_0 22 rfl rfl)
theorem dX3_bestEvery_24 : decode cX3_bestEvery 24 = .ok (.bipush 8, 2) := dk_16 8 (dk_at dksX3_bestEvery_1 0 rfl rfl)
theorem dX3_bestEvery_26 : decode cX3_bestEvery 26 = .ok (.if_icmp .gt 65, 3) := dk_163 0 65 (dk_at dksX3_bestEvery_1 2 rfl rfl)
theorem dX3_bestEvery_29 : decode cX3_bestEvery 29 = .ok (.aload_n 0, 1) := dk_42 (dk_at dksX3_bestEvery_1 5 rfl rfl)
theorem dX3_bestEvery_30 : decode cX3_bestEvery 30 = .ok (.getfield 7, 3) := dk_180 0 7 (dk_at dksX3_bestEvery_1 6 rfl rfl)
theorem dX3_bestEvery_33 : decode cX3_bestEvery 33 = .ok (.iconst 2, 1) := dk_5 (dk_at dksX3_bestEvery_1 9 rfl rfl)
theorem dX3_bestEvery_34 : decode cX3_bestEvery 34 = .ok (.iload 5, 2) := dk_21 5 (dk_at dksX3_bestEvery_1 10 rfl rfl)
theorem dX3_bestEvery_36 : decode cX3_bestEvery 36 = .ok (.iastore, 1) := dk_79 (dk_at dksX3_bestEvery_1 12 rfl rfl)
theorem dX3_bestEvery_37 : decode cX3_bestEvery 37 = .ok (.aload_n 0, 1) := dk_42 (dk_at dksX3_bestEvery_1 13 rfl rfl)
theorem dX3_bestEvery_38 : decode cX3_bestEvery 38 = .ok (.invokevirtual 277, 3) := dk_182 1 21 (dk_at dksX3_bestEvery_1 14 rfl rfl)
theorem dX3_bestEvery_41 : decode cX3_bestEvery 41 = .ok (.aload_n 0, 1) := dk_42 (dk_at dksX3_bestEvery_1 17 rfl rfl)
theorem dX3_bestEvery_42 : decode cX3_bestEvery 42 = .ok (.invokevirtual 280, 3) := dk_182 1 24 (dk_at dksX3_bestEvery_1 18 rfl rfl)
theorem dX3_bestEvery_45 : decode cX3_bestEvery 45 = .ok (.istore 6, 2) := dk_54 6 (dk_at dksX3_bestEvery_1 21 rfl rfl)
theorem dX3_bestEvery_47 : decode cX3_bestEvery 47 = .ok (.iload_n 2, 1) := dk_28 (dk_at dksX3_bestEvery_1 23 rfl rfl)
theorem dX3_bestEvery_48 : decode cX3_bestEvery 48 = .ok (.iconst (-1), 1) := dk_2 (dk_at dksX3_bestEvery_2 0 rfl rfl)
theorem dX3_bestEvery_49 : decode cX3_bestEvery 49 = .ok (.if_icmp .eq 24, 3) := dk_159 0 24 (dk_at dksX3_bestEvery_2 1 rfl rfl)
theorem dX3_bestEvery_52 : decode cX3_bestEvery 52 = .ok (.iload 6, 2) := dk_21 6 (dk_at dksX3_bestEvery_2 4 rfl rfl)
theorem dX3_bestEvery_54 : decode cX3_bestEvery 54 = .ok (.iload_n 3, 1) := dk_29 (dk_at dksX3_bestEvery_2 6 rfl rfl)
theorem dX3_bestEvery_55 : decode cX3_bestEvery 55 = .ok (.if_icmp .lt 18, 3) := dk_161 0 18 (dk_at dksX3_bestEvery_2 7 rfl rfl)
theorem dX3_bestEvery_58 : decode cX3_bestEvery 58 = .ok (.iload 6, 2) := dk_21 6 (dk_at dksX3_bestEvery_2 10 rfl rfl)
theorem dX3_bestEvery_60 : decode cX3_bestEvery 60 = .ok (.iload_n 3, 1) := dk_29 (dk_at dksX3_bestEvery_2 12 rfl rfl)
theorem dX3_bestEvery_61 : decode cX3_bestEvery 61 = .ok (.if_icmp .ne 24, 3) := dk_160 0 24 (dk_at dksX3_bestEvery_2 13 rfl rfl)
theorem dX3_bestEvery_64 : decode cX3_bestEvery 64 = .ok (.aload_n 0, 1) := dk_42 (dk_at dksX3_bestEvery_2 16 rfl rfl)
theorem dX3_bestEvery_65 : decode cX3_bestEvery 65 = .ok (.getfield 244, 3) := dk_180 0 244 (dk_at dksX3_bestEvery_2 17 rfl rfl)
theorem dX3_bestEvery_68 : decode cX3_bestEvery 68 = .ok (.iload 4, 2) := dk_21 4 (dk_at dksX3_bestEvery_2 20 rfl rfl)
theorem dX3_bestEvery_70 : decode cX3_bestEvery 70 = .ok (.if_icmp .ge 15, 3) := dk_162 0 15 (dk_at dksX3_bestEvery_3 0 rfl rfl)
theorem dX3_bestEvery_73 : decode cX3_bestEvery 73 = .ok (.iload 5, 2) := dk_21 5 (dk_at dksX3_bestEvery_3 3 rfl rfl)
theorem dX3_bestEvery_75 : decode cX3_bestEvery 75 = .ok (.istore_n 2, 1) := dk_61 (dk_at dksX3_bestEvery_3 5 rfl rfl)
theorem dX3_bestEvery_76 : decode cX3_bestEvery 76 = .ok (.iload 6, 2) := dk_21 6 (dk_at dksX3_bestEvery_3 6 rfl rfl)
theorem dX3_bestEvery_78 : decode cX3_bestEvery 78 = .ok (.istore_n 3, 1) := dk_62 (dk_at dksX3_bestEvery_3 8 rfl rfl)
theorem dX3_bestEvery_79 : decode cX3_bestEvery 79 = .ok (.aload_n 0, 1) := dk_42 (dk_at dksX3_bestEvery_3 9 rfl rfl)
theorem dX3_bestEvery_80 : decode cX3_bestEvery 80 = .ok (.getfield 244, 3) := dk_180 0 244 (dk_at dksX3_bestEvery_3 10 rfl rfl)
theorem dX3_bestEvery_83 : decode cX3_bestEvery 83 = .ok (.istore 4, 2) := dk_54 4 (dk_at dksX3_bestEvery_3 13 rfl rfl)
theorem dX3_bestEvery_85 : decode cX3_bestEvery 85 = .ok (.iinc 5 1, 3) := dk_132 5 1 (dk_at dksX3_bestEvery_3 15 rfl rfl)
theorem dX3_bestEvery_88 : decode cX3_bestEvery 88 = .ok (.goto (-66), 3) := dk_167 255 190 (dk_at dksX3_bestEvery_3 18 rfl rfl)
theorem dX3_bestEvery_91 : decode cX3_bestEvery 91 = .ok (.aload_n 0, 1) := dk_42 (dk_at dksX3_bestEvery_3 21 rfl rfl)
theorem dX3_bestEvery_92 : decode cX3_bestEvery 92 = .ok (.getfield 7, 3) := dk_180 0 7 (dk_at dksX3_bestEvery_4 0 rfl rfl)
theorem dX3_bestEvery_95 : decode cX3_bestEvery 95 = .ok (.iconst 2, 1) := dk_5 (dk_at dksX3_bestEvery_4 3 rfl rfl)
theorem dX3_bestEvery_96 : decode cX3_bestEvery 96 = .ok (.iload_n 1, 1) := dk_27 (dk_at dksX3_bestEvery_4 4 rfl rfl)
theorem dX3_bestEvery_97 : decode cX3_bestEvery 97 = .ok (.iastore, 1) := dk_79 (dk_at dksX3_bestEvery_4 5 rfl rfl)
theorem dX3_bestEvery_98 : decode cX3_bestEvery 98 = .ok (.iload_n 2, 1) := dk_28 (dk_at dksX3_bestEvery_4 6 rfl rfl)
theorem dX3_bestEvery_99 : decode cX3_bestEvery 99 = .ok (.ireturn, 1) := dk_172 (dk_at dksX3_bestEvery_4 7 rfl rfl)
abbrev cX3_needsSteps : ByteArray := prog_18_method_80_code
def yX3_needsSteps : MethodName := ⟨RX3, "needsSteps", "()I"⟩
def dkwX3_needsSteps_2 : List UInt8 := [167, 0, 4, 2, 61, 132, 3, 1, 167, 255, 218, 42, 180, 0, 7, 8, 27, 79, 28, 172]
abbrev dktX3_needsSteps_2 : List UInt8 := dkwX3_needsSteps_2 ++ []
def dkwX3_needsSteps_1 : List UInt8 := [160, 0, 33, 42, 180, 0, 7, 8, 29, 79, 42, 182, 1, 21, 42, 182, 1, 24, 154, 0, 7, 29]
abbrev dktX3_needsSteps_1 : List UInt8 := dkwX3_needsSteps_1 ++ dktX3_needsSteps_2
def dkwX3_needsSteps_0 : List UInt8 := [42, 3, 181, 0, 90, 42, 180, 0, 7, 8, 46, 60, 2, 61, 3, 62, 29, 16, 9, 163, 0, 38, 28, 2]
abbrev dktX3_needsSteps_0 : List UInt8 := dkwX3_needsSteps_0 ++ dktX3_needsSteps_1
theorem dksX3_needsSteps_0 : cX3_needsSteps.data.toList.drop 0 = dktX3_needsSteps_0 := by decide +kernel
theorem dksX3_needsSteps_1 : cX3_needsSteps.data.toList.drop 24 = dktX3_needsSteps_1 := dk_seg dksX3_needsSteps_0 24 rfl rfl
theorem dksX3_needsSteps_2 : cX3_needsSteps.data.toList.drop 46 = dktX3_needsSteps_2 := dk_seg dksX3_needsSteps_1 22 rfl rfl
theorem dX3_needsSteps_0 : decode cX3_needsSteps 0 = .ok (.aload_n 0, 1) := dk_42 (dk_at dksX3_needsSteps_0 0 rfl rfl)
theorem dX3_needsSteps_1 : decode cX3_needsSteps 1 = .ok (.iconst 0, 1) := dk_3 (dk_at dksX3_needsSteps_0 1 rfl rfl)
theorem dX3_needsSteps_2 : decode cX3_needsSteps 2 = .ok (.putfield 90, 3) := dk_181 0 90 (dk_at dksX3_needsSteps_0 2 rfl rfl)
theorem dX3_needsSteps_5 : decode cX3_needsSteps 5 = .ok (.aload_n 0, 1) := dk_42 (dk_at dksX3_needsSteps_0 5 rfl rfl)
theorem dX3_needsSteps_6 : decode cX3_needsSteps 6 = .ok (.getfield 7, 3) := dk_180 0 7 (dk_at dksX3_needsSteps_0 6 rfl rfl)
theorem dX3_needsSteps_9 : decode cX3_needsSteps 9 = .ok (.iconst 5, 1) := dk_8 (dk_at dksX3_needsSteps_0 9 rfl rfl)
theorem dX3_needsSteps_10 : decode cX3_needsSteps 10 = .ok (.iaload, 1) := dk_46 (dk_at dksX3_needsSteps_0 10 rfl rfl)
theorem dX3_needsSteps_11 : decode cX3_needsSteps 11 = .ok (.istore_n 1, 1) := dk_60 (dk_at dksX3_needsSteps_0 11 rfl rfl)
theorem dX3_needsSteps_12 : decode cX3_needsSteps 12 = .ok (.iconst (-1), 1) := dk_2 (dk_at dksX3_needsSteps_0 12 rfl rfl)
theorem dX3_needsSteps_13 : decode cX3_needsSteps 13 = .ok (.istore_n 2, 1) := dk_61 (dk_at dksX3_needsSteps_0 13 rfl rfl)
theorem dX3_needsSteps_14 : decode cX3_needsSteps 14 = .ok (.iconst 0, 1) := dk_3 (dk_at dksX3_needsSteps_0 14 rfl rfl)
theorem dX3_needsSteps_15 : decode cX3_needsSteps 15 = .ok (.istore_n 3, 1) := dk_62 (dk_at dksX3_needsSteps_0 15 rfl rfl)
theorem dX3_needsSteps_16 : decode cX3_needsSteps 16 = .ok (.iload_n 3, 1) := dk_29 (dk_at dksX3_needsSteps_0 16 rfl rfl)
theorem dX3_needsSteps_17 : decode cX3_needsSteps 17 = .ok (.bipush 9, 2) := dk_16 9 (dk_at dksX3_needsSteps_0 17 rfl rfl)
theorem dX3_needsSteps_19 : decode cX3_needsSteps 19 = .ok (.if_icmp .gt 38, 3) := dk_163 0 38 (dk_at dksX3_needsSteps_0 19 rfl rfl)
theorem dX3_needsSteps_22 : decode cX3_needsSteps 22 = .ok (.iload_n 2, 1) := dk_28 (dk_at dksX3_needsSteps_0 22 rfl rfl)
theorem dX3_needsSteps_23 : decode cX3_needsSteps 23 = .ok (.iconst (-1), 1) := dk_2 (dk_at dksX3_needsSteps_0 23 rfl rfl)
theorem dX3_needsSteps_24 : decode cX3_needsSteps 24 = .ok (.if_icmp .ne 33, 3) := dk_160 0 33 (dk_at dksX3_needsSteps_1 0 rfl rfl)
theorem dX3_needsSteps_27 : decode cX3_needsSteps 27 = .ok (.aload_n 0, 1) := dk_42 (dk_at dksX3_needsSteps_1 3 rfl rfl)
theorem dX3_needsSteps_28 : decode cX3_needsSteps 28 = .ok (.getfield 7, 3) := dk_180 0 7 (dk_at dksX3_needsSteps_1 4 rfl rfl)
theorem dX3_needsSteps_31 : decode cX3_needsSteps 31 = .ok (.iconst 5, 1) := dk_8 (dk_at dksX3_needsSteps_1 7 rfl rfl)
theorem dX3_needsSteps_32 : decode cX3_needsSteps 32 = .ok (.iload_n 3, 1) := dk_29 (dk_at dksX3_needsSteps_1 8 rfl rfl)
theorem dX3_needsSteps_33 : decode cX3_needsSteps 33 = .ok (.iastore, 1) := dk_79 (dk_at dksX3_needsSteps_1 9 rfl rfl)
theorem dX3_needsSteps_34 : decode cX3_needsSteps 34 = .ok (.aload_n 0, 1) := dk_42 (dk_at dksX3_needsSteps_1 10 rfl rfl)
theorem dX3_needsSteps_35 : decode cX3_needsSteps 35 = .ok (.invokevirtual 277, 3) := dk_182 1 21 (dk_at dksX3_needsSteps_1 11 rfl rfl)
theorem dX3_needsSteps_38 : decode cX3_needsSteps 38 = .ok (.aload_n 0, 1) := dk_42 (dk_at dksX3_needsSteps_1 14 rfl rfl)
theorem dX3_needsSteps_39 : decode cX3_needsSteps 39 = .ok (.invokevirtual 280, 3) := dk_182 1 24 (dk_at dksX3_needsSteps_1 15 rfl rfl)
theorem dX3_needsSteps_42 : decode cX3_needsSteps 42 = .ok (.ifCond .ne 7, 3) := dk_154 0 7 (dk_at dksX3_needsSteps_1 18 rfl rfl)
theorem dX3_needsSteps_45 : decode cX3_needsSteps 45 = .ok (.iload_n 3, 1) := dk_29 (dk_at dksX3_needsSteps_1 21 rfl rfl)
theorem dX3_needsSteps_46 : decode cX3_needsSteps 46 = .ok (.goto 4, 3) := dk_167 0 4 (dk_at dksX3_needsSteps_2 0 rfl rfl)
theorem dX3_needsSteps_49 : decode cX3_needsSteps 49 = .ok (.iconst (-1), 1) := dk_2 (dk_at dksX3_needsSteps_2 3 rfl rfl)
theorem dX3_needsSteps_50 : decode cX3_needsSteps 50 = .ok (.istore_n 2, 1) := dk_61 (dk_at dksX3_needsSteps_2 4 rfl rfl)
theorem dX3_needsSteps_51 : decode cX3_needsSteps 51 = .ok (.iinc 3 1, 3) := dk_132 3 1 (dk_at dksX3_needsSteps_2 5 rfl rfl)
theorem dX3_needsSteps_54 : decode cX3_needsSteps 54 = .ok (.goto (-38), 3) := dk_167 255 218 (dk_at dksX3_needsSteps_2 8 rfl rfl)
theorem dX3_needsSteps_57 : decode cX3_needsSteps 57 = .ok (.aload_n 0, 1) := dk_42 (dk_at dksX3_needsSteps_2 11 rfl rfl)
theorem dX3_needsSteps_58 : decode cX3_needsSteps 58 = .ok (.getfield 7, 3) := dk_180 0 7 (dk_at dksX3_needsSteps_2 12 rfl rfl)
theorem dX3_needsSteps_61 : decode cX3_needsSteps 61 = .ok (.iconst 5, 1) := dk_8 (dk_at dksX3_needsSteps_2 15 rfl rfl)
theorem dX3_needsSteps_62 : decode cX3_needsSteps 62 = .ok (.iload_n 1, 1) := dk_27 (dk_at dksX3_needsSteps_2 16 rfl rfl)
theorem dX3_needsSteps_63 : decode cX3_needsSteps 63 = .ok (.iastore, 1) := dk_79 (dk_at dksX3_needsSteps_2 17 rfl rfl)
theorem dX3_needsSteps_64 : decode cX3_needsSteps 64 = .ok (.iload_n 2, 1) := dk_28 (dk_at dksX3_needsSteps_2 18 rfl rfl)
theorem dX3_needsSteps_65 : decode cX3_needsSteps 65 = .ok (.ireturn, 1) := dk_172 (dk_at dksX3_needsSteps_2 19 rfl rfl)
abbrev cX3_perDot : ByteArray := prog_18_method_81_code
def yX3_perDot : MethodName := ⟨RX3, "perDot", "()D"⟩
def dkwX3_perDot_1 : List UInt8 := [135, 42, 180, 0, 7, 3, 46, 42, 180, 0, 7, 4, 46, 104, 135, 111, 175]
abbrev dktX3_perDot_1 : List UInt8 := dkwX3_perDot_1 ++ []
def dkwX3_perDot_0 : List UInt8 := [42, 3, 181, 0, 90, 42, 180, 0, 7, 4, 46, 154, 0, 5, 14, 175, 42, 182, 1, 21, 42, 180, 0, 244]
abbrev dktX3_perDot_0 : List UInt8 := dkwX3_perDot_0 ++ dktX3_perDot_1
theorem dksX3_perDot_0 : cX3_perDot.data.toList.drop 0 = dktX3_perDot_0 := by decide +kernel
theorem dksX3_perDot_1 : cX3_perDot.data.toList.drop 24 = dktX3_perDot_1 := dk_seg dksX3_perDot_0 24 rfl rfl
theorem dX3_perDot_0 : decode cX3_perDot 0 = .ok (.aload_n 0, 1) := dk_42 (dk_at dksX3_perDot_0 0 rfl rfl)
theorem dX3_perDot_1 : decode cX3_perDot 1 = .ok (.iconst 0, 1) := dk_3 (dk_at dksX3_perDot_0 1 rfl rfl)
theorem dX3_perDot_2 : decode cX3_perDot 2 = .ok (.putfield 90, 3) := dk_181 0 90 (dk_at dksX3_perDot_0 2 rfl rfl)
theorem dX3_perDot_5 : decode cX3_perDot 5 = .ok (.aload_n 0, 1) := dk_42 (dk_at dksX3_perDot_0 5 rfl rfl)
theorem dX3_perDot_6 : decode cX3_perDot 6 = .ok (.getfield 7, 3) := dk_180 0 7 (dk_at dksX3_perDot_0 6 rfl rfl)
theorem dX3_perDot_9 : decode cX3_perDot 9 = .ok (.iconst 1, 1) := dk_4 (dk_at dksX3_perDot_0 9 rfl rfl)
theorem dX3_perDot_10 : decode cX3_perDot 10 = .ok (.iaload, 1) := dk_46 (dk_at dksX3_perDot_0 10 rfl rfl)
theorem dX3_perDot_11 : decode cX3_perDot 11 = .ok (.ifCond .ne 5, 3) := dk_154 0 5 (dk_at dksX3_perDot_0 11 rfl rfl)
theorem dX3_perDot_14 : decode cX3_perDot 14 = .ok (.dconst 0, 1) := dk_14 (dk_at dksX3_perDot_0 14 rfl rfl)
theorem dX3_perDot_15 : decode cX3_perDot 15 = .ok (.dreturn, 1) := dk_175 (dk_at dksX3_perDot_0 15 rfl rfl)
theorem dX3_perDot_16 : decode cX3_perDot 16 = .ok (.aload_n 0, 1) := dk_42 (dk_at dksX3_perDot_0 16 rfl rfl)
theorem dX3_perDot_17 : decode cX3_perDot 17 = .ok (.invokevirtual 277, 3) := dk_182 1 21 (dk_at dksX3_perDot_0 17 rfl rfl)
theorem dX3_perDot_20 : decode cX3_perDot 20 = .ok (.aload_n 0, 1) := dk_42 (dk_at dksX3_perDot_0 20 rfl rfl)
theorem dX3_perDot_21 : decode cX3_perDot 21 = .ok (.getfield 244, 3) := dk_180 0 244 (dk_at dksX3_perDot_0 21 rfl rfl)
theorem dX3_perDot_24 : decode cX3_perDot 24 = .ok (.i2d, 1) := dk_135 (dk_at dksX3_perDot_1 0 rfl rfl)
theorem dX3_perDot_25 : decode cX3_perDot 25 = .ok (.aload_n 0, 1) := dk_42 (dk_at dksX3_perDot_1 1 rfl rfl)
theorem dX3_perDot_26 : decode cX3_perDot 26 = .ok (.getfield 7, 3) := dk_180 0 7 (dk_at dksX3_perDot_1 2 rfl rfl)
theorem dX3_perDot_29 : decode cX3_perDot 29 = .ok (.iconst 0, 1) := dk_3 (dk_at dksX3_perDot_1 5 rfl rfl)
theorem dX3_perDot_30 : decode cX3_perDot 30 = .ok (.iaload, 1) := dk_46 (dk_at dksX3_perDot_1 6 rfl rfl)
theorem dX3_perDot_31 : decode cX3_perDot 31 = .ok (.aload_n 0, 1) := dk_42 (dk_at dksX3_perDot_1 7 rfl rfl)
theorem dX3_perDot_32 : decode cX3_perDot 32 = .ok (.getfield 7, 3) := dk_180 0 7 (dk_at dksX3_perDot_1 8 rfl rfl)
theorem dX3_perDot_35 : decode cX3_perDot 35 = .ok (.iconst 1, 1) := dk_4 (dk_at dksX3_perDot_1 11 rfl rfl)
theorem dX3_perDot_36 : decode cX3_perDot 36 = .ok (.iaload, 1) := dk_46 (dk_at dksX3_perDot_1 12 rfl rfl)
theorem dX3_perDot_37 : decode cX3_perDot 37 = .ok (.imul, 1) := dk_104 (dk_at dksX3_perDot_1 13 rfl rfl)
theorem dX3_perDot_38 : decode cX3_perDot 38 = .ok (.i2d, 1) := dk_135 (dk_at dksX3_perDot_1 14 rfl rfl)
theorem dX3_perDot_39 : decode cX3_perDot 39 = .ok (.ddiv, 1) := dk_111 (dk_at dksX3_perDot_1 15 rfl rfl)
theorem dX3_perDot_40 : decode cX3_perDot 40 = .ok (.dreturn, 1) := dk_175 (dk_at dksX3_perDot_1 16 rfl rfl)
abbrev cX3_byAbove : ByteArray := prog_18_method_82_code
def yX3_byAbove : MethodName := ⟨RX3, "byAbove", "()F"⟩
def dkwX3_byAbove_1 : List UInt8 := [46, 154, 0, 7, 11, 167, 0, 13, 27, 134, 42, 180, 0, 7, 4, 46, 134, 110, 174]
abbrev dktX3_byAbove_1 : List UInt8 := dkwX3_byAbove_1 ++ []
def dkwX3_byAbove_0 : List UInt8 := [42, 3, 181, 0, 90, 42, 180, 0, 7, 4, 46, 42, 16, 10, 182, 0, 188, 100, 60, 42, 180, 0, 7, 4]
abbrev dktX3_byAbove_0 : List UInt8 := dkwX3_byAbove_0 ++ dktX3_byAbove_1
theorem dksX3_byAbove_0 : cX3_byAbove.data.toList.drop 0 = dktX3_byAbove_0 := by decide +kernel
theorem dksX3_byAbove_1 : cX3_byAbove.data.toList.drop 24 = dktX3_byAbove_1 := dk_seg dksX3_byAbove_0 24 rfl rfl
theorem dX3_byAbove_0 : decode cX3_byAbove 0 = .ok (.aload_n 0, 1) := dk_42 (dk_at dksX3_byAbove_0 0 rfl rfl)
theorem dX3_byAbove_1 : decode cX3_byAbove 1 = .ok (.iconst 0, 1) := dk_3 (dk_at dksX3_byAbove_0 1 rfl rfl)
theorem dX3_byAbove_2 : decode cX3_byAbove 2 = .ok (.putfield 90, 3) := dk_181 0 90 (dk_at dksX3_byAbove_0 2 rfl rfl)
theorem dX3_byAbove_5 : decode cX3_byAbove 5 = .ok (.aload_n 0, 1) := dk_42 (dk_at dksX3_byAbove_0 5 rfl rfl)
theorem dX3_byAbove_6 : decode cX3_byAbove 6 = .ok (.getfield 7, 3) := dk_180 0 7 (dk_at dksX3_byAbove_0 6 rfl rfl)
theorem dX3_byAbove_9 : decode cX3_byAbove 9 = .ok (.iconst 1, 1) := dk_4 (dk_at dksX3_byAbove_0 9 rfl rfl)
theorem dX3_byAbove_10 : decode cX3_byAbove 10 = .ok (.iaload, 1) := dk_46 (dk_at dksX3_byAbove_0 10 rfl rfl)
theorem dX3_byAbove_11 : decode cX3_byAbove 11 = .ok (.aload_n 0, 1) := dk_42 (dk_at dksX3_byAbove_0 11 rfl rfl)
theorem dX3_byAbove_12 : decode cX3_byAbove 12 = .ok (.bipush 10, 2) := dk_16 10 (dk_at dksX3_byAbove_0 12 rfl rfl)
theorem dX3_byAbove_14 : decode cX3_byAbove 14 = .ok (.invokevirtual 188, 3) := dk_182 0 188 (dk_at dksX3_byAbove_0 14 rfl rfl)
theorem dX3_byAbove_17 : decode cX3_byAbove 17 = .ok (.isub, 1) := dk_100 (dk_at dksX3_byAbove_0 17 rfl rfl)
theorem dX3_byAbove_18 : decode cX3_byAbove 18 = .ok (.istore_n 1, 1) := dk_60 (dk_at dksX3_byAbove_0 18 rfl rfl)
theorem dX3_byAbove_19 : decode cX3_byAbove 19 = .ok (.aload_n 0, 1) := dk_42 (dk_at dksX3_byAbove_0 19 rfl rfl)
theorem dX3_byAbove_20 : decode cX3_byAbove 20 = .ok (.getfield 7, 3) := dk_180 0 7 (dk_at dksX3_byAbove_0 20 rfl rfl)
theorem dX3_byAbove_23 : decode cX3_byAbove 23 = .ok (.iconst 1, 1) := dk_4 (dk_at dksX3_byAbove_0 23 rfl rfl)
theorem dX3_byAbove_24 : decode cX3_byAbove 24 = .ok (.iaload, 1) := dk_46 (dk_at dksX3_byAbove_1 0 rfl rfl)
theorem dX3_byAbove_25 : decode cX3_byAbove 25 = .ok (.ifCond .ne 7, 3) := dk_154 0 7 (dk_at dksX3_byAbove_1 1 rfl rfl)
theorem dX3_byAbove_28 : decode cX3_byAbove 28 = .ok (.fconst 0, 1) := dk_11 (dk_at dksX3_byAbove_1 4 rfl rfl)
theorem dX3_byAbove_29 : decode cX3_byAbove 29 = .ok (.goto 13, 3) := dk_167 0 13 (dk_at dksX3_byAbove_1 5 rfl rfl)
theorem dX3_byAbove_32 : decode cX3_byAbove 32 = .ok (.iload_n 1, 1) := dk_27 (dk_at dksX3_byAbove_1 8 rfl rfl)
theorem dX3_byAbove_33 : decode cX3_byAbove 33 = .ok (.i2f, 1) := dk_134 (dk_at dksX3_byAbove_1 9 rfl rfl)
theorem dX3_byAbove_34 : decode cX3_byAbove 34 = .ok (.aload_n 0, 1) := dk_42 (dk_at dksX3_byAbove_1 10 rfl rfl)
theorem dX3_byAbove_35 : decode cX3_byAbove 35 = .ok (.getfield 7, 3) := dk_180 0 7 (dk_at dksX3_byAbove_1 11 rfl rfl)
theorem dX3_byAbove_38 : decode cX3_byAbove 38 = .ok (.iconst 1, 1) := dk_4 (dk_at dksX3_byAbove_1 14 rfl rfl)
theorem dX3_byAbove_39 : decode cX3_byAbove 39 = .ok (.iaload, 1) := dk_46 (dk_at dksX3_byAbove_1 15 rfl rfl)
theorem dX3_byAbove_40 : decode cX3_byAbove 40 = .ok (.i2f, 1) := dk_134 (dk_at dksX3_byAbove_1 16 rfl rfl)
theorem dX3_byAbove_41 : decode cX3_byAbove 41 = .ok (.fdiv, 1) := dk_110 (dk_at dksX3_byAbove_1 17 rfl rfl)
theorem dX3_byAbove_42 : decode cX3_byAbove 42 = .ok (.freturn, 1) := dk_174 (dk_at dksX3_byAbove_1 18 rfl rfl)
abbrev cX3_appendText : ByteArray := prog_18_method_83_code
def yX3_appendText : MethodName := ⟨RX3, "appendText", "(I)I"⟩
def dkwX3_appendText_3 : List UInt8 := [172]
abbrev dktX3_appendText_3 : List UInt8 := dkwX3_appendText_3 ++ []
def dkwX3_appendText_2 : List UInt8 := [28, 122, 145, 84, 42, 89, 180, 1, 36, 4, 96, 181, 1, 36, 132, 2, 248, 167, 255, 226, 42, 180, 1, 36]
abbrev dktX3_appendText_2 : List UInt8 := dkwX3_appendText_2 ++ dktX3_appendText_3
def dkwX3_appendText_1 : List UInt8 := [180, 0, 90, 158, 0, 5, 3, 172, 16, 24, 61, 28, 155, 0, 32, 42, 180, 0, 68, 42, 180, 1, 36, 27]
abbrev dktX3_appendText_1 : List UInt8 := dkwX3_appendText_1 ++ dktX3_appendText_2
def dkwX3_appendText_0 : List UInt8 := [42, 42, 180, 1, 36, 7, 96, 17, 3, 132, 163, 0, 7, 3, 167, 0, 4, 4, 181, 0, 90, 42]
abbrev dktX3_appendText_0 : List UInt8 := dkwX3_appendText_0 ++ dktX3_appendText_1
theorem dksX3_appendText_0 : cX3_appendText.data.toList.drop 0 = dktX3_appendText_0 := by decide +kernel
theorem dksX3_appendText_1 : cX3_appendText.data.toList.drop 22 = dktX3_appendText_1 := dk_seg dksX3_appendText_0 22 rfl rfl
theorem dksX3_appendText_2 : cX3_appendText.data.toList.drop 46 = dktX3_appendText_2 := dk_seg dksX3_appendText_1 24 rfl rfl
theorem dksX3_appendText_3 : cX3_appendText.data.toList.drop 70 = dktX3_appendText_3 := dk_seg dksX3_appendText_2 24 rfl rfl
theorem dX3_appendText_0 : decode cX3_appendText 0 = .ok (.aload_n 0, 1) := dk_42 (dk_at dksX3_appendText_0 0 rfl rfl)
theorem dX3_appendText_1 : decode cX3_appendText 1 = .ok (.aload_n 0, 1) := dk_42 (dk_at dksX3_appendText_0 1 rfl rfl)
theorem dX3_appendText_2 : decode cX3_appendText 2 = .ok (.getfield 292, 3) := dk_180 1 36 (dk_at dksX3_appendText_0 2 rfl rfl)
theorem dX3_appendText_5 : decode cX3_appendText 5 = .ok (.iconst 4, 1) := dk_7 (dk_at dksX3_appendText_0 5 rfl rfl)
theorem dX3_appendText_6 : decode cX3_appendText 6 = .ok (.iadd, 1) := dk_96 (dk_at dksX3_appendText_0 6 rfl rfl)
theorem dX3_appendText_7 : decode cX3_appendText 7 = .ok (.sipush 900, 3) := dk_17 3 132 (dk_at dksX3_appendText_0 7 rfl rfl)
theorem dX3_appendText_10 : decode cX3_appendText 10 = .ok (.if_icmp .gt 7, 3) := dk_163 0 7 (dk_at dksX3_appendText_0 10 rfl rfl)
theorem dX3_appendText_13 : decode cX3_appendText 13 = .ok (.iconst 0, 1) := dk_3 (dk_at dksX3_appendText_0 13 rfl rfl)
theorem dX3_appendText_14 : decode cX3_appendText 14 = .ok (.goto 4, 3) := dk_167 0 4 (dk_at dksX3_appendText_0 14 rfl rfl)
theorem dX3_appendText_17 : decode cX3_appendText 17 = .ok (.iconst 1, 1) := dk_4 (dk_at dksX3_appendText_0 17 rfl rfl)
theorem dX3_appendText_18 : decode cX3_appendText 18 = .ok (.putfield 90, 3) := dk_181 0 90 (dk_at dksX3_appendText_0 18 rfl rfl)
theorem dX3_appendText_21 : decode cX3_appendText 21 = .ok (.aload_n 0, 1) := dk_42 (dk_at dksX3_appendText_0 21 rfl rfl)
theorem dX3_appendText_22 : decode cX3_appendText 22 = .ok (.getfield 90, 3) := dk_180 0 90 (dk_at dksX3_appendText_1 0 rfl rfl)
theorem dX3_appendText_25 : decode cX3_appendText 25 = .ok (.ifCond .le 5, 3) := dk_158 0 5 (dk_at dksX3_appendText_1 3 rfl rfl)
theorem dX3_appendText_28 : decode cX3_appendText 28 = .ok (.iconst 0, 1) := dk_3 (dk_at dksX3_appendText_1 6 rfl rfl)
theorem dX3_appendText_29 : decode cX3_appendText 29 = .ok (.ireturn, 1) := dk_172 (dk_at dksX3_appendText_1 7 rfl rfl)
theorem dX3_appendText_30 : decode cX3_appendText 30 = .ok (.bipush 24, 2) := dk_16 24 (dk_at dksX3_appendText_1 8 rfl rfl)
theorem dX3_appendText_32 : decode cX3_appendText 32 = .ok (.istore_n 2, 1) := dk_61 (dk_at dksX3_appendText_1 10 rfl rfl)
theorem dX3_appendText_33 : decode cX3_appendText 33 = .ok (.iload_n 2, 1) := dk_28 (dk_at dksX3_appendText_1 11 rfl rfl)
theorem dX3_appendText_34 : decode cX3_appendText 34 = .ok (.ifCond .lt 32, 3) := dk_155 0 32 (dk_at dksX3_appendText_1 12 rfl rfl)
theorem dX3_appendText_37 : decode cX3_appendText 37 = .ok (.aload_n 0, 1) := dk_42 (dk_at dksX3_appendText_1 15 rfl rfl)
theorem dX3_appendText_38 : decode cX3_appendText 38 = .ok (.getfield 68, 3) := dk_180 0 68 (dk_at dksX3_appendText_1 16 rfl rfl)
theorem dX3_appendText_41 : decode cX3_appendText 41 = .ok (.aload_n 0, 1) := dk_42 (dk_at dksX3_appendText_1 19 rfl rfl)
theorem dX3_appendText_42 : decode cX3_appendText 42 = .ok (.getfield 292, 3) := dk_180 1 36 (dk_at dksX3_appendText_1 20 rfl rfl)
theorem dX3_appendText_45 : decode cX3_appendText 45 = .ok (.iload_n 1, 1) := dk_27 (dk_at dksX3_appendText_1 23 rfl rfl)
theorem dX3_appendText_46 : decode cX3_appendText 46 = .ok (.iload_n 2, 1) := dk_28 (dk_at dksX3_appendText_2 0 rfl rfl)
theorem dX3_appendText_47 : decode cX3_appendText 47 = .ok (.ishr, 1) := dk_122 (dk_at dksX3_appendText_2 1 rfl rfl)
theorem dX3_appendText_48 : decode cX3_appendText 48 = .ok (.i2b, 1) := dk_145 (dk_at dksX3_appendText_2 2 rfl rfl)
theorem dX3_appendText_49 : decode cX3_appendText 49 = .ok (.bastore, 1) := dk_84 (dk_at dksX3_appendText_2 3 rfl rfl)
theorem dX3_appendText_50 : decode cX3_appendText 50 = .ok (.aload_n 0, 1) := dk_42 (dk_at dksX3_appendText_2 4 rfl rfl)
theorem dX3_appendText_51 : decode cX3_appendText 51 = .ok (.dup, 1) := dk_89 (dk_at dksX3_appendText_2 5 rfl rfl)
theorem dX3_appendText_52 : decode cX3_appendText 52 = .ok (.getfield 292, 3) := dk_180 1 36 (dk_at dksX3_appendText_2 6 rfl rfl)
theorem dX3_appendText_55 : decode cX3_appendText 55 = .ok (.iconst 1, 1) := dk_4 (dk_at dksX3_appendText_2 9 rfl rfl)
theorem dX3_appendText_56 : decode cX3_appendText 56 = .ok (.iadd, 1) := dk_96 (dk_at dksX3_appendText_2 10 rfl rfl)
theorem dX3_appendText_57 : decode cX3_appendText 57 = .ok (.putfield 292, 3) := dk_181 1 36 (dk_at dksX3_appendText_2 11 rfl rfl)
theorem dX3_appendText_60 : decode cX3_appendText 60 = .ok (.iinc 2 (-8), 3) := dk_132 2 248 (dk_at dksX3_appendText_2 14 rfl rfl)
theorem dX3_appendText_63 : decode cX3_appendText 63 = .ok (.goto (-30), 3) := dk_167 255 226 (dk_at dksX3_appendText_2 17 rfl rfl)
theorem dX3_appendText_66 : decode cX3_appendText 66 = .ok (.aload_n 0, 1) := dk_42 (dk_at dksX3_appendText_2 20 rfl rfl)
theorem dX3_appendText_67 : decode cX3_appendText 67 = .ok (.getfield 292, 3) := dk_180 1 36 (dk_at dksX3_appendText_2 21 rfl rfl)
theorem dX3_appendText_70 : decode cX3_appendText 70 = .ok (.ireturn, 1) := dk_172 (dk_at dksX3_appendText_3 0 rfl rfl)
abbrev cX3_truncateText : ByteArray := prog_18_method_84_code
def yX3_truncateText : MethodName := ⟨RX3, "truncateText", "(I)I"⟩
def dkwX3_truncateText_1 : List UInt8 := [180, 0, 90, 158, 0, 5, 3, 172, 42, 27, 181, 1, 36, 42, 180, 1, 36, 172]
abbrev dktX3_truncateText_1 : List UInt8 := dkwX3_truncateText_1 ++ []
def dkwX3_truncateText_0 : List UInt8 := [42, 27, 3, 42, 180, 1, 36, 184, 0, 124, 153, 0, 7, 3, 167, 0, 4, 4, 181, 0, 90, 42]
abbrev dktX3_truncateText_0 : List UInt8 := dkwX3_truncateText_0 ++ dktX3_truncateText_1
theorem dksX3_truncateText_0 : cX3_truncateText.data.toList.drop 0 = dktX3_truncateText_0 := by decide +kernel
theorem dksX3_truncateText_1 : cX3_truncateText.data.toList.drop 22 = dktX3_truncateText_1 := dk_seg dksX3_truncateText_0 22 rfl rfl
theorem dX3_truncateText_0 : decode cX3_truncateText 0 = .ok (.aload_n 0, 1) := dk_42 (dk_at dksX3_truncateText_0 0 rfl rfl)
theorem dX3_truncateText_1 : decode cX3_truncateText 1 = .ok (.iload_n 1, 1) := dk_27 (dk_at dksX3_truncateText_0 1 rfl rfl)
theorem dX3_truncateText_2 : decode cX3_truncateText 2 = .ok (.iconst 0, 1) := dk_3 (dk_at dksX3_truncateText_0 2 rfl rfl)
theorem dX3_truncateText_3 : decode cX3_truncateText 3 = .ok (.aload_n 0, 1) := dk_42 (dk_at dksX3_truncateText_0 3 rfl rfl)
theorem dX3_truncateText_4 : decode cX3_truncateText 4 = .ok (.getfield 292, 3) := dk_180 1 36 (dk_at dksX3_truncateText_0 4 rfl rfl)
theorem dX3_truncateText_7 : decode cX3_truncateText 7 = .ok (.invokestatic 124, 3) := dk_184 0 124 (dk_at dksX3_truncateText_0 7 rfl rfl)
theorem dX3_truncateText_10 : decode cX3_truncateText 10 = .ok (.ifCond .eq 7, 3) := dk_153 0 7 (dk_at dksX3_truncateText_0 10 rfl rfl)
theorem dX3_truncateText_13 : decode cX3_truncateText 13 = .ok (.iconst 0, 1) := dk_3 (dk_at dksX3_truncateText_0 13 rfl rfl)
theorem dX3_truncateText_14 : decode cX3_truncateText 14 = .ok (.goto 4, 3) := dk_167 0 4 (dk_at dksX3_truncateText_0 14 rfl rfl)
theorem dX3_truncateText_17 : decode cX3_truncateText 17 = .ok (.iconst 1, 1) := dk_4 (dk_at dksX3_truncateText_0 17 rfl rfl)
theorem dX3_truncateText_18 : decode cX3_truncateText 18 = .ok (.putfield 90, 3) := dk_181 0 90 (dk_at dksX3_truncateText_0 18 rfl rfl)
theorem dX3_truncateText_21 : decode cX3_truncateText 21 = .ok (.aload_n 0, 1) := dk_42 (dk_at dksX3_truncateText_0 21 rfl rfl)
theorem dX3_truncateText_22 : decode cX3_truncateText 22 = .ok (.getfield 90, 3) := dk_180 0 90 (dk_at dksX3_truncateText_1 0 rfl rfl)
theorem dX3_truncateText_25 : decode cX3_truncateText 25 = .ok (.ifCond .le 5, 3) := dk_158 0 5 (dk_at dksX3_truncateText_1 3 rfl rfl)
theorem dX3_truncateText_28 : decode cX3_truncateText 28 = .ok (.iconst 0, 1) := dk_3 (dk_at dksX3_truncateText_1 6 rfl rfl)
theorem dX3_truncateText_29 : decode cX3_truncateText 29 = .ok (.ireturn, 1) := dk_172 (dk_at dksX3_truncateText_1 7 rfl rfl)
theorem dX3_truncateText_30 : decode cX3_truncateText 30 = .ok (.aload_n 0, 1) := dk_42 (dk_at dksX3_truncateText_1 8 rfl rfl)
theorem dX3_truncateText_31 : decode cX3_truncateText 31 = .ok (.iload_n 1, 1) := dk_27 (dk_at dksX3_truncateText_1 9 rfl rfl)
theorem dX3_truncateText_32 : decode cX3_truncateText 32 = .ok (.putfield 292, 3) := dk_181 1 36 (dk_at dksX3_truncateText_1 10 rfl rfl)
theorem dX3_truncateText_35 : decode cX3_truncateText 35 = .ok (.aload_n 0, 1) := dk_42 (dk_at dksX3_truncateText_1 13 rfl rfl)
theorem dX3_truncateText_36 : decode cX3_truncateText 36 = .ok (.getfield 292, 3) := dk_180 1 36 (dk_at dksX3_truncateText_1 14 rfl rfl)
theorem dX3_truncateText_39 : decode cX3_truncateText 39 = .ok (.ireturn, 1) := dk_172 (dk_at dksX3_truncateText_1 17 rfl rfl)
abbrev cX3_load : ByteArray := prog_18_method_103_code
def yX3_load : MethodName := ⟨RX3, "load", "()I"⟩
def dkwX3_load_5 : List UInt8 := [3, 42, 180, 0, 7, 3, 184, 0, 86, 42, 3, 181, 0, 191, 42, 180, 0, 7, 4, 46, 172]
abbrev dktX3_load_5 : List UInt8 := dkwX3_load_5 ++ []
def dkwX3_load_4 : List UInt8 := [182, 1, 106, 167, 255, 238, 42, 3, 181, 1, 36, 42, 180, 1, 57, 158, 0, 5, 2, 172, 42, 180, 0, 13]
abbrev dktX3_load_4 : List UInt8 := dkwX3_load_4 ++ dktX3_load_5
def dkwX3_load_3 : List UInt8 := [182, 1, 70, 42, 27, 182, 0, 82, 42, 180, 1, 57, 154, 0, 17, 42, 180, 1, 51, 153, 0, 10, 42]
abbrev dktX3_load_3 : List UInt8 := dkwX3_load_3 ++ dktX3_load_4
def dkwX3_load_2 : List UInt8 := [182, 1, 76, 60, 42, 42, 180, 1, 51, 7, 160, 0, 7, 4, 167, 0, 4, 3, 4, 182, 1, 63, 42]
abbrev dktX3_load_2 : List UInt8 := dkwX3_load_2 ++ dktX3_load_3
def dkwX3_load_1 : List UInt8 := [182, 0, 82, 42, 182, 1, 60, 42, 182, 1, 73, 8, 160, 0, 43, 42, 182, 1, 70, 42, 16, 8, 16, 40]
abbrev dktX3_load_1 : List UInt8 := dkwX3_load_1 ++ dktX3_load_2
def dkwX3_load_0 : List UInt8 := [42, 3, 181, 0, 90, 42, 3, 181, 1, 39, 42, 3, 181, 1, 57, 42, 2, 181, 0, 72, 42, 16, 16]
abbrev dktX3_load_0 : List UInt8 := dkwX3_load_0 ++ dktX3_load_1
theorem dksX3_load_0 : cX3_load.data.toList.drop 0 = dktX3_load_0 := by decide +kernel
theorem dksX3_load_1 : cX3_load.data.toList.drop 23 = dktX3_load_1 := dk_seg dksX3_load_0 23 rfl rfl
theorem dksX3_load_2 : cX3_load.data.toList.drop 47 = dktX3_load_2 := dk_seg dksX3_load_1 24 rfl rfl
theorem dksX3_load_3 : cX3_load.data.toList.drop 70 = dktX3_load_3 := dk_seg dksX3_load_2 23 rfl rfl
theorem dksX3_load_4 : cX3_load.data.toList.drop 93 = dktX3_load_4 := dk_seg dksX3_load_3 23 rfl rfl
theorem dksX3_load_5 : cX3_load.data.toList.drop 117 = dktX3_load_5 := dk_seg dksX3_load_4 24 rfl rfl
theorem dX3_load_0 : decode cX3_load 0 = .ok (.aload_n 0, 1) := dk_42 (dk_at dksX3_load_0 0 rfl rfl)
theorem dX3_load_1 : decode cX3_load 1 = .ok (.iconst 0, 1) := dk_3 (dk_at dksX3_load_0 1 rfl rfl)
theorem dX3_load_2 : decode cX3_load 2 = .ok (.putfield 90, 3) := dk_181 0 90 (dk_at dksX3_load_0 2 rfl rfl)
theorem dX3_load_5 : decode cX3_load 5 = .ok (.aload_n 0, 1) := dk_42 (dk_at dksX3_load_0 5 rfl rfl)
theorem dX3_load_6 : decode cX3_load 6 = .ok (.iconst 0, 1) := dk_3 (dk_at dksX3_load_0 6 rfl rfl)
theorem dX3_load_7 : decode cX3_load 7 = .ok (.putfield 295, 3) := dk_181 1 39 (dk_at dksX3_load_0 7 rfl rfl)
theorem dX3_load_10 : decode cX3_load 10 = .ok (.aload_n 0, 1) := dk_42 (dk_at dksX3_load_0 10 rfl rfl)
theorem dX3_load_11 : decode cX3_load 11 = .ok (.iconst 0, 1) := dk_3 (dk_at dksX3_load_0 11 rfl rfl)
theorem dX3_load_12 : decode cX3_load 12 = .ok (.putfield 313, 3) := dk_181 1 57 (dk_at dksX3_load_0 12 rfl rfl)
theorem dX3_load_15 : decode cX3_load 15 = .ok (.aload_n 0, 1) := dk_42 (dk_at dksX3_load_0 15 rfl rfl)
theorem dX3_load_16 : decode cX3_load 16 = .ok (.iconst (-1), 1) := dk_2 (dk_at dksX3_load_0 16 rfl rfl)
theorem dX3_load_17 : decode cX3_load 17 = .ok (.putfield 72, 3) := dk_181 0 72 (dk_at dksX3_load_0 17 rfl rfl)
theorem dX3_load_20 : decode cX3_load 20 = .ok (.aload_n 0, 1) := dk_42 (dk_at dksX3_load_0 20 rfl rfl)
theorem dX3_load_21 : decode cX3_load 21 = .ok (.bipush 16, 2) := dk_16 16 (dk_at dksX3_load_0 21 rfl rfl)
theorem dX3_load_23 : decode cX3_load 23 = .ok (.invokevirtual 82, 3) := dk_182 0 82 (dk_at dksX3_load_1 0 rfl rfl)
theorem dX3_load_26 : decode cX3_load 26 = .ok (.aload_n 0, 1) := dk_42 (dk_at dksX3_load_1 3 rfl rfl)
theorem dX3_load_27 : decode cX3_load 27 = .ok (.invokevirtual 316, 3) := dk_182 1 60 (dk_at dksX3_load_1 4 rfl rfl)
theorem dX3_load_30 : decode cX3_load 30 = .ok (.aload_n 0, 1) := dk_42 (dk_at dksX3_load_1 7 rfl rfl)
theorem dX3_load_31 : decode cX3_load 31 = .ok (.invokevirtual 329, 3) := dk_182 1 73 (dk_at dksX3_load_1 8 rfl rfl)
theorem dX3_load_34 : decode cX3_load 34 = .ok (.iconst 5, 1) := dk_8 (dk_at dksX3_load_1 11 rfl rfl)
theorem dX3_load_35 : decode cX3_load 35 = .ok (.if_icmp .ne 43, 3) := dk_160 0 43 (dk_at dksX3_load_1 12 rfl rfl)
theorem dX3_load_38 : decode cX3_load 38 = .ok (.aload_n 0, 1) := dk_42 (dk_at dksX3_load_1 15 rfl rfl)
theorem dX3_load_39 : decode cX3_load 39 = .ok (.invokevirtual 326, 3) := dk_182 1 70 (dk_at dksX3_load_1 16 rfl rfl)
theorem dX3_load_42 : decode cX3_load 42 = .ok (.aload_n 0, 1) := dk_42 (dk_at dksX3_load_1 19 rfl rfl)
theorem dX3_load_43 : decode cX3_load 43 = .ok (.bipush 8, 2) := dk_16 8 (dk_at dksX3_load_1 20 rfl rfl)
theorem dX3_load_45 : decode cX3_load 45 = .ok (.bipush 40, 2) := dk_16 40 (dk_at dksX3_load_1 22 rfl rfl)
theorem dX3_load_47 : decode cX3_load 47 = .ok (.invokevirtual 332, 3) := dk_182 1 76 (dk_at dksX3_load_2 0 rfl rfl)
theorem dX3_load_50 : decode cX3_load 50 = .ok (.istore_n 1, 1) := dk_60 (dk_at dksX3_load_2 3 rfl rfl)
theorem dX3_load_51 : decode cX3_load 51 = .ok (.aload_n 0, 1) := dk_42 (dk_at dksX3_load_2 4 rfl rfl)
theorem dX3_load_52 : decode cX3_load 52 = .ok (.aload_n 0, 1) := dk_42 (dk_at dksX3_load_2 5 rfl rfl)
theorem dX3_load_53 : decode cX3_load 53 = .ok (.getfield 307, 3) := dk_180 1 51 (dk_at dksX3_load_2 6 rfl rfl)
theorem dX3_load_56 : decode cX3_load 56 = .ok (.iconst 4, 1) := dk_7 (dk_at dksX3_load_2 9 rfl rfl)
theorem dX3_load_57 : decode cX3_load 57 = .ok (.if_icmp .ne 7, 3) := dk_160 0 7 (dk_at dksX3_load_2 10 rfl rfl)
theorem dX3_load_60 : decode cX3_load 60 = .ok (.iconst 1, 1) := dk_4 (dk_at dksX3_load_2 13 rfl rfl)
theorem dX3_load_61 : decode cX3_load 61 = .ok (.goto 4, 3) := dk_167 0 4 (dk_at dksX3_load_2 14 rfl rfl)
theorem dX3_load_64 : decode cX3_load 64 = .ok (.iconst 0, 1) := dk_3 (dk_at dksX3_load_2 17 rfl rfl)
theorem dX3_load_65 : decode cX3_load 65 = .ok (.iconst 1, 1) := dk_4 (dk_at dksX3_load_2 18 rfl rfl)
theorem dX3_load_66 : decode cX3_load 66 = .ok (.invokevirtual 319, 3) := dk_182 1 63 (dk_at dksX3_load_2 19 rfl rfl)
theorem dX3_load_69 : decode cX3_load 69 = .ok (.aload_n 0, 1) := dk_42 (dk_at dksX3_load_2 22 rfl rfl)
theorem dX3_load_70 : decode cX3_load 70 = .ok (.invokevirtual 326, 3) := dk_182 1 70 (dk_at dksX3_load_3 0 rfl rfl)
theorem dX3_load_73 : decode cX3_load 73 = .ok (.aload_n 0, 1) := dk_42 (dk_at dksX3_load_3 3 rfl rfl)
theorem dX3_load_74 : decode cX3_load 74 = .ok (.iload_n 1, 1) := dk_27 (dk_at dksX3_load_3 4 rfl rfl)
theorem dX3_load_75 : decode cX3_load 75 = .ok (.invokevirtual 82, 3) := dk_182 0 82 (dk_at dksX3_load_3 5 rfl rfl)
theorem dX3_load_78 : decode cX3_load 78 = .ok (.aload_n 0, 1) := dk_42 (dk_at dksX3_load_3 8 rfl rfl)
theorem dX3_load_79 : decode cX3_load 79 = .ok (.getfield 313, 3) := dk_180 1 57 (dk_at dksX3_load_3 9 rfl rfl)
theorem dX3_load_82 : decode cX3_load 82 = .ok (.ifCond .ne 17, 3) := dk_154 0 17 (dk_at dksX3_load_3 12 rfl rfl)
theorem dX3_load_85 : decode cX3_load 85 = .ok (.aload_n 0, 1) := dk_42 (dk_at dksX3_load_3 15 rfl rfl)
theorem dX3_load_86 : decode cX3_load 86 = .ok (.getfield 307, 3) := dk_180 1 51 (dk_at dksX3_load_3 16 rfl rfl)
theorem dX3_load_89 : decode cX3_load 89 = .ok (.ifCond .eq 10, 3) := dk_153 0 10 (dk_at dksX3_load_3 19 rfl rfl)
theorem dX3_load_92 : decode cX3_load 92 = .ok (.aload_n 0, 1) := dk_42 (dk_at dksX3_load_3 22 rfl rfl)
theorem dX3_load_93 : decode cX3_load 93 = .ok (.invokevirtual 362, 3) := dk_182 1 106 (dk_at dksX3_load_4 0 rfl rfl)
theorem dX3_load_96 : decode cX3_load 96 = .ok (.goto (-18), 3) := dk_167 255 238 (dk_at dksX3_load_4 3 rfl rfl)
theorem dX3_load_99 : decode cX3_load 99 = .ok (.aload_n 0, 1) := dk_42 (dk_at dksX3_load_4 6 rfl rfl)
theorem dX3_load_100 : decode cX3_load 100 = .ok (.iconst 0, 1) := dk_3 (dk_at dksX3_load_4 7 rfl rfl)
theorem dX3_load_101 : decode cX3_load 101 = .ok (.putfield 292, 3) := dk_181 1 36 (dk_at dksX3_load_4 8 rfl rfl)
theorem dX3_load_104 : decode cX3_load 104 = .ok (.aload_n 0, 1) := dk_42 (dk_at dksX3_load_4 11 rfl rfl)
theorem dX3_load_105 : decode cX3_load 105 = .ok (.getfield 313, 3) := dk_180 1 57 (dk_at dksX3_load_4 12 rfl rfl)
theorem dX3_load_108 : decode cX3_load 108 = .ok (.ifCond .le 5, 3) := dk_158 0 5 (dk_at dksX3_load_4 15 rfl rfl)
theorem dX3_load_111 : decode cX3_load 111 = .ok (.iconst (-1), 1) := dk_2 (dk_at dksX3_load_4 18 rfl rfl)
theorem dX3_load_112 : decode cX3_load 112 = .ok (.ireturn, 1) := dk_172 (dk_at dksX3_load_4 19 rfl rfl)
theorem dX3_load_113 : decode cX3_load 113 = .ok (.aload_n 0, 1) := dk_42 (dk_at dksX3_load_4 20 rfl rfl)
theorem dX3_load_114 : decode cX3_load 114 = .ok (.getfield 13, 3) := dk_180 0 13 (dk_at dksX3_load_4 21 rfl rfl)
theorem dX3_load_117 : decode cX3_load 117 = .ok (.iconst 0, 1) := dk_3 (dk_at dksX3_load_5 0 rfl rfl)
theorem dX3_load_118 : decode cX3_load 118 = .ok (.aload_n 0, 1) := dk_42 (dk_at dksX3_load_5 1 rfl rfl)
theorem dX3_load_119 : decode cX3_load 119 = .ok (.getfield 7, 3) := dk_180 0 7 (dk_at dksX3_load_5 2 rfl rfl)
theorem dX3_load_122 : decode cX3_load 122 = .ok (.iconst 0, 1) := dk_3 (dk_at dksX3_load_5 5 rfl rfl)
theorem dX3_load_123 : decode cX3_load 123 = .ok (.invokestatic 86, 3) := dk_184 0 86 (dk_at dksX3_load_5 6 rfl rfl)
theorem dX3_load_126 : decode cX3_load 126 = .ok (.aload_n 0, 1) := dk_42 (dk_at dksX3_load_5 9 rfl rfl)
theorem dX3_load_127 : decode cX3_load 127 = .ok (.iconst 0, 1) := dk_3 (dk_at dksX3_load_5 10 rfl rfl)
theorem dX3_load_128 : decode cX3_load 128 = .ok (.putfield 191, 3) := dk_181 0 191 (dk_at dksX3_load_5 11 rfl rfl)
theorem dX3_load_131 : decode cX3_load 131 = .ok (.aload_n 0, 1) := dk_42 (dk_at dksX3_load_5 14 rfl rfl)
theorem dX3_load_132 : decode cX3_load 132 = .ok (.getfield 7, 3) := dk_180 0 7 (dk_at dksX3_load_5 15 rfl rfl)
theorem dX3_load_135 : decode cX3_load 135 = .ok (.iconst 1, 1) := dk_4 (dk_at dksX3_load_5 18 rfl rfl)
theorem dX3_load_136 : decode cX3_load 136 = .ok (.iaload, 1) := dk_46 (dk_at dksX3_load_5 19 rfl rfl)
theorem dX3_load_137 : decode cX3_load 137 = .ok (.ireturn, 1) := dk_172 (dk_at dksX3_load_5 20 rfl rfl)
abbrev cX3_advances : ByteArray := prog_18_method_87_code
def yX3_advances : MethodName := ⟨RX3, "advances", "()V"⟩
def dkwX3_advances_6 : List UInt8 := [96, 16, 48, 100, 181, 1, 54, 42, 89, 180, 1, 39, 4, 96, 181, 1, 39, 167, 255, 176, 177]
abbrev dktX3_advances_6 : List UInt8 := dkwX3_advances_6 ++ []
def dkwX3_advances_5 : List UInt8 := [17, 39, 16, 164, 0, 10, 42, 180, 1, 54, 167, 0, 18, 16, 10, 42, 180, 1, 54, 104, 42, 182, 1, 42]
abbrev dktX3_advances_5 : List UInt8 := dkwX3_advances_5 ++ dktX3_advances_6
def dkwX3_advances_4 : List UInt8 := [184, 1, 48, 42, 180, 1, 51, 160, 0, 60, 42, 42, 180, 1, 51, 5, 160, 0, 13, 42, 180, 1, 54]
abbrev dktX3_advances_4 : List UInt8 := dkwX3_advances_4 ++ dktX3_advances_5
def dkwX3_advances_3 : List UInt8 := [167, 0, 4, 3, 96, 181, 1, 39, 42, 180, 1, 51, 4, 6, 184, 0, 124, 153, 0, 74, 42, 182, 1, 42]
abbrev dktX3_advances_3 : List UInt8 := dkwX3_advances_3 ++ dktX3_advances_4
def dkwX3_advances_2 : List UInt8 := [181, 1, 51, 42, 3, 181, 1, 54, 42, 89, 180, 1, 39, 42, 180, 1, 51, 7, 161, 0, 7, 4]
abbrev dktX3_advances_2 : List UInt8 := dkwX3_advances_2 ++ dktX3_advances_3
def dkwX3_advances_1 : List UInt8 := [96, 181, 1, 39, 167, 255, 228, 42, 42, 180, 1, 39, 181, 1, 45, 42, 42, 182, 1, 42, 184, 1, 48]
abbrev dktX3_advances_1 : List UInt8 := dkwX3_advances_1 ++ dktX3_advances_2
def dkwX3_advances_0 : List UInt8 := [42, 182, 1, 42, 16, 32, 159, 0, 12, 42, 182, 1, 42, 16, 10, 160, 0, 16, 42, 89, 180, 1, 39, 4]
abbrev dktX3_advances_0 : List UInt8 := dkwX3_advances_0 ++ dktX3_advances_1
theorem dksX3_advances_0 : cX3_advances.data.toList.drop 0 = dktX3_advances_0 := by decide +kernel
theorem dksX3_advances_1 : cX3_advances.data.toList.drop 24 = dktX3_advances_1 := dk_seg dksX3_advances_0 24 rfl rfl
theorem dksX3_advances_2 : cX3_advances.data.toList.drop 47 = dktX3_advances_2 := dk_seg dksX3_advances_1 23 rfl rfl
theorem dksX3_advances_3 : cX3_advances.data.toList.drop 69 = dktX3_advances_3 := dk_seg dksX3_advances_2 22 rfl rfl
theorem dksX3_advances_4 : cX3_advances.data.toList.drop 93 = dktX3_advances_4 := dk_seg dksX3_advances_3 24 rfl rfl
theorem dksX3_advances_5 : cX3_advances.data.toList.drop 116 = dktX3_advances_5 := dk_seg dksX3_advances_4 23 rfl rfl
theorem dksX3_advances_6 : cX3_advances.data.toList.drop 140 = dktX3_advances_6 := dk_seg dksX3_advances_5 24 rfl rfl
theorem dX3_advances_0 : decode cX3_advances 0 = .ok (.aload_n 0, 1) := dk_42 (dk_at dksX3_advances_0 0 rfl rfl)
theorem dX3_advances_1 : decode cX3_advances 1 = .ok (.invokevirtual 298, 3) := dk_182 1 42 (dk_at dksX3_advances_0 1 rfl rfl)
theorem dX3_advances_4 : decode cX3_advances 4 = .ok (.bipush 32, 2) := dk_16 32 (dk_at dksX3_advances_0 4 rfl rfl)
theorem dX3_advances_6 : decode cX3_advances 6 = .ok (.if_icmp .eq 12, 3) := dk_159 0 12 (dk_at dksX3_advances_0 6 rfl rfl)
theorem dX3_advances_9 : decode cX3_advances 9 = .ok (.aload_n 0, 1) := dk_42 (dk_at dksX3_advances_0 9 rfl rfl)
theorem dX3_advances_10 : decode cX3_advances 10 = .ok (.invokevirtual 298, 3) := dk_182 1 42 (dk_at dksX3_advances_0 10 rfl rfl)
theorem dX3_advances_13 : decode cX3_advances 13 = .ok (.bipush 10, 2) := dk_16 10 (dk_at dksX3_advances_0 13 rfl rfl)
theorem dX3_advances_15 : decode cX3_advances 15 = .ok (.if_icmp .ne 16, 3) := dk_160 0 16 (dk_at dksX3_advances_0 15 rfl rfl)
theorem dX3_advances_18 : decode cX3_advances 18 = .ok (.aload_n 0, 1) := dk_42 (dk_at dksX3_advances_0 18 rfl rfl)
theorem dX3_advances_19 : decode cX3_advances 19 = .ok (.dup, 1) := dk_89 (dk_at dksX3_advances_0 19 rfl rfl)
theorem dX3_advances_20 : decode cX3_advances 20 = .ok (.getfield 295, 3) := dk_180 1 39 (dk_at dksX3_advances_0 20 rfl rfl)
theorem dX3_advances_23 : decode cX3_advances 23 = .ok (.iconst 1, 1) := dk_4 (dk_at dksX3_advances_0 23 rfl rfl)
theorem dX3_advances_24 : decode cX3_advances 24 = .ok (.iadd, 1) := dk_96 (dk_at dksX3_advances_1 0 rfl rfl)
theorem dX3_advances_25 : decode cX3_advances 25 = .ok (.putfield 295, 3) := dk_181 1 39 (dk_at dksX3_advances_1 1 rfl rfl)
theorem dX3_advances_28 : decode cX3_advances 28 = .ok (.goto (-28), 3) := dk_167 255 228 (dk_at dksX3_advances_1 4 rfl rfl)
theorem dX3_advances_31 : decode cX3_advances 31 = .ok (.aload_n 0, 1) := dk_42 (dk_at dksX3_advances_1 7 rfl rfl)
theorem dX3_advances_32 : decode cX3_advances 32 = .ok (.aload_n 0, 1) := dk_42 (dk_at dksX3_advances_1 8 rfl rfl)
theorem dX3_advances_33 : decode cX3_advances 33 = .ok (.getfield 295, 3) := dk_180 1 39 (dk_at dksX3_advances_1 9 rfl rfl)
theorem dX3_advances_36 : decode cX3_advances 36 = .ok (.putfield 301, 3) := dk_181 1 45 (dk_at dksX3_advances_1 12 rfl rfl)
theorem dX3_advances_39 : decode cX3_advances 39 = .ok (.aload_n 0, 1) := dk_42 (dk_at dksX3_advances_1 15 rfl rfl)
theorem dX3_advances_40 : decode cX3_advances 40 = .ok (.aload_n 0, 1) := dk_42 (dk_at dksX3_advances_1 16 rfl rfl)
theorem dX3_advances_41 : decode cX3_advances 41 = .ok (.invokevirtual 298, 3) := dk_182 1 42 (dk_at dksX3_advances_1 17 rfl rfl)
theorem dX3_advances_44 : decode cX3_advances 44 = .ok (.invokestatic 304, 3) := dk_184 1 48 (dk_at dksX3_advances_1 20 rfl rfl)
theorem dX3_advances_47 : decode cX3_advances 47 = .ok (.putfield 307, 3) := dk_181 1 51 (dk_at dksX3_advances_2 0 rfl rfl)
theorem dX3_advances_50 : decode cX3_advances 50 = .ok (.aload_n 0, 1) := dk_42 (dk_at dksX3_advances_2 3 rfl rfl)
theorem dX3_advances_51 : decode cX3_advances 51 = .ok (.iconst 0, 1) := dk_3 (dk_at dksX3_advances_2 4 rfl rfl)
theorem dX3_advances_52 : decode cX3_advances 52 = .ok (.putfield 310, 3) := dk_181 1 54 (dk_at dksX3_advances_2 5 rfl rfl)
theorem dX3_advances_55 : decode cX3_advances 55 = .ok (.aload_n 0, 1) := dk_42 (dk_at dksX3_advances_2 8 rfl rfl)
theorem dX3_advances_56 : decode cX3_advances 56 = .ok (.dup, 1) := dk_89 (dk_at dksX3_advances_2 9 rfl rfl)
theorem dX3_advances_57 : decode cX3_advances 57 = .ok (.getfield 295, 3) := dk_180 1 39 (dk_at dksX3_advances_2 10 rfl rfl)
theorem dX3_advances_60 : decode cX3_advances 60 = .ok (.aload_n 0, 1) := dk_42 (dk_at dksX3_advances_2 13 rfl rfl)
theorem dX3_advances_61 : decode cX3_advances 61 = .ok (.getfield 307, 3) := dk_180 1 51 (dk_at dksX3_advances_2 14 rfl rfl)
theorem dX3_advances_64 : decode cX3_advances 64 = .ok (.iconst 4, 1) := dk_7 (dk_at dksX3_advances_2 17 rfl rfl)
theorem dX3_advances_65 : decode cX3_advances 65 = .ok (.if_icmp .lt 7, 3) := dk_161 0 7 (dk_at dksX3_advances_2 18 rfl rfl)
theorem dX3_advances_68 : decode cX3_advances 68 = .ok (.iconst 1, 1) := dk_4 (dk_at dksX3_advances_2 21 rfl rfl)
theorem dX3_advances_69 : decode cX3_advances 69 = .ok (.goto 4, 3) := dk_167 0 4 (dk_at dksX3_advances_3 0 rfl rfl)
theorem dX3_advances_72 : decode cX3_advances 72 = .ok (.iconst 0, 1) := dk_3 (dk_at dksX3_advances_3 3 rfl rfl)
theorem dX3_advances_73 : decode cX3_advances 73 = .ok (.iadd, 1) := dk_96 (dk_at dksX3_advances_3 4 rfl rfl)
theorem dX3_advances_74 : decode cX3_advances 74 = .ok (.putfield 295, 3) := dk_181 1 39 (dk_at dksX3_advances_3 5 rfl rfl)
theorem dX3_advances_77 : decode cX3_advances 77 = .ok (.aload_n 0, 1) := dk_42 (dk_at dksX3_advances_3 8 rfl rfl)
theorem dX3_advances_78 : decode cX3_advances 78 = .ok (.getfield 307, 3) := dk_180 1 51 (dk_at dksX3_advances_3 9 rfl rfl)
theorem dX3_advances_81 : decode cX3_advances 81 = .ok (.iconst 1, 1) := dk_4 (dk_at dksX3_advances_3 12 rfl rfl)
theorem dX3_advances_82 : decode cX3_advances 82 = .ok (.iconst 3, 1) := dk_6 (dk_at dksX3_advances_3 13 rfl rfl)
theorem dX3_advances_83 : decode cX3_advances 83 = .ok (.invokestatic 124, 3) := dk_184 0 124 (dk_at dksX3_advances_3 14 rfl rfl)
theorem dX3_advances_86 : decode cX3_advances 86 = .ok (.ifCond .eq 74, 3) := dk_153 0 74 (dk_at dksX3_advances_3 17 rfl rfl)
theorem dX3_advances_89 : decode cX3_advances 89 = .ok (.aload_n 0, 1) := dk_42 (dk_at dksX3_advances_3 20 rfl rfl)
theorem dX3_advances_90 : decode cX3_advances 90 = .ok (.invokevirtual 298, 3) := dk_182 1 42 (dk_at dksX3_advances_3 21 rfl rfl)
theorem dX3_advances_93 : decode cX3_advances 93 = .ok (.invokestatic 304, 3) := dk_184 1 48 (dk_at dksX3_advances_4 0 rfl rfl)
theorem dX3_advances_96 : decode cX3_advances 96 = .ok (.aload_n 0, 1) := dk_42 (dk_at dksX3_advances_4 3 rfl rfl)
theorem dX3_advances_97 : decode cX3_advances 97 = .ok (.getfield 307, 3) := dk_180 1 51 (dk_at dksX3_advances_4 4 rfl rfl)
theorem dX3_advances_100 : decode cX3_advances 100 = .ok (.if_icmp .ne 60, 3) := dk_160 0 60 (dk_at dksX3_advances_4 7 rfl rfl)
theorem dX3_advances_103 : decode cX3_advances 103 = .ok (.aload_n 0, 1) := dk_42 (dk_at dksX3_advances_4 10 rfl rfl)
theorem dX3_advances_104 : decode cX3_advances 104 = .ok (.aload_n 0, 1) := dk_42 (dk_at dksX3_advances_4 11 rfl rfl)
theorem dX3_advances_105 : decode cX3_advances 105 = .ok (.getfield 307, 3) := dk_180 1 51 (dk_at dksX3_advances_4 12 rfl rfl)
theorem dX3_advances_108 : decode cX3_advances 108 = .ok (.iconst 2, 1) := dk_5 (dk_at dksX3_advances_4 15 rfl rfl)
theorem dX3_advances_109 : decode cX3_advances 109 = .ok (.if_icmp .ne 13, 3) := dk_160 0 13 (dk_at dksX3_advances_4 16 rfl rfl)
theorem dX3_advances_112 : decode cX3_advances 112 = .ok (.aload_n 0, 1) := dk_42 (dk_at dksX3_advances_4 19 rfl rfl)
theorem dX3_advances_113 : decode cX3_advances 113 = .ok (.getfield 310, 3) := dk_180 1 54 (dk_at dksX3_advances_4 20 rfl rfl)
theorem dX3_advances_116 : decode cX3_advances 116 = .ok (.sipush 10000, 3) := dk_17 39 16 (dk_at dksX3_advances_5 0 rfl rfl)
theorem dX3_advances_119 : decode cX3_advances 119 = .ok (.if_icmp .le 10, 3) := dk_164 0 10 (dk_at dksX3_advances_5 3 rfl rfl)
theorem dX3_advances_122 : decode cX3_advances 122 = .ok (.aload_n 0, 1) := dk_42 (dk_at dksX3_advances_5 6 rfl rfl)
theorem dX3_advances_123 : decode cX3_advances 123 = .ok (.getfield 310, 3) := dk_180 1 54 (dk_at dksX3_advances_5 7 rfl rfl)
theorem dX3_advances_126 : decode cX3_advances 126 = .ok (.goto 18, 3) := dk_167 0 18 (dk_at dksX3_advances_5 10 rfl rfl)
theorem dX3_advances_129 : decode cX3_advances 129 = .ok (.bipush 10, 2) := dk_16 10 (dk_at dksX3_advances_5 13 rfl rfl)
theorem dX3_advances_131 : decode cX3_advances 131 = .ok (.aload_n 0, 1) := dk_42 (dk_at dksX3_advances_5 15 rfl rfl)
theorem dX3_advances_132 : decode cX3_advances 132 = .ok (.getfield 310, 3) := dk_180 1 54 (dk_at dksX3_advances_5 16 rfl rfl)
theorem dX3_advances_135 : decode cX3_advances 135 = .ok (.imul, 1) := dk_104 (dk_at dksX3_advances_5 19 rfl rfl)
theorem dX3_advances_136 : decode cX3_advances 136 = .ok (.aload_n 0, 1) := dk_42 (dk_at dksX3_advances_5 20 rfl rfl)
theorem dX3_advances_137 : decode cX3_advances 137 = .ok (.invokevirtual 298, 3) := dk_182 1 42 (dk_at dksX3_advances_5 21 rfl rfl)
theorem dX3_advances_140 : decode cX3_advances 140 = .ok (.iadd, 1) := dk_96 (dk_at dksX3_advances_6 0 rfl rfl)
theorem dX3_advances_141 : decode cX3_advances 141 = .ok (.bipush 48, 2) := dk_16 48 (dk_at dksX3_advances_6 1 rfl rfl)
theorem dX3_advances_143 : decode cX3_advances 143 = .ok (.isub, 1) := dk_100 (dk_at dksX3_advances_6 3 rfl rfl)
theorem dX3_advances_144 : decode cX3_advances 144 = .ok (.putfield 310, 3) := dk_181 1 54 (dk_at dksX3_advances_6 4 rfl rfl)
theorem dX3_advances_147 : decode cX3_advances 147 = .ok (.aload_n 0, 1) := dk_42 (dk_at dksX3_advances_6 7 rfl rfl)
theorem dX3_advances_148 : decode cX3_advances 148 = .ok (.dup, 1) := dk_89 (dk_at dksX3_advances_6 8 rfl rfl)
theorem dX3_advances_149 : decode cX3_advances 149 = .ok (.getfield 295, 3) := dk_180 1 39 (dk_at dksX3_advances_6 9 rfl rfl)
theorem dX3_advances_152 : decode cX3_advances 152 = .ok (.iconst 1, 1) := dk_4 (dk_at dksX3_advances_6 12 rfl rfl)
theorem dX3_advances_153 : decode cX3_advances 153 = .ok (.iadd, 1) := dk_96 (dk_at dksX3_advances_6 13 rfl rfl)
theorem dX3_advances_154 : decode cX3_advances 154 = .ok (.putfield 295, 3) := dk_181 1 39 (dk_at dksX3_advances_6 14 rfl rfl)
theorem dX3_advances_157 : decode cX3_advances 157 = .ok (.goto (-80), 3) := dk_167 255 176 (dk_at dksX3_advances_6 17 rfl rfl)
theorem dX3_advances_160 : decode cX3_advances 160 = .ok (.return_, 1) := dk_177 (dk_at dksX3_advances_6 20 rfl rfl)
abbrev cX3_see : ByteArray := prog_18_method_85_code
def yX3_see : MethodName := ⟨RX3, "see", "()I"⟩
def dkwX3_see_1 : List UInt8 := [167, 0, 4, 2, 172]
abbrev dktX3_see_1 : List UInt8 := dkwX3_see_1 ++ []
def dkwX3_see_0 : List UInt8 := [42, 180, 1, 39, 42, 180, 1, 36, 162, 0, 19, 42, 180, 0, 68, 42, 180, 1, 39, 51, 17, 0, 255, 126]
abbrev dktX3_see_0 : List UInt8 := dkwX3_see_0 ++ dktX3_see_1
theorem dksX3_see_0 : cX3_see.data.toList.drop 0 = dktX3_see_0 := by decide +kernel
theorem dksX3_see_1 : cX3_see.data.toList.drop 24 = dktX3_see_1 := dk_seg dksX3_see_0 24 rfl rfl
theorem dX3_see_0 : decode cX3_see 0 = .ok (.aload_n 0, 1) := dk_42 (dk_at dksX3_see_0 0 rfl rfl)
theorem dX3_see_1 : decode cX3_see 1 = .ok (.getfield 295, 3) := dk_180 1 39 (dk_at dksX3_see_0 1 rfl rfl)
theorem dX3_see_4 : decode cX3_see 4 = .ok (.aload_n 0, 1) := dk_42 (dk_at dksX3_see_0 4 rfl rfl)
theorem dX3_see_5 : decode cX3_see 5 = .ok (.getfield 292, 3) := dk_180 1 36 (dk_at dksX3_see_0 5 rfl rfl)
theorem dX3_see_8 : decode cX3_see 8 = .ok (.if_icmp .ge 19, 3) := dk_162 0 19 (dk_at dksX3_see_0 8 rfl rfl)
theorem dX3_see_11 : decode cX3_see 11 = .ok (.aload_n 0, 1) := dk_42 (dk_at dksX3_see_0 11 rfl rfl)
theorem dX3_see_12 : decode cX3_see 12 = .ok (.getfield 68, 3) := dk_180 0 68 (dk_at dksX3_see_0 12 rfl rfl)
theorem dX3_see_15 : decode cX3_see 15 = .ok (.aload_n 0, 1) := dk_42 (dk_at dksX3_see_0 15 rfl rfl)
theorem dX3_see_16 : decode cX3_see 16 = .ok (.getfield 295, 3) := dk_180 1 39 (dk_at dksX3_see_0 16 rfl rfl)
theorem dX3_see_19 : decode cX3_see 19 = .ok (.baload, 1) := dk_51 (dk_at dksX3_see_0 19 rfl rfl)
theorem dX3_see_20 : decode cX3_see 20 = .ok (.sipush 255, 3) := dk_17 0 255 (dk_at dksX3_see_0 20 rfl rfl)
theorem dX3_see_23 : decode cX3_see 23 = .ok (.iand, 1) := dk_126 (dk_at dksX3_see_0 23 rfl rfl)
theorem dX3_see_24 : decode cX3_see 24 = .ok (.goto 4, 3) := dk_167 0 4 (dk_at dksX3_see_1 0 rfl rfl)
theorem dX3_see_27 : decode cX3_see 27 = .ok (.iconst (-1), 1) := dk_2 (dk_at dksX3_see_1 3 rfl rfl)
theorem dX3_see_28 : decode cX3_see 28 = .ok (.ireturn, 1) := dk_172 (dk_at dksX3_see_1 4 rfl rfl)
abbrev cX3_sortOf : ByteArray := prog_18_method_86_code
def yX3_sortOf : MethodName := ⟨RX3, "sortOf", "(I)I"⟩
def dkwX3_sortOf_3 : List UInt8 := [16, 6, 172]
abbrev dktX3_sortOf_3 : List UInt8 := dkwX3_sortOf_3 ++ []
def dkwX3_sortOf_2 : List UInt8 := [167, 0, 25, 26, 16, 59, 160, 0, 7, 7, 167, 0, 15, 26, 16, 45, 160, 0, 7, 8, 167, 0, 5]
abbrev dktX3_sortOf_2 : List UInt8 := dkwX3_sortOf_2 ++ dktX3_sortOf_3
def dkwX3_sortOf_1 : List UInt8 := [16, 57, 184, 0, 124, 153, 0, 5, 5, 172, 26, 16, 46, 159, 0, 9, 26, 16, 35, 160, 0, 7, 6]
abbrev dktX3_sortOf_1 : List UInt8 := dkwX3_sortOf_1 ++ dktX3_sortOf_2
def dkwX3_sortOf_0 : List UInt8 := [26, 2, 160, 0, 5, 3, 172, 26, 16, 97, 16, 122, 184, 0, 124, 153, 0, 5, 4, 172, 26, 16, 48]
abbrev dktX3_sortOf_0 : List UInt8 := dkwX3_sortOf_0 ++ dktX3_sortOf_1
theorem dksX3_sortOf_0 : cX3_sortOf.data.toList.drop 0 = dktX3_sortOf_0 := by decide +kernel
theorem dksX3_sortOf_1 : cX3_sortOf.data.toList.drop 23 = dktX3_sortOf_1 := dk_seg dksX3_sortOf_0 23 rfl rfl
theorem dksX3_sortOf_2 : cX3_sortOf.data.toList.drop 46 = dktX3_sortOf_2 := dk_seg dksX3_sortOf_1 23 rfl rfl
theorem dksX3_sortOf_3 : cX3_sortOf.data.toList.drop 69 = dktX3_sortOf_3 := dk_seg dksX3_sortOf_2 23 rfl rfl
theorem dX3_sortOf_0 : decode cX3_sortOf 0 = .ok (.iload_n 0, 1) := dk_26 (dk_at dksX3_sortOf_0 0 rfl rfl)
theorem dX3_sortOf_1 : decode cX3_sortOf 1 = .ok (.iconst (-1), 1) := dk_2 (dk_at dksX3_sortOf_0 1 rfl rfl)
theorem dX3_sortOf_2 : decode cX3_sortOf 2 = .ok (.if_icmp .ne 5, 3) := dk_160 0 5 (dk_at dksX3_sortOf_0 2 rfl rfl)
theorem dX3_sortOf_5 : decode cX3_sortOf 5 = .ok (.iconst 0, 1) := dk_3 (dk_at dksX3_sortOf_0 5 rfl rfl)
theorem dX3_sortOf_6 : decode cX3_sortOf 6 = .ok (.ireturn, 1) := dk_172 (dk_at dksX3_sortOf_0 6 rfl rfl)
theorem dX3_sortOf_7 : decode cX3_sortOf 7 = .ok (.iload_n 0, 1) := dk_26 (dk_at dksX3_sortOf_0 7 rfl rfl)
theorem dX3_sortOf_8 : decode cX3_sortOf 8 = .ok (.bipush 97, 2) := dk_16 97 (dk_at dksX3_sortOf_0 8 rfl rfl)
theorem dX3_sortOf_10 : decode cX3_sortOf 10 = .ok (.bipush 122, 2) := dk_16 122 (dk_at dksX3_sortOf_0 10 rfl rfl)
theorem dX3_sortOf_12 : decode cX3_sortOf 12 = .ok (.invokestatic 124, 3) := dk_184 0 124 (dk_at dksX3_sortOf_0 12 rfl rfl)
theorem dX3_sortOf_15 : decode cX3_sortOf 15 = .ok (.ifCond .eq 5, 3) := dk_153 0 5 (dk_at dksX3_sortOf_0 15 rfl rfl)
theorem dX3_sortOf_18 : decode cX3_sortOf 18 = .ok (.iconst 1, 1) := dk_4 (dk_at dksX3_sortOf_0 18 rfl rfl)
theorem dX3_sortOf_19 : decode cX3_sortOf 19 = .ok (.ireturn, 1) := dk_172 (dk_at dksX3_sortOf_0 19 rfl rfl)
theorem dX3_sortOf_20 : decode cX3_sortOf 20 = .ok (.iload_n 0, 1) := dk_26 (dk_at dksX3_sortOf_0 20 rfl rfl)
theorem dX3_sortOf_21 : decode cX3_sortOf 21 = .ok (.bipush 48, 2) := dk_16 48 (dk_at dksX3_sortOf_0 21 rfl rfl)
theorem dX3_sortOf_23 : decode cX3_sortOf 23 = .ok (.bipush 57, 2) := dk_16 57 (dk_at dksX3_sortOf_1 0 rfl rfl)
theorem dX3_sortOf_25 : decode cX3_sortOf 25 = .ok (.invokestatic 124, 3) := dk_184 0 124 (dk_at dksX3_sortOf_1 2 rfl rfl)
theorem dX3_sortOf_28 : decode cX3_sortOf 28 = .ok (.ifCond .eq 5, 3) := dk_153 0 5 (dk_at dksX3_sortOf_1 5 rfl rfl)
theorem dX3_sortOf_31 : decode cX3_sortOf 31 = .ok (.iconst 2, 1) := dk_5 (dk_at dksX3_sortOf_1 8 rfl rfl)
theorem dX3_sortOf_32 : decode cX3_sortOf 32 = .ok (.ireturn, 1) := dk_172 (dk_at dksX3_sortOf_1 9 rfl rfl)
theorem dX3_sortOf_33 : decode cX3_sortOf 33 = .ok (.iload_n 0, 1) := dk_26 (dk_at dksX3_sortOf_1 10 rfl rfl)
theorem dX3_sortOf_34 : decode cX3_sortOf 34 = .ok (.bipush 46, 2) := dk_16 46 (dk_at dksX3_sortOf_1 11 rfl rfl)
theorem dX3_sortOf_36 : decode cX3_sortOf 36 = .ok (.if_icmp .eq 9, 3) := dk_159 0 9 (dk_at dksX3_sortOf_1 13 rfl rfl)
theorem dX3_sortOf_39 : decode cX3_sortOf 39 = .ok (.iload_n 0, 1) := dk_26 (dk_at dksX3_sortOf_1 16 rfl rfl)
theorem dX3_sortOf_40 : decode cX3_sortOf 40 = .ok (.bipush 35, 2) := dk_16 35 (dk_at dksX3_sortOf_1 17 rfl rfl)
theorem dX3_sortOf_42 : decode cX3_sortOf 42 = .ok (.if_icmp .ne 7, 3) := dk_160 0 7 (dk_at dksX3_sortOf_1 19 rfl rfl)
theorem dX3_sortOf_45 : decode cX3_sortOf 45 = .ok (.iconst 3, 1) := dk_6 (dk_at dksX3_sortOf_1 22 rfl rfl)
theorem dX3_sortOf_46 : decode cX3_sortOf 46 = .ok (.goto 25, 3) := dk_167 0 25 (dk_at dksX3_sortOf_2 0 rfl rfl)
theorem dX3_sortOf_49 : decode cX3_sortOf 49 = .ok (.iload_n 0, 1) := dk_26 (dk_at dksX3_sortOf_2 3 rfl rfl)
theorem dX3_sortOf_50 : decode cX3_sortOf 50 = .ok (.bipush 59, 2) := dk_16 59 (dk_at dksX3_sortOf_2 4 rfl rfl)
theorem dX3_sortOf_52 : decode cX3_sortOf 52 = .ok (.if_icmp .ne 7, 3) := dk_160 0 7 (dk_at dksX3_sortOf_2 6 rfl rfl)
theorem dX3_sortOf_55 : decode cX3_sortOf 55 = .ok (.iconst 4, 1) := dk_7 (dk_at dksX3_sortOf_2 9 rfl rfl)
theorem dX3_sortOf_56 : decode cX3_sortOf 56 = .ok (.goto 15, 3) := dk_167 0 15 (dk_at dksX3_sortOf_2 10 rfl rfl)
theorem dX3_sortOf_59 : decode cX3_sortOf 59 = .ok (.iload_n 0, 1) := dk_26 (dk_at dksX3_sortOf_2 13 rfl rfl)
theorem dX3_sortOf_60 : decode cX3_sortOf 60 = .ok (.bipush 45, 2) := dk_16 45 (dk_at dksX3_sortOf_2 14 rfl rfl)
theorem dX3_sortOf_62 : decode cX3_sortOf 62 = .ok (.if_icmp .ne 7, 3) := dk_160 0 7 (dk_at dksX3_sortOf_2 16 rfl rfl)
theorem dX3_sortOf_65 : decode cX3_sortOf 65 = .ok (.iconst 5, 1) := dk_8 (dk_at dksX3_sortOf_2 19 rfl rfl)
theorem dX3_sortOf_66 : decode cX3_sortOf 66 = .ok (.goto 5, 3) := dk_167 0 5 (dk_at dksX3_sortOf_2 20 rfl rfl)
theorem dX3_sortOf_69 : decode cX3_sortOf 69 = .ok (.bipush 6, 2) := dk_16 6 (dk_at dksX3_sortOf_3 0 rfl rfl)
theorem dX3_sortOf_71 : decode cX3_sortOf 71 = .ok (.ireturn, 1) := dk_172 (dk_at dksX3_sortOf_3 2 rfl rfl)
abbrev cX3_wordHere : ByteArray := prog_18_method_90_code
def yX3_wordHere : MethodName := ⟨RX3, "wordHere", "()I"⟩
def dkwX3_wordHere_5 : List UInt8 := [167, 255, 142, 2, 172]
abbrev dktX3_wordHere_5 : List UInt8 := dkwX3_wordHere_5 ++ []
def dkwX3_wordHere_4 : List UInt8 := [180, 1, 39, 42, 180, 1, 45, 100, 29, 160, 0, 5, 28, 172, 27, 29, 4, 96, 96, 60, 132, 2, 1]
abbrev dktX3_wordHere_4 : List UInt8 := dkwX3_wordHere_4 ++ dktX3_wordHere_5
def dkwX3_wordHere_3 : List UInt8 := [51, 160, 0, 7, 4, 167, 0, 4, 3, 54, 4, 132, 3, 1, 167, 255, 193, 21, 4, 153, 0, 18, 42]
abbrev dktX3_wordHere_3 : List UInt8 := dkwX3_wordHere_3 ++ dktX3_wordHere_4
def dkwX3_wordHere_2 : List UInt8 := [180, 1, 39, 162, 0, 29, 42, 180, 0, 68, 42, 180, 1, 45, 29, 96, 51, 42, 180, 0, 76, 27, 29, 96]
abbrev dktX3_wordHere_2 : List UInt8 := dkwX3_wordHere_2 ++ dktX3_wordHere_3
def dkwX3_wordHere_1 : List UInt8 := [180, 0, 76, 27, 29, 96, 51, 16, 32, 159, 0, 56, 21, 4, 153, 0, 42, 42, 180, 1, 45, 29, 96, 42]
abbrev dktX3_wordHere_1 : List UInt8 := dkwX3_wordHere_1 ++ dktX3_wordHere_2
def dkwX3_wordHere_0 : List UInt8 := [3, 60, 3, 61, 42, 180, 1, 51, 4, 160, 0, 112, 28, 16, 9, 162, 0, 106, 3, 62, 4, 54, 4, 42]
abbrev dktX3_wordHere_0 : List UInt8 := dkwX3_wordHere_0 ++ dktX3_wordHere_1
theorem dksX3_wordHere_0 : cX3_wordHere.data.toList.drop 0 = dktX3_wordHere_0 := by decide +kernel
theorem dksX3_wordHere_1 : cX3_wordHere.data.toList.drop 24 = dktX3_wordHere_1 := dk_seg dksX3_wordHere_0 24 rfl rfl
theorem dksX3_wordHere_2 : cX3_wordHere.data.toList.drop 48 = dktX3_wordHere_2 := dk_seg dksX3_wordHere_1 24 rfl rfl
theorem dksX3_wordHere_3 : cX3_wordHere.data.toList.drop 72 = dktX3_wordHere_3 := dk_seg dksX3_wordHere_2 24 rfl rfl
theorem dksX3_wordHere_4 : cX3_wordHere.data.toList.drop 95 = dktX3_wordHere_4 := dk_seg dksX3_wordHere_3 23 rfl rfl
theorem dksX3_wordHere_5 : cX3_wordHere.data.toList.drop 118 = dktX3_wordHere_5 := dk_seg dksX3_wordHere_4 23 rfl rfl
theorem dX3_wordHere_0 : decode cX3_wordHere 0 = .ok (.iconst 0, 1) := dk_3 (dk_at dksX3_wordHere_0 0 rfl rfl)
theorem dX3_wordHere_1 : decode cX3_wordHere 1 = .ok (.istore_n 1, 1) := dk_60 (dk_at dksX3_wordHere_0 1 rfl rfl)
theorem dX3_wordHere_2 : decode cX3_wordHere 2 = .ok (.iconst 0, 1) := dk_3 (dk_at dksX3_wordHere_0 2 rfl rfl)
theorem dX3_wordHere_3 : decode cX3_wordHere 3 = .ok (.istore_n 2, 1) := dk_61 (dk_at dksX3_wordHere_0 3 rfl rfl)
theorem dX3_wordHere_4 : decode cX3_wordHere 4 = .ok (.aload_n 0, 1) := dk_42 (dk_at dksX3_wordHere_0 4 rfl rfl)
theorem dX3_wordHere_5 : decode cX3_wordHere 5 = .ok (.getfield 307, 3) := dk_180 1 51 (dk_at dksX3_wordHere_0 5 rfl rfl)
theorem dX3_wordHere_8 : decode cX3_wordHere 8 = .ok (.iconst 1, 1) := dk_4 (dk_at dksX3_wordHere_0 8 rfl rfl)
theorem dX3_wordHere_9 : decode cX3_wordHere 9 = .ok (.if_icmp .ne 112, 3) := dk_160 0 112 (dk_at dksX3_wordHere_0 9 rfl rfl)
theorem dX3_wordHere_12 : decode cX3_wordHere 12 = .ok (.iload_n 2, 1) := dk_28 (dk_at dksX3_wordHere_0 12 rfl rfl)
theorem dX3_wordHere_13 : decode cX3_wordHere 13 = .ok (.bipush 9, 2) := dk_16 9 (dk_at dksX3_wordHere_0 13 rfl rfl)
theorem dX3_wordHere_15 : decode cX3_wordHere 15 = .ok (.if_icmp .ge 106, 3) := dk_162 0 106 (dk_at dksX3_wordHere_0 15 rfl rfl)
theorem dX3_wordHere_18 : decode cX3_wordHere 18 = .ok (.iconst 0, 1) := dk_3 (dk_at dksX3_wordHere_0 18 rfl rfl)
theorem dX3_wordHere_19 : decode cX3_wordHere 19 = .ok (.istore_n 3, 1) := dk_62 (dk_at dksX3_wordHere_0 19 rfl rfl)
theorem dX3_wordHere_20 : decode cX3_wordHere 20 = .ok (.iconst 1, 1) := dk_4 (dk_at dksX3_wordHere_0 20 rfl rfl)
theorem dX3_wordHere_21 : decode cX3_wordHere 21 = .ok (.istore 4, 2) := dk_54 4 (dk_at dksX3_wordHere_0 21 rfl rfl)
theorem dX3_wordHere_23 : decode cX3_wordHere 23 = .ok (.aload_n 0, 1) := dk_42 (dk_at dksX3_wordHere_0 23 rfl rfl)
theorem dX3_wordHere_24 : decode cX3_wordHere 24 = .ok (.getfield 76, 3) := dk_180 0 76 (dk_at dksX3_wordHere_1 0 rfl rfl)
theorem dX3_wordHere_27 : decode cX3_wordHere 27 = .ok (.iload_n 1, 1) := dk_27 (dk_at dksX3_wordHere_1 3 rfl rfl)
theorem dX3_wordHere_28 : decode cX3_wordHere 28 = .ok (.iload_n 3, 1) := dk_29 (dk_at dksX3_wordHere_1 4 rfl rfl)
theorem dX3_wordHere_29 : decode cX3_wordHere 29 = .ok (.iadd, 1) := dk_96 (dk_at dksX3_wordHere_1 5 rfl rfl)
theorem dX3_wordHere_30 : decode cX3_wordHere 30 = .ok (.baload, 1) := dk_51 (dk_at dksX3_wordHere_1 6 rfl rfl)
theorem dX3_wordHere_31 : decode cX3_wordHere 31 = .ok (.bipush 32, 2) := dk_16 32 (dk_at dksX3_wordHere_1 7 rfl rfl)
theorem dX3_wordHere_33 : decode cX3_wordHere 33 = .ok (.if_icmp .eq 56, 3) := dk_159 0 56 (dk_at dksX3_wordHere_1 9 rfl rfl)
theorem dX3_wordHere_36 : decode cX3_wordHere 36 = .ok (.iload 4, 2) := dk_21 4 (dk_at dksX3_wordHere_1 12 rfl rfl)
theorem dX3_wordHere_38 : decode cX3_wordHere 38 = .ok (.ifCond .eq 42, 3) := dk_153 0 42 (dk_at dksX3_wordHere_1 14 rfl rfl)
theorem dX3_wordHere_41 : decode cX3_wordHere 41 = .ok (.aload_n 0, 1) := dk_42 (dk_at dksX3_wordHere_1 17 rfl rfl)
theorem dX3_wordHere_42 : decode cX3_wordHere 42 = .ok (.getfield 301, 3) := dk_180 1 45 (dk_at dksX3_wordHere_1 18 rfl rfl)
theorem dX3_wordHere_45 : decode cX3_wordHere 45 = .ok (.iload_n 3, 1) := dk_29 (dk_at dksX3_wordHere_1 21 rfl rfl)
theorem dX3_wordHere_46 : decode cX3_wordHere 46 = .ok (.iadd, 1) := dk_96 (dk_at dksX3_wordHere_1 22 rfl rfl)
theorem dX3_wordHere_47 : decode cX3_wordHere 47 = .ok (.aload_n 0, 1) := dk_42 (dk_at dksX3_wordHere_1 23 rfl rfl)
theorem dX3_wordHere_48 : decode cX3_wordHere 48 = .ok (.getfield 295, 3) := dk_180 1 39 (dk_at dksX3_wordHere_2 0 rfl rfl)
theorem dX3_wordHere_51 : decode cX3_wordHere 51 = .ok (.if_icmp .ge 29, 3) := dk_162 0 29 (dk_at dksX3_wordHere_2 3 rfl rfl)
theorem dX3_wordHere_54 : decode cX3_wordHere 54 = .ok (.aload_n 0, 1) := dk_42 (dk_at dksX3_wordHere_2 6 rfl rfl)
theorem dX3_wordHere_55 : decode cX3_wordHere 55 = .ok (.getfield 68, 3) := dk_180 0 68 (dk_at dksX3_wordHere_2 7 rfl rfl)
theorem dX3_wordHere_58 : decode cX3_wordHere 58 = .ok (.aload_n 0, 1) := dk_42 (dk_at dksX3_wordHere_2 10 rfl rfl)
theorem dX3_wordHere_59 : decode cX3_wordHere 59 = .ok (.getfield 301, 3) := dk_180 1 45 (dk_at dksX3_wordHere_2 11 rfl rfl)
theorem dX3_wordHere_62 : decode cX3_wordHere 62 = .ok (.iload_n 3, 1) := dk_29 (dk_at dksX3_wordHere_2 14 rfl rfl)
theorem dX3_wordHere_63 : decode cX3_wordHere 63 = .ok (.iadd, 1) := dk_96 (dk_at dksX3_wordHere_2 15 rfl rfl)
theorem dX3_wordHere_64 : decode cX3_wordHere 64 = .ok (.baload, 1) := dk_51 (dk_at dksX3_wordHere_2 16 rfl rfl)
theorem dX3_wordHere_65 : decode cX3_wordHere 65 = .ok (.aload_n 0, 1) := dk_42 (dk_at dksX3_wordHere_2 17 rfl rfl)
theorem dX3_wordHere_66 : decode cX3_wordHere 66 = .ok (.getfield 76, 3) := dk_180 0 76 (dk_at dksX3_wordHere_2 18 rfl rfl)
theorem dX3_wordHere_69 : decode cX3_wordHere 69 = .ok (.iload_n 1, 1) := dk_27 (dk_at dksX3_wordHere_2 21 rfl rfl)
theorem dX3_wordHere_70 : decode cX3_wordHere 70 = .ok (.iload_n 3, 1) := dk_29 (dk_at dksX3_wordHere_2 22 rfl rfl)
theorem dX3_wordHere_71 : decode cX3_wordHere 71 = .ok (.iadd, 1) := dk_96 (dk_at dksX3_wordHere_2 23 rfl rfl)
theorem dX3_wordHere_72 : decode cX3_wordHere 72 = .ok (.baload, 1) := dk_51 (dk_at dksX3_wordHere_3 0 rfl rfl)
theorem dX3_wordHere_73 : decode cX3_wordHere 73 = .ok (.if_icmp .ne 7, 3) := dk_160 0 7 (dk_at dksX3_wordHere_3 1 rfl rfl)
theorem dX3_wordHere_76 : decode cX3_wordHere 76 = .ok (.iconst 1, 1) := dk_4 (dk_at dksX3_wordHere_3 4 rfl rfl)
theorem dX3_wordHere_77 : decode cX3_wordHere 77 = .ok (.goto 4, 3) := dk_167 0 4 (dk_at dksX3_wordHere_3 5 rfl rfl)
theorem dX3_wordHere_80 : decode cX3_wordHere 80 = .ok (.iconst 0, 1) := dk_3 (dk_at dksX3_wordHere_3 8 rfl rfl)
theorem dX3_wordHere_81 : decode cX3_wordHere 81 = .ok (.istore 4, 2) := dk_54 4 (dk_at dksX3_wordHere_3 9 rfl rfl)
theorem dX3_wordHere_83 : decode cX3_wordHere 83 = .ok (.iinc 3 1, 3) := dk_132 3 1 (dk_at dksX3_wordHere_3 11 rfl rfl)
theorem dX3_wordHere_86 : decode cX3_wordHere 86 = .ok (.goto (-63), 3) := dk_167 255 193 (dk_at dksX3_wordHere_3 14 rfl rfl)
theorem dX3_wordHere_89 : decode cX3_wordHere 89 = .ok (.iload 4, 2) := dk_21 4 (dk_at dksX3_wordHere_3 17 rfl rfl)
theorem dX3_wordHere_91 : decode cX3_wordHere 91 = .ok (.ifCond .eq 18, 3) := dk_153 0 18 (dk_at dksX3_wordHere_3 19 rfl rfl)
theorem dX3_wordHere_94 : decode cX3_wordHere 94 = .ok (.aload_n 0, 1) := dk_42 (dk_at dksX3_wordHere_3 22 rfl rfl)
theorem dX3_wordHere_95 : decode cX3_wordHere 95 = .ok (.getfield 295, 3) := dk_180 1 39 (dk_at dksX3_wordHere_4 0 rfl rfl)
theorem dX3_wordHere_98 : decode cX3_wordHere 98 = .ok (.aload_n 0, 1) := dk_42 (dk_at dksX3_wordHere_4 3 rfl rfl)
theorem dX3_wordHere_99 : decode cX3_wordHere 99 = .ok (.getfield 301, 3) := dk_180 1 45 (dk_at dksX3_wordHere_4 4 rfl rfl)
theorem dX3_wordHere_102 : decode cX3_wordHere 102 = .ok (.isub, 1) := dk_100 (dk_at dksX3_wordHere_4 7 rfl rfl)
theorem dX3_wordHere_103 : decode cX3_wordHere 103 = .ok (.iload_n 3, 1) := dk_29 (dk_at dksX3_wordHere_4 8 rfl rfl)
theorem dX3_wordHere_104 : decode cX3_wordHere 104 = .ok (.if_icmp .ne 5, 3) := dk_160 0 5 (dk_at dksX3_wordHere_4 9 rfl rfl)
theorem dX3_wordHere_107 : decode cX3_wordHere 107 = .ok (.iload_n 2, 1) := dk_28 (dk_at dksX3_wordHere_4 12 rfl rfl)
theorem dX3_wordHere_108 : decode cX3_wordHere 108 = .ok (.ireturn, 1) := dk_172 (dk_at dksX3_wordHere_4 13 rfl rfl)
theorem dX3_wordHere_109 : decode cX3_wordHere 109 = .ok (.iload_n 1, 1) := dk_27 (dk_at dksX3_wordHere_4 14 rfl rfl)
theorem dX3_wordHere_110 : decode cX3_wordHere 110 = .ok (.iload_n 3, 1) := dk_29 (dk_at dksX3_wordHere_4 15 rfl rfl)
theorem dX3_wordHere_111 : decode cX3_wordHere 111 = .ok (.iconst 1, 1) := dk_4 (dk_at dksX3_wordHere_4 16 rfl rfl)
theorem dX3_wordHere_112 : decode cX3_wordHere 112 = .ok (.iadd, 1) := dk_96 (dk_at dksX3_wordHere_4 17 rfl rfl)
theorem dX3_wordHere_113 : decode cX3_wordHere 113 = .ok (.iadd, 1) := dk_96 (dk_at dksX3_wordHere_4 18 rfl rfl)
theorem dX3_wordHere_114 : decode cX3_wordHere 114 = .ok (.istore_n 1, 1) := dk_60 (dk_at dksX3_wordHere_4 19 rfl rfl)
theorem dX3_wordHere_115 : decode cX3_wordHere 115 = .ok (.iinc 2 1, 3) := dk_132 2 1 (dk_at dksX3_wordHere_4 20 rfl rfl)
theorem dX3_wordHere_118 : decode cX3_wordHere 118 = .ok (.goto (-114), 3) := dk_167 255 142 (dk_at dksX3_wordHere_5 0 rfl rfl)
theorem dX3_wordHere_121 : decode cX3_wordHere 121 = .ok (.iconst (-1), 1) := dk_2 (dk_at dksX3_wordHere_5 3 rfl rfl)
theorem dX3_wordHere_122 : decode cX3_wordHere 122 = .ok (.ireturn, 1) := dk_172 (dk_at dksX3_wordHere_5 4 rfl rfl)
abbrev cX3_goesOn : ByteArray := prog_18_method_89_code
def yX3_goesOn : MethodName := ⟨RX3, "goesOn", "()V"⟩
def dkwX3_goesOn_0 : List UInt8 := [42, 180, 1, 57, 154, 0, 7, 42, 182, 1, 60, 177]
abbrev dktX3_goesOn_0 : List UInt8 := dkwX3_goesOn_0 ++ []
theorem dksX3_goesOn_0 : cX3_goesOn.data.toList.drop 0 = dktX3_goesOn_0 := by decide +kernel
theorem dX3_goesOn_0 : decode cX3_goesOn 0 = .ok (.aload_n 0, 1) := dk_42 (dk_at dksX3_goesOn_0 0 rfl rfl)
theorem dX3_goesOn_1 : decode cX3_goesOn 1 = .ok (.getfield 313, 3) := dk_180 1 57 (dk_at dksX3_goesOn_0 1 rfl rfl)
theorem dX3_goesOn_4 : decode cX3_goesOn 4 = .ok (.ifCond .ne 7, 3) := dk_154 0 7 (dk_at dksX3_goesOn_0 4 rfl rfl)
theorem dX3_goesOn_7 : decode cX3_goesOn 7 = .ok (.aload_n 0, 1) := dk_42 (dk_at dksX3_goesOn_0 7 rfl rfl)
theorem dX3_goesOn_8 : decode cX3_goesOn 8 = .ok (.invokevirtual 316, 3) := dk_182 1 60 (dk_at dksX3_goesOn_0 8 rfl rfl)
theorem dX3_goesOn_11 : decode cX3_goesOn 11 = .ok (.return_, 1) := dk_177 (dk_at dksX3_goesOn_0 11 rfl rfl)
abbrev cX3_reads : ByteArray := prog_18_method_92_code
def yX3_reads : MethodName := ⟨RX3, "reads", "(II)I"⟩
def dkwX3_reads_0 : List UInt8 := [42, 27, 28, 182, 1, 67, 62, 42, 182, 1, 70, 29, 172]
abbrev dktX3_reads_0 : List UInt8 := dkwX3_reads_0 ++ []
theorem dksX3_reads_0 : cX3_reads.data.toList.drop 0 = dktX3_reads_0 := by decide +kernel
theorem dX3_reads_0 : decode cX3_reads 0 = .ok (.aload_n 0, 1) := dk_42 (dk_at dksX3_reads_0 0 rfl rfl)
theorem dX3_reads_1 : decode cX3_reads 1 = .ok (.iload_n 1, 1) := dk_27 (dk_at dksX3_reads_0 1 rfl rfl)
theorem dX3_reads_2 : decode cX3_reads 2 = .ok (.iload_n 2, 1) := dk_28 (dk_at dksX3_reads_0 2 rfl rfl)
theorem dX3_reads_3 : decode cX3_reads 3 = .ok (.invokevirtual 323, 3) := dk_182 1 67 (dk_at dksX3_reads_0 3 rfl rfl)
theorem dX3_reads_6 : decode cX3_reads 6 = .ok (.istore_n 3, 1) := dk_62 (dk_at dksX3_reads_0 6 rfl rfl)
theorem dX3_reads_7 : decode cX3_reads 7 = .ok (.aload_n 0, 1) := dk_42 (dk_at dksX3_reads_0 7 rfl rfl)
theorem dX3_reads_8 : decode cX3_reads 8 = .ok (.invokevirtual 326, 3) := dk_182 1 70 (dk_at dksX3_reads_0 8 rfl rfl)
theorem dX3_reads_11 : decode cX3_reads 11 = .ok (.iload_n 3, 1) := dk_29 (dk_at dksX3_reads_0 11 rfl rfl)
theorem dX3_reads_12 : decode cX3_reads 12 = .ok (.ireturn, 1) := dk_172 (dk_at dksX3_reads_0 12 rfl rfl)
abbrev cX3_looks : ByteArray := prog_18_method_91_code
def yX3_looks : MethodName := ⟨RX3, "looks", "(II)I"⟩
def dkwX3_looks_2 : List UInt8 := [42, 180, 1, 57, 158, 0, 7, 27, 167, 0, 7, 42, 180, 1, 54, 172]
abbrev dktX3_looks_2 : List UInt8 := dkwX3_looks_2 ++ []
def dkwX3_looks_1 : List UInt8 := [157, 0, 15, 42, 180, 1, 54, 27, 28, 184, 0, 124, 153, 0, 7, 4, 167, 0, 4, 3, 5, 182, 1, 63]
abbrev dktX3_looks_1 : List UInt8 := dkwX3_looks_1 ++ dktX3_looks_2
def dkwX3_looks_0 : List UInt8 := [42, 42, 180, 1, 51, 5, 160, 0, 7, 4, 167, 0, 4, 3, 4, 182, 1, 63, 42, 42, 180, 1, 57]
abbrev dktX3_looks_0 : List UInt8 := dkwX3_looks_0 ++ dktX3_looks_1
theorem dksX3_looks_0 : cX3_looks.data.toList.drop 0 = dktX3_looks_0 := by decide +kernel
theorem dksX3_looks_1 : cX3_looks.data.toList.drop 23 = dktX3_looks_1 := dk_seg dksX3_looks_0 23 rfl rfl
theorem dksX3_looks_2 : cX3_looks.data.toList.drop 47 = dktX3_looks_2 := dk_seg dksX3_looks_1 24 rfl rfl
theorem dX3_looks_0 : decode cX3_looks 0 = .ok (.aload_n 0, 1) := dk_42 (dk_at dksX3_looks_0 0 rfl rfl)
theorem dX3_looks_1 : decode cX3_looks 1 = .ok (.aload_n 0, 1) := dk_42 (dk_at dksX3_looks_0 1 rfl rfl)
theorem dX3_looks_2 : decode cX3_looks 2 = .ok (.getfield 307, 3) := dk_180 1 51 (dk_at dksX3_looks_0 2 rfl rfl)
theorem dX3_looks_5 : decode cX3_looks 5 = .ok (.iconst 2, 1) := dk_5 (dk_at dksX3_looks_0 5 rfl rfl)
theorem dX3_looks_6 : decode cX3_looks 6 = .ok (.if_icmp .ne 7, 3) := dk_160 0 7 (dk_at dksX3_looks_0 6 rfl rfl)
theorem dX3_looks_9 : decode cX3_looks 9 = .ok (.iconst 1, 1) := dk_4 (dk_at dksX3_looks_0 9 rfl rfl)
theorem dX3_looks_10 : decode cX3_looks 10 = .ok (.goto 4, 3) := dk_167 0 4 (dk_at dksX3_looks_0 10 rfl rfl)
theorem dX3_looks_13 : decode cX3_looks 13 = .ok (.iconst 0, 1) := dk_3 (dk_at dksX3_looks_0 13 rfl rfl)
theorem dX3_looks_14 : decode cX3_looks 14 = .ok (.iconst 1, 1) := dk_4 (dk_at dksX3_looks_0 14 rfl rfl)
theorem dX3_looks_15 : decode cX3_looks 15 = .ok (.invokevirtual 319, 3) := dk_182 1 63 (dk_at dksX3_looks_0 15 rfl rfl)
theorem dX3_looks_18 : decode cX3_looks 18 = .ok (.aload_n 0, 1) := dk_42 (dk_at dksX3_looks_0 18 rfl rfl)
theorem dX3_looks_19 : decode cX3_looks 19 = .ok (.aload_n 0, 1) := dk_42 (dk_at dksX3_looks_0 19 rfl rfl)
theorem dX3_looks_20 : decode cX3_looks 20 = .ok (.getfield 313, 3) := dk_180 1 57 (dk_at dksX3_looks_0 20 rfl rfl)
theorem dX3_looks_23 : decode cX3_looks 23 = .ok (.ifCond .gt 15, 3) := dk_157 0 15 (dk_at dksX3_looks_1 0 rfl rfl)
theorem dX3_looks_26 : decode cX3_looks 26 = .ok (.aload_n 0, 1) := dk_42 (dk_at dksX3_looks_1 3 rfl rfl)
theorem dX3_looks_27 : decode cX3_looks 27 = .ok (.getfield 310, 3) := dk_180 1 54 (dk_at dksX3_looks_1 4 rfl rfl)
theorem dX3_looks_30 : decode cX3_looks 30 = .ok (.iload_n 1, 1) := dk_27 (dk_at dksX3_looks_1 7 rfl rfl)
theorem dX3_looks_31 : decode cX3_looks 31 = .ok (.iload_n 2, 1) := dk_28 (dk_at dksX3_looks_1 8 rfl rfl)
theorem dX3_looks_32 : decode cX3_looks 32 = .ok (.invokestatic 124, 3) := dk_184 0 124 (dk_at dksX3_looks_1 9 rfl rfl)
theorem dX3_looks_35 : decode cX3_looks 35 = .ok (.ifCond .eq 7, 3) := dk_153 0 7 (dk_at dksX3_looks_1 12 rfl rfl)
theorem dX3_looks_38 : decode cX3_looks 38 = .ok (.iconst 1, 1) := dk_4 (dk_at dksX3_looks_1 15 rfl rfl)
theorem dX3_looks_39 : decode cX3_looks 39 = .ok (.goto 4, 3) := dk_167 0 4 (dk_at dksX3_looks_1 16 rfl rfl)
theorem dX3_looks_42 : decode cX3_looks 42 = .ok (.iconst 0, 1) := dk_3 (dk_at dksX3_looks_1 19 rfl rfl)
theorem dX3_looks_43 : decode cX3_looks 43 = .ok (.iconst 2, 1) := dk_5 (dk_at dksX3_looks_1 20 rfl rfl)
theorem dX3_looks_44 : decode cX3_looks 44 = .ok (.invokevirtual 319, 3) := dk_182 1 63 (dk_at dksX3_looks_1 21 rfl rfl)
theorem dX3_looks_47 : decode cX3_looks 47 = .ok (.aload_n 0, 1) := dk_42 (dk_at dksX3_looks_2 0 rfl rfl)
theorem dX3_looks_48 : decode cX3_looks 48 = .ok (.getfield 313, 3) := dk_180 1 57 (dk_at dksX3_looks_2 1 rfl rfl)
theorem dX3_looks_51 : decode cX3_looks 51 = .ok (.ifCond .le 7, 3) := dk_158 0 7 (dk_at dksX3_looks_2 4 rfl rfl)
theorem dX3_looks_54 : decode cX3_looks 54 = .ok (.iload_n 1, 1) := dk_27 (dk_at dksX3_looks_2 7 rfl rfl)
theorem dX3_looks_55 : decode cX3_looks 55 = .ok (.goto 7, 3) := dk_167 0 7 (dk_at dksX3_looks_2 8 rfl rfl)
theorem dX3_looks_58 : decode cX3_looks 58 = .ok (.aload_n 0, 1) := dk_42 (dk_at dksX3_looks_2 11 rfl rfl)
theorem dX3_looks_59 : decode cX3_looks 59 = .ok (.getfield 310, 3) := dk_180 1 54 (dk_at dksX3_looks_2 12 rfl rfl)
theorem dX3_looks_62 : decode cX3_looks 62 = .ok (.ireturn, 1) := dk_172 (dk_at dksX3_looks_2 15 rfl rfl)
abbrev cX3_must : ByteArray := prog_18_method_88_code
def yX3_must : MethodName := ⟨RX3, "must", "(ZI)V"⟩
def dkwX3_must_1 : List UInt8 := [177]
abbrev dktX3_must_1 : List UInt8 := dkwX3_must_1 ++ []
def dkwX3_must_0 : List UInt8 := [27, 154, 0, 23, 42, 180, 1, 57, 154, 0, 16, 42, 28, 181, 1, 57, 42, 42, 180, 1, 45, 181, 0, 72]
abbrev dktX3_must_0 : List UInt8 := dkwX3_must_0 ++ dktX3_must_1
theorem dksX3_must_0 : cX3_must.data.toList.drop 0 = dktX3_must_0 := by decide +kernel
theorem dksX3_must_1 : cX3_must.data.toList.drop 24 = dktX3_must_1 := dk_seg dksX3_must_0 24 rfl rfl
theorem dX3_must_0 : decode cX3_must 0 = .ok (.iload_n 1, 1) := dk_27 (dk_at dksX3_must_0 0 rfl rfl)
theorem dX3_must_1 : decode cX3_must 1 = .ok (.ifCond .ne 23, 3) := dk_154 0 23 (dk_at dksX3_must_0 1 rfl rfl)
theorem dX3_must_4 : decode cX3_must 4 = .ok (.aload_n 0, 1) := dk_42 (dk_at dksX3_must_0 4 rfl rfl)
theorem dX3_must_5 : decode cX3_must 5 = .ok (.getfield 313, 3) := dk_180 1 57 (dk_at dksX3_must_0 5 rfl rfl)
theorem dX3_must_8 : decode cX3_must 8 = .ok (.ifCond .ne 16, 3) := dk_154 0 16 (dk_at dksX3_must_0 8 rfl rfl)
theorem dX3_must_11 : decode cX3_must 11 = .ok (.aload_n 0, 1) := dk_42 (dk_at dksX3_must_0 11 rfl rfl)
theorem dX3_must_12 : decode cX3_must 12 = .ok (.iload_n 2, 1) := dk_28 (dk_at dksX3_must_0 12 rfl rfl)
theorem dX3_must_13 : decode cX3_must 13 = .ok (.putfield 313, 3) := dk_181 1 57 (dk_at dksX3_must_0 13 rfl rfl)
theorem dX3_must_16 : decode cX3_must 16 = .ok (.aload_n 0, 1) := dk_42 (dk_at dksX3_must_0 16 rfl rfl)
theorem dX3_must_17 : decode cX3_must 17 = .ok (.aload_n 0, 1) := dk_42 (dk_at dksX3_must_0 17 rfl rfl)
theorem dX3_must_18 : decode cX3_must 18 = .ok (.getfield 301, 3) := dk_180 1 45 (dk_at dksX3_must_0 18 rfl rfl)
theorem dX3_must_21 : decode cX3_must 21 = .ok (.putfield 72, 3) := dk_181 0 72 (dk_at dksX3_must_0 21 rfl rfl)
theorem dX3_must_24 : decode cX3_must 24 = .ok (.return_, 1) := dk_177 (dk_at dksX3_must_1 0 rfl rfl)
abbrev cX3_readsStatement : ByteArray := prog_18_method_102_code
def yX3_readsStatement : MethodName := ⟨RX3, "readsStatement", "()V"⟩
def dkwX3_readsStatement_4 : List UInt8 := [167, 0, 4, 3, 4, 182, 1, 63, 42, 182, 1, 70, 177]
abbrev dktX3_readsStatement_4 : List UInt8 := dkwX3_readsStatement_4 ++ []
def dkwX3_readsStatement_3 : List UInt8 := [160, 0, 10, 42, 182, 1, 100, 167, 0, 7, 42, 182, 1, 103, 42, 42, 180, 1, 51, 7, 160, 0, 7, 4]
abbrev dktX3_readsStatement_3 : List UInt8 := dkwX3_readsStatement_3 ++ dktX3_readsStatement_4
def dkwX3_readsStatement_2 : List UInt8 := [180, 1, 57, 158, 0, 4, 177, 27, 5, 163, 0, 11, 42, 27, 182, 1, 97, 167, 0, 19, 27, 6]
abbrev dktX3_readsStatement_2 : List UInt8 := dkwX3_readsStatement_2 ++ dktX3_readsStatement_3
def dkwX3_readsStatement_1 : List UInt8 := [180, 0, 13, 4, 46, 16, 20, 162, 0, 7, 4, 167, 0, 4, 3, 8, 182, 1, 63, 42, 182, 1, 70, 42]
abbrev dktX3_readsStatement_1 : List UInt8 := dkwX3_readsStatement_1 ++ dktX3_readsStatement_2
def dkwX3_readsStatement_0 : List UInt8 := [42, 182, 1, 73, 60, 42, 27, 3, 7, 184, 0, 124, 4, 182, 1, 63, 42, 27, 5, 163, 0, 14, 42]
abbrev dktX3_readsStatement_0 : List UInt8 := dkwX3_readsStatement_0 ++ dktX3_readsStatement_1
theorem dksX3_readsStatement_0 : cX3_readsStatement.data.toList.drop 0 = dktX3_readsStatement_0 := by decide +kernel
theorem dksX3_readsStatement_1 : cX3_readsStatement.data.toList.drop 23 = dktX3_readsStatement_1 := dk_seg dksX3_readsStatement_0 23 rfl rfl
theorem dksX3_readsStatement_2 : cX3_readsStatement.data.toList.drop 47 = dktX3_readsStatement_2 := dk_seg dksX3_readsStatement_1 24 rfl rfl
theorem dksX3_readsStatement_3 : cX3_readsStatement.data.toList.drop 69 = dktX3_readsStatement_3 := dk_seg dksX3_readsStatement_2 22 rfl rfl
theorem dksX3_readsStatement_4 : cX3_readsStatement.data.toList.drop 93 = dktX3_readsStatement_4 := dk_seg dksX3_readsStatement_3 24 rfl rfl
theorem dX3_readsStatement_0 : decode cX3_readsStatement 0 = .ok (.aload_n 0, 1) := dk_42 (dk_at dksX3_readsStatement_0 0 rfl rfl)
theorem dX3_readsStatement_1 : decode cX3_readsStatement 1 = .ok (.invokevirtual 329, 3) := dk_182 1 73 (dk_at dksX3_readsStatement_0 1 rfl rfl)
theorem dX3_readsStatement_4 : decode cX3_readsStatement 4 = .ok (.istore_n 1, 1) := dk_60 (dk_at dksX3_readsStatement_0 4 rfl rfl)
theorem dX3_readsStatement_5 : decode cX3_readsStatement 5 = .ok (.aload_n 0, 1) := dk_42 (dk_at dksX3_readsStatement_0 5 rfl rfl)
theorem dX3_readsStatement_6 : decode cX3_readsStatement 6 = .ok (.iload_n 1, 1) := dk_27 (dk_at dksX3_readsStatement_0 6 rfl rfl)
theorem dX3_readsStatement_7 : decode cX3_readsStatement 7 = .ok (.iconst 0, 1) := dk_3 (dk_at dksX3_readsStatement_0 7 rfl rfl)
theorem dX3_readsStatement_8 : decode cX3_readsStatement 8 = .ok (.iconst 4, 1) := dk_7 (dk_at dksX3_readsStatement_0 8 rfl rfl)
theorem dX3_readsStatement_9 : decode cX3_readsStatement 9 = .ok (.invokestatic 124, 3) := dk_184 0 124 (dk_at dksX3_readsStatement_0 9 rfl rfl)
theorem dX3_readsStatement_12 : decode cX3_readsStatement 12 = .ok (.iconst 1, 1) := dk_4 (dk_at dksX3_readsStatement_0 12 rfl rfl)
theorem dX3_readsStatement_13 : decode cX3_readsStatement 13 = .ok (.invokevirtual 319, 3) := dk_182 1 63 (dk_at dksX3_readsStatement_0 13 rfl rfl)
theorem dX3_readsStatement_16 : decode cX3_readsStatement 16 = .ok (.aload_n 0, 1) := dk_42 (dk_at dksX3_readsStatement_0 16 rfl rfl)
theorem dX3_readsStatement_17 : decode cX3_readsStatement 17 = .ok (.iload_n 1, 1) := dk_27 (dk_at dksX3_readsStatement_0 17 rfl rfl)
theorem dX3_readsStatement_18 : decode cX3_readsStatement 18 = .ok (.iconst 2, 1) := dk_5 (dk_at dksX3_readsStatement_0 18 rfl rfl)
theorem dX3_readsStatement_19 : decode cX3_readsStatement 19 = .ok (.if_icmp .gt 14, 3) := dk_163 0 14 (dk_at dksX3_readsStatement_0 19 rfl rfl)
theorem dX3_readsStatement_22 : decode cX3_readsStatement 22 = .ok (.aload_n 0, 1) := dk_42 (dk_at dksX3_readsStatement_0 22 rfl rfl)
theorem dX3_readsStatement_23 : decode cX3_readsStatement 23 = .ok (.getfield 13, 3) := dk_180 0 13 (dk_at dksX3_readsStatement_1 0 rfl rfl)
theorem dX3_readsStatement_26 : decode cX3_readsStatement 26 = .ok (.iconst 1, 1) := dk_4 (dk_at dksX3_readsStatement_1 3 rfl rfl)
theorem dX3_readsStatement_27 : decode cX3_readsStatement 27 = .ok (.iaload, 1) := dk_46 (dk_at dksX3_readsStatement_1 4 rfl rfl)
theorem dX3_readsStatement_28 : decode cX3_readsStatement 28 = .ok (.bipush 20, 2) := dk_16 20 (dk_at dksX3_readsStatement_1 5 rfl rfl)
theorem dX3_readsStatement_30 : decode cX3_readsStatement 30 = .ok (.if_icmp .ge 7, 3) := dk_162 0 7 (dk_at dksX3_readsStatement_1 7 rfl rfl)
theorem dX3_readsStatement_33 : decode cX3_readsStatement 33 = .ok (.iconst 1, 1) := dk_4 (dk_at dksX3_readsStatement_1 10 rfl rfl)
theorem dX3_readsStatement_34 : decode cX3_readsStatement 34 = .ok (.goto 4, 3) := dk_167 0 4 (dk_at dksX3_readsStatement_1 11 rfl rfl)
theorem dX3_readsStatement_37 : decode cX3_readsStatement 37 = .ok (.iconst 0, 1) := dk_3 (dk_at dksX3_readsStatement_1 14 rfl rfl)
theorem dX3_readsStatement_38 : decode cX3_readsStatement 38 = .ok (.iconst 5, 1) := dk_8 (dk_at dksX3_readsStatement_1 15 rfl rfl)
theorem dX3_readsStatement_39 : decode cX3_readsStatement 39 = .ok (.invokevirtual 319, 3) := dk_182 1 63 (dk_at dksX3_readsStatement_1 16 rfl rfl)
theorem dX3_readsStatement_42 : decode cX3_readsStatement 42 = .ok (.aload_n 0, 1) := dk_42 (dk_at dksX3_readsStatement_1 19 rfl rfl)
theorem dX3_readsStatement_43 : decode cX3_readsStatement 43 = .ok (.invokevirtual 326, 3) := dk_182 1 70 (dk_at dksX3_readsStatement_1 20 rfl rfl)
theorem dX3_readsStatement_46 : decode cX3_readsStatement 46 = .ok (.aload_n 0, 1) := dk_42 (dk_at dksX3_readsStatement_1 23 rfl rfl)
theorem dX3_readsStatement_47 : decode cX3_readsStatement 47 = .ok (.getfield 313, 3) := dk_180 1 57 (dk_at dksX3_readsStatement_2 0 rfl rfl)
theorem dX3_readsStatement_50 : decode cX3_readsStatement 50 = .ok (.ifCond .le 4, 3) := dk_158 0 4 (dk_at dksX3_readsStatement_2 3 rfl rfl)
theorem dX3_readsStatement_53 : decode cX3_readsStatement 53 = .ok (.return_, 1) := dk_177 (dk_at dksX3_readsStatement_2 6 rfl rfl)
theorem dX3_readsStatement_54 : decode cX3_readsStatement 54 = .ok (.iload_n 1, 1) := dk_27 (dk_at dksX3_readsStatement_2 7 rfl rfl)
theorem dX3_readsStatement_55 : decode cX3_readsStatement 55 = .ok (.iconst 2, 1) := dk_5 (dk_at dksX3_readsStatement_2 8 rfl rfl)
theorem dX3_readsStatement_56 : decode cX3_readsStatement 56 = .ok (.if_icmp .gt 11, 3) := dk_163 0 11 (dk_at dksX3_readsStatement_2 9 rfl rfl)
theorem dX3_readsStatement_59 : decode cX3_readsStatement 59 = .ok (.aload_n 0, 1) := dk_42 (dk_at dksX3_readsStatement_2 12 rfl rfl)
theorem dX3_readsStatement_60 : decode cX3_readsStatement 60 = .ok (.iload_n 1, 1) := dk_27 (dk_at dksX3_readsStatement_2 13 rfl rfl)
theorem dX3_readsStatement_61 : decode cX3_readsStatement 61 = .ok (.invokevirtual 353, 3) := dk_182 1 97 (dk_at dksX3_readsStatement_2 14 rfl rfl)
theorem dX3_readsStatement_64 : decode cX3_readsStatement 64 = .ok (.goto 19, 3) := dk_167 0 19 (dk_at dksX3_readsStatement_2 17 rfl rfl)
theorem dX3_readsStatement_67 : decode cX3_readsStatement 67 = .ok (.iload_n 1, 1) := dk_27 (dk_at dksX3_readsStatement_2 20 rfl rfl)
theorem dX3_readsStatement_68 : decode cX3_readsStatement 68 = .ok (.iconst 3, 1) := dk_6 (dk_at dksX3_readsStatement_2 21 rfl rfl)
theorem dX3_readsStatement_69 : decode cX3_readsStatement 69 = .ok (.if_icmp .ne 10, 3) := dk_160 0 10 (dk_at dksX3_readsStatement_3 0 rfl rfl)
theorem dX3_readsStatement_72 : decode cX3_readsStatement 72 = .ok (.aload_n 0, 1) := dk_42 (dk_at dksX3_readsStatement_3 3 rfl rfl)
theorem dX3_readsStatement_73 : decode cX3_readsStatement 73 = .ok (.invokevirtual 356, 3) := dk_182 1 100 (dk_at dksX3_readsStatement_3 4 rfl rfl)
theorem dX3_readsStatement_76 : decode cX3_readsStatement 76 = .ok (.goto 7, 3) := dk_167 0 7 (dk_at dksX3_readsStatement_3 7 rfl rfl)
theorem dX3_readsStatement_79 : decode cX3_readsStatement 79 = .ok (.aload_n 0, 1) := dk_42 (dk_at dksX3_readsStatement_3 10 rfl rfl)
theorem dX3_readsStatement_80 : decode cX3_readsStatement 80 = .ok (.invokevirtual 359, 3) := dk_182 1 103 (dk_at dksX3_readsStatement_3 11 rfl rfl)
theorem dX3_readsStatement_83 : decode cX3_readsStatement 83 = .ok (.aload_n 0, 1) := dk_42 (dk_at dksX3_readsStatement_3 14 rfl rfl)
theorem dX3_readsStatement_84 : decode cX3_readsStatement 84 = .ok (.aload_n 0, 1) := dk_42 (dk_at dksX3_readsStatement_3 15 rfl rfl)
theorem dX3_readsStatement_85 : decode cX3_readsStatement 85 = .ok (.getfield 307, 3) := dk_180 1 51 (dk_at dksX3_readsStatement_3 16 rfl rfl)
theorem dX3_readsStatement_88 : decode cX3_readsStatement 88 = .ok (.iconst 4, 1) := dk_7 (dk_at dksX3_readsStatement_3 19 rfl rfl)
theorem dX3_readsStatement_89 : decode cX3_readsStatement 89 = .ok (.if_icmp .ne 7, 3) := dk_160 0 7 (dk_at dksX3_readsStatement_3 20 rfl rfl)
theorem dX3_readsStatement_92 : decode cX3_readsStatement 92 = .ok (.iconst 1, 1) := dk_4 (dk_at dksX3_readsStatement_3 23 rfl rfl)
theorem dX3_readsStatement_93 : decode cX3_readsStatement 93 = .ok (.goto 4, 3) := dk_167 0 4 (dk_at dksX3_readsStatement_4 0 rfl rfl)
theorem dX3_readsStatement_96 : decode cX3_readsStatement 96 = .ok (.iconst 0, 1) := dk_3 (dk_at dksX3_readsStatement_4 3 rfl rfl)
theorem dX3_readsStatement_97 : decode cX3_readsStatement 97 = .ok (.iconst 1, 1) := dk_4 (dk_at dksX3_readsStatement_4 4 rfl rfl)
theorem dX3_readsStatement_98 : decode cX3_readsStatement 98 = .ok (.invokevirtual 319, 3) := dk_182 1 63 (dk_at dksX3_readsStatement_4 5 rfl rfl)
theorem dX3_readsStatement_101 : decode cX3_readsStatement 101 = .ok (.aload_n 0, 1) := dk_42 (dk_at dksX3_readsStatement_4 8 rfl rfl)
theorem dX3_readsStatement_102 : decode cX3_readsStatement 102 = .ok (.invokevirtual 326, 3) := dk_182 1 70 (dk_at dksX3_readsStatement_4 9 rfl rfl)
theorem dX3_readsStatement_105 : decode cX3_readsStatement 105 = .ok (.return_, 1) := dk_177 (dk_at dksX3_readsStatement_4 12 rfl rfl)
abbrev cX3_readsLine : ByteArray := prog_18_method_101_code
def yX3_readsLine : MethodName := ⟨RX3, "readsLine", "(I)V"⟩
def dkwX3_readsLine_2 : List UInt8 := [182, 1, 63, 42, 182, 1, 94, 177]
abbrev dktX3_readsLine_2 : List UInt8 := dkwX3_readsLine_2 ++ []
def dkwX3_readsLine_1 : List UInt8 := [167, 0, 7, 42, 182, 1, 91, 42, 42, 180, 1, 51, 7, 160, 0, 7, 4, 167, 0, 4, 3, 4]
abbrev dktX3_readsLine_1 : List UInt8 := dkwX3_readsLine_1 ++ dktX3_readsLine_2
def dkwX3_readsLine_0 : List UInt8 := [42, 182, 1, 82, 27, 154, 0, 10, 42, 182, 1, 85, 167, 0, 19, 27, 4, 160, 0, 10, 42, 182, 1, 88]
abbrev dktX3_readsLine_0 : List UInt8 := dkwX3_readsLine_0 ++ dktX3_readsLine_1
theorem dksX3_readsLine_0 : cX3_readsLine.data.toList.drop 0 = dktX3_readsLine_0 := by decide +kernel
theorem dksX3_readsLine_1 : cX3_readsLine.data.toList.drop 24 = dktX3_readsLine_1 := dk_seg dksX3_readsLine_0 24 rfl rfl
theorem dksX3_readsLine_2 : cX3_readsLine.data.toList.drop 46 = dktX3_readsLine_2 := dk_seg dksX3_readsLine_1 22 rfl rfl
theorem dX3_readsLine_0 : decode cX3_readsLine 0 = .ok (.aload_n 0, 1) := dk_42 (dk_at dksX3_readsLine_0 0 rfl rfl)
theorem dX3_readsLine_1 : decode cX3_readsLine 1 = .ok (.invokevirtual 338, 3) := dk_182 1 82 (dk_at dksX3_readsLine_0 1 rfl rfl)
theorem dX3_readsLine_4 : decode cX3_readsLine 4 = .ok (.iload_n 1, 1) := dk_27 (dk_at dksX3_readsLine_0 4 rfl rfl)
theorem dX3_readsLine_5 : decode cX3_readsLine 5 = .ok (.ifCond .ne 10, 3) := dk_154 0 10 (dk_at dksX3_readsLine_0 5 rfl rfl)
theorem dX3_readsLine_8 : decode cX3_readsLine 8 = .ok (.aload_n 0, 1) := dk_42 (dk_at dksX3_readsLine_0 8 rfl rfl)
theorem dX3_readsLine_9 : decode cX3_readsLine 9 = .ok (.invokevirtual 341, 3) := dk_182 1 85 (dk_at dksX3_readsLine_0 9 rfl rfl)
theorem dX3_readsLine_12 : decode cX3_readsLine 12 = .ok (.goto 19, 3) := dk_167 0 19 (dk_at dksX3_readsLine_0 12 rfl rfl)
theorem dX3_readsLine_15 : decode cX3_readsLine 15 = .ok (.iload_n 1, 1) := dk_27 (dk_at dksX3_readsLine_0 15 rfl rfl)
theorem dX3_readsLine_16 : decode cX3_readsLine 16 = .ok (.iconst 1, 1) := dk_4 (dk_at dksX3_readsLine_0 16 rfl rfl)
theorem dX3_readsLine_17 : decode cX3_readsLine 17 = .ok (.if_icmp .ne 10, 3) := dk_160 0 10 (dk_at dksX3_readsLine_0 17 rfl rfl)
theorem dX3_readsLine_20 : decode cX3_readsLine 20 = .ok (.aload_n 0, 1) := dk_42 (dk_at dksX3_readsLine_0 20 rfl rfl)
theorem dX3_readsLine_21 : decode cX3_readsLine 21 = .ok (.invokevirtual 344, 3) := dk_182 1 88 (dk_at dksX3_readsLine_0 21 rfl rfl)
theorem dX3_readsLine_24 : decode cX3_readsLine 24 = .ok (.goto 7, 3) := dk_167 0 7 (dk_at dksX3_readsLine_1 0 rfl rfl)
theorem dX3_readsLine_27 : decode cX3_readsLine 27 = .ok (.aload_n 0, 1) := dk_42 (dk_at dksX3_readsLine_1 3 rfl rfl)
theorem dX3_readsLine_28 : decode cX3_readsLine 28 = .ok (.invokevirtual 347, 3) := dk_182 1 91 (dk_at dksX3_readsLine_1 4 rfl rfl)
theorem dX3_readsLine_31 : decode cX3_readsLine 31 = .ok (.aload_n 0, 1) := dk_42 (dk_at dksX3_readsLine_1 7 rfl rfl)
theorem dX3_readsLine_32 : decode cX3_readsLine 32 = .ok (.aload_n 0, 1) := dk_42 (dk_at dksX3_readsLine_1 8 rfl rfl)
theorem dX3_readsLine_33 : decode cX3_readsLine 33 = .ok (.getfield 307, 3) := dk_180 1 51 (dk_at dksX3_readsLine_1 9 rfl rfl)
theorem dX3_readsLine_36 : decode cX3_readsLine 36 = .ok (.iconst 4, 1) := dk_7 (dk_at dksX3_readsLine_1 12 rfl rfl)
theorem dX3_readsLine_37 : decode cX3_readsLine 37 = .ok (.if_icmp .ne 7, 3) := dk_160 0 7 (dk_at dksX3_readsLine_1 13 rfl rfl)
theorem dX3_readsLine_40 : decode cX3_readsLine 40 = .ok (.iconst 1, 1) := dk_4 (dk_at dksX3_readsLine_1 16 rfl rfl)
theorem dX3_readsLine_41 : decode cX3_readsLine 41 = .ok (.goto 4, 3) := dk_167 0 4 (dk_at dksX3_readsLine_1 17 rfl rfl)
theorem dX3_readsLine_44 : decode cX3_readsLine 44 = .ok (.iconst 0, 1) := dk_3 (dk_at dksX3_readsLine_1 20 rfl rfl)
theorem dX3_readsLine_45 : decode cX3_readsLine 45 = .ok (.iconst 1, 1) := dk_4 (dk_at dksX3_readsLine_1 21 rfl rfl)
theorem dX3_readsLine_46 : decode cX3_readsLine 46 = .ok (.invokevirtual 319, 3) := dk_182 1 63 (dk_at dksX3_readsLine_2 0 rfl rfl)
theorem dX3_readsLine_49 : decode cX3_readsLine 49 = .ok (.aload_n 0, 1) := dk_42 (dk_at dksX3_readsLine_2 3 rfl rfl)
theorem dX3_readsLine_50 : decode cX3_readsLine 50 = .ok (.invokevirtual 350, 3) := dk_182 1 94 (dk_at dksX3_readsLine_2 4 rfl rfl)
theorem dX3_readsLine_53 : decode cX3_readsLine 53 = .ok (.return_, 1) := dk_177 (dk_at dksX3_readsLine_2 7 rfl rfl)
abbrev cX3_laysTold : ByteArray := prog_18_method_93_code
def yX3_laysTold : MethodName := ⟨RX3, "laysTold", "()V"⟩
def dkwX3_laysTold_1 : List UInt8 := [2, 167, 0, 15, 42, 180, 0, 13, 4, 46, 4, 100, 3, 184, 0, 96, 182, 0, 100, 42, 182, 0, 145, 177]
abbrev dktX3_laysTold_1 : List UInt8 := dkwX3_laysTold_1 ++ []
def dkwX3_laysTold_0 : List UInt8 := [42, 42, 180, 0, 13, 3, 46, 181, 0, 93, 42, 42, 180, 0, 13, 42, 180, 0, 13, 4, 46, 154, 0, 7]
abbrev dktX3_laysTold_0 : List UInt8 := dkwX3_laysTold_0 ++ dktX3_laysTold_1
theorem dksX3_laysTold_0 : cX3_laysTold.data.toList.drop 0 = dktX3_laysTold_0 := by decide +kernel
theorem dksX3_laysTold_1 : cX3_laysTold.data.toList.drop 24 = dktX3_laysTold_1 := dk_seg dksX3_laysTold_0 24 rfl rfl
theorem dX3_laysTold_0 : decode cX3_laysTold 0 = .ok (.aload_n 0, 1) := dk_42 (dk_at dksX3_laysTold_0 0 rfl rfl)
theorem dX3_laysTold_1 : decode cX3_laysTold 1 = .ok (.aload_n 0, 1) := dk_42 (dk_at dksX3_laysTold_0 1 rfl rfl)
theorem dX3_laysTold_2 : decode cX3_laysTold 2 = .ok (.getfield 13, 3) := dk_180 0 13 (dk_at dksX3_laysTold_0 2 rfl rfl)
theorem dX3_laysTold_5 : decode cX3_laysTold 5 = .ok (.iconst 0, 1) := dk_3 (dk_at dksX3_laysTold_0 5 rfl rfl)
theorem dX3_laysTold_6 : decode cX3_laysTold 6 = .ok (.iaload, 1) := dk_46 (dk_at dksX3_laysTold_0 6 rfl rfl)
theorem dX3_laysTold_7 : decode cX3_laysTold 7 = .ok (.putfield 93, 3) := dk_181 0 93 (dk_at dksX3_laysTold_0 7 rfl rfl)
theorem dX3_laysTold_10 : decode cX3_laysTold 10 = .ok (.aload_n 0, 1) := dk_42 (dk_at dksX3_laysTold_0 10 rfl rfl)
theorem dX3_laysTold_11 : decode cX3_laysTold 11 = .ok (.aload_n 0, 1) := dk_42 (dk_at dksX3_laysTold_0 11 rfl rfl)
theorem dX3_laysTold_12 : decode cX3_laysTold 12 = .ok (.getfield 13, 3) := dk_180 0 13 (dk_at dksX3_laysTold_0 12 rfl rfl)
theorem dX3_laysTold_15 : decode cX3_laysTold 15 = .ok (.aload_n 0, 1) := dk_42 (dk_at dksX3_laysTold_0 15 rfl rfl)
theorem dX3_laysTold_16 : decode cX3_laysTold 16 = .ok (.getfield 13, 3) := dk_180 0 13 (dk_at dksX3_laysTold_0 16 rfl rfl)
theorem dX3_laysTold_19 : decode cX3_laysTold 19 = .ok (.iconst 1, 1) := dk_4 (dk_at dksX3_laysTold_0 19 rfl rfl)
theorem dX3_laysTold_20 : decode cX3_laysTold 20 = .ok (.iaload, 1) := dk_46 (dk_at dksX3_laysTold_0 20 rfl rfl)
theorem dX3_laysTold_21 : decode cX3_laysTold 21 = .ok (.ifCond .ne 7, 3) := dk_154 0 7 (dk_at dksX3_laysTold_0 21 rfl rfl)
theorem dX3_laysTold_24 : decode cX3_laysTold 24 = .ok (.iconst (-1), 1) := dk_2 (dk_at dksX3_laysTold_1 0 rfl rfl)
theorem dX3_laysTold_25 : decode cX3_laysTold 25 = .ok (.goto 15, 3) := dk_167 0 15 (dk_at dksX3_laysTold_1 1 rfl rfl)
theorem dX3_laysTold_28 : decode cX3_laysTold 28 = .ok (.aload_n 0, 1) := dk_42 (dk_at dksX3_laysTold_1 4 rfl rfl)
theorem dX3_laysTold_29 : decode cX3_laysTold 29 = .ok (.getfield 13, 3) := dk_180 0 13 (dk_at dksX3_laysTold_1 5 rfl rfl)
theorem dX3_laysTold_32 : decode cX3_laysTold 32 = .ok (.iconst 1, 1) := dk_4 (dk_at dksX3_laysTold_1 8 rfl rfl)
theorem dX3_laysTold_33 : decode cX3_laysTold 33 = .ok (.iaload, 1) := dk_46 (dk_at dksX3_laysTold_1 9 rfl rfl)
theorem dX3_laysTold_34 : decode cX3_laysTold 34 = .ok (.iconst 1, 1) := dk_4 (dk_at dksX3_laysTold_1 10 rfl rfl)
theorem dX3_laysTold_35 : decode cX3_laysTold 35 = .ok (.isub, 1) := dk_100 (dk_at dksX3_laysTold_1 11 rfl rfl)
theorem dX3_laysTold_36 : decode cX3_laysTold 36 = .ok (.iconst 0, 1) := dk_3 (dk_at dksX3_laysTold_1 12 rfl rfl)
theorem dX3_laysTold_37 : decode cX3_laysTold 37 = .ok (.invokestatic 96, 3) := dk_184 0 96 (dk_at dksX3_laysTold_1 13 rfl rfl)
theorem dX3_laysTold_40 : decode cX3_laysTold 40 = .ok (.invokevirtual 100, 3) := dk_182 0 100 (dk_at dksX3_laysTold_1 16 rfl rfl)
theorem dX3_laysTold_43 : decode cX3_laysTold 43 = .ok (.aload_n 0, 1) := dk_42 (dk_at dksX3_laysTold_1 19 rfl rfl)
theorem dX3_laysTold_44 : decode cX3_laysTold 44 = .ok (.invokevirtual 145, 3) := dk_182 0 145 (dk_at dksX3_laysTold_1 20 rfl rfl)
theorem dX3_laysTold_47 : decode cX3_laysTold 47 = .ok (.return_, 1) := dk_177 (dk_at dksX3_laysTold_1 23 rfl rfl)
abbrev cX3_readsRow : ByteArray := prog_18_method_95_code
def yX3_readsRow : MethodName := ⟨RX3, "readsRow", "()V"⟩
def dkwX3_readsRow_4 : List UInt8 := [182, 1, 70, 177]
abbrev dktX3_readsRow_4 : List UInt8 := dkwX3_readsRow_4 ++ []
def dkwX3_readsRow_3 : List UInt8 := [180, 1, 45, 27, 96, 51, 16, 35, 160, 0, 7, 4, 167, 0, 4, 3, 79, 132, 1, 1, 167, 255, 211, 42]
abbrev dktX3_readsRow_3 : List UInt8 := dkwX3_readsRow_3 ++ dktX3_readsRow_4
def dkwX3_readsRow_2 : List UInt8 := [180, 0, 93, 162, 0, 43, 42, 180, 1, 57, 154, 0, 36, 42, 180, 0, 44, 27, 42, 180, 0, 68, 42]
abbrev dktX3_readsRow_2 : List UInt8 := dkwX3_readsRow_2 ++ dktX3_readsRow_3
def dkwX3_readsRow_1 : List UInt8 := [180, 1, 45, 100, 42, 180, 0, 93, 160, 0, 7, 4, 167, 0, 4, 3, 6, 182, 1, 63, 3, 60, 27, 42]
abbrev dktX3_readsRow_1 : List UInt8 := dkwX3_readsRow_1 ++ dktX3_readsRow_2
def dkwX3_readsRow_0 : List UInt8 := [42, 42, 180, 1, 51, 6, 160, 0, 7, 4, 167, 0, 4, 3, 4, 182, 1, 63, 42, 42, 180, 1, 39, 42]
abbrev dktX3_readsRow_0 : List UInt8 := dkwX3_readsRow_0 ++ dktX3_readsRow_1
theorem dksX3_readsRow_0 : cX3_readsRow.data.toList.drop 0 = dktX3_readsRow_0 := by decide +kernel
theorem dksX3_readsRow_1 : cX3_readsRow.data.toList.drop 24 = dktX3_readsRow_1 := dk_seg dksX3_readsRow_0 24 rfl rfl
theorem dksX3_readsRow_2 : cX3_readsRow.data.toList.drop 48 = dktX3_readsRow_2 := dk_seg dksX3_readsRow_1 24 rfl rfl
theorem dksX3_readsRow_3 : cX3_readsRow.data.toList.drop 71 = dktX3_readsRow_3 := dk_seg dksX3_readsRow_2 23 rfl rfl
theorem dksX3_readsRow_4 : cX3_readsRow.data.toList.drop 95 = dktX3_readsRow_4 := dk_seg dksX3_readsRow_3 24 rfl rfl
theorem dX3_readsRow_0 : decode cX3_readsRow 0 = .ok (.aload_n 0, 1) := dk_42 (dk_at dksX3_readsRow_0 0 rfl rfl)
theorem dX3_readsRow_1 : decode cX3_readsRow 1 = .ok (.aload_n 0, 1) := dk_42 (dk_at dksX3_readsRow_0 1 rfl rfl)
theorem dX3_readsRow_2 : decode cX3_readsRow 2 = .ok (.getfield 307, 3) := dk_180 1 51 (dk_at dksX3_readsRow_0 2 rfl rfl)
theorem dX3_readsRow_5 : decode cX3_readsRow 5 = .ok (.iconst 3, 1) := dk_6 (dk_at dksX3_readsRow_0 5 rfl rfl)
theorem dX3_readsRow_6 : decode cX3_readsRow 6 = .ok (.if_icmp .ne 7, 3) := dk_160 0 7 (dk_at dksX3_readsRow_0 6 rfl rfl)
theorem dX3_readsRow_9 : decode cX3_readsRow 9 = .ok (.iconst 1, 1) := dk_4 (dk_at dksX3_readsRow_0 9 rfl rfl)
theorem dX3_readsRow_10 : decode cX3_readsRow 10 = .ok (.goto 4, 3) := dk_167 0 4 (dk_at dksX3_readsRow_0 10 rfl rfl)
theorem dX3_readsRow_13 : decode cX3_readsRow 13 = .ok (.iconst 0, 1) := dk_3 (dk_at dksX3_readsRow_0 13 rfl rfl)
theorem dX3_readsRow_14 : decode cX3_readsRow 14 = .ok (.iconst 1, 1) := dk_4 (dk_at dksX3_readsRow_0 14 rfl rfl)
theorem dX3_readsRow_15 : decode cX3_readsRow 15 = .ok (.invokevirtual 319, 3) := dk_182 1 63 (dk_at dksX3_readsRow_0 15 rfl rfl)
theorem dX3_readsRow_18 : decode cX3_readsRow 18 = .ok (.aload_n 0, 1) := dk_42 (dk_at dksX3_readsRow_0 18 rfl rfl)
theorem dX3_readsRow_19 : decode cX3_readsRow 19 = .ok (.aload_n 0, 1) := dk_42 (dk_at dksX3_readsRow_0 19 rfl rfl)
theorem dX3_readsRow_20 : decode cX3_readsRow 20 = .ok (.getfield 295, 3) := dk_180 1 39 (dk_at dksX3_readsRow_0 20 rfl rfl)
theorem dX3_readsRow_23 : decode cX3_readsRow 23 = .ok (.aload_n 0, 1) := dk_42 (dk_at dksX3_readsRow_0 23 rfl rfl)
theorem dX3_readsRow_24 : decode cX3_readsRow 24 = .ok (.getfield 301, 3) := dk_180 1 45 (dk_at dksX3_readsRow_1 0 rfl rfl)
theorem dX3_readsRow_27 : decode cX3_readsRow 27 = .ok (.isub, 1) := dk_100 (dk_at dksX3_readsRow_1 3 rfl rfl)
theorem dX3_readsRow_28 : decode cX3_readsRow 28 = .ok (.aload_n 0, 1) := dk_42 (dk_at dksX3_readsRow_1 4 rfl rfl)
theorem dX3_readsRow_29 : decode cX3_readsRow 29 = .ok (.getfield 93, 3) := dk_180 0 93 (dk_at dksX3_readsRow_1 5 rfl rfl)
theorem dX3_readsRow_32 : decode cX3_readsRow 32 = .ok (.if_icmp .ne 7, 3) := dk_160 0 7 (dk_at dksX3_readsRow_1 8 rfl rfl)
theorem dX3_readsRow_35 : decode cX3_readsRow 35 = .ok (.iconst 1, 1) := dk_4 (dk_at dksX3_readsRow_1 11 rfl rfl)
theorem dX3_readsRow_36 : decode cX3_readsRow 36 = .ok (.goto 4, 3) := dk_167 0 4 (dk_at dksX3_readsRow_1 12 rfl rfl)
theorem dX3_readsRow_39 : decode cX3_readsRow 39 = .ok (.iconst 0, 1) := dk_3 (dk_at dksX3_readsRow_1 15 rfl rfl)
theorem dX3_readsRow_40 : decode cX3_readsRow 40 = .ok (.iconst 3, 1) := dk_6 (dk_at dksX3_readsRow_1 16 rfl rfl)
theorem dX3_readsRow_41 : decode cX3_readsRow 41 = .ok (.invokevirtual 319, 3) := dk_182 1 63 (dk_at dksX3_readsRow_1 17 rfl rfl)
theorem dX3_readsRow_44 : decode cX3_readsRow 44 = .ok (.iconst 0, 1) := dk_3 (dk_at dksX3_readsRow_1 20 rfl rfl)
theorem dX3_readsRow_45 : decode cX3_readsRow 45 = .ok (.istore_n 1, 1) := dk_60 (dk_at dksX3_readsRow_1 21 rfl rfl)
theorem dX3_readsRow_46 : decode cX3_readsRow 46 = .ok (.iload_n 1, 1) := dk_27 (dk_at dksX3_readsRow_1 22 rfl rfl)
theorem dX3_readsRow_47 : decode cX3_readsRow 47 = .ok (.aload_n 0, 1) := dk_42 (dk_at dksX3_readsRow_1 23 rfl rfl)
theorem dX3_readsRow_48 : decode cX3_readsRow 48 = .ok (.getfield 93, 3) := dk_180 0 93 (dk_at dksX3_readsRow_2 0 rfl rfl)
theorem dX3_readsRow_51 : decode cX3_readsRow 51 = .ok (.if_icmp .ge 43, 3) := dk_162 0 43 (dk_at dksX3_readsRow_2 3 rfl rfl)
theorem dX3_readsRow_54 : decode cX3_readsRow 54 = .ok (.aload_n 0, 1) := dk_42 (dk_at dksX3_readsRow_2 6 rfl rfl)
theorem dX3_readsRow_55 : decode cX3_readsRow 55 = .ok (.getfield 313, 3) := dk_180 1 57 (dk_at dksX3_readsRow_2 7 rfl rfl)
theorem dX3_readsRow_58 : decode cX3_readsRow 58 = .ok (.ifCond .ne 36, 3) := dk_154 0 36 (dk_at dksX3_readsRow_2 10 rfl rfl)
theorem dX3_readsRow_61 : decode cX3_readsRow 61 = .ok (.aload_n 0, 1) := dk_42 (dk_at dksX3_readsRow_2 13 rfl rfl)
theorem dX3_readsRow_62 : decode cX3_readsRow 62 = .ok (.getfield 44, 3) := dk_180 0 44 (dk_at dksX3_readsRow_2 14 rfl rfl)
theorem dX3_readsRow_65 : decode cX3_readsRow 65 = .ok (.iload_n 1, 1) := dk_27 (dk_at dksX3_readsRow_2 17 rfl rfl)
theorem dX3_readsRow_66 : decode cX3_readsRow 66 = .ok (.aload_n 0, 1) := dk_42 (dk_at dksX3_readsRow_2 18 rfl rfl)
theorem dX3_readsRow_67 : decode cX3_readsRow 67 = .ok (.getfield 68, 3) := dk_180 0 68 (dk_at dksX3_readsRow_2 19 rfl rfl)
theorem dX3_readsRow_70 : decode cX3_readsRow 70 = .ok (.aload_n 0, 1) := dk_42 (dk_at dksX3_readsRow_2 22 rfl rfl)
theorem dX3_readsRow_71 : decode cX3_readsRow 71 = .ok (.getfield 301, 3) := dk_180 1 45 (dk_at dksX3_readsRow_3 0 rfl rfl)
theorem dX3_readsRow_74 : decode cX3_readsRow 74 = .ok (.iload_n 1, 1) := dk_27 (dk_at dksX3_readsRow_3 3 rfl rfl)
theorem dX3_readsRow_75 : decode cX3_readsRow 75 = .ok (.iadd, 1) := dk_96 (dk_at dksX3_readsRow_3 4 rfl rfl)
theorem dX3_readsRow_76 : decode cX3_readsRow 76 = .ok (.baload, 1) := dk_51 (dk_at dksX3_readsRow_3 5 rfl rfl)
theorem dX3_readsRow_77 : decode cX3_readsRow 77 = .ok (.bipush 35, 2) := dk_16 35 (dk_at dksX3_readsRow_3 6 rfl rfl)
theorem dX3_readsRow_79 : decode cX3_readsRow 79 = .ok (.if_icmp .ne 7, 3) := dk_160 0 7 (dk_at dksX3_readsRow_3 8 rfl rfl)
theorem dX3_readsRow_82 : decode cX3_readsRow 82 = .ok (.iconst 1, 1) := dk_4 (dk_at dksX3_readsRow_3 11 rfl rfl)
theorem dX3_readsRow_83 : decode cX3_readsRow 83 = .ok (.goto 4, 3) := dk_167 0 4 (dk_at dksX3_readsRow_3 12 rfl rfl)
theorem dX3_readsRow_86 : decode cX3_readsRow 86 = .ok (.iconst 0, 1) := dk_3 (dk_at dksX3_readsRow_3 15 rfl rfl)
theorem dX3_readsRow_87 : decode cX3_readsRow 87 = .ok (.iastore, 1) := dk_79 (dk_at dksX3_readsRow_3 16 rfl rfl)
theorem dX3_readsRow_88 : decode cX3_readsRow 88 = .ok (.iinc 1 1, 3) := dk_132 1 1 (dk_at dksX3_readsRow_3 17 rfl rfl)
theorem dX3_readsRow_91 : decode cX3_readsRow 91 = .ok (.goto (-45), 3) := dk_167 255 211 (dk_at dksX3_readsRow_3 20 rfl rfl)
theorem dX3_readsRow_94 : decode cX3_readsRow 94 = .ok (.aload_n 0, 1) := dk_42 (dk_at dksX3_readsRow_3 23 rfl rfl)
theorem dX3_readsRow_95 : decode cX3_readsRow 95 = .ok (.invokevirtual 326, 3) := dk_182 1 70 (dk_at dksX3_readsRow_4 0 rfl rfl)
theorem dX3_readsRow_98 : decode cX3_readsRow 98 = .ok (.return_, 1) := dk_177 (dk_at dksX3_readsRow_4 3 rfl rfl)
abbrev cX3_readsAlone : ByteArray := prog_18_method_96_code
def yX3_readsAlone : MethodName := ⟨RX3, "readsAlone", "()V"⟩
def dkwX3_readsAlone_5 : List UInt8 := [182, 1, 63, 42, 27, 42, 180, 0, 93, 160, 0, 7, 4, 167, 0, 4, 3, 6, 182, 1, 63, 177]
abbrev dktX3_readsAlone_5 : List UInt8 := dkwX3_readsAlone_5 ++ []
def dkwX3_readsAlone_4 : List UInt8 := [182, 1, 70, 3, 62, 167, 255, 165, 42, 42, 180, 1, 51, 7, 160, 0, 7, 4, 167, 0, 4, 3, 4]
abbrev dktX3_readsAlone_4 : List UInt8 := dkwX3_readsAlone_4 ++ dktX3_readsAlone_5
def dkwX3_readsAlone_3 : List UInt8 := [154, 0, 22, 42, 27, 27, 21, 4, 96, 28, 182, 0, 141, 27, 21, 4, 96, 60, 4, 28, 100, 61, 42]
abbrev dktX3_readsAlone_3 : List UInt8 := dkwX3_readsAlone_3 ++ dktX3_readsAlone_4
def dkwX3_readsAlone_2 : List UInt8 := [21, 4, 96, 42, 180, 0, 93, 163, 0, 7, 4, 167, 0, 4, 3, 7, 182, 1, 63, 42, 180, 1, 57]
abbrev dktX3_readsAlone_2 : List UInt8 := dkwX3_readsAlone_2 ++ dktX3_readsAlone_3
def dkwX3_readsAlone_1 : List UInt8 := [160, 0, 78, 42, 29, 153, 0, 7, 3, 167, 0, 4, 4, 42, 180, 0, 93, 182, 1, 67, 54, 4, 42, 27]
abbrev dktX3_readsAlone_1 : List UInt8 := dkwX3_readsAlone_1 ++ dktX3_readsAlone_2
def dkwX3_readsAlone_0 : List UInt8 := [3, 60, 3, 61, 4, 62, 29, 154, 0, 18, 42, 180, 1, 57, 154, 0, 86, 42, 180, 1, 51, 5]
abbrev dktX3_readsAlone_0 : List UInt8 := dkwX3_readsAlone_0 ++ dktX3_readsAlone_1
theorem dksX3_readsAlone_0 : cX3_readsAlone.data.toList.drop 0 = dktX3_readsAlone_0 := by decide +kernel
theorem dksX3_readsAlone_1 : cX3_readsAlone.data.toList.drop 22 = dktX3_readsAlone_1 := dk_seg dksX3_readsAlone_0 22 rfl rfl
theorem dksX3_readsAlone_2 : cX3_readsAlone.data.toList.drop 46 = dktX3_readsAlone_2 := dk_seg dksX3_readsAlone_1 24 rfl rfl
theorem dksX3_readsAlone_3 : cX3_readsAlone.data.toList.drop 69 = dktX3_readsAlone_3 := dk_seg dksX3_readsAlone_2 23 rfl rfl
theorem dksX3_readsAlone_4 : cX3_readsAlone.data.toList.drop 92 = dktX3_readsAlone_4 := dk_seg dksX3_readsAlone_3 23 rfl rfl
theorem dksX3_readsAlone_5 : cX3_readsAlone.data.toList.drop 115 = dktX3_readsAlone_5 := dk_seg dksX3_readsAlone_4 23 rfl rfl
theorem dX3_readsAlone_0 : decode cX3_readsAlone 0 = .ok (.iconst 0, 1) := dk_3 (dk_at dksX3_readsAlone_0 0 rfl rfl)
theorem dX3_readsAlone_1 : decode cX3_readsAlone 1 = .ok (.istore_n 1, 1) := dk_60 (dk_at dksX3_readsAlone_0 1 rfl rfl)
theorem dX3_readsAlone_2 : decode cX3_readsAlone 2 = .ok (.iconst 0, 1) := dk_3 (dk_at dksX3_readsAlone_0 2 rfl rfl)
theorem dX3_readsAlone_3 : decode cX3_readsAlone 3 = .ok (.istore_n 2, 1) := dk_61 (dk_at dksX3_readsAlone_0 3 rfl rfl)
theorem dX3_readsAlone_4 : decode cX3_readsAlone 4 = .ok (.iconst 1, 1) := dk_4 (dk_at dksX3_readsAlone_0 4 rfl rfl)
theorem dX3_readsAlone_5 : decode cX3_readsAlone 5 = .ok (.istore_n 3, 1) := dk_62 (dk_at dksX3_readsAlone_0 5 rfl rfl)
theorem dX3_readsAlone_6 : decode cX3_readsAlone 6 = .ok (.iload_n 3, 1) := dk_29 (dk_at dksX3_readsAlone_0 6 rfl rfl)
theorem dX3_readsAlone_7 : decode cX3_readsAlone 7 = .ok (.ifCond .ne 18, 3) := dk_154 0 18 (dk_at dksX3_readsAlone_0 7 rfl rfl)
theorem dX3_readsAlone_10 : decode cX3_readsAlone 10 = .ok (.aload_n 0, 1) := dk_42 (dk_at dksX3_readsAlone_0 10 rfl rfl)
theorem dX3_readsAlone_11 : decode cX3_readsAlone 11 = .ok (.getfield 313, 3) := dk_180 1 57 (dk_at dksX3_readsAlone_0 11 rfl rfl)
theorem dX3_readsAlone_14 : decode cX3_readsAlone 14 = .ok (.ifCond .ne 86, 3) := dk_154 0 86 (dk_at dksX3_readsAlone_0 14 rfl rfl)
theorem dX3_readsAlone_17 : decode cX3_readsAlone 17 = .ok (.aload_n 0, 1) := dk_42 (dk_at dksX3_readsAlone_0 17 rfl rfl)
theorem dX3_readsAlone_18 : decode cX3_readsAlone 18 = .ok (.getfield 307, 3) := dk_180 1 51 (dk_at dksX3_readsAlone_0 18 rfl rfl)
theorem dX3_readsAlone_21 : decode cX3_readsAlone 21 = .ok (.iconst 2, 1) := dk_5 (dk_at dksX3_readsAlone_0 21 rfl rfl)
theorem dX3_readsAlone_22 : decode cX3_readsAlone 22 = .ok (.if_icmp .ne 78, 3) := dk_160 0 78 (dk_at dksX3_readsAlone_1 0 rfl rfl)
theorem dX3_readsAlone_25 : decode cX3_readsAlone 25 = .ok (.aload_n 0, 1) := dk_42 (dk_at dksX3_readsAlone_1 3 rfl rfl)
theorem dX3_readsAlone_26 : decode cX3_readsAlone 26 = .ok (.iload_n 3, 1) := dk_29 (dk_at dksX3_readsAlone_1 4 rfl rfl)
theorem dX3_readsAlone_27 : decode cX3_readsAlone 27 = .ok (.ifCond .eq 7, 3) := dk_153 0 7 (dk_at dksX3_readsAlone_1 5 rfl rfl)
theorem dX3_readsAlone_30 : decode cX3_readsAlone 30 = .ok (.iconst 0, 1) := dk_3 (dk_at dksX3_readsAlone_1 8 rfl rfl)
theorem dX3_readsAlone_31 : decode cX3_readsAlone 31 = .ok (.goto 4, 3) := dk_167 0 4 (dk_at dksX3_readsAlone_1 9 rfl rfl)
theorem dX3_readsAlone_34 : decode cX3_readsAlone 34 = .ok (.iconst 1, 1) := dk_4 (dk_at dksX3_readsAlone_1 12 rfl rfl)
theorem dX3_readsAlone_35 : decode cX3_readsAlone 35 = .ok (.aload_n 0, 1) := dk_42 (dk_at dksX3_readsAlone_1 13 rfl rfl)
theorem dX3_readsAlone_36 : decode cX3_readsAlone 36 = .ok (.getfield 93, 3) := dk_180 0 93 (dk_at dksX3_readsAlone_1 14 rfl rfl)
theorem dX3_readsAlone_39 : decode cX3_readsAlone 39 = .ok (.invokevirtual 323, 3) := dk_182 1 67 (dk_at dksX3_readsAlone_1 17 rfl rfl)
theorem dX3_readsAlone_42 : decode cX3_readsAlone 42 = .ok (.istore 4, 2) := dk_54 4 (dk_at dksX3_readsAlone_1 20 rfl rfl)
theorem dX3_readsAlone_44 : decode cX3_readsAlone 44 = .ok (.aload_n 0, 1) := dk_42 (dk_at dksX3_readsAlone_1 22 rfl rfl)
theorem dX3_readsAlone_45 : decode cX3_readsAlone 45 = .ok (.iload_n 1, 1) := dk_27 (dk_at dksX3_readsAlone_1 23 rfl rfl)
theorem dX3_readsAlone_46 : decode cX3_readsAlone 46 = .ok (.iload 4, 2) := dk_21 4 (dk_at dksX3_readsAlone_2 0 rfl rfl)
theorem dX3_readsAlone_48 : decode cX3_readsAlone 48 = .ok (.iadd, 1) := dk_96 (dk_at dksX3_readsAlone_2 2 rfl rfl)
theorem dX3_readsAlone_49 : decode cX3_readsAlone 49 = .ok (.aload_n 0, 1) := dk_42 (dk_at dksX3_readsAlone_2 3 rfl rfl)
theorem dX3_readsAlone_50 : decode cX3_readsAlone 50 = .ok (.getfield 93, 3) := dk_180 0 93 (dk_at dksX3_readsAlone_2 4 rfl rfl)
theorem dX3_readsAlone_53 : decode cX3_readsAlone 53 = .ok (.if_icmp .gt 7, 3) := dk_163 0 7 (dk_at dksX3_readsAlone_2 7 rfl rfl)
theorem dX3_readsAlone_56 : decode cX3_readsAlone 56 = .ok (.iconst 1, 1) := dk_4 (dk_at dksX3_readsAlone_2 10 rfl rfl)
theorem dX3_readsAlone_57 : decode cX3_readsAlone 57 = .ok (.goto 4, 3) := dk_167 0 4 (dk_at dksX3_readsAlone_2 11 rfl rfl)
theorem dX3_readsAlone_60 : decode cX3_readsAlone 60 = .ok (.iconst 0, 1) := dk_3 (dk_at dksX3_readsAlone_2 14 rfl rfl)
theorem dX3_readsAlone_61 : decode cX3_readsAlone 61 = .ok (.iconst 4, 1) := dk_7 (dk_at dksX3_readsAlone_2 15 rfl rfl)
theorem dX3_readsAlone_62 : decode cX3_readsAlone 62 = .ok (.invokevirtual 319, 3) := dk_182 1 63 (dk_at dksX3_readsAlone_2 16 rfl rfl)
theorem dX3_readsAlone_65 : decode cX3_readsAlone 65 = .ok (.aload_n 0, 1) := dk_42 (dk_at dksX3_readsAlone_2 19 rfl rfl)
theorem dX3_readsAlone_66 : decode cX3_readsAlone 66 = .ok (.getfield 313, 3) := dk_180 1 57 (dk_at dksX3_readsAlone_2 20 rfl rfl)
theorem dX3_readsAlone_69 : decode cX3_readsAlone 69 = .ok (.ifCond .ne 22, 3) := dk_154 0 22 (dk_at dksX3_readsAlone_3 0 rfl rfl)
theorem dX3_readsAlone_72 : decode cX3_readsAlone 72 = .ok (.aload_n 0, 1) := dk_42 (dk_at dksX3_readsAlone_3 3 rfl rfl)
theorem dX3_readsAlone_73 : decode cX3_readsAlone 73 = .ok (.iload_n 1, 1) := dk_27 (dk_at dksX3_readsAlone_3 4 rfl rfl)
theorem dX3_readsAlone_74 : decode cX3_readsAlone 74 = .ok (.iload_n 1, 1) := dk_27 (dk_at dksX3_readsAlone_3 5 rfl rfl)
theorem dX3_readsAlone_75 : decode cX3_readsAlone 75 = .ok (.iload 4, 2) := dk_21 4 (dk_at dksX3_readsAlone_3 6 rfl rfl)
theorem dX3_readsAlone_77 : decode cX3_readsAlone 77 = .ok (.iadd, 1) := dk_96 (dk_at dksX3_readsAlone_3 8 rfl rfl)
theorem dX3_readsAlone_78 : decode cX3_readsAlone 78 = .ok (.iload_n 2, 1) := dk_28 (dk_at dksX3_readsAlone_3 9 rfl rfl)
theorem dX3_readsAlone_79 : decode cX3_readsAlone 79 = .ok (.invokevirtual 141, 3) := dk_182 0 141 (dk_at dksX3_readsAlone_3 10 rfl rfl)
theorem dX3_readsAlone_82 : decode cX3_readsAlone 82 = .ok (.iload_n 1, 1) := dk_27 (dk_at dksX3_readsAlone_3 13 rfl rfl)
theorem dX3_readsAlone_83 : decode cX3_readsAlone 83 = .ok (.iload 4, 2) := dk_21 4 (dk_at dksX3_readsAlone_3 14 rfl rfl)
theorem dX3_readsAlone_85 : decode cX3_readsAlone 85 = .ok (.iadd, 1) := dk_96 (dk_at dksX3_readsAlone_3 16 rfl rfl)
theorem dX3_readsAlone_86 : decode cX3_readsAlone 86 = .ok (.istore_n 1, 1) := dk_60 (dk_at dksX3_readsAlone_3 17 rfl rfl)
theorem dX3_readsAlone_87 : decode cX3_readsAlone 87 = .ok (.iconst 1, 1) := dk_4 (dk_at dksX3_readsAlone_3 18 rfl rfl)
theorem dX3_readsAlone_88 : decode cX3_readsAlone 88 = .ok (.iload_n 2, 1) := dk_28 (dk_at dksX3_readsAlone_3 19 rfl rfl)
theorem dX3_readsAlone_89 : decode cX3_readsAlone 89 = .ok (.isub, 1) := dk_100 (dk_at dksX3_readsAlone_3 20 rfl rfl)
theorem dX3_readsAlone_90 : decode cX3_readsAlone 90 = .ok (.istore_n 2, 1) := dk_61 (dk_at dksX3_readsAlone_3 21 rfl rfl)
theorem dX3_readsAlone_91 : decode cX3_readsAlone 91 = .ok (.aload_n 0, 1) := dk_42 (dk_at dksX3_readsAlone_3 22 rfl rfl)
theorem dX3_readsAlone_92 : decode cX3_readsAlone 92 = .ok (.invokevirtual 326, 3) := dk_182 1 70 (dk_at dksX3_readsAlone_4 0 rfl rfl)
theorem dX3_readsAlone_95 : decode cX3_readsAlone 95 = .ok (.iconst 0, 1) := dk_3 (dk_at dksX3_readsAlone_4 3 rfl rfl)
theorem dX3_readsAlone_96 : decode cX3_readsAlone 96 = .ok (.istore_n 3, 1) := dk_62 (dk_at dksX3_readsAlone_4 4 rfl rfl)
theorem dX3_readsAlone_97 : decode cX3_readsAlone 97 = .ok (.goto (-91), 3) := dk_167 255 165 (dk_at dksX3_readsAlone_4 5 rfl rfl)
theorem dX3_readsAlone_100 : decode cX3_readsAlone 100 = .ok (.aload_n 0, 1) := dk_42 (dk_at dksX3_readsAlone_4 8 rfl rfl)
theorem dX3_readsAlone_101 : decode cX3_readsAlone 101 = .ok (.aload_n 0, 1) := dk_42 (dk_at dksX3_readsAlone_4 9 rfl rfl)
theorem dX3_readsAlone_102 : decode cX3_readsAlone 102 = .ok (.getfield 307, 3) := dk_180 1 51 (dk_at dksX3_readsAlone_4 10 rfl rfl)
theorem dX3_readsAlone_105 : decode cX3_readsAlone 105 = .ok (.iconst 4, 1) := dk_7 (dk_at dksX3_readsAlone_4 13 rfl rfl)
theorem dX3_readsAlone_106 : decode cX3_readsAlone 106 = .ok (.if_icmp .ne 7, 3) := dk_160 0 7 (dk_at dksX3_readsAlone_4 14 rfl rfl)
theorem dX3_readsAlone_109 : decode cX3_readsAlone 109 = .ok (.iconst 1, 1) := dk_4 (dk_at dksX3_readsAlone_4 17 rfl rfl)
theorem dX3_readsAlone_110 : decode cX3_readsAlone 110 = .ok (.goto 4, 3) := dk_167 0 4 (dk_at dksX3_readsAlone_4 18 rfl rfl)
theorem dX3_readsAlone_113 : decode cX3_readsAlone 113 = .ok (.iconst 0, 1) := dk_3 (dk_at dksX3_readsAlone_4 21 rfl rfl)
theorem dX3_readsAlone_114 : decode cX3_readsAlone 114 = .ok (.iconst 1, 1) := dk_4 (dk_at dksX3_readsAlone_4 22 rfl rfl)
theorem dX3_readsAlone_115 : decode cX3_readsAlone 115 = .ok (.invokevirtual 319, 3) := dk_182 1 63 (dk_at dksX3_readsAlone_5 0 rfl rfl)
theorem dX3_readsAlone_118 : decode cX3_readsAlone 118 = .ok (.aload_n 0, 1) := dk_42 (dk_at dksX3_readsAlone_5 3 rfl rfl)
theorem dX3_readsAlone_119 : decode cX3_readsAlone 119 = .ok (.iload_n 1, 1) := dk_27 (dk_at dksX3_readsAlone_5 4 rfl rfl)
theorem dX3_readsAlone_120 : decode cX3_readsAlone 120 = .ok (.aload_n 0, 1) := dk_42 (dk_at dksX3_readsAlone_5 5 rfl rfl)
theorem dX3_readsAlone_121 : decode cX3_readsAlone 121 = .ok (.getfield 93, 3) := dk_180 0 93 (dk_at dksX3_readsAlone_5 6 rfl rfl)
theorem dX3_readsAlone_124 : decode cX3_readsAlone 124 = .ok (.if_icmp .ne 7, 3) := dk_160 0 7 (dk_at dksX3_readsAlone_5 9 rfl rfl)
theorem dX3_readsAlone_127 : decode cX3_readsAlone 127 = .ok (.iconst 1, 1) := dk_4 (dk_at dksX3_readsAlone_5 12 rfl rfl)
theorem dX3_readsAlone_128 : decode cX3_readsAlone 128 = .ok (.goto 4, 3) := dk_167 0 4 (dk_at dksX3_readsAlone_5 13 rfl rfl)
theorem dX3_readsAlone_131 : decode cX3_readsAlone 131 = .ok (.iconst 0, 1) := dk_3 (dk_at dksX3_readsAlone_5 16 rfl rfl)
theorem dX3_readsAlone_132 : decode cX3_readsAlone 132 = .ok (.iconst 3, 1) := dk_6 (dk_at dksX3_readsAlone_5 17 rfl rfl)
theorem dX3_readsAlone_133 : decode cX3_readsAlone 133 = .ok (.invokevirtual 319, 3) := dk_182 1 63 (dk_at dksX3_readsAlone_5 18 rfl rfl)
theorem dX3_readsAlone_136 : decode cX3_readsAlone 136 = .ok (.return_, 1) := dk_177 (dk_at dksX3_readsAlone_5 21 rfl rfl)
abbrev cX3_readsAbove : ByteArray := prog_18_method_98_code
def yX3_readsAbove : MethodName := ⟨RX3, "readsAbove", "()V"⟩
def dkwX3_readsAbove_2 : List UInt8 := [42, 42, 180, 0, 135, 42, 180, 0, 93, 160, 0, 7, 4, 167, 0, 4, 3, 6, 182, 1, 63, 177]
abbrev dktX3_readsAbove_2 : List UInt8 := dkwX3_readsAbove_2 ++ []
def dkwX3_readsAbove_1 : List UInt8 := [182, 1, 79, 167, 255, 231, 42, 42, 180, 1, 51, 7, 160, 0, 7, 4, 167, 0, 4, 3, 4, 182, 1, 63]
abbrev dktX3_readsAbove_1 : List UInt8 := dkwX3_readsAbove_1 ++ dktX3_readsAbove_2
def dkwX3_readsAbove_0 : List UInt8 := [42, 180, 1, 57, 154, 0, 24, 42, 182, 1, 73, 16, 6, 16, 8, 184, 0, 124, 153, 0, 10, 42]
abbrev dktX3_readsAbove_0 : List UInt8 := dkwX3_readsAbove_0 ++ dktX3_readsAbove_1
theorem dksX3_readsAbove_0 : cX3_readsAbove.data.toList.drop 0 = dktX3_readsAbove_0 := by decide +kernel
theorem dksX3_readsAbove_1 : cX3_readsAbove.data.toList.drop 22 = dktX3_readsAbove_1 := dk_seg dksX3_readsAbove_0 22 rfl rfl
theorem dksX3_readsAbove_2 : cX3_readsAbove.data.toList.drop 46 = dktX3_readsAbove_2 := dk_seg dksX3_readsAbove_1 24 rfl rfl
theorem dX3_readsAbove_0 : decode cX3_readsAbove 0 = .ok (.aload_n 0, 1) := dk_42 (dk_at dksX3_readsAbove_0 0 rfl rfl)
theorem dX3_readsAbove_1 : decode cX3_readsAbove 1 = .ok (.getfield 313, 3) := dk_180 1 57 (dk_at dksX3_readsAbove_0 1 rfl rfl)
theorem dX3_readsAbove_4 : decode cX3_readsAbove 4 = .ok (.ifCond .ne 24, 3) := dk_154 0 24 (dk_at dksX3_readsAbove_0 4 rfl rfl)
theorem dX3_readsAbove_7 : decode cX3_readsAbove 7 = .ok (.aload_n 0, 1) := dk_42 (dk_at dksX3_readsAbove_0 7 rfl rfl)
theorem dX3_readsAbove_8 : decode cX3_readsAbove 8 = .ok (.invokevirtual 329, 3) := dk_182 1 73 (dk_at dksX3_readsAbove_0 8 rfl rfl)
theorem dX3_readsAbove_11 : decode cX3_readsAbove 11 = .ok (.bipush 6, 2) := dk_16 6 (dk_at dksX3_readsAbove_0 11 rfl rfl)
theorem dX3_readsAbove_13 : decode cX3_readsAbove 13 = .ok (.bipush 8, 2) := dk_16 8 (dk_at dksX3_readsAbove_0 13 rfl rfl)
theorem dX3_readsAbove_15 : decode cX3_readsAbove 15 = .ok (.invokestatic 124, 3) := dk_184 0 124 (dk_at dksX3_readsAbove_0 15 rfl rfl)
theorem dX3_readsAbove_18 : decode cX3_readsAbove 18 = .ok (.ifCond .eq 10, 3) := dk_153 0 10 (dk_at dksX3_readsAbove_0 18 rfl rfl)
theorem dX3_readsAbove_21 : decode cX3_readsAbove 21 = .ok (.aload_n 0, 1) := dk_42 (dk_at dksX3_readsAbove_0 21 rfl rfl)
theorem dX3_readsAbove_22 : decode cX3_readsAbove 22 = .ok (.invokevirtual 335, 3) := dk_182 1 79 (dk_at dksX3_readsAbove_1 0 rfl rfl)
theorem dX3_readsAbove_25 : decode cX3_readsAbove 25 = .ok (.goto (-25), 3) := dk_167 255 231 (dk_at dksX3_readsAbove_1 3 rfl rfl)
theorem dX3_readsAbove_28 : decode cX3_readsAbove 28 = .ok (.aload_n 0, 1) := dk_42 (dk_at dksX3_readsAbove_1 6 rfl rfl)
theorem dX3_readsAbove_29 : decode cX3_readsAbove 29 = .ok (.aload_n 0, 1) := dk_42 (dk_at dksX3_readsAbove_1 7 rfl rfl)
theorem dX3_readsAbove_30 : decode cX3_readsAbove 30 = .ok (.getfield 307, 3) := dk_180 1 51 (dk_at dksX3_readsAbove_1 8 rfl rfl)
theorem dX3_readsAbove_33 : decode cX3_readsAbove 33 = .ok (.iconst 4, 1) := dk_7 (dk_at dksX3_readsAbove_1 11 rfl rfl)
theorem dX3_readsAbove_34 : decode cX3_readsAbove 34 = .ok (.if_icmp .ne 7, 3) := dk_160 0 7 (dk_at dksX3_readsAbove_1 12 rfl rfl)
theorem dX3_readsAbove_37 : decode cX3_readsAbove 37 = .ok (.iconst 1, 1) := dk_4 (dk_at dksX3_readsAbove_1 15 rfl rfl)
theorem dX3_readsAbove_38 : decode cX3_readsAbove 38 = .ok (.goto 4, 3) := dk_167 0 4 (dk_at dksX3_readsAbove_1 16 rfl rfl)
theorem dX3_readsAbove_41 : decode cX3_readsAbove 41 = .ok (.iconst 0, 1) := dk_3 (dk_at dksX3_readsAbove_1 19 rfl rfl)
theorem dX3_readsAbove_42 : decode cX3_readsAbove 42 = .ok (.iconst 1, 1) := dk_4 (dk_at dksX3_readsAbove_1 20 rfl rfl)
theorem dX3_readsAbove_43 : decode cX3_readsAbove 43 = .ok (.invokevirtual 319, 3) := dk_182 1 63 (dk_at dksX3_readsAbove_1 21 rfl rfl)
theorem dX3_readsAbove_46 : decode cX3_readsAbove 46 = .ok (.aload_n 0, 1) := dk_42 (dk_at dksX3_readsAbove_2 0 rfl rfl)
theorem dX3_readsAbove_47 : decode cX3_readsAbove 47 = .ok (.aload_n 0, 1) := dk_42 (dk_at dksX3_readsAbove_2 1 rfl rfl)
theorem dX3_readsAbove_48 : decode cX3_readsAbove 48 = .ok (.getfield 135, 3) := dk_180 0 135 (dk_at dksX3_readsAbove_2 2 rfl rfl)
theorem dX3_readsAbove_51 : decode cX3_readsAbove 51 = .ok (.aload_n 0, 1) := dk_42 (dk_at dksX3_readsAbove_2 5 rfl rfl)
theorem dX3_readsAbove_52 : decode cX3_readsAbove 52 = .ok (.getfield 93, 3) := dk_180 0 93 (dk_at dksX3_readsAbove_2 6 rfl rfl)
theorem dX3_readsAbove_55 : decode cX3_readsAbove 55 = .ok (.if_icmp .ne 7, 3) := dk_160 0 7 (dk_at dksX3_readsAbove_2 9 rfl rfl)
theorem dX3_readsAbove_58 : decode cX3_readsAbove 58 = .ok (.iconst 1, 1) := dk_4 (dk_at dksX3_readsAbove_2 12 rfl rfl)
theorem dX3_readsAbove_59 : decode cX3_readsAbove 59 = .ok (.goto 4, 3) := dk_167 0 4 (dk_at dksX3_readsAbove_2 13 rfl rfl)
theorem dX3_readsAbove_62 : decode cX3_readsAbove 62 = .ok (.iconst 0, 1) := dk_3 (dk_at dksX3_readsAbove_2 16 rfl rfl)
theorem dX3_readsAbove_63 : decode cX3_readsAbove 63 = .ok (.iconst 3, 1) := dk_6 (dk_at dksX3_readsAbove_2 17 rfl rfl)
theorem dX3_readsAbove_64 : decode cX3_readsAbove 64 = .ok (.invokevirtual 319, 3) := dk_182 1 63 (dk_at dksX3_readsAbove_2 18 rfl rfl)
theorem dX3_readsAbove_67 : decode cX3_readsAbove 67 = .ok (.return_, 1) := dk_177 (dk_at dksX3_readsAbove_2 21 rfl rfl)
abbrev cX3_readsOne : ByteArray := prog_18_method_97_code
def yX3_readsOne : MethodName := ⟨RX3, "readsOne", "()V"⟩
def dkwX3_readsOne_7 : List UInt8 := [42, 28, 181, 0, 72, 177]
abbrev dktX3_readsOne_7 : List UInt8 := dkwX3_readsOne_7 ++ []
def dkwX3_readsOne_6 : List UInt8 := [153, 0, 9, 21, 4, 116, 167, 0, 5, 21, 4, 21, 5, 182, 0, 148, 154, 0, 13, 42, 7, 181, 1, 57]
abbrev dktX3_readsOne_6 : List UInt8 := dkwX3_readsOne_6 ++ dktX3_readsOne_7
def dkwX3_readsOne_5 : List UInt8 := [180, 0, 93, 182, 1, 76, 167, 0, 4, 3, 54, 5, 42, 180, 1, 57, 154, 0, 35, 42, 27, 29]
abbrev dktX3_readsOne_5 : List UInt8 := dkwX3_readsOne_5 ++ dktX3_readsOne_6
def dkwX3_readsOne_4 : List UInt8 := [167, 0, 12, 42, 3, 42, 180, 0, 93, 182, 1, 76, 54, 4, 27, 5, 160, 0, 15, 42, 3, 42]
abbrev dktX3_readsOne_4 : List UInt8 := dkwX3_readsOne_4 ++ dktX3_readsOne_5
def dkwX3_readsOne_3 : List UInt8 := [182, 1, 70, 27, 154, 0, 7, 3, 167, 0, 26, 27, 4, 160, 0, 12, 42, 3, 6, 182, 1, 76]
abbrev dktX3_readsOne_3 : List UInt8 := dkwX3_readsOne_3 ++ dktX3_readsOne_4
def dkwX3_readsOne_2 : List UInt8 := [160, 0, 15, 42, 180, 1, 51, 8, 160, 0, 7, 4, 167, 0, 4, 3, 62, 29, 153, 0, 7, 42]
abbrev dktX3_readsOne_2 : List UInt8 := dkwX3_readsOne_2 ++ dktX3_readsOne_3
def dkwX3_readsOne_1 : List UInt8 := [3, 7, 182, 1, 63, 42, 180, 1, 45, 61, 42, 182, 1, 70, 42, 180, 1, 57, 154, 0, 20, 27, 4]
abbrev dktX3_readsOne_1 : List UInt8 := dkwX3_readsOne_1 ++ dktX3_readsOne_2
def dkwX3_readsOne_0 : List UInt8 := [42, 182, 1, 73, 16, 6, 100, 60, 42, 42, 180, 0, 135, 42, 180, 0, 93, 162, 0, 7, 4, 167, 0, 4]
abbrev dktX3_readsOne_0 : List UInt8 := dkwX3_readsOne_0 ++ dktX3_readsOne_1
theorem dksX3_readsOne_0 : cX3_readsOne.data.toList.drop 0 = dktX3_readsOne_0 := by decide +kernel
theorem dksX3_readsOne_1 : cX3_readsOne.data.toList.drop 24 = dktX3_readsOne_1 := dk_seg dksX3_readsOne_0 24 rfl rfl
theorem dksX3_readsOne_2 : cX3_readsOne.data.toList.drop 47 = dktX3_readsOne_2 := dk_seg dksX3_readsOne_1 23 rfl rfl
theorem dksX3_readsOne_3 : cX3_readsOne.data.toList.drop 69 = dktX3_readsOne_3 := dk_seg dksX3_readsOne_2 22 rfl rfl
theorem dksX3_readsOne_4 : cX3_readsOne.data.toList.drop 91 = dktX3_readsOne_4 := dk_seg dksX3_readsOne_3 22 rfl rfl
theorem dksX3_readsOne_5 : cX3_readsOne.data.toList.drop 113 = dktX3_readsOne_5 := dk_seg dksX3_readsOne_4 22 rfl rfl
theorem dksX3_readsOne_6 : cX3_readsOne.data.toList.drop 135 = dktX3_readsOne_6 := dk_seg dksX3_readsOne_5 22 rfl rfl
theorem dksX3_readsOne_7 : cX3_readsOne.data.toList.drop 159 = dktX3_readsOne_7 := dk_seg dksX3_readsOne_6 24 rfl rfl
theorem dX3_readsOne_0 : decode cX3_readsOne 0 = .ok (.aload_n 0, 1) := dk_42 (dk_at dksX3_readsOne_0 0 rfl rfl)
theorem dX3_readsOne_1 : decode cX3_readsOne 1 = .ok (.invokevirtual 329, 3) := dk_182 1 73 (dk_at dksX3_readsOne_0 1 rfl rfl)
theorem dX3_readsOne_4 : decode cX3_readsOne 4 = .ok (.bipush 6, 2) := dk_16 6 (dk_at dksX3_readsOne_0 4 rfl rfl)
theorem dX3_readsOne_6 : decode cX3_readsOne 6 = .ok (.isub, 1) := dk_100 (dk_at dksX3_readsOne_0 6 rfl rfl)
theorem dX3_readsOne_7 : decode cX3_readsOne 7 = .ok (.istore_n 1, 1) := dk_60 (dk_at dksX3_readsOne_0 7 rfl rfl)
theorem dX3_readsOne_8 : decode cX3_readsOne 8 = .ok (.aload_n 0, 1) := dk_42 (dk_at dksX3_readsOne_0 8 rfl rfl)
theorem dX3_readsOne_9 : decode cX3_readsOne 9 = .ok (.aload_n 0, 1) := dk_42 (dk_at dksX3_readsOne_0 9 rfl rfl)
theorem dX3_readsOne_10 : decode cX3_readsOne 10 = .ok (.getfield 135, 3) := dk_180 0 135 (dk_at dksX3_readsOne_0 10 rfl rfl)
theorem dX3_readsOne_13 : decode cX3_readsOne 13 = .ok (.aload_n 0, 1) := dk_42 (dk_at dksX3_readsOne_0 13 rfl rfl)
theorem dX3_readsOne_14 : decode cX3_readsOne 14 = .ok (.getfield 93, 3) := dk_180 0 93 (dk_at dksX3_readsOne_0 14 rfl rfl)
theorem dX3_readsOne_17 : decode cX3_readsOne 17 = .ok (.if_icmp .ge 7, 3) := dk_162 0 7 (dk_at dksX3_readsOne_0 17 rfl rfl)
theorem dX3_readsOne_20 : decode cX3_readsOne 20 = .ok (.iconst 1, 1) := dk_4 (dk_at dksX3_readsOne_0 20 rfl rfl)
theorem dX3_readsOne_21 : decode cX3_readsOne 21 = .ok (.goto 4, 3) := dk_167 0 4 (dk_at dksX3_readsOne_0 21 rfl rfl)
theorem dX3_readsOne_24 : decode cX3_readsOne 24 = .ok (.iconst 0, 1) := dk_3 (dk_at dksX3_readsOne_1 0 rfl rfl)
theorem dX3_readsOne_25 : decode cX3_readsOne 25 = .ok (.iconst 4, 1) := dk_7 (dk_at dksX3_readsOne_1 1 rfl rfl)
theorem dX3_readsOne_26 : decode cX3_readsOne 26 = .ok (.invokevirtual 319, 3) := dk_182 1 63 (dk_at dksX3_readsOne_1 2 rfl rfl)
theorem dX3_readsOne_29 : decode cX3_readsOne 29 = .ok (.aload_n 0, 1) := dk_42 (dk_at dksX3_readsOne_1 5 rfl rfl)
theorem dX3_readsOne_30 : decode cX3_readsOne 30 = .ok (.getfield 301, 3) := dk_180 1 45 (dk_at dksX3_readsOne_1 6 rfl rfl)
theorem dX3_readsOne_33 : decode cX3_readsOne 33 = .ok (.istore_n 2, 1) := dk_61 (dk_at dksX3_readsOne_1 9 rfl rfl)
theorem dX3_readsOne_34 : decode cX3_readsOne 34 = .ok (.aload_n 0, 1) := dk_42 (dk_at dksX3_readsOne_1 10 rfl rfl)
theorem dX3_readsOne_35 : decode cX3_readsOne 35 = .ok (.invokevirtual 326, 3) := dk_182 1 70 (dk_at dksX3_readsOne_1 11 rfl rfl)
theorem dX3_readsOne_38 : decode cX3_readsOne 38 = .ok (.aload_n 0, 1) := dk_42 (dk_at dksX3_readsOne_1 14 rfl rfl)
theorem dX3_readsOne_39 : decode cX3_readsOne 39 = .ok (.getfield 313, 3) := dk_180 1 57 (dk_at dksX3_readsOne_1 15 rfl rfl)
theorem dX3_readsOne_42 : decode cX3_readsOne 42 = .ok (.ifCond .ne 20, 3) := dk_154 0 20 (dk_at dksX3_readsOne_1 18 rfl rfl)
theorem dX3_readsOne_45 : decode cX3_readsOne 45 = .ok (.iload_n 1, 1) := dk_27 (dk_at dksX3_readsOne_1 21 rfl rfl)
theorem dX3_readsOne_46 : decode cX3_readsOne 46 = .ok (.iconst 1, 1) := dk_4 (dk_at dksX3_readsOne_1 22 rfl rfl)
theorem dX3_readsOne_47 : decode cX3_readsOne 47 = .ok (.if_icmp .ne 15, 3) := dk_160 0 15 (dk_at dksX3_readsOne_2 0 rfl rfl)
theorem dX3_readsOne_50 : decode cX3_readsOne 50 = .ok (.aload_n 0, 1) := dk_42 (dk_at dksX3_readsOne_2 3 rfl rfl)
theorem dX3_readsOne_51 : decode cX3_readsOne 51 = .ok (.getfield 307, 3) := dk_180 1 51 (dk_at dksX3_readsOne_2 4 rfl rfl)
theorem dX3_readsOne_54 : decode cX3_readsOne 54 = .ok (.iconst 5, 1) := dk_8 (dk_at dksX3_readsOne_2 7 rfl rfl)
theorem dX3_readsOne_55 : decode cX3_readsOne 55 = .ok (.if_icmp .ne 7, 3) := dk_160 0 7 (dk_at dksX3_readsOne_2 8 rfl rfl)
theorem dX3_readsOne_58 : decode cX3_readsOne 58 = .ok (.iconst 1, 1) := dk_4 (dk_at dksX3_readsOne_2 11 rfl rfl)
theorem dX3_readsOne_59 : decode cX3_readsOne 59 = .ok (.goto 4, 3) := dk_167 0 4 (dk_at dksX3_readsOne_2 12 rfl rfl)
theorem dX3_readsOne_62 : decode cX3_readsOne 62 = .ok (.iconst 0, 1) := dk_3 (dk_at dksX3_readsOne_2 15 rfl rfl)
theorem dX3_readsOne_63 : decode cX3_readsOne 63 = .ok (.istore_n 3, 1) := dk_62 (dk_at dksX3_readsOne_2 16 rfl rfl)
theorem dX3_readsOne_64 : decode cX3_readsOne 64 = .ok (.iload_n 3, 1) := dk_29 (dk_at dksX3_readsOne_2 17 rfl rfl)
theorem dX3_readsOne_65 : decode cX3_readsOne 65 = .ok (.ifCond .eq 7, 3) := dk_153 0 7 (dk_at dksX3_readsOne_2 18 rfl rfl)
theorem dX3_readsOne_68 : decode cX3_readsOne 68 = .ok (.aload_n 0, 1) := dk_42 (dk_at dksX3_readsOne_2 21 rfl rfl)
theorem dX3_readsOne_69 : decode cX3_readsOne 69 = .ok (.invokevirtual 326, 3) := dk_182 1 70 (dk_at dksX3_readsOne_3 0 rfl rfl)
theorem dX3_readsOne_72 : decode cX3_readsOne 72 = .ok (.iload_n 1, 1) := dk_27 (dk_at dksX3_readsOne_3 3 rfl rfl)
theorem dX3_readsOne_73 : decode cX3_readsOne 73 = .ok (.ifCond .ne 7, 3) := dk_154 0 7 (dk_at dksX3_readsOne_3 4 rfl rfl)
theorem dX3_readsOne_76 : decode cX3_readsOne 76 = .ok (.iconst 0, 1) := dk_3 (dk_at dksX3_readsOne_3 7 rfl rfl)
theorem dX3_readsOne_77 : decode cX3_readsOne 77 = .ok (.goto 26, 3) := dk_167 0 26 (dk_at dksX3_readsOne_3 8 rfl rfl)
theorem dX3_readsOne_80 : decode cX3_readsOne 80 = .ok (.iload_n 1, 1) := dk_27 (dk_at dksX3_readsOne_3 11 rfl rfl)
theorem dX3_readsOne_81 : decode cX3_readsOne 81 = .ok (.iconst 1, 1) := dk_4 (dk_at dksX3_readsOne_3 12 rfl rfl)
theorem dX3_readsOne_82 : decode cX3_readsOne 82 = .ok (.if_icmp .ne 12, 3) := dk_160 0 12 (dk_at dksX3_readsOne_3 13 rfl rfl)
theorem dX3_readsOne_85 : decode cX3_readsOne 85 = .ok (.aload_n 0, 1) := dk_42 (dk_at dksX3_readsOne_3 16 rfl rfl)
theorem dX3_readsOne_86 : decode cX3_readsOne 86 = .ok (.iconst 0, 1) := dk_3 (dk_at dksX3_readsOne_3 17 rfl rfl)
theorem dX3_readsOne_87 : decode cX3_readsOne 87 = .ok (.iconst 3, 1) := dk_6 (dk_at dksX3_readsOne_3 18 rfl rfl)
theorem dX3_readsOne_88 : decode cX3_readsOne 88 = .ok (.invokevirtual 332, 3) := dk_182 1 76 (dk_at dksX3_readsOne_3 19 rfl rfl)
theorem dX3_readsOne_91 : decode cX3_readsOne 91 = .ok (.goto 12, 3) := dk_167 0 12 (dk_at dksX3_readsOne_4 0 rfl rfl)
theorem dX3_readsOne_94 : decode cX3_readsOne 94 = .ok (.aload_n 0, 1) := dk_42 (dk_at dksX3_readsOne_4 3 rfl rfl)
theorem dX3_readsOne_95 : decode cX3_readsOne 95 = .ok (.iconst 0, 1) := dk_3 (dk_at dksX3_readsOne_4 4 rfl rfl)
theorem dX3_readsOne_96 : decode cX3_readsOne 96 = .ok (.aload_n 0, 1) := dk_42 (dk_at dksX3_readsOne_4 5 rfl rfl)
theorem dX3_readsOne_97 : decode cX3_readsOne 97 = .ok (.getfield 93, 3) := dk_180 0 93 (dk_at dksX3_readsOne_4 6 rfl rfl)
theorem dX3_readsOne_100 : decode cX3_readsOne 100 = .ok (.invokevirtual 332, 3) := dk_182 1 76 (dk_at dksX3_readsOne_4 9 rfl rfl)
theorem dX3_readsOne_103 : decode cX3_readsOne 103 = .ok (.istore 4, 2) := dk_54 4 (dk_at dksX3_readsOne_4 12 rfl rfl)
theorem dX3_readsOne_105 : decode cX3_readsOne 105 = .ok (.iload_n 1, 1) := dk_27 (dk_at dksX3_readsOne_4 14 rfl rfl)
theorem dX3_readsOne_106 : decode cX3_readsOne 106 = .ok (.iconst 2, 1) := dk_5 (dk_at dksX3_readsOne_4 15 rfl rfl)
theorem dX3_readsOne_107 : decode cX3_readsOne 107 = .ok (.if_icmp .ne 15, 3) := dk_160 0 15 (dk_at dksX3_readsOne_4 16 rfl rfl)
theorem dX3_readsOne_110 : decode cX3_readsOne 110 = .ok (.aload_n 0, 1) := dk_42 (dk_at dksX3_readsOne_4 19 rfl rfl)
theorem dX3_readsOne_111 : decode cX3_readsOne 111 = .ok (.iconst 0, 1) := dk_3 (dk_at dksX3_readsOne_4 20 rfl rfl)
theorem dX3_readsOne_112 : decode cX3_readsOne 112 = .ok (.aload_n 0, 1) := dk_42 (dk_at dksX3_readsOne_4 21 rfl rfl)
theorem dX3_readsOne_113 : decode cX3_readsOne 113 = .ok (.getfield 93, 3) := dk_180 0 93 (dk_at dksX3_readsOne_5 0 rfl rfl)
theorem dX3_readsOne_116 : decode cX3_readsOne 116 = .ok (.invokevirtual 332, 3) := dk_182 1 76 (dk_at dksX3_readsOne_5 3 rfl rfl)
theorem dX3_readsOne_119 : decode cX3_readsOne 119 = .ok (.goto 4, 3) := dk_167 0 4 (dk_at dksX3_readsOne_5 6 rfl rfl)
theorem dX3_readsOne_122 : decode cX3_readsOne 122 = .ok (.iconst 0, 1) := dk_3 (dk_at dksX3_readsOne_5 9 rfl rfl)
theorem dX3_readsOne_123 : decode cX3_readsOne 123 = .ok (.istore 5, 2) := dk_54 5 (dk_at dksX3_readsOne_5 10 rfl rfl)
theorem dX3_readsOne_125 : decode cX3_readsOne 125 = .ok (.aload_n 0, 1) := dk_42 (dk_at dksX3_readsOne_5 12 rfl rfl)
theorem dX3_readsOne_126 : decode cX3_readsOne 126 = .ok (.getfield 313, 3) := dk_180 1 57 (dk_at dksX3_readsOne_5 13 rfl rfl)
theorem dX3_readsOne_129 : decode cX3_readsOne 129 = .ok (.ifCond .ne 35, 3) := dk_154 0 35 (dk_at dksX3_readsOne_5 16 rfl rfl)
theorem dX3_readsOne_132 : decode cX3_readsOne 132 = .ok (.aload_n 0, 1) := dk_42 (dk_at dksX3_readsOne_5 19 rfl rfl)
theorem dX3_readsOne_133 : decode cX3_readsOne 133 = .ok (.iload_n 1, 1) := dk_27 (dk_at dksX3_readsOne_5 20 rfl rfl)
theorem dX3_readsOne_134 : decode cX3_readsOne 134 = .ok (.iload_n 3, 1) := dk_29 (dk_at dksX3_readsOne_5 21 rfl rfl)
theorem dX3_readsOne_135 : decode cX3_readsOne 135 = .ok (.ifCond .eq 9, 3) := dk_153 0 9 (dk_at dksX3_readsOne_6 0 rfl rfl)
theorem dX3_readsOne_138 : decode cX3_readsOne 138 = .ok (.iload 4, 2) := dk_21 4 (dk_at dksX3_readsOne_6 3 rfl rfl)
theorem dX3_readsOne_140 : decode cX3_readsOne 140 = .ok (.ineg, 1) := dk_116 (dk_at dksX3_readsOne_6 5 rfl rfl)
theorem dX3_readsOne_141 : decode cX3_readsOne 141 = .ok (.goto 5, 3) := dk_167 0 5 (dk_at dksX3_readsOne_6 6 rfl rfl)
theorem dX3_readsOne_144 : decode cX3_readsOne 144 = .ok (.iload 4, 2) := dk_21 4 (dk_at dksX3_readsOne_6 9 rfl rfl)
theorem dX3_readsOne_146 : decode cX3_readsOne 146 = .ok (.iload 5, 2) := dk_21 5 (dk_at dksX3_readsOne_6 11 rfl rfl)
theorem dX3_readsOne_148 : decode cX3_readsOne 148 = .ok (.invokevirtual 148, 3) := dk_182 0 148 (dk_at dksX3_readsOne_6 13 rfl rfl)
theorem dX3_readsOne_151 : decode cX3_readsOne 151 = .ok (.ifCond .ne 13, 3) := dk_154 0 13 (dk_at dksX3_readsOne_6 16 rfl rfl)
theorem dX3_readsOne_154 : decode cX3_readsOne 154 = .ok (.aload_n 0, 1) := dk_42 (dk_at dksX3_readsOne_6 19 rfl rfl)
theorem dX3_readsOne_155 : decode cX3_readsOne 155 = .ok (.iconst 4, 1) := dk_7 (dk_at dksX3_readsOne_6 20 rfl rfl)
theorem dX3_readsOne_156 : decode cX3_readsOne 156 = .ok (.putfield 313, 3) := dk_181 1 57 (dk_at dksX3_readsOne_6 21 rfl rfl)
theorem dX3_readsOne_159 : decode cX3_readsOne 159 = .ok (.aload_n 0, 1) := dk_42 (dk_at dksX3_readsOne_7 0 rfl rfl)
theorem dX3_readsOne_160 : decode cX3_readsOne 160 = .ok (.iload_n 2, 1) := dk_28 (dk_at dksX3_readsOne_7 1 rfl rfl)
theorem dX3_readsOne_161 : decode cX3_readsOne 161 = .ok (.putfield 72, 3) := dk_181 0 72 (dk_at dksX3_readsOne_7 2 rfl rfl)
theorem dX3_readsOne_164 : decode cX3_readsOne 164 = .ok (.return_, 1) := dk_177 (dk_at dksX3_readsOne_7 5 rfl rfl)
abbrev cX3_addsTold : ByteArray := prog_18_method_94_code
def yX3_addsTold : MethodName := ⟨RX3, "addsTold", "()V"⟩
def dkwX3_addsTold_2 : List UInt8 := [180, 0, 13, 4, 92, 46, 42, 180, 1, 57, 154, 0, 7, 4, 167, 0, 4, 3, 96, 79, 177]
abbrev dktX3_addsTold_2 : List UInt8 := dkwX3_addsTold_2 ++ []
def dkwX3_addsTold_1 : List UInt8 := [180, 0, 13, 4, 46, 27, 184, 0, 96, 42, 180, 0, 44, 27, 46, 79, 132, 1, 1, 167, 255, 217, 42]
abbrev dktX3_addsTold_1 : List UInt8 := dkwX3_addsTold_1 ++ dktX3_addsTold_2
def dkwX3_addsTold_0 : List UInt8 := [3, 60, 27, 42, 180, 0, 93, 162, 0, 37, 42, 180, 1, 57, 154, 0, 30, 42, 180, 0, 13, 42]
abbrev dktX3_addsTold_0 : List UInt8 := dkwX3_addsTold_0 ++ dktX3_addsTold_1
theorem dksX3_addsTold_0 : cX3_addsTold.data.toList.drop 0 = dktX3_addsTold_0 := by decide +kernel
theorem dksX3_addsTold_1 : cX3_addsTold.data.toList.drop 22 = dktX3_addsTold_1 := dk_seg dksX3_addsTold_0 22 rfl rfl
theorem dksX3_addsTold_2 : cX3_addsTold.data.toList.drop 45 = dktX3_addsTold_2 := dk_seg dksX3_addsTold_1 23 rfl rfl
theorem dX3_addsTold_0 : decode cX3_addsTold 0 = .ok (.iconst 0, 1) := dk_3 (dk_at dksX3_addsTold_0 0 rfl rfl)
theorem dX3_addsTold_1 : decode cX3_addsTold 1 = .ok (.istore_n 1, 1) := dk_60 (dk_at dksX3_addsTold_0 1 rfl rfl)
theorem dX3_addsTold_2 : decode cX3_addsTold 2 = .ok (.iload_n 1, 1) := dk_27 (dk_at dksX3_addsTold_0 2 rfl rfl)
theorem dX3_addsTold_3 : decode cX3_addsTold 3 = .ok (.aload_n 0, 1) := dk_42 (dk_at dksX3_addsTold_0 3 rfl rfl)
theorem dX3_addsTold_4 : decode cX3_addsTold 4 = .ok (.getfield 93, 3) := dk_180 0 93 (dk_at dksX3_addsTold_0 4 rfl rfl)
theorem dX3_addsTold_7 : decode cX3_addsTold 7 = .ok (.if_icmp .ge 37, 3) := dk_162 0 37 (dk_at dksX3_addsTold_0 7 rfl rfl)
theorem dX3_addsTold_10 : decode cX3_addsTold 10 = .ok (.aload_n 0, 1) := dk_42 (dk_at dksX3_addsTold_0 10 rfl rfl)
theorem dX3_addsTold_11 : decode cX3_addsTold 11 = .ok (.getfield 313, 3) := dk_180 1 57 (dk_at dksX3_addsTold_0 11 rfl rfl)
theorem dX3_addsTold_14 : decode cX3_addsTold 14 = .ok (.ifCond .ne 30, 3) := dk_154 0 30 (dk_at dksX3_addsTold_0 14 rfl rfl)
theorem dX3_addsTold_17 : decode cX3_addsTold 17 = .ok (.aload_n 0, 1) := dk_42 (dk_at dksX3_addsTold_0 17 rfl rfl)
theorem dX3_addsTold_18 : decode cX3_addsTold 18 = .ok (.getfield 13, 3) := dk_180 0 13 (dk_at dksX3_addsTold_0 18 rfl rfl)
theorem dX3_addsTold_21 : decode cX3_addsTold 21 = .ok (.aload_n 0, 1) := dk_42 (dk_at dksX3_addsTold_0 21 rfl rfl)
theorem dX3_addsTold_22 : decode cX3_addsTold 22 = .ok (.getfield 13, 3) := dk_180 0 13 (dk_at dksX3_addsTold_1 0 rfl rfl)
theorem dX3_addsTold_25 : decode cX3_addsTold 25 = .ok (.iconst 1, 1) := dk_4 (dk_at dksX3_addsTold_1 3 rfl rfl)
theorem dX3_addsTold_26 : decode cX3_addsTold 26 = .ok (.iaload, 1) := dk_46 (dk_at dksX3_addsTold_1 4 rfl rfl)
theorem dX3_addsTold_27 : decode cX3_addsTold 27 = .ok (.iload_n 1, 1) := dk_27 (dk_at dksX3_addsTold_1 5 rfl rfl)
theorem dX3_addsTold_28 : decode cX3_addsTold 28 = .ok (.invokestatic 96, 3) := dk_184 0 96 (dk_at dksX3_addsTold_1 6 rfl rfl)
theorem dX3_addsTold_31 : decode cX3_addsTold 31 = .ok (.aload_n 0, 1) := dk_42 (dk_at dksX3_addsTold_1 9 rfl rfl)
theorem dX3_addsTold_32 : decode cX3_addsTold 32 = .ok (.getfield 44, 3) := dk_180 0 44 (dk_at dksX3_addsTold_1 10 rfl rfl)
theorem dX3_addsTold_35 : decode cX3_addsTold 35 = .ok (.iload_n 1, 1) := dk_27 (dk_at dksX3_addsTold_1 13 rfl rfl)
theorem dX3_addsTold_36 : decode cX3_addsTold 36 = .ok (.iaload, 1) := dk_46 (dk_at dksX3_addsTold_1 14 rfl rfl)
theorem dX3_addsTold_37 : decode cX3_addsTold 37 = .ok (.iastore, 1) := dk_79 (dk_at dksX3_addsTold_1 15 rfl rfl)
theorem dX3_addsTold_38 : decode cX3_addsTold 38 = .ok (.iinc 1 1, 3) := dk_132 1 1 (dk_at dksX3_addsTold_1 16 rfl rfl)
theorem dX3_addsTold_41 : decode cX3_addsTold 41 = .ok (.goto (-39), 3) := dk_167 255 217 (dk_at dksX3_addsTold_1 19 rfl rfl)
theorem dX3_addsTold_44 : decode cX3_addsTold 44 = .ok (.aload_n 0, 1) := dk_42 (dk_at dksX3_addsTold_1 22 rfl rfl)
theorem dX3_addsTold_45 : decode cX3_addsTold 45 = .ok (.getfield 13, 3) := dk_180 0 13 (dk_at dksX3_addsTold_2 0 rfl rfl)
theorem dX3_addsTold_48 : decode cX3_addsTold 48 = .ok (.iconst 1, 1) := dk_4 (dk_at dksX3_addsTold_2 3 rfl rfl)
theorem dX3_addsTold_49 : decode cX3_addsTold 49 = .ok (.dup2, 1) := dk_92 (dk_at dksX3_addsTold_2 4 rfl rfl)
theorem dX3_addsTold_50 : decode cX3_addsTold 50 = .ok (.iaload, 1) := dk_46 (dk_at dksX3_addsTold_2 5 rfl rfl)
theorem dX3_addsTold_51 : decode cX3_addsTold 51 = .ok (.aload_n 0, 1) := dk_42 (dk_at dksX3_addsTold_2 6 rfl rfl)
theorem dX3_addsTold_52 : decode cX3_addsTold 52 = .ok (.getfield 313, 3) := dk_180 1 57 (dk_at dksX3_addsTold_2 7 rfl rfl)
theorem dX3_addsTold_55 : decode cX3_addsTold 55 = .ok (.ifCond .ne 7, 3) := dk_154 0 7 (dk_at dksX3_addsTold_2 10 rfl rfl)
theorem dX3_addsTold_58 : decode cX3_addsTold 58 = .ok (.iconst 1, 1) := dk_4 (dk_at dksX3_addsTold_2 13 rfl rfl)
theorem dX3_addsTold_59 : decode cX3_addsTold 59 = .ok (.goto 4, 3) := dk_167 0 4 (dk_at dksX3_addsTold_2 14 rfl rfl)
theorem dX3_addsTold_62 : decode cX3_addsTold 62 = .ok (.iconst 0, 1) := dk_3 (dk_at dksX3_addsTold_2 17 rfl rfl)
theorem dX3_addsTold_63 : decode cX3_addsTold 63 = .ok (.iadd, 1) := dk_96 (dk_at dksX3_addsTold_2 18 rfl rfl)
theorem dX3_addsTold_64 : decode cX3_addsTold 64 = .ok (.iastore, 1) := dk_79 (dk_at dksX3_addsTold_2 19 rfl rfl)
theorem dX3_addsTold_65 : decode cX3_addsTold 65 = .ok (.return_, 1) := dk_177 (dk_at dksX3_addsTold_2 20 rfl rfl)
abbrev cX3_readsSetting : ByteArray := prog_18_method_99_code
def yX3_readsSetting : MethodName := ⟨RX3, "readsSetting", "()V"⟩
def dkwX3_readsSetting_2 : List UInt8 := [27, 96, 46, 79, 177]
abbrev dktX3_readsSetting_2 : List UInt8 := dkwX3_readsSetting_2 ++ []
def dkwX3_readsSetting_1 : List UInt8 := [61, 42, 180, 0, 13, 5, 27, 96, 42, 180, 1, 57, 154, 0, 7, 28, 167, 0, 11, 42, 180, 0, 13, 5]
abbrev dktX3_readsSetting_1 : List UInt8 := dkwX3_readsSetting_1 ++ dktX3_readsSetting_2
def dkwX3_readsSetting_0 : List UInt8 := [42, 3, 8, 182, 1, 76, 60, 42, 27, 154, 0, 7, 4, 167, 0, 4, 3, 27, 184, 0, 221, 182, 1, 76]
abbrev dktX3_readsSetting_0 : List UInt8 := dkwX3_readsSetting_0 ++ dktX3_readsSetting_1
theorem dksX3_readsSetting_0 : cX3_readsSetting.data.toList.drop 0 = dktX3_readsSetting_0 := by decide +kernel
theorem dksX3_readsSetting_1 : cX3_readsSetting.data.toList.drop 24 = dktX3_readsSetting_1 := dk_seg dksX3_readsSetting_0 24 rfl rfl
theorem dksX3_readsSetting_2 : cX3_readsSetting.data.toList.drop 48 = dktX3_readsSetting_2 := dk_seg dksX3_readsSetting_1 24 rfl rfl
theorem dX3_readsSetting_0 : decode cX3_readsSetting 0 = .ok (.aload_n 0, 1) := dk_42 (dk_at dksX3_readsSetting_0 0 rfl rfl)
theorem dX3_readsSetting_1 : decode cX3_readsSetting 1 = .ok (.iconst 0, 1) := dk_3 (dk_at dksX3_readsSetting_0 1 rfl rfl)
theorem dX3_readsSetting_2 : decode cX3_readsSetting 2 = .ok (.iconst 5, 1) := dk_8 (dk_at dksX3_readsSetting_0 2 rfl rfl)
theorem dX3_readsSetting_3 : decode cX3_readsSetting 3 = .ok (.invokevirtual 332, 3) := dk_182 1 76 (dk_at dksX3_readsSetting_0 3 rfl rfl)
theorem dX3_readsSetting_6 : decode cX3_readsSetting 6 = .ok (.istore_n 1, 1) := dk_60 (dk_at dksX3_readsSetting_0 6 rfl rfl)
theorem dX3_readsSetting_7 : decode cX3_readsSetting 7 = .ok (.aload_n 0, 1) := dk_42 (dk_at dksX3_readsSetting_0 7 rfl rfl)
theorem dX3_readsSetting_8 : decode cX3_readsSetting 8 = .ok (.iload_n 1, 1) := dk_27 (dk_at dksX3_readsSetting_0 8 rfl rfl)
theorem dX3_readsSetting_9 : decode cX3_readsSetting 9 = .ok (.ifCond .ne 7, 3) := dk_154 0 7 (dk_at dksX3_readsSetting_0 9 rfl rfl)
theorem dX3_readsSetting_12 : decode cX3_readsSetting 12 = .ok (.iconst 1, 1) := dk_4 (dk_at dksX3_readsSetting_0 12 rfl rfl)
theorem dX3_readsSetting_13 : decode cX3_readsSetting 13 = .ok (.goto 4, 3) := dk_167 0 4 (dk_at dksX3_readsSetting_0 13 rfl rfl)
theorem dX3_readsSetting_16 : decode cX3_readsSetting 16 = .ok (.iconst 0, 1) := dk_3 (dk_at dksX3_readsSetting_0 16 rfl rfl)
theorem dX3_readsSetting_17 : decode cX3_readsSetting 17 = .ok (.iload_n 1, 1) := dk_27 (dk_at dksX3_readsSetting_0 17 rfl rfl)
theorem dX3_readsSetting_18 : decode cX3_readsSetting 18 = .ok (.invokestatic 221, 3) := dk_184 0 221 (dk_at dksX3_readsSetting_0 18 rfl rfl)
theorem dX3_readsSetting_21 : decode cX3_readsSetting 21 = .ok (.invokevirtual 332, 3) := dk_182 1 76 (dk_at dksX3_readsSetting_0 21 rfl rfl)
theorem dX3_readsSetting_24 : decode cX3_readsSetting 24 = .ok (.istore_n 2, 1) := dk_61 (dk_at dksX3_readsSetting_1 0 rfl rfl)
theorem dX3_readsSetting_25 : decode cX3_readsSetting 25 = .ok (.aload_n 0, 1) := dk_42 (dk_at dksX3_readsSetting_1 1 rfl rfl)
theorem dX3_readsSetting_26 : decode cX3_readsSetting 26 = .ok (.getfield 13, 3) := dk_180 0 13 (dk_at dksX3_readsSetting_1 2 rfl rfl)
theorem dX3_readsSetting_29 : decode cX3_readsSetting 29 = .ok (.iconst 2, 1) := dk_5 (dk_at dksX3_readsSetting_1 5 rfl rfl)
theorem dX3_readsSetting_30 : decode cX3_readsSetting 30 = .ok (.iload_n 1, 1) := dk_27 (dk_at dksX3_readsSetting_1 6 rfl rfl)
theorem dX3_readsSetting_31 : decode cX3_readsSetting 31 = .ok (.iadd, 1) := dk_96 (dk_at dksX3_readsSetting_1 7 rfl rfl)
theorem dX3_readsSetting_32 : decode cX3_readsSetting 32 = .ok (.aload_n 0, 1) := dk_42 (dk_at dksX3_readsSetting_1 8 rfl rfl)
theorem dX3_readsSetting_33 : decode cX3_readsSetting 33 = .ok (.getfield 313, 3) := dk_180 1 57 (dk_at dksX3_readsSetting_1 9 rfl rfl)
theorem dX3_readsSetting_36 : decode cX3_readsSetting 36 = .ok (.ifCond .ne 7, 3) := dk_154 0 7 (dk_at dksX3_readsSetting_1 12 rfl rfl)
theorem dX3_readsSetting_39 : decode cX3_readsSetting 39 = .ok (.iload_n 2, 1) := dk_28 (dk_at dksX3_readsSetting_1 15 rfl rfl)
theorem dX3_readsSetting_40 : decode cX3_readsSetting 40 = .ok (.goto 11, 3) := dk_167 0 11 (dk_at dksX3_readsSetting_1 16 rfl rfl)
theorem dX3_readsSetting_43 : decode cX3_readsSetting 43 = .ok (.aload_n 0, 1) := dk_42 (dk_at dksX3_readsSetting_1 19 rfl rfl)
theorem dX3_readsSetting_44 : decode cX3_readsSetting 44 = .ok (.getfield 13, 3) := dk_180 0 13 (dk_at dksX3_readsSetting_1 20 rfl rfl)
theorem dX3_readsSetting_47 : decode cX3_readsSetting 47 = .ok (.iconst 2, 1) := dk_5 (dk_at dksX3_readsSetting_1 23 rfl rfl)
theorem dX3_readsSetting_48 : decode cX3_readsSetting 48 = .ok (.iload_n 1, 1) := dk_27 (dk_at dksX3_readsSetting_2 0 rfl rfl)
theorem dX3_readsSetting_49 : decode cX3_readsSetting 49 = .ok (.iadd, 1) := dk_96 (dk_at dksX3_readsSetting_2 1 rfl rfl)
theorem dX3_readsSetting_50 : decode cX3_readsSetting 50 = .ok (.iaload, 1) := dk_46 (dk_at dksX3_readsSetting_2 2 rfl rfl)
theorem dX3_readsSetting_51 : decode cX3_readsSetting 51 = .ok (.iastore, 1) := dk_79 (dk_at dksX3_readsSetting_2 3 rfl rfl)
theorem dX3_readsSetting_52 : decode cX3_readsSetting 52 = .ok (.return_, 1) := dk_177 (dk_at dksX3_readsSetting_2 4 rfl rfl)
abbrev cX3_readsLoss : ByteArray := prog_18_method_100_code
def yX3_readsLoss : MethodName := ⟨RX3, "readsLoss", "()V"⟩
def dkwX3_readsLoss_1 : List UInt8 := [180, 1, 57, 154, 0, 7, 28, 167, 0, 12, 42, 180, 0, 13, 16, 8, 27, 96, 46, 79, 177]
abbrev dktX3_readsLoss_1 : List UInt8 := dkwX3_readsLoss_1 ++ []
def dkwX3_readsLoss_0 : List UInt8 := [42, 3, 16, 19, 182, 1, 76, 60, 42, 3, 8, 182, 1, 76, 61, 42, 180, 0, 13, 16, 8, 27, 96, 42]
abbrev dktX3_readsLoss_0 : List UInt8 := dkwX3_readsLoss_0 ++ dktX3_readsLoss_1
theorem dksX3_readsLoss_0 : cX3_readsLoss.data.toList.drop 0 = dktX3_readsLoss_0 := by decide +kernel
theorem dksX3_readsLoss_1 : cX3_readsLoss.data.toList.drop 24 = dktX3_readsLoss_1 := dk_seg dksX3_readsLoss_0 24 rfl rfl
theorem dX3_readsLoss_0 : decode cX3_readsLoss 0 = .ok (.aload_n 0, 1) := dk_42 (dk_at dksX3_readsLoss_0 0 rfl rfl)
theorem dX3_readsLoss_1 : decode cX3_readsLoss 1 = .ok (.iconst 0, 1) := dk_3 (dk_at dksX3_readsLoss_0 1 rfl rfl)
theorem dX3_readsLoss_2 : decode cX3_readsLoss 2 = .ok (.bipush 19, 2) := dk_16 19 (dk_at dksX3_readsLoss_0 2 rfl rfl)
theorem dX3_readsLoss_4 : decode cX3_readsLoss 4 = .ok (.invokevirtual 332, 3) := dk_182 1 76 (dk_at dksX3_readsLoss_0 4 rfl rfl)
theorem dX3_readsLoss_7 : decode cX3_readsLoss 7 = .ok (.istore_n 1, 1) := dk_60 (dk_at dksX3_readsLoss_0 7 rfl rfl)
theorem dX3_readsLoss_8 : decode cX3_readsLoss 8 = .ok (.aload_n 0, 1) := dk_42 (dk_at dksX3_readsLoss_0 8 rfl rfl)
theorem dX3_readsLoss_9 : decode cX3_readsLoss 9 = .ok (.iconst 0, 1) := dk_3 (dk_at dksX3_readsLoss_0 9 rfl rfl)
theorem dX3_readsLoss_10 : decode cX3_readsLoss 10 = .ok (.iconst 5, 1) := dk_8 (dk_at dksX3_readsLoss_0 10 rfl rfl)
theorem dX3_readsLoss_11 : decode cX3_readsLoss 11 = .ok (.invokevirtual 332, 3) := dk_182 1 76 (dk_at dksX3_readsLoss_0 11 rfl rfl)
theorem dX3_readsLoss_14 : decode cX3_readsLoss 14 = .ok (.istore_n 2, 1) := dk_61 (dk_at dksX3_readsLoss_0 14 rfl rfl)
theorem dX3_readsLoss_15 : decode cX3_readsLoss 15 = .ok (.aload_n 0, 1) := dk_42 (dk_at dksX3_readsLoss_0 15 rfl rfl)
theorem dX3_readsLoss_16 : decode cX3_readsLoss 16 = .ok (.getfield 13, 3) := dk_180 0 13 (dk_at dksX3_readsLoss_0 16 rfl rfl)
theorem dX3_readsLoss_19 : decode cX3_readsLoss 19 = .ok (.bipush 8, 2) := dk_16 8 (dk_at dksX3_readsLoss_0 19 rfl rfl)
theorem dX3_readsLoss_21 : decode cX3_readsLoss 21 = .ok (.iload_n 1, 1) := dk_27 (dk_at dksX3_readsLoss_0 21 rfl rfl)
theorem dX3_readsLoss_22 : decode cX3_readsLoss 22 = .ok (.iadd, 1) := dk_96 (dk_at dksX3_readsLoss_0 22 rfl rfl)
theorem dX3_readsLoss_23 : decode cX3_readsLoss 23 = .ok (.aload_n 0, 1) := dk_42 (dk_at dksX3_readsLoss_0 23 rfl rfl)
theorem dX3_readsLoss_24 : decode cX3_readsLoss 24 = .ok (.getfield 313, 3) := dk_180 1 57 (dk_at dksX3_readsLoss_1 0 rfl rfl)
theorem dX3_readsLoss_27 : decode cX3_readsLoss 27 = .ok (.ifCond .ne 7, 3) := dk_154 0 7 (dk_at dksX3_readsLoss_1 3 rfl rfl)
theorem dX3_readsLoss_30 : decode cX3_readsLoss 30 = .ok (.iload_n 2, 1) := dk_28 (dk_at dksX3_readsLoss_1 6 rfl rfl)
theorem dX3_readsLoss_31 : decode cX3_readsLoss 31 = .ok (.goto 12, 3) := dk_167 0 12 (dk_at dksX3_readsLoss_1 7 rfl rfl)
theorem dX3_readsLoss_34 : decode cX3_readsLoss 34 = .ok (.aload_n 0, 1) := dk_42 (dk_at dksX3_readsLoss_1 10 rfl rfl)
theorem dX3_readsLoss_35 : decode cX3_readsLoss 35 = .ok (.getfield 13, 3) := dk_180 0 13 (dk_at dksX3_readsLoss_1 11 rfl rfl)
theorem dX3_readsLoss_38 : decode cX3_readsLoss 38 = .ok (.bipush 8, 2) := dk_16 8 (dk_at dksX3_readsLoss_1 14 rfl rfl)
theorem dX3_readsLoss_40 : decode cX3_readsLoss 40 = .ok (.iload_n 1, 1) := dk_27 (dk_at dksX3_readsLoss_1 16 rfl rfl)
theorem dX3_readsLoss_41 : decode cX3_readsLoss 41 = .ok (.iadd, 1) := dk_96 (dk_at dksX3_readsLoss_1 17 rfl rfl)
theorem dX3_readsLoss_42 : decode cX3_readsLoss 42 = .ok (.iaload, 1) := dk_46 (dk_at dksX3_readsLoss_1 18 rfl rfl)
theorem dX3_readsLoss_43 : decode cX3_readsLoss 43 = .ok (.iastore, 1) := dk_79 (dk_at dksX3_readsLoss_1 19 rfl rfl)
theorem dX3_readsLoss_44 : decode cX3_readsLoss 44 = .ok (.return_, 1) := dk_177 (dk_at dksX3_readsLoss_1 20 rfl rfl)
abbrev cX3_errorCode : ByteArray := prog_18_method_104_code
def yX3_errorCode : MethodName := ⟨RX3, "errorCode", "()I"⟩
def dkwX3_errorCode_0 : List UInt8 := [42, 3, 181, 0, 90, 42, 180, 1, 57, 172]
abbrev dktX3_errorCode_0 : List UInt8 := dkwX3_errorCode_0 ++ []
theorem dksX3_errorCode_0 : cX3_errorCode.data.toList.drop 0 = dktX3_errorCode_0 := by decide +kernel
theorem dX3_errorCode_0 : decode cX3_errorCode 0 = .ok (.aload_n 0, 1) := dk_42 (dk_at dksX3_errorCode_0 0 rfl rfl)
theorem dX3_errorCode_1 : decode cX3_errorCode 1 = .ok (.iconst 0, 1) := dk_3 (dk_at dksX3_errorCode_0 1 rfl rfl)
theorem dX3_errorCode_2 : decode cX3_errorCode 2 = .ok (.putfield 90, 3) := dk_181 0 90 (dk_at dksX3_errorCode_0 2 rfl rfl)
theorem dX3_errorCode_5 : decode cX3_errorCode 5 = .ok (.aload_n 0, 1) := dk_42 (dk_at dksX3_errorCode_0 5 rfl rfl)
theorem dX3_errorCode_6 : decode cX3_errorCode 6 = .ok (.getfield 313, 3) := dk_180 1 57 (dk_at dksX3_errorCode_0 6 rfl rfl)
theorem dX3_errorCode_9 : decode cX3_errorCode 9 = .ok (.ireturn, 1) := dk_172 (dk_at dksX3_errorCode_0 9 rfl rfl)
abbrev cX3_errorPosition : ByteArray := prog_18_method_105_code
def yX3_errorPosition : MethodName := ⟨RX3, "errorPosition", "()I"⟩
def dkwX3_errorPosition_0 : List UInt8 := [42, 3, 181, 0, 90, 42, 180, 0, 72, 172]
abbrev dktX3_errorPosition_0 : List UInt8 := dkwX3_errorPosition_0 ++ []
theorem dksX3_errorPosition_0 : cX3_errorPosition.data.toList.drop 0 = dktX3_errorPosition_0 := by decide +kernel
theorem dX3_errorPosition_0 : decode cX3_errorPosition 0 = .ok (.aload_n 0, 1) := dk_42 (dk_at dksX3_errorPosition_0 0 rfl rfl)
theorem dX3_errorPosition_1 : decode cX3_errorPosition 1 = .ok (.iconst 0, 1) := dk_3 (dk_at dksX3_errorPosition_0 1 rfl rfl)
theorem dX3_errorPosition_2 : decode cX3_errorPosition 2 = .ok (.putfield 90, 3) := dk_181 0 90 (dk_at dksX3_errorPosition_0 2 rfl rfl)
theorem dX3_errorPosition_5 : decode cX3_errorPosition 5 = .ok (.aload_n 0, 1) := dk_42 (dk_at dksX3_errorPosition_0 5 rfl rfl)
theorem dX3_errorPosition_6 : decode cX3_errorPosition 6 = .ok (.getfield 72, 3) := dk_180 0 72 (dk_at dksX3_errorPosition_0 6 rfl rfl)
theorem dX3_errorPosition_9 : decode cX3_errorPosition 9 = .ok (.ireturn, 1) := dk_172 (dk_at dksX3_errorPosition_0 9 rfl rfl)
abbrev cX3_write : ByteArray := prog_18_method_110_code
def yX3_write : MethodName := ⟨RX3, "write", "(I)I"⟩
def dkwX3_write_5 : List UInt8 := [180, 1, 109, 172]
abbrev dktX3_write_5 : List UInt8 := dkwX3_write_5 ++ []
def dkwX3_write_4 : List UInt8 := [180, 0, 111, 162, 0, 18, 28, 154, 0, 14, 42, 29, 182, 1, 121, 132, 3, 1, 167, 255, 236, 42]
abbrev dktX3_write_4 : List UInt8 := dkwX3_write_4 ++ dktX3_write_5
def dkwX3_write_3 : List UInt8 := [182, 1, 112, 42, 42, 180, 0, 47, 29, 46, 182, 1, 115, 132, 3, 1, 167, 255, 225, 3, 62, 29, 42]
abbrev dktX3_write_3 : List UInt8 := dkwX3_write_3 ++ dktX3_write_4
def dkwX3_write_2 : List UInt8 := [167, 0, 4, 5, 182, 1, 118, 3, 62, 29, 42, 180, 0, 151, 162, 0, 29, 28, 153, 0, 25, 42, 16, 32]
abbrev dktX3_write_2 : List UInt8 := dkwX3_write_2 ++ dktX3_write_3
def dkwX3_write_1 : List UInt8 := [3, 172, 42, 27, 182, 0, 173, 61, 42, 27, 182, 0, 163, 42, 3, 181, 1, 109, 42, 28, 153, 0, 7, 4]
abbrev dktX3_write_1 : List UInt8 := dkwX3_write_1 ++ dktX3_write_2
def dkwX3_write_0 : List UInt8 := [42, 42, 27, 182, 0, 194, 153, 0, 7, 3, 167, 0, 4, 4, 181, 0, 90, 42, 180, 0, 90, 158, 0, 5]
abbrev dktX3_write_0 : List UInt8 := dkwX3_write_0 ++ dktX3_write_1
theorem dksX3_write_0 : cX3_write.data.toList.drop 0 = dktX3_write_0 := by decide +kernel
theorem dksX3_write_1 : cX3_write.data.toList.drop 24 = dktX3_write_1 := dk_seg dksX3_write_0 24 rfl rfl
theorem dksX3_write_2 : cX3_write.data.toList.drop 48 = dktX3_write_2 := dk_seg dksX3_write_1 24 rfl rfl
theorem dksX3_write_3 : cX3_write.data.toList.drop 72 = dktX3_write_3 := dk_seg dksX3_write_2 24 rfl rfl
theorem dksX3_write_4 : cX3_write.data.toList.drop 95 = dktX3_write_4 := dk_seg dksX3_write_3 23 rfl rfl
theorem dksX3_write_5 : cX3_write.data.toList.drop 117 = dktX3_write_5 := dk_seg dksX3_write_4 22 rfl rfl
theorem dX3_write_0 : decode cX3_write 0 = .ok (.aload_n 0, 1) := dk_42 (dk_at dksX3_write_0 0 rfl rfl)
theorem dX3_write_1 : decode cX3_write 1 = .ok (.aload_n 0, 1) := dk_42 (dk_at dksX3_write_0 1 rfl rfl)
theorem dX3_write_2 : decode cX3_write 2 = .ok (.iload_n 1, 1) := dk_27 (dk_at dksX3_write_0 2 rfl rfl)
theorem dX3_write_3 : decode cX3_write 3 = .ok (.invokevirtual 194, 3) := dk_182 0 194 (dk_at dksX3_write_0 3 rfl rfl)
theorem dX3_write_6 : decode cX3_write 6 = .ok (.ifCond .eq 7, 3) := dk_153 0 7 (dk_at dksX3_write_0 6 rfl rfl)
theorem dX3_write_9 : decode cX3_write 9 = .ok (.iconst 0, 1) := dk_3 (dk_at dksX3_write_0 9 rfl rfl)
theorem dX3_write_10 : decode cX3_write 10 = .ok (.goto 4, 3) := dk_167 0 4 (dk_at dksX3_write_0 10 rfl rfl)
theorem dX3_write_13 : decode cX3_write 13 = .ok (.iconst 1, 1) := dk_4 (dk_at dksX3_write_0 13 rfl rfl)
theorem dX3_write_14 : decode cX3_write 14 = .ok (.putfield 90, 3) := dk_181 0 90 (dk_at dksX3_write_0 14 rfl rfl)
theorem dX3_write_17 : decode cX3_write 17 = .ok (.aload_n 0, 1) := dk_42 (dk_at dksX3_write_0 17 rfl rfl)
theorem dX3_write_18 : decode cX3_write 18 = .ok (.getfield 90, 3) := dk_180 0 90 (dk_at dksX3_write_0 18 rfl rfl)
theorem dX3_write_21 : decode cX3_write 21 = .ok (.ifCond .le 5, 3) := dk_158 0 5 (dk_at dksX3_write_0 21 rfl rfl)
theorem dX3_write_24 : decode cX3_write 24 = .ok (.iconst 0, 1) := dk_3 (dk_at dksX3_write_1 0 rfl rfl)
theorem dX3_write_25 : decode cX3_write 25 = .ok (.ireturn, 1) := dk_172 (dk_at dksX3_write_1 1 rfl rfl)
theorem dX3_write_26 : decode cX3_write 26 = .ok (.aload_n 0, 1) := dk_42 (dk_at dksX3_write_1 2 rfl rfl)
theorem dX3_write_27 : decode cX3_write 27 = .ok (.iload_n 1, 1) := dk_27 (dk_at dksX3_write_1 3 rfl rfl)
theorem dX3_write_28 : decode cX3_write 28 = .ok (.invokevirtual 173, 3) := dk_182 0 173 (dk_at dksX3_write_1 4 rfl rfl)
theorem dX3_write_31 : decode cX3_write 31 = .ok (.istore_n 2, 1) := dk_61 (dk_at dksX3_write_1 7 rfl rfl)
theorem dX3_write_32 : decode cX3_write 32 = .ok (.aload_n 0, 1) := dk_42 (dk_at dksX3_write_1 8 rfl rfl)
theorem dX3_write_33 : decode cX3_write 33 = .ok (.iload_n 1, 1) := dk_27 (dk_at dksX3_write_1 9 rfl rfl)
theorem dX3_write_34 : decode cX3_write 34 = .ok (.invokevirtual 163, 3) := dk_182 0 163 (dk_at dksX3_write_1 10 rfl rfl)
theorem dX3_write_37 : decode cX3_write 37 = .ok (.aload_n 0, 1) := dk_42 (dk_at dksX3_write_1 13 rfl rfl)
theorem dX3_write_38 : decode cX3_write 38 = .ok (.iconst 0, 1) := dk_3 (dk_at dksX3_write_1 14 rfl rfl)
theorem dX3_write_39 : decode cX3_write 39 = .ok (.putfield 365, 3) := dk_181 1 109 (dk_at dksX3_write_1 15 rfl rfl)
theorem dX3_write_42 : decode cX3_write 42 = .ok (.aload_n 0, 1) := dk_42 (dk_at dksX3_write_1 18 rfl rfl)
theorem dX3_write_43 : decode cX3_write 43 = .ok (.iload_n 2, 1) := dk_28 (dk_at dksX3_write_1 19 rfl rfl)
theorem dX3_write_44 : decode cX3_write 44 = .ok (.ifCond .eq 7, 3) := dk_153 0 7 (dk_at dksX3_write_1 20 rfl rfl)
theorem dX3_write_47 : decode cX3_write 47 = .ok (.iconst 1, 1) := dk_4 (dk_at dksX3_write_1 23 rfl rfl)
theorem dX3_write_48 : decode cX3_write 48 = .ok (.goto 4, 3) := dk_167 0 4 (dk_at dksX3_write_2 0 rfl rfl)
theorem dX3_write_51 : decode cX3_write 51 = .ok (.iconst 2, 1) := dk_5 (dk_at dksX3_write_2 3 rfl rfl)
theorem dX3_write_52 : decode cX3_write 52 = .ok (.invokevirtual 374, 3) := dk_182 1 118 (dk_at dksX3_write_2 4 rfl rfl)
theorem dX3_write_55 : decode cX3_write 55 = .ok (.iconst 0, 1) := dk_3 (dk_at dksX3_write_2 7 rfl rfl)
theorem dX3_write_56 : decode cX3_write 56 = .ok (.istore_n 3, 1) := dk_62 (dk_at dksX3_write_2 8 rfl rfl)
theorem dX3_write_57 : decode cX3_write 57 = .ok (.iload_n 3, 1) := dk_29 (dk_at dksX3_write_2 9 rfl rfl)
theorem dX3_write_58 : decode cX3_write 58 = .ok (.aload_n 0, 1) := dk_42 (dk_at dksX3_write_2 10 rfl rfl)
theorem dX3_write_59 : decode cX3_write 59 = .ok (.getfield 151, 3) := dk_180 0 151 (dk_at dksX3_write_2 11 rfl rfl)
theorem dX3_write_62 : decode cX3_write 62 = .ok (.if_icmp .ge 29, 3) := dk_162 0 29 (dk_at dksX3_write_2 14 rfl rfl)
theorem dX3_write_65 : decode cX3_write 65 = .ok (.iload_n 2, 1) := dk_28 (dk_at dksX3_write_2 17 rfl rfl)
theorem dX3_write_66 : decode cX3_write 66 = .ok (.ifCond .eq 25, 3) := dk_153 0 25 (dk_at dksX3_write_2 18 rfl rfl)
theorem dX3_write_69 : decode cX3_write 69 = .ok (.aload_n 0, 1) := dk_42 (dk_at dksX3_write_2 21 rfl rfl)
theorem dX3_write_70 : decode cX3_write 70 = .ok (.bipush 32, 2) := dk_16 32 (dk_at dksX3_write_2 22 rfl rfl)
theorem dX3_write_72 : decode cX3_write 72 = .ok (.invokevirtual 368, 3) := dk_182 1 112 (dk_at dksX3_write_3 0 rfl rfl)
theorem dX3_write_75 : decode cX3_write 75 = .ok (.aload_n 0, 1) := dk_42 (dk_at dksX3_write_3 3 rfl rfl)
theorem dX3_write_76 : decode cX3_write 76 = .ok (.aload_n 0, 1) := dk_42 (dk_at dksX3_write_3 4 rfl rfl)
theorem dX3_write_77 : decode cX3_write 77 = .ok (.getfield 47, 3) := dk_180 0 47 (dk_at dksX3_write_3 5 rfl rfl)
theorem dX3_write_80 : decode cX3_write 80 = .ok (.iload_n 3, 1) := dk_29 (dk_at dksX3_write_3 8 rfl rfl)
theorem dX3_write_81 : decode cX3_write 81 = .ok (.iaload, 1) := dk_46 (dk_at dksX3_write_3 9 rfl rfl)
theorem dX3_write_82 : decode cX3_write 82 = .ok (.invokevirtual 371, 3) := dk_182 1 115 (dk_at dksX3_write_3 10 rfl rfl)
theorem dX3_write_85 : decode cX3_write 85 = .ok (.iinc 3 1, 3) := dk_132 3 1 (dk_at dksX3_write_3 13 rfl rfl)
theorem dX3_write_88 : decode cX3_write 88 = .ok (.goto (-31), 3) := dk_167 255 225 (dk_at dksX3_write_3 16 rfl rfl)
theorem dX3_write_91 : decode cX3_write 91 = .ok (.iconst 0, 1) := dk_3 (dk_at dksX3_write_3 19 rfl rfl)
theorem dX3_write_92 : decode cX3_write 92 = .ok (.istore_n 3, 1) := dk_62 (dk_at dksX3_write_3 20 rfl rfl)
theorem dX3_write_93 : decode cX3_write 93 = .ok (.iload_n 3, 1) := dk_29 (dk_at dksX3_write_3 21 rfl rfl)
theorem dX3_write_94 : decode cX3_write 94 = .ok (.aload_n 0, 1) := dk_42 (dk_at dksX3_write_3 22 rfl rfl)
theorem dX3_write_95 : decode cX3_write 95 = .ok (.getfield 111, 3) := dk_180 0 111 (dk_at dksX3_write_4 0 rfl rfl)
theorem dX3_write_98 : decode cX3_write 98 = .ok (.if_icmp .ge 18, 3) := dk_162 0 18 (dk_at dksX3_write_4 3 rfl rfl)
theorem dX3_write_101 : decode cX3_write 101 = .ok (.iload_n 2, 1) := dk_28 (dk_at dksX3_write_4 6 rfl rfl)
theorem dX3_write_102 : decode cX3_write 102 = .ok (.ifCond .ne 14, 3) := dk_154 0 14 (dk_at dksX3_write_4 7 rfl rfl)
theorem dX3_write_105 : decode cX3_write 105 = .ok (.aload_n 0, 1) := dk_42 (dk_at dksX3_write_4 10 rfl rfl)
theorem dX3_write_106 : decode cX3_write 106 = .ok (.iload_n 3, 1) := dk_29 (dk_at dksX3_write_4 11 rfl rfl)
theorem dX3_write_107 : decode cX3_write 107 = .ok (.invokevirtual 377, 3) := dk_182 1 121 (dk_at dksX3_write_4 12 rfl rfl)
theorem dX3_write_110 : decode cX3_write 110 = .ok (.iinc 3 1, 3) := dk_132 3 1 (dk_at dksX3_write_4 15 rfl rfl)
theorem dX3_write_113 : decode cX3_write 113 = .ok (.goto (-20), 3) := dk_167 255 236 (dk_at dksX3_write_4 18 rfl rfl)
theorem dX3_write_116 : decode cX3_write 116 = .ok (.aload_n 0, 1) := dk_42 (dk_at dksX3_write_4 21 rfl rfl)
theorem dX3_write_117 : decode cX3_write 117 = .ok (.getfield 365, 3) := dk_180 1 109 (dk_at dksX3_write_5 0 rfl rfl)
theorem dX3_write_120 : decode cX3_write 120 = .ok (.ireturn, 1) := dk_172 (dk_at dksX3_write_5 3 rfl rfl)
abbrev cX3_printsWord : ByteArray := prog_18_method_107_code
def yX3_printsWord : MethodName := ⟨RX3, "printsWord", "(I)V"⟩
def dkwX3_printsWord_2 : List UInt8 := [180, 0, 76, 28, 51, 182, 1, 112, 132, 2, 1, 167, 255, 232, 177]
abbrev dktX3_printsWord_2 : List UInt8 := dkwX3_printsWord_2 ++ []
def dkwX3_printsWord_1 : List UInt8 := [3, 100, 62, 132, 2, 1, 167, 255, 230, 42, 180, 0, 76, 28, 51, 16, 32, 159, 0, 19, 42, 42]
abbrev dktX3_printsWord_1 : List UInt8 := dkwX3_printsWord_1 ++ dktX3_printsWord_2
def dkwX3_printsWord_0 : List UInt8 := [3, 61, 27, 62, 29, 158, 0, 28, 29, 42, 180, 0, 76, 28, 51, 16, 32, 160, 0, 7, 4, 167, 0, 4]
abbrev dktX3_printsWord_0 : List UInt8 := dkwX3_printsWord_0 ++ dktX3_printsWord_1
theorem dksX3_printsWord_0 : cX3_printsWord.data.toList.drop 0 = dktX3_printsWord_0 := by decide +kernel
theorem dksX3_printsWord_1 : cX3_printsWord.data.toList.drop 24 = dktX3_printsWord_1 := dk_seg dksX3_printsWord_0 24 rfl rfl
theorem dksX3_printsWord_2 : cX3_printsWord.data.toList.drop 46 = dktX3_printsWord_2 := dk_seg dksX3_printsWord_1 22 rfl rfl
theorem dX3_printsWord_0 : decode cX3_printsWord 0 = .ok (.iconst 0, 1) := dk_3 (dk_at dksX3_printsWord_0 0 rfl rfl)
theorem dX3_printsWord_1 : decode cX3_printsWord 1 = .ok (.istore_n 2, 1) := dk_61 (dk_at dksX3_printsWord_0 1 rfl rfl)
theorem dX3_printsWord_2 : decode cX3_printsWord 2 = .ok (.iload_n 1, 1) := dk_27 (dk_at dksX3_printsWord_0 2 rfl rfl)
theorem dX3_printsWord_3 : decode cX3_printsWord 3 = .ok (.istore_n 3, 1) := dk_62 (dk_at dksX3_printsWord_0 3 rfl rfl)
theorem dX3_printsWord_4 : decode cX3_printsWord 4 = .ok (.iload_n 3, 1) := dk_29 (dk_at dksX3_printsWord_0 4 rfl rfl)
theorem dX3_printsWord_5 : decode cX3_printsWord 5 = .ok (.ifCond .le 28, 3) := dk_158 0 28 (dk_at dksX3_printsWord_0 5 rfl rfl)
theorem dX3_printsWord_8 : decode cX3_printsWord 8 = .ok (.iload_n 3, 1) := dk_29 (dk_at dksX3_printsWord_0 8 rfl rfl)
theorem dX3_printsWord_9 : decode cX3_printsWord 9 = .ok (.aload_n 0, 1) := dk_42 (dk_at dksX3_printsWord_0 9 rfl rfl)
theorem dX3_printsWord_10 : decode cX3_printsWord 10 = .ok (.getfield 76, 3) := dk_180 0 76 (dk_at dksX3_printsWord_0 10 rfl rfl)
theorem dX3_printsWord_13 : decode cX3_printsWord 13 = .ok (.iload_n 2, 1) := dk_28 (dk_at dksX3_printsWord_0 13 rfl rfl)
theorem dX3_printsWord_14 : decode cX3_printsWord 14 = .ok (.baload, 1) := dk_51 (dk_at dksX3_printsWord_0 14 rfl rfl)
theorem dX3_printsWord_15 : decode cX3_printsWord 15 = .ok (.bipush 32, 2) := dk_16 32 (dk_at dksX3_printsWord_0 15 rfl rfl)
theorem dX3_printsWord_17 : decode cX3_printsWord 17 = .ok (.if_icmp .ne 7, 3) := dk_160 0 7 (dk_at dksX3_printsWord_0 17 rfl rfl)
theorem dX3_printsWord_20 : decode cX3_printsWord 20 = .ok (.iconst 1, 1) := dk_4 (dk_at dksX3_printsWord_0 20 rfl rfl)
theorem dX3_printsWord_21 : decode cX3_printsWord 21 = .ok (.goto 4, 3) := dk_167 0 4 (dk_at dksX3_printsWord_0 21 rfl rfl)
theorem dX3_printsWord_24 : decode cX3_printsWord 24 = .ok (.iconst 0, 1) := dk_3 (dk_at dksX3_printsWord_1 0 rfl rfl)
theorem dX3_printsWord_25 : decode cX3_printsWord 25 = .ok (.isub, 1) := dk_100 (dk_at dksX3_printsWord_1 1 rfl rfl)
theorem dX3_printsWord_26 : decode cX3_printsWord 26 = .ok (.istore_n 3, 1) := dk_62 (dk_at dksX3_printsWord_1 2 rfl rfl)
theorem dX3_printsWord_27 : decode cX3_printsWord 27 = .ok (.iinc 2 1, 3) := dk_132 2 1 (dk_at dksX3_printsWord_1 3 rfl rfl)
theorem dX3_printsWord_30 : decode cX3_printsWord 30 = .ok (.goto (-26), 3) := dk_167 255 230 (dk_at dksX3_printsWord_1 6 rfl rfl)
theorem dX3_printsWord_33 : decode cX3_printsWord 33 = .ok (.aload_n 0, 1) := dk_42 (dk_at dksX3_printsWord_1 9 rfl rfl)
theorem dX3_printsWord_34 : decode cX3_printsWord 34 = .ok (.getfield 76, 3) := dk_180 0 76 (dk_at dksX3_printsWord_1 10 rfl rfl)
theorem dX3_printsWord_37 : decode cX3_printsWord 37 = .ok (.iload_n 2, 1) := dk_28 (dk_at dksX3_printsWord_1 13 rfl rfl)
theorem dX3_printsWord_38 : decode cX3_printsWord 38 = .ok (.baload, 1) := dk_51 (dk_at dksX3_printsWord_1 14 rfl rfl)
theorem dX3_printsWord_39 : decode cX3_printsWord 39 = .ok (.bipush 32, 2) := dk_16 32 (dk_at dksX3_printsWord_1 15 rfl rfl)
theorem dX3_printsWord_41 : decode cX3_printsWord 41 = .ok (.if_icmp .eq 19, 3) := dk_159 0 19 (dk_at dksX3_printsWord_1 17 rfl rfl)
theorem dX3_printsWord_44 : decode cX3_printsWord 44 = .ok (.aload_n 0, 1) := dk_42 (dk_at dksX3_printsWord_1 20 rfl rfl)
theorem dX3_printsWord_45 : decode cX3_printsWord 45 = .ok (.aload_n 0, 1) := dk_42 (dk_at dksX3_printsWord_1 21 rfl rfl)
theorem dX3_printsWord_46 : decode cX3_printsWord 46 = .ok (.getfield 76, 3) := dk_180 0 76 (dk_at dksX3_printsWord_2 0 rfl rfl)
theorem dX3_printsWord_49 : decode cX3_printsWord 49 = .ok (.iload_n 2, 1) := dk_28 (dk_at dksX3_printsWord_2 3 rfl rfl)
theorem dX3_printsWord_50 : decode cX3_printsWord 50 = .ok (.baload, 1) := dk_51 (dk_at dksX3_printsWord_2 4 rfl rfl)
theorem dX3_printsWord_51 : decode cX3_printsWord 51 = .ok (.invokevirtual 368, 3) := dk_182 1 112 (dk_at dksX3_printsWord_2 5 rfl rfl)
theorem dX3_printsWord_54 : decode cX3_printsWord 54 = .ok (.iinc 2 1, 3) := dk_132 2 1 (dk_at dksX3_printsWord_2 8 rfl rfl)
theorem dX3_printsWord_57 : decode cX3_printsWord 57 = .ok (.goto (-24), 3) := dk_167 255 232 (dk_at dksX3_printsWord_2 11 rfl rfl)
theorem dX3_printsWord_60 : decode cX3_printsWord 60 = .ok (.return_, 1) := dk_177 (dk_at dksX3_printsWord_2 14 rfl rfl)
abbrev cX3_prints : ByteArray := prog_18_method_106_code
def yX3_prints : MethodName := ⟨RX3, "prints", "(I)V"⟩
def dkwX3_prints_0 : List UInt8 := [42, 180, 0, 79, 42, 180, 1, 109, 27, 145, 84, 42, 89, 180, 1, 109, 4, 96, 181, 1, 109, 177]
abbrev dktX3_prints_0 : List UInt8 := dkwX3_prints_0 ++ []
theorem dksX3_prints_0 : cX3_prints.data.toList.drop 0 = dktX3_prints_0 := by decide +kernel
theorem dX3_prints_0 : decode cX3_prints 0 = .ok (.aload_n 0, 1) := dk_42 (dk_at dksX3_prints_0 0 rfl rfl)
theorem dX3_prints_1 : decode cX3_prints 1 = .ok (.getfield 79, 3) := dk_180 0 79 (dk_at dksX3_prints_0 1 rfl rfl)
theorem dX3_prints_4 : decode cX3_prints 4 = .ok (.aload_n 0, 1) := dk_42 (dk_at dksX3_prints_0 4 rfl rfl)
theorem dX3_prints_5 : decode cX3_prints 5 = .ok (.getfield 365, 3) := dk_180 1 109 (dk_at dksX3_prints_0 5 rfl rfl)
theorem dX3_prints_8 : decode cX3_prints 8 = .ok (.iload_n 1, 1) := dk_27 (dk_at dksX3_prints_0 8 rfl rfl)
theorem dX3_prints_9 : decode cX3_prints 9 = .ok (.i2b, 1) := dk_145 (dk_at dksX3_prints_0 9 rfl rfl)
theorem dX3_prints_10 : decode cX3_prints 10 = .ok (.bastore, 1) := dk_84 (dk_at dksX3_prints_0 10 rfl rfl)
theorem dX3_prints_11 : decode cX3_prints 11 = .ok (.aload_n 0, 1) := dk_42 (dk_at dksX3_prints_0 11 rfl rfl)
theorem dX3_prints_12 : decode cX3_prints 12 = .ok (.dup, 1) := dk_89 (dk_at dksX3_prints_0 12 rfl rfl)
theorem dX3_prints_13 : decode cX3_prints 13 = .ok (.getfield 365, 3) := dk_180 1 109 (dk_at dksX3_prints_0 13 rfl rfl)
theorem dX3_prints_16 : decode cX3_prints 16 = .ok (.iconst 1, 1) := dk_4 (dk_at dksX3_prints_0 16 rfl rfl)
theorem dX3_prints_17 : decode cX3_prints 17 = .ok (.iadd, 1) := dk_96 (dk_at dksX3_prints_0 17 rfl rfl)
theorem dX3_prints_18 : decode cX3_prints 18 = .ok (.putfield 365, 3) := dk_181 1 109 (dk_at dksX3_prints_0 18 rfl rfl)
theorem dX3_prints_21 : decode cX3_prints 21 = .ok (.return_, 1) := dk_177 (dk_at dksX3_prints_0 21 rfl rfl)
abbrev cX3_printsNumber : ByteArray := prog_18_method_108_code
def yX3_printsNumber : MethodName := ⟨RX3, "printsNumber", "(I)V"⟩
def dkwX3_printsNumber_2 : List UInt8 := [182, 1, 112, 177]
abbrev dktX3_printsNumber_2 : List UInt8 := dkwX3_printsNumber_2 ++ []
def dkwX3_printsNumber_1 : List UInt8 := [161, 0, 14, 42, 16, 48, 28, 16, 10, 108, 96, 182, 1, 112, 42, 16, 48, 28, 16, 10, 112, 96]
abbrev dktX3_printsNumber_1 : List UInt8 := dkwX3_printsNumber_1 ++ dktX3_printsNumber_2
def dkwX3_printsNumber_0 : List UInt8 := [27, 156, 0, 9, 42, 16, 45, 182, 1, 112, 27, 156, 0, 8, 27, 116, 167, 0, 4, 27, 61, 28, 16, 10]
abbrev dktX3_printsNumber_0 : List UInt8 := dkwX3_printsNumber_0 ++ dktX3_printsNumber_1
theorem dksX3_printsNumber_0 : cX3_printsNumber.data.toList.drop 0 = dktX3_printsNumber_0 := by decide +kernel
theorem dksX3_printsNumber_1 : cX3_printsNumber.data.toList.drop 24 = dktX3_printsNumber_1 := dk_seg dksX3_printsNumber_0 24 rfl rfl
theorem dksX3_printsNumber_2 : cX3_printsNumber.data.toList.drop 46 = dktX3_printsNumber_2 := dk_seg dksX3_printsNumber_1 22 rfl rfl
theorem dX3_printsNumber_0 : decode cX3_printsNumber 0 = .ok (.iload_n 1, 1) := dk_27 (dk_at dksX3_printsNumber_0 0 rfl rfl)
theorem dX3_printsNumber_1 : decode cX3_printsNumber 1 = .ok (.ifCond .ge 9, 3) := dk_156 0 9 (dk_at dksX3_printsNumber_0 1 rfl rfl)
theorem dX3_printsNumber_4 : decode cX3_printsNumber 4 = .ok (.aload_n 0, 1) := dk_42 (dk_at dksX3_printsNumber_0 4 rfl rfl)
theorem dX3_printsNumber_5 : decode cX3_printsNumber 5 = .ok (.bipush 45, 2) := dk_16 45 (dk_at dksX3_printsNumber_0 5 rfl rfl)
theorem dX3_printsNumber_7 : decode cX3_printsNumber 7 = .ok (.invokevirtual 368, 3) := dk_182 1 112 (dk_at dksX3_printsNumber_0 7 rfl rfl)
theorem dX3_printsNumber_10 : decode cX3_printsNumber 10 = .ok (.iload_n 1, 1) := dk_27 (dk_at dksX3_printsNumber_0 10 rfl rfl)
theorem dX3_printsNumber_11 : decode cX3_printsNumber 11 = .ok (.ifCond .ge 8, 3) := dk_156 0 8 (dk_at dksX3_printsNumber_0 11 rfl rfl)
theorem dX3_printsNumber_14 : decode cX3_printsNumber 14 = .ok (.iload_n 1, 1) := dk_27 (dk_at dksX3_printsNumber_0 14 rfl rfl)
theorem dX3_printsNumber_15 : decode cX3_printsNumber 15 = .ok (.ineg, 1) := dk_116 (dk_at dksX3_printsNumber_0 15 rfl rfl)
theorem dX3_printsNumber_16 : decode cX3_printsNumber 16 = .ok (.goto 4, 3) := dk_167 0 4 (dk_at dksX3_printsNumber_0 16 rfl rfl)
theorem dX3_printsNumber_19 : decode cX3_printsNumber 19 = .ok (.iload_n 1, 1) := dk_27 (dk_at dksX3_printsNumber_0 19 rfl rfl)
theorem dX3_printsNumber_20 : decode cX3_printsNumber 20 = .ok (.istore_n 2, 1) := dk_61 (dk_at dksX3_printsNumber_0 20 rfl rfl)
theorem dX3_printsNumber_21 : decode cX3_printsNumber 21 = .ok (.iload_n 2, 1) := dk_28 (dk_at dksX3_printsNumber_0 21 rfl rfl)
theorem dX3_printsNumber_22 : decode cX3_printsNumber 22 = .ok (.bipush 10, 2) := dk_16 10 (dk_at dksX3_printsNumber_0 22 rfl rfl)
theorem dX3_printsNumber_24 : decode cX3_printsNumber 24 = .ok (.if_icmp .lt 14, 3) := dk_161 0 14 (dk_at dksX3_printsNumber_1 0 rfl rfl)
theorem dX3_printsNumber_27 : decode cX3_printsNumber 27 = .ok (.aload_n 0, 1) := dk_42 (dk_at dksX3_printsNumber_1 3 rfl rfl)
theorem dX3_printsNumber_28 : decode cX3_printsNumber 28 = .ok (.bipush 48, 2) := dk_16 48 (dk_at dksX3_printsNumber_1 4 rfl rfl)
theorem dX3_printsNumber_30 : decode cX3_printsNumber 30 = .ok (.iload_n 2, 1) := dk_28 (dk_at dksX3_printsNumber_1 6 rfl rfl)
theorem dX3_printsNumber_31 : decode cX3_printsNumber 31 = .ok (.bipush 10, 2) := dk_16 10 (dk_at dksX3_printsNumber_1 7 rfl rfl)
theorem dX3_printsNumber_33 : decode cX3_printsNumber 33 = .ok (.idiv, 1) := dk_108 (dk_at dksX3_printsNumber_1 9 rfl rfl)
theorem dX3_printsNumber_34 : decode cX3_printsNumber 34 = .ok (.iadd, 1) := dk_96 (dk_at dksX3_printsNumber_1 10 rfl rfl)
theorem dX3_printsNumber_35 : decode cX3_printsNumber 35 = .ok (.invokevirtual 368, 3) := dk_182 1 112 (dk_at dksX3_printsNumber_1 11 rfl rfl)
theorem dX3_printsNumber_38 : decode cX3_printsNumber 38 = .ok (.aload_n 0, 1) := dk_42 (dk_at dksX3_printsNumber_1 14 rfl rfl)
theorem dX3_printsNumber_39 : decode cX3_printsNumber 39 = .ok (.bipush 48, 2) := dk_16 48 (dk_at dksX3_printsNumber_1 15 rfl rfl)
theorem dX3_printsNumber_41 : decode cX3_printsNumber 41 = .ok (.iload_n 2, 1) := dk_28 (dk_at dksX3_printsNumber_1 17 rfl rfl)
theorem dX3_printsNumber_42 : decode cX3_printsNumber 42 = .ok (.bipush 10, 2) := dk_16 10 (dk_at dksX3_printsNumber_1 18 rfl rfl)
theorem dX3_printsNumber_44 : decode cX3_printsNumber 44 = .ok (.irem, 1) := dk_112 (dk_at dksX3_printsNumber_1 20 rfl rfl)
theorem dX3_printsNumber_45 : decode cX3_printsNumber 45 = .ok (.iadd, 1) := dk_96 (dk_at dksX3_printsNumber_1 21 rfl rfl)
theorem dX3_printsNumber_46 : decode cX3_printsNumber 46 = .ok (.invokevirtual 368, 3) := dk_182 1 112 (dk_at dksX3_printsNumber_2 0 rfl rfl)
theorem dX3_printsNumber_49 : decode cX3_printsNumber 49 = .ok (.return_, 1) := dk_177 (dk_at dksX3_printsNumber_2 3 rfl rfl)
abbrev cX3_printsMode : ByteArray := prog_18_method_109_code
def yX3_printsMode : MethodName := ⟨RX3, "printsMode", "(I)V"⟩
def dkwX3_printsMode_3 : List UInt8 := [42, 16, 32, 182, 1, 112, 42, 42, 180, 0, 38, 27, 46, 182, 1, 115, 177]
abbrev dktX3_printsMode_3 : List UInt8 := dkwX3_printsMode_3 ++ []
def dkwX3_printsMode_2 : List UInt8 := [46, 153, 0, 13, 42, 42, 180, 0, 35, 27, 46, 182, 1, 115, 42, 180, 0, 32, 27, 46, 5, 160, 0, 19]
abbrev dktX3_printsMode_2 : List UInt8 := dkwX3_printsMode_2 ++ dktX3_printsMode_3
def dkwX3_printsMode_1 : List UInt8 := [180, 0, 32, 27, 46, 4, 160, 0, 8, 16, 118, 167, 0, 5, 16, 104, 182, 1, 112, 42, 180, 0, 32, 27]
abbrev dktX3_printsMode_1 : List UInt8 := dkwX3_printsMode_1 ++ dktX3_printsMode_2
def dkwX3_printsMode_0 : List UInt8 := [42, 16, 32, 182, 1, 112, 42, 42, 180, 0, 32, 27, 46, 154, 0, 8, 16, 112, 167, 0, 20, 42]
abbrev dktX3_printsMode_0 : List UInt8 := dkwX3_printsMode_0 ++ dktX3_printsMode_1
theorem dksX3_printsMode_0 : cX3_printsMode.data.toList.drop 0 = dktX3_printsMode_0 := by decide +kernel
theorem dksX3_printsMode_1 : cX3_printsMode.data.toList.drop 22 = dktX3_printsMode_1 := dk_seg dksX3_printsMode_0 22 rfl rfl
theorem dksX3_printsMode_2 : cX3_printsMode.data.toList.drop 46 = dktX3_printsMode_2 := dk_seg dksX3_printsMode_1 24 rfl rfl
theorem dksX3_printsMode_3 : cX3_printsMode.data.toList.drop 70 = dktX3_printsMode_3 := dk_seg dksX3_printsMode_2 24 rfl rfl
theorem dX3_printsMode_0 : decode cX3_printsMode 0 = .ok (.aload_n 0, 1) := dk_42 (dk_at dksX3_printsMode_0 0 rfl rfl)
theorem dX3_printsMode_1 : decode cX3_printsMode 1 = .ok (.bipush 32, 2) := dk_16 32 (dk_at dksX3_printsMode_0 1 rfl rfl)
theorem dX3_printsMode_3 : decode cX3_printsMode 3 = .ok (.invokevirtual 368, 3) := dk_182 1 112 (dk_at dksX3_printsMode_0 3 rfl rfl)
theorem dX3_printsMode_6 : decode cX3_printsMode 6 = .ok (.aload_n 0, 1) := dk_42 (dk_at dksX3_printsMode_0 6 rfl rfl)
theorem dX3_printsMode_7 : decode cX3_printsMode 7 = .ok (.aload_n 0, 1) := dk_42 (dk_at dksX3_printsMode_0 7 rfl rfl)
theorem dX3_printsMode_8 : decode cX3_printsMode 8 = .ok (.getfield 32, 3) := dk_180 0 32 (dk_at dksX3_printsMode_0 8 rfl rfl)
theorem dX3_printsMode_11 : decode cX3_printsMode 11 = .ok (.iload_n 1, 1) := dk_27 (dk_at dksX3_printsMode_0 11 rfl rfl)
theorem dX3_printsMode_12 : decode cX3_printsMode 12 = .ok (.iaload, 1) := dk_46 (dk_at dksX3_printsMode_0 12 rfl rfl)
theorem dX3_printsMode_13 : decode cX3_printsMode 13 = .ok (.ifCond .ne 8, 3) := dk_154 0 8 (dk_at dksX3_printsMode_0 13 rfl rfl)
theorem dX3_printsMode_16 : decode cX3_printsMode 16 = .ok (.bipush 112, 2) := dk_16 112 (dk_at dksX3_printsMode_0 16 rfl rfl)
theorem dX3_printsMode_18 : decode cX3_printsMode 18 = .ok (.goto 20, 3) := dk_167 0 20 (dk_at dksX3_printsMode_0 18 rfl rfl)
theorem dX3_printsMode_21 : decode cX3_printsMode 21 = .ok (.aload_n 0, 1) := dk_42 (dk_at dksX3_printsMode_0 21 rfl rfl)
theorem dX3_printsMode_22 : decode cX3_printsMode 22 = .ok (.getfield 32, 3) := dk_180 0 32 (dk_at dksX3_printsMode_1 0 rfl rfl)
theorem dX3_printsMode_25 : decode cX3_printsMode 25 = .ok (.iload_n 1, 1) := dk_27 (dk_at dksX3_printsMode_1 3 rfl rfl)
theorem dX3_printsMode_26 : decode cX3_printsMode 26 = .ok (.iaload, 1) := dk_46 (dk_at dksX3_printsMode_1 4 rfl rfl)
theorem dX3_printsMode_27 : decode cX3_printsMode 27 = .ok (.iconst 1, 1) := dk_4 (dk_at dksX3_printsMode_1 5 rfl rfl)
theorem dX3_printsMode_28 : decode cX3_printsMode 28 = .ok (.if_icmp .ne 8, 3) := dk_160 0 8 (dk_at dksX3_printsMode_1 6 rfl rfl)
theorem dX3_printsMode_31 : decode cX3_printsMode 31 = .ok (.bipush 118, 2) := dk_16 118 (dk_at dksX3_printsMode_1 9 rfl rfl)
theorem dX3_printsMode_33 : decode cX3_printsMode 33 = .ok (.goto 5, 3) := dk_167 0 5 (dk_at dksX3_printsMode_1 11 rfl rfl)
theorem dX3_printsMode_36 : decode cX3_printsMode 36 = .ok (.bipush 104, 2) := dk_16 104 (dk_at dksX3_printsMode_1 14 rfl rfl)
theorem dX3_printsMode_38 : decode cX3_printsMode 38 = .ok (.invokevirtual 368, 3) := dk_182 1 112 (dk_at dksX3_printsMode_1 16 rfl rfl)
theorem dX3_printsMode_41 : decode cX3_printsMode 41 = .ok (.aload_n 0, 1) := dk_42 (dk_at dksX3_printsMode_1 19 rfl rfl)
theorem dX3_printsMode_42 : decode cX3_printsMode 42 = .ok (.getfield 32, 3) := dk_180 0 32 (dk_at dksX3_printsMode_1 20 rfl rfl)
theorem dX3_printsMode_45 : decode cX3_printsMode 45 = .ok (.iload_n 1, 1) := dk_27 (dk_at dksX3_printsMode_1 23 rfl rfl)
theorem dX3_printsMode_46 : decode cX3_printsMode 46 = .ok (.iaload, 1) := dk_46 (dk_at dksX3_printsMode_2 0 rfl rfl)
theorem dX3_printsMode_47 : decode cX3_printsMode 47 = .ok (.ifCond .eq 13, 3) := dk_153 0 13 (dk_at dksX3_printsMode_2 1 rfl rfl)
theorem dX3_printsMode_50 : decode cX3_printsMode 50 = .ok (.aload_n 0, 1) := dk_42 (dk_at dksX3_printsMode_2 4 rfl rfl)
theorem dX3_printsMode_51 : decode cX3_printsMode 51 = .ok (.aload_n 0, 1) := dk_42 (dk_at dksX3_printsMode_2 5 rfl rfl)
theorem dX3_printsMode_52 : decode cX3_printsMode 52 = .ok (.getfield 35, 3) := dk_180 0 35 (dk_at dksX3_printsMode_2 6 rfl rfl)
theorem dX3_printsMode_55 : decode cX3_printsMode 55 = .ok (.iload_n 1, 1) := dk_27 (dk_at dksX3_printsMode_2 9 rfl rfl)
theorem dX3_printsMode_56 : decode cX3_printsMode 56 = .ok (.iaload, 1) := dk_46 (dk_at dksX3_printsMode_2 10 rfl rfl)
theorem dX3_printsMode_57 : decode cX3_printsMode 57 = .ok (.invokevirtual 371, 3) := dk_182 1 115 (dk_at dksX3_printsMode_2 11 rfl rfl)
theorem dX3_printsMode_60 : decode cX3_printsMode 60 = .ok (.aload_n 0, 1) := dk_42 (dk_at dksX3_printsMode_2 14 rfl rfl)
theorem dX3_printsMode_61 : decode cX3_printsMode 61 = .ok (.getfield 32, 3) := dk_180 0 32 (dk_at dksX3_printsMode_2 15 rfl rfl)
theorem dX3_printsMode_64 : decode cX3_printsMode 64 = .ok (.iload_n 1, 1) := dk_27 (dk_at dksX3_printsMode_2 18 rfl rfl)
theorem dX3_printsMode_65 : decode cX3_printsMode 65 = .ok (.iaload, 1) := dk_46 (dk_at dksX3_printsMode_2 19 rfl rfl)
theorem dX3_printsMode_66 : decode cX3_printsMode 66 = .ok (.iconst 2, 1) := dk_5 (dk_at dksX3_printsMode_2 20 rfl rfl)
theorem dX3_printsMode_67 : decode cX3_printsMode 67 = .ok (.if_icmp .ne 19, 3) := dk_160 0 19 (dk_at dksX3_printsMode_2 21 rfl rfl)
theorem dX3_printsMode_70 : decode cX3_printsMode 70 = .ok (.aload_n 0, 1) := dk_42 (dk_at dksX3_printsMode_3 0 rfl rfl)
theorem dX3_printsMode_71 : decode cX3_printsMode 71 = .ok (.bipush 32, 2) := dk_16 32 (dk_at dksX3_printsMode_3 1 rfl rfl)
theorem dX3_printsMode_73 : decode cX3_printsMode 73 = .ok (.invokevirtual 368, 3) := dk_182 1 112 (dk_at dksX3_printsMode_3 3 rfl rfl)
theorem dX3_printsMode_76 : decode cX3_printsMode 76 = .ok (.aload_n 0, 1) := dk_42 (dk_at dksX3_printsMode_3 6 rfl rfl)
theorem dX3_printsMode_77 : decode cX3_printsMode 77 = .ok (.aload_n 0, 1) := dk_42 (dk_at dksX3_printsMode_3 7 rfl rfl)
theorem dX3_printsMode_78 : decode cX3_printsMode 78 = .ok (.getfield 38, 3) := dk_180 0 38 (dk_at dksX3_printsMode_3 8 rfl rfl)
theorem dX3_printsMode_81 : decode cX3_printsMode 81 = .ok (.iload_n 1, 1) := dk_27 (dk_at dksX3_printsMode_3 11 rfl rfl)
theorem dX3_printsMode_82 : decode cX3_printsMode 82 = .ok (.iaload, 1) := dk_46 (dk_at dksX3_printsMode_3 12 rfl rfl)
theorem dX3_printsMode_83 : decode cX3_printsMode 83 = .ok (.invokevirtual 371, 3) := dk_182 1 115 (dk_at dksX3_printsMode_3 13 rfl rfl)
theorem dX3_printsMode_86 : decode cX3_printsMode 86 = .ok (.return_, 1) := dk_177 (dk_at dksX3_printsMode_3 16 rfl rfl)
abbrev cX3_show : ByteArray := prog_18_method_111_code
def yX3_show : MethodName := ⟨RX3, "show", "(I)I"⟩
def dkwX3_show_4 : List UInt8 := [180, 0, 53, 27, 46, 96, 182, 1, 112, 42, 180, 1, 109, 172]
abbrev dktX3_show_4 : List UInt8 := dkwX3_show_4 ++ []
def dkwX3_show_3 : List UInt8 := [182, 1, 112, 132, 2, 1, 167, 255, 217, 42, 180, 0, 53, 27, 46, 158, 0, 16, 42, 16, 48, 42]
abbrev dktX3_show_3 : List UInt8 := dkwX3_show_3 ++ dktX3_show_4
def dkwX3_show_2 : List UInt8 := [42, 180, 0, 50, 16, 40, 27, 104, 28, 96, 46, 4, 160, 0, 8, 16, 35, 167, 0, 5, 16, 46]
abbrev dktX3_show_2 : List UInt8 := dkwX3_show_2 ++ dktX3_show_3
def dkwX3_show_1 : List UInt8 := [3, 172, 42, 182, 1, 21, 42, 3, 181, 1, 109, 3, 61, 28, 42, 180, 0, 7, 3, 46, 162, 0, 35, 42]
abbrev dktX3_show_1 : List UInt8 := dkwX3_show_1 ++ dktX3_show_2
def dkwX3_show_0 : List UInt8 := [42, 42, 27, 182, 0, 194, 153, 0, 7, 3, 167, 0, 4, 4, 181, 0, 90, 42, 180, 0, 90, 158, 0, 5]
abbrev dktX3_show_0 : List UInt8 := dkwX3_show_0 ++ dktX3_show_1
theorem dksX3_show_0 : cX3_show.data.toList.drop 0 = dktX3_show_0 := by decide +kernel
theorem dksX3_show_1 : cX3_show.data.toList.drop 24 = dktX3_show_1 := dk_seg dksX3_show_0 24 rfl rfl
theorem dksX3_show_2 : cX3_show.data.toList.drop 48 = dktX3_show_2 := dk_seg dksX3_show_1 24 rfl rfl
theorem dksX3_show_3 : cX3_show.data.toList.drop 70 = dktX3_show_3 := dk_seg dksX3_show_2 22 rfl rfl
theorem dksX3_show_4 : cX3_show.data.toList.drop 92 = dktX3_show_4 := dk_seg dksX3_show_3 22 rfl rfl
theorem dX3_show_0 : decode cX3_show 0 = .ok (.aload_n 0, 1) := dk_42 (dk_at dksX3_show_0 0 rfl rfl)
theorem dX3_show_1 : decode cX3_show 1 = .ok (.aload_n 0, 1) := dk_42 (dk_at dksX3_show_0 1 rfl rfl)
theorem dX3_show_2 : decode cX3_show 2 = .ok (.iload_n 1, 1) := dk_27 (dk_at dksX3_show_0 2 rfl rfl)
theorem dX3_show_3 : decode cX3_show 3 = .ok (.invokevirtual 194, 3) := dk_182 0 194 (dk_at dksX3_show_0 3 rfl rfl)
theorem dX3_show_6 : decode cX3_show 6 = .ok (.ifCond .eq 7, 3) := dk_153 0 7 (dk_at dksX3_show_0 6 rfl rfl)
theorem dX3_show_9 : decode cX3_show 9 = .ok (.iconst 0, 1) := dk_3 (dk_at dksX3_show_0 9 rfl rfl)
theorem dX3_show_10 : decode cX3_show 10 = .ok (.goto 4, 3) := dk_167 0 4 (dk_at dksX3_show_0 10 rfl rfl)
theorem dX3_show_13 : decode cX3_show 13 = .ok (.iconst 1, 1) := dk_4 (dk_at dksX3_show_0 13 rfl rfl)
theorem dX3_show_14 : decode cX3_show 14 = .ok (.putfield 90, 3) := dk_181 0 90 (dk_at dksX3_show_0 14 rfl rfl)
theorem dX3_show_17 : decode cX3_show 17 = .ok (.aload_n 0, 1) := dk_42 (dk_at dksX3_show_0 17 rfl rfl)
theorem dX3_show_18 : decode cX3_show 18 = .ok (.getfield 90, 3) := dk_180 0 90 (dk_at dksX3_show_0 18 rfl rfl)
theorem dX3_show_21 : decode cX3_show 21 = .ok (.ifCond .le 5, 3) := dk_158 0 5 (dk_at dksX3_show_0 21 rfl rfl)
theorem dX3_show_24 : decode cX3_show 24 = .ok (.iconst 0, 1) := dk_3 (dk_at dksX3_show_1 0 rfl rfl)
theorem dX3_show_25 : decode cX3_show 25 = .ok (.ireturn, 1) := dk_172 (dk_at dksX3_show_1 1 rfl rfl)
theorem dX3_show_26 : decode cX3_show 26 = .ok (.aload_n 0, 1) := dk_42 (dk_at dksX3_show_1 2 rfl rfl)
theorem dX3_show_27 : decode cX3_show 27 = .ok (.invokevirtual 277, 3) := dk_182 1 21 (dk_at dksX3_show_1 3 rfl rfl)
theorem dX3_show_30 : decode cX3_show 30 = .ok (.aload_n 0, 1) := dk_42 (dk_at dksX3_show_1 6 rfl rfl)
theorem dX3_show_31 : decode cX3_show 31 = .ok (.iconst 0, 1) := dk_3 (dk_at dksX3_show_1 7 rfl rfl)
theorem dX3_show_32 : decode cX3_show 32 = .ok (.putfield 365, 3) := dk_181 1 109 (dk_at dksX3_show_1 8 rfl rfl)
theorem dX3_show_35 : decode cX3_show 35 = .ok (.iconst 0, 1) := dk_3 (dk_at dksX3_show_1 11 rfl rfl)
theorem dX3_show_36 : decode cX3_show 36 = .ok (.istore_n 2, 1) := dk_61 (dk_at dksX3_show_1 12 rfl rfl)
theorem dX3_show_37 : decode cX3_show 37 = .ok (.iload_n 2, 1) := dk_28 (dk_at dksX3_show_1 13 rfl rfl)
theorem dX3_show_38 : decode cX3_show 38 = .ok (.aload_n 0, 1) := dk_42 (dk_at dksX3_show_1 14 rfl rfl)
theorem dX3_show_39 : decode cX3_show 39 = .ok (.getfield 7, 3) := dk_180 0 7 (dk_at dksX3_show_1 15 rfl rfl)
theorem dX3_show_42 : decode cX3_show 42 = .ok (.iconst 0, 1) := dk_3 (dk_at dksX3_show_1 18 rfl rfl)
theorem dX3_show_43 : decode cX3_show 43 = .ok (.iaload, 1) := dk_46 (dk_at dksX3_show_1 19 rfl rfl)
theorem dX3_show_44 : decode cX3_show 44 = .ok (.if_icmp .ge 35, 3) := dk_162 0 35 (dk_at dksX3_show_1 20 rfl rfl)
theorem dX3_show_47 : decode cX3_show 47 = .ok (.aload_n 0, 1) := dk_42 (dk_at dksX3_show_1 23 rfl rfl)
theorem dX3_show_48 : decode cX3_show 48 = .ok (.aload_n 0, 1) := dk_42 (dk_at dksX3_show_2 0 rfl rfl)
theorem dX3_show_49 : decode cX3_show 49 = .ok (.getfield 50, 3) := dk_180 0 50 (dk_at dksX3_show_2 1 rfl rfl)
theorem dX3_show_52 : decode cX3_show 52 = .ok (.bipush 40, 2) := dk_16 40 (dk_at dksX3_show_2 4 rfl rfl)
theorem dX3_show_54 : decode cX3_show 54 = .ok (.iload_n 1, 1) := dk_27 (dk_at dksX3_show_2 6 rfl rfl)
theorem dX3_show_55 : decode cX3_show 55 = .ok (.imul, 1) := dk_104 (dk_at dksX3_show_2 7 rfl rfl)
theorem dX3_show_56 : decode cX3_show 56 = .ok (.iload_n 2, 1) := dk_28 (dk_at dksX3_show_2 8 rfl rfl)
theorem dX3_show_57 : decode cX3_show 57 = .ok (.iadd, 1) := dk_96 (dk_at dksX3_show_2 9 rfl rfl)
theorem dX3_show_58 : decode cX3_show 58 = .ok (.iaload, 1) := dk_46 (dk_at dksX3_show_2 10 rfl rfl)
theorem dX3_show_59 : decode cX3_show 59 = .ok (.iconst 1, 1) := dk_4 (dk_at dksX3_show_2 11 rfl rfl)
theorem dX3_show_60 : decode cX3_show 60 = .ok (.if_icmp .ne 8, 3) := dk_160 0 8 (dk_at dksX3_show_2 12 rfl rfl)
theorem dX3_show_63 : decode cX3_show 63 = .ok (.bipush 35, 2) := dk_16 35 (dk_at dksX3_show_2 15 rfl rfl)
theorem dX3_show_65 : decode cX3_show 65 = .ok (.goto 5, 3) := dk_167 0 5 (dk_at dksX3_show_2 17 rfl rfl)
theorem dX3_show_68 : decode cX3_show 68 = .ok (.bipush 46, 2) := dk_16 46 (dk_at dksX3_show_2 20 rfl rfl)
theorem dX3_show_70 : decode cX3_show 70 = .ok (.invokevirtual 368, 3) := dk_182 1 112 (dk_at dksX3_show_3 0 rfl rfl)
theorem dX3_show_73 : decode cX3_show 73 = .ok (.iinc 2 1, 3) := dk_132 2 1 (dk_at dksX3_show_3 3 rfl rfl)
theorem dX3_show_76 : decode cX3_show 76 = .ok (.goto (-39), 3) := dk_167 255 217 (dk_at dksX3_show_3 6 rfl rfl)
theorem dX3_show_79 : decode cX3_show 79 = .ok (.aload_n 0, 1) := dk_42 (dk_at dksX3_show_3 9 rfl rfl)
theorem dX3_show_80 : decode cX3_show 80 = .ok (.getfield 53, 3) := dk_180 0 53 (dk_at dksX3_show_3 10 rfl rfl)
theorem dX3_show_83 : decode cX3_show 83 = .ok (.iload_n 1, 1) := dk_27 (dk_at dksX3_show_3 13 rfl rfl)
theorem dX3_show_84 : decode cX3_show 84 = .ok (.iaload, 1) := dk_46 (dk_at dksX3_show_3 14 rfl rfl)
theorem dX3_show_85 : decode cX3_show 85 = .ok (.ifCond .le 16, 3) := dk_158 0 16 (dk_at dksX3_show_3 15 rfl rfl)
theorem dX3_show_88 : decode cX3_show 88 = .ok (.aload_n 0, 1) := dk_42 (dk_at dksX3_show_3 18 rfl rfl)
theorem dX3_show_89 : decode cX3_show 89 = .ok (.bipush 48, 2) := dk_16 48 (dk_at dksX3_show_3 19 rfl rfl)
theorem dX3_show_91 : decode cX3_show 91 = .ok (.aload_n 0, 1) := dk_42 (dk_at dksX3_show_3 21 rfl rfl)
theorem dX3_show_92 : decode cX3_show 92 = .ok (.getfield 53, 3) := dk_180 0 53 (dk_at dksX3_show_4 0 rfl rfl)
theorem dX3_show_95 : decode cX3_show 95 = .ok (.iload_n 1, 1) := dk_27 (dk_at dksX3_show_4 3 rfl rfl)
theorem dX3_show_96 : decode cX3_show 96 = .ok (.iaload, 1) := dk_46 (dk_at dksX3_show_4 4 rfl rfl)
theorem dX3_show_97 : decode cX3_show 97 = .ok (.iadd, 1) := dk_96 (dk_at dksX3_show_4 5 rfl rfl)
theorem dX3_show_98 : decode cX3_show 98 = .ok (.invokevirtual 368, 3) := dk_182 1 112 (dk_at dksX3_show_4 6 rfl rfl)
theorem dX3_show_101 : decode cX3_show 101 = .ok (.aload_n 0, 1) := dk_42 (dk_at dksX3_show_4 9 rfl rfl)
theorem dX3_show_102 : decode cX3_show 102 = .ok (.getfield 365, 3) := dk_180 1 109 (dk_at dksX3_show_4 10 rfl rfl)
theorem dX3_show_105 : decode cX3_show 105 = .ok (.ireturn, 1) := dk_172 (dk_at dksX3_show_4 13 rfl rfl)
abbrev cX3_output : ByteArray := prog_18_method_112_code
def yX3_output : MethodName := ⟨RX3, "output", "(I)I"⟩
def dkwX3_output_1 : List UInt8 := [51, 167, 0, 4, 2, 172]
abbrev dktX3_output_1 : List UInt8 := dkwX3_output_1 ++ []
def dkwX3_output_0 : List UInt8 := [42, 3, 181, 0, 90, 27, 3, 42, 180, 1, 109, 4, 100, 184, 0, 124, 153, 0, 12, 42, 180, 0, 79, 27]
abbrev dktX3_output_0 : List UInt8 := dkwX3_output_0 ++ dktX3_output_1
theorem dksX3_output_0 : cX3_output.data.toList.drop 0 = dktX3_output_0 := by decide +kernel
theorem dksX3_output_1 : cX3_output.data.toList.drop 24 = dktX3_output_1 := dk_seg dksX3_output_0 24 rfl rfl
theorem dX3_output_0 : decode cX3_output 0 = .ok (.aload_n 0, 1) := dk_42 (dk_at dksX3_output_0 0 rfl rfl)
theorem dX3_output_1 : decode cX3_output 1 = .ok (.iconst 0, 1) := dk_3 (dk_at dksX3_output_0 1 rfl rfl)
theorem dX3_output_2 : decode cX3_output 2 = .ok (.putfield 90, 3) := dk_181 0 90 (dk_at dksX3_output_0 2 rfl rfl)
theorem dX3_output_5 : decode cX3_output 5 = .ok (.iload_n 1, 1) := dk_27 (dk_at dksX3_output_0 5 rfl rfl)
theorem dX3_output_6 : decode cX3_output 6 = .ok (.iconst 0, 1) := dk_3 (dk_at dksX3_output_0 6 rfl rfl)
theorem dX3_output_7 : decode cX3_output 7 = .ok (.aload_n 0, 1) := dk_42 (dk_at dksX3_output_0 7 rfl rfl)
theorem dX3_output_8 : decode cX3_output 8 = .ok (.getfield 365, 3) := dk_180 1 109 (dk_at dksX3_output_0 8 rfl rfl)
theorem dX3_output_11 : decode cX3_output 11 = .ok (.iconst 1, 1) := dk_4 (dk_at dksX3_output_0 11 rfl rfl)
theorem dX3_output_12 : decode cX3_output 12 = .ok (.isub, 1) := dk_100 (dk_at dksX3_output_0 12 rfl rfl)
theorem dX3_output_13 : decode cX3_output 13 = .ok (.invokestatic 124, 3) := dk_184 0 124 (dk_at dksX3_output_0 13 rfl rfl)
theorem dX3_output_16 : decode cX3_output 16 = .ok (.ifCond .eq 12, 3) := dk_153 0 12 (dk_at dksX3_output_0 16 rfl rfl)
theorem dX3_output_19 : decode cX3_output 19 = .ok (.aload_n 0, 1) := dk_42 (dk_at dksX3_output_0 19 rfl rfl)
theorem dX3_output_20 : decode cX3_output 20 = .ok (.getfield 79, 3) := dk_180 0 79 (dk_at dksX3_output_0 20 rfl rfl)
theorem dX3_output_23 : decode cX3_output 23 = .ok (.iload_n 1, 1) := dk_27 (dk_at dksX3_output_0 23 rfl rfl)
theorem dX3_output_24 : decode cX3_output 24 = .ok (.baload, 1) := dk_51 (dk_at dksX3_output_1 0 rfl rfl)
theorem dX3_output_25 : decode cX3_output 25 = .ok (.goto 4, 3) := dk_167 0 4 (dk_at dksX3_output_1 1 rfl rfl)
theorem dX3_output_28 : decode cX3_output 28 = .ok (.iconst (-1), 1) := dk_2 (dk_at dksX3_output_1 4 rfl rfl)
theorem dX3_output_29 : decode cX3_output 29 = .ok (.ireturn, 1) := dk_172 (dk_at dksX3_output_1 5 rfl rfl)
abbrev cX3_undo : ByteArray := prog_18_method_113_code
def yX3_undo : MethodName := ⟨RX3, "undo", "()I"⟩
def dkwX3_undo_2 : List UInt8 := [172]
abbrev dktX3_undo_2 : List UInt8 := dkwX3_undo_2 ++ []
def dkwX3_undo_1 : List UInt8 := [42, 180, 0, 16, 17, 3, 60, 42, 180, 0, 191, 104, 42, 180, 0, 7, 3, 184, 0, 86, 42, 180, 0, 191]
abbrev dktX3_undo_1 : List UInt8 := dkwX3_undo_1 ++ dktX3_undo_2
def dkwX3_undo_0 : List UInt8 := [42, 3, 181, 0, 90, 42, 180, 0, 191, 154, 0, 5, 2, 172, 42, 89, 180, 0, 191, 4, 100, 181, 0, 191]
abbrev dktX3_undo_0 : List UInt8 := dkwX3_undo_0 ++ dktX3_undo_1
theorem dksX3_undo_0 : cX3_undo.data.toList.drop 0 = dktX3_undo_0 := by decide +kernel
theorem dksX3_undo_1 : cX3_undo.data.toList.drop 24 = dktX3_undo_1 := dk_seg dksX3_undo_0 24 rfl rfl
theorem dksX3_undo_2 : cX3_undo.data.toList.drop 48 = dktX3_undo_2 := dk_seg dksX3_undo_1 24 rfl rfl
theorem dX3_undo_0 : decode cX3_undo 0 = .ok (.aload_n 0, 1) := dk_42 (dk_at dksX3_undo_0 0 rfl rfl)
theorem dX3_undo_1 : decode cX3_undo 1 = .ok (.iconst 0, 1) := dk_3 (dk_at dksX3_undo_0 1 rfl rfl)
theorem dX3_undo_2 : decode cX3_undo 2 = .ok (.putfield 90, 3) := dk_181 0 90 (dk_at dksX3_undo_0 2 rfl rfl)
theorem dX3_undo_5 : decode cX3_undo 5 = .ok (.aload_n 0, 1) := dk_42 (dk_at dksX3_undo_0 5 rfl rfl)
theorem dX3_undo_6 : decode cX3_undo 6 = .ok (.getfield 191, 3) := dk_180 0 191 (dk_at dksX3_undo_0 6 rfl rfl)
theorem dX3_undo_9 : decode cX3_undo 9 = .ok (.ifCond .ne 5, 3) := dk_154 0 5 (dk_at dksX3_undo_0 9 rfl rfl)
theorem dX3_undo_12 : decode cX3_undo 12 = .ok (.iconst (-1), 1) := dk_2 (dk_at dksX3_undo_0 12 rfl rfl)
theorem dX3_undo_13 : decode cX3_undo 13 = .ok (.ireturn, 1) := dk_172 (dk_at dksX3_undo_0 13 rfl rfl)
theorem dX3_undo_14 : decode cX3_undo 14 = .ok (.aload_n 0, 1) := dk_42 (dk_at dksX3_undo_0 14 rfl rfl)
theorem dX3_undo_15 : decode cX3_undo 15 = .ok (.dup, 1) := dk_89 (dk_at dksX3_undo_0 15 rfl rfl)
theorem dX3_undo_16 : decode cX3_undo 16 = .ok (.getfield 191, 3) := dk_180 0 191 (dk_at dksX3_undo_0 16 rfl rfl)
theorem dX3_undo_19 : decode cX3_undo 19 = .ok (.iconst 1, 1) := dk_4 (dk_at dksX3_undo_0 19 rfl rfl)
theorem dX3_undo_20 : decode cX3_undo 20 = .ok (.isub, 1) := dk_100 (dk_at dksX3_undo_0 20 rfl rfl)
theorem dX3_undo_21 : decode cX3_undo 21 = .ok (.putfield 191, 3) := dk_181 0 191 (dk_at dksX3_undo_0 21 rfl rfl)
theorem dX3_undo_24 : decode cX3_undo 24 = .ok (.aload_n 0, 1) := dk_42 (dk_at dksX3_undo_1 0 rfl rfl)
theorem dX3_undo_25 : decode cX3_undo 25 = .ok (.getfield 16, 3) := dk_180 0 16 (dk_at dksX3_undo_1 1 rfl rfl)
theorem dX3_undo_28 : decode cX3_undo 28 = .ok (.sipush 828, 3) := dk_17 3 60 (dk_at dksX3_undo_1 4 rfl rfl)
theorem dX3_undo_31 : decode cX3_undo 31 = .ok (.aload_n 0, 1) := dk_42 (dk_at dksX3_undo_1 7 rfl rfl)
theorem dX3_undo_32 : decode cX3_undo 32 = .ok (.getfield 191, 3) := dk_180 0 191 (dk_at dksX3_undo_1 8 rfl rfl)
theorem dX3_undo_35 : decode cX3_undo 35 = .ok (.imul, 1) := dk_104 (dk_at dksX3_undo_1 11 rfl rfl)
theorem dX3_undo_36 : decode cX3_undo 36 = .ok (.aload_n 0, 1) := dk_42 (dk_at dksX3_undo_1 12 rfl rfl)
theorem dX3_undo_37 : decode cX3_undo 37 = .ok (.getfield 7, 3) := dk_180 0 7 (dk_at dksX3_undo_1 13 rfl rfl)
theorem dX3_undo_40 : decode cX3_undo 40 = .ok (.iconst 0, 1) := dk_3 (dk_at dksX3_undo_1 16 rfl rfl)
theorem dX3_undo_41 : decode cX3_undo 41 = .ok (.invokestatic 86, 3) := dk_184 0 86 (dk_at dksX3_undo_1 17 rfl rfl)
theorem dX3_undo_44 : decode cX3_undo 44 = .ok (.aload_n 0, 1) := dk_42 (dk_at dksX3_undo_1 20 rfl rfl)
theorem dX3_undo_45 : decode cX3_undo 45 = .ok (.getfield 191, 3) := dk_180 0 191 (dk_at dksX3_undo_1 21 rfl rfl)
theorem dX3_undo_48 : decode cX3_undo 48 = .ok (.ireturn, 1) := dk_172 (dk_at dksX3_undo_2 0 rfl rfl)
abbrev cX3_save : ByteArray := prog_18_method_114_code
def yX3_save : MethodName := ⟨RX3, "save", "(I)V"⟩
def dkwX3_save_2 : List UInt8 := [180, 0, 22, 27, 4, 84, 177]
abbrev dktX3_save_2 : List UInt8 := dkwX3_save_2 ++ []
def dkwX3_save_1 : List UInt8 := [158, 0, 4, 177, 42, 180, 0, 7, 3, 42, 180, 0, 19, 17, 3, 60, 27, 104, 184, 0, 86, 42]
abbrev dktX3_save_1 : List UInt8 := dkwX3_save_1 ++ dktX3_save_2
def dkwX3_save_0 : List UInt8 := [42, 27, 3, 4, 184, 0, 124, 153, 0, 7, 3, 167, 0, 4, 4, 181, 0, 90, 42, 180, 0, 90]
abbrev dktX3_save_0 : List UInt8 := dkwX3_save_0 ++ dktX3_save_1
theorem dksX3_save_0 : cX3_save.data.toList.drop 0 = dktX3_save_0 := by decide +kernel
theorem dksX3_save_1 : cX3_save.data.toList.drop 22 = dktX3_save_1 := dk_seg dksX3_save_0 22 rfl rfl
theorem dksX3_save_2 : cX3_save.data.toList.drop 44 = dktX3_save_2 := dk_seg dksX3_save_1 22 rfl rfl
theorem dX3_save_0 : decode cX3_save 0 = .ok (.aload_n 0, 1) := dk_42 (dk_at dksX3_save_0 0 rfl rfl)
theorem dX3_save_1 : decode cX3_save 1 = .ok (.iload_n 1, 1) := dk_27 (dk_at dksX3_save_0 1 rfl rfl)
theorem dX3_save_2 : decode cX3_save 2 = .ok (.iconst 0, 1) := dk_3 (dk_at dksX3_save_0 2 rfl rfl)
theorem dX3_save_3 : decode cX3_save 3 = .ok (.iconst 1, 1) := dk_4 (dk_at dksX3_save_0 3 rfl rfl)
theorem dX3_save_4 : decode cX3_save 4 = .ok (.invokestatic 124, 3) := dk_184 0 124 (dk_at dksX3_save_0 4 rfl rfl)
theorem dX3_save_7 : decode cX3_save 7 = .ok (.ifCond .eq 7, 3) := dk_153 0 7 (dk_at dksX3_save_0 7 rfl rfl)
theorem dX3_save_10 : decode cX3_save 10 = .ok (.iconst 0, 1) := dk_3 (dk_at dksX3_save_0 10 rfl rfl)
theorem dX3_save_11 : decode cX3_save 11 = .ok (.goto 4, 3) := dk_167 0 4 (dk_at dksX3_save_0 11 rfl rfl)
theorem dX3_save_14 : decode cX3_save 14 = .ok (.iconst 1, 1) := dk_4 (dk_at dksX3_save_0 14 rfl rfl)
theorem dX3_save_15 : decode cX3_save 15 = .ok (.putfield 90, 3) := dk_181 0 90 (dk_at dksX3_save_0 15 rfl rfl)
theorem dX3_save_18 : decode cX3_save 18 = .ok (.aload_n 0, 1) := dk_42 (dk_at dksX3_save_0 18 rfl rfl)
theorem dX3_save_19 : decode cX3_save 19 = .ok (.getfield 90, 3) := dk_180 0 90 (dk_at dksX3_save_0 19 rfl rfl)
theorem dX3_save_22 : decode cX3_save 22 = .ok (.ifCond .le 4, 3) := dk_158 0 4 (dk_at dksX3_save_1 0 rfl rfl)
theorem dX3_save_25 : decode cX3_save 25 = .ok (.return_, 1) := dk_177 (dk_at dksX3_save_1 3 rfl rfl)
theorem dX3_save_26 : decode cX3_save 26 = .ok (.aload_n 0, 1) := dk_42 (dk_at dksX3_save_1 4 rfl rfl)
theorem dX3_save_27 : decode cX3_save 27 = .ok (.getfield 7, 3) := dk_180 0 7 (dk_at dksX3_save_1 5 rfl rfl)
theorem dX3_save_30 : decode cX3_save 30 = .ok (.iconst 0, 1) := dk_3 (dk_at dksX3_save_1 8 rfl rfl)
theorem dX3_save_31 : decode cX3_save 31 = .ok (.aload_n 0, 1) := dk_42 (dk_at dksX3_save_1 9 rfl rfl)
theorem dX3_save_32 : decode cX3_save 32 = .ok (.getfield 19, 3) := dk_180 0 19 (dk_at dksX3_save_1 10 rfl rfl)
theorem dX3_save_35 : decode cX3_save 35 = .ok (.sipush 828, 3) := dk_17 3 60 (dk_at dksX3_save_1 13 rfl rfl)
theorem dX3_save_38 : decode cX3_save 38 = .ok (.iload_n 1, 1) := dk_27 (dk_at dksX3_save_1 16 rfl rfl)
theorem dX3_save_39 : decode cX3_save 39 = .ok (.imul, 1) := dk_104 (dk_at dksX3_save_1 17 rfl rfl)
theorem dX3_save_40 : decode cX3_save 40 = .ok (.invokestatic 86, 3) := dk_184 0 86 (dk_at dksX3_save_1 18 rfl rfl)
theorem dX3_save_43 : decode cX3_save 43 = .ok (.aload_n 0, 1) := dk_42 (dk_at dksX3_save_1 21 rfl rfl)
theorem dX3_save_44 : decode cX3_save 44 = .ok (.getfield 22, 3) := dk_180 0 22 (dk_at dksX3_save_2 0 rfl rfl)
theorem dX3_save_47 : decode cX3_save 47 = .ok (.iload_n 1, 1) := dk_27 (dk_at dksX3_save_2 3 rfl rfl)
theorem dX3_save_48 : decode cX3_save 48 = .ok (.iconst 1, 1) := dk_4 (dk_at dksX3_save_2 4 rfl rfl)
theorem dX3_save_49 : decode cX3_save 49 = .ok (.bastore, 1) := dk_84 (dk_at dksX3_save_2 5 rfl rfl)
theorem dX3_save_50 : decode cX3_save 50 = .ok (.return_, 1) := dk_177 (dk_at dksX3_save_2 6 rfl rfl)
abbrev cX3_restore : ByteArray := prog_18_method_115_code
def yX3_restore : MethodName := ⟨RX3, "restore", "(I)V"⟩
def dkwX3_restore_2 : List UInt8 := [42, 180, 0, 7, 3, 184, 0, 86, 42, 3, 181, 0, 191, 177]
abbrev dktX3_restore_2 : List UInt8 := dkwX3_restore_2 ++ []
def dkwX3_restore_1 : List UInt8 := [167, 0, 4, 5, 181, 0, 90, 42, 180, 0, 90, 158, 0, 4, 177, 42, 180, 0, 19, 17, 3, 60, 27, 104]
abbrev dktX3_restore_1 : List UInt8 := dkwX3_restore_1 ++ dktX3_restore_2
def dkwX3_restore_0 : List UInt8 := [42, 27, 3, 4, 184, 0, 124, 154, 0, 7, 4, 167, 0, 17, 42, 180, 0, 22, 27, 51, 153, 0, 7, 3]
abbrev dktX3_restore_0 : List UInt8 := dkwX3_restore_0 ++ dktX3_restore_1
theorem dksX3_restore_0 : cX3_restore.data.toList.drop 0 = dktX3_restore_0 := by decide +kernel
theorem dksX3_restore_1 : cX3_restore.data.toList.drop 24 = dktX3_restore_1 := dk_seg dksX3_restore_0 24 rfl rfl
theorem dksX3_restore_2 : cX3_restore.data.toList.drop 48 = dktX3_restore_2 := dk_seg dksX3_restore_1 24 rfl rfl
theorem dX3_restore_0 : decode cX3_restore 0 = .ok (.aload_n 0, 1) := dk_42 (dk_at dksX3_restore_0 0 rfl rfl)
theorem dX3_restore_1 : decode cX3_restore 1 = .ok (.iload_n 1, 1) := dk_27 (dk_at dksX3_restore_0 1 rfl rfl)
theorem dX3_restore_2 : decode cX3_restore 2 = .ok (.iconst 0, 1) := dk_3 (dk_at dksX3_restore_0 2 rfl rfl)
theorem dX3_restore_3 : decode cX3_restore 3 = .ok (.iconst 1, 1) := dk_4 (dk_at dksX3_restore_0 3 rfl rfl)
theorem dX3_restore_4 : decode cX3_restore 4 = .ok (.invokestatic 124, 3) := dk_184 0 124 (dk_at dksX3_restore_0 4 rfl rfl)
theorem dX3_restore_7 : decode cX3_restore 7 = .ok (.ifCond .ne 7, 3) := dk_154 0 7 (dk_at dksX3_restore_0 7 rfl rfl)
theorem dX3_restore_10 : decode cX3_restore 10 = .ok (.iconst 1, 1) := dk_4 (dk_at dksX3_restore_0 10 rfl rfl)
theorem dX3_restore_11 : decode cX3_restore 11 = .ok (.goto 17, 3) := dk_167 0 17 (dk_at dksX3_restore_0 11 rfl rfl)
theorem dX3_restore_14 : decode cX3_restore 14 = .ok (.aload_n 0, 1) := dk_42 (dk_at dksX3_restore_0 14 rfl rfl)
theorem dX3_restore_15 : decode cX3_restore 15 = .ok (.getfield 22, 3) := dk_180 0 22 (dk_at dksX3_restore_0 15 rfl rfl)
theorem dX3_restore_18 : decode cX3_restore 18 = .ok (.iload_n 1, 1) := dk_27 (dk_at dksX3_restore_0 18 rfl rfl)
theorem dX3_restore_19 : decode cX3_restore 19 = .ok (.baload, 1) := dk_51 (dk_at dksX3_restore_0 19 rfl rfl)
theorem dX3_restore_20 : decode cX3_restore 20 = .ok (.ifCond .eq 7, 3) := dk_153 0 7 (dk_at dksX3_restore_0 20 rfl rfl)
theorem dX3_restore_23 : decode cX3_restore 23 = .ok (.iconst 0, 1) := dk_3 (dk_at dksX3_restore_0 23 rfl rfl)
theorem dX3_restore_24 : decode cX3_restore 24 = .ok (.goto 4, 3) := dk_167 0 4 (dk_at dksX3_restore_1 0 rfl rfl)
theorem dX3_restore_27 : decode cX3_restore 27 = .ok (.iconst 2, 1) := dk_5 (dk_at dksX3_restore_1 3 rfl rfl)
theorem dX3_restore_28 : decode cX3_restore 28 = .ok (.putfield 90, 3) := dk_181 0 90 (dk_at dksX3_restore_1 4 rfl rfl)
theorem dX3_restore_31 : decode cX3_restore 31 = .ok (.aload_n 0, 1) := dk_42 (dk_at dksX3_restore_1 7 rfl rfl)
theorem dX3_restore_32 : decode cX3_restore 32 = .ok (.getfield 90, 3) := dk_180 0 90 (dk_at dksX3_restore_1 8 rfl rfl)
theorem dX3_restore_35 : decode cX3_restore 35 = .ok (.ifCond .le 4, 3) := dk_158 0 4 (dk_at dksX3_restore_1 11 rfl rfl)
theorem dX3_restore_38 : decode cX3_restore 38 = .ok (.return_, 1) := dk_177 (dk_at dksX3_restore_1 14 rfl rfl)
theorem dX3_restore_39 : decode cX3_restore 39 = .ok (.aload_n 0, 1) := dk_42 (dk_at dksX3_restore_1 15 rfl rfl)
theorem dX3_restore_40 : decode cX3_restore 40 = .ok (.getfield 19, 3) := dk_180 0 19 (dk_at dksX3_restore_1 16 rfl rfl)
theorem dX3_restore_43 : decode cX3_restore 43 = .ok (.sipush 828, 3) := dk_17 3 60 (dk_at dksX3_restore_1 19 rfl rfl)
theorem dX3_restore_46 : decode cX3_restore 46 = .ok (.iload_n 1, 1) := dk_27 (dk_at dksX3_restore_1 22 rfl rfl)
theorem dX3_restore_47 : decode cX3_restore 47 = .ok (.imul, 1) := dk_104 (dk_at dksX3_restore_1 23 rfl rfl)
theorem dX3_restore_48 : decode cX3_restore 48 = .ok (.aload_n 0, 1) := dk_42 (dk_at dksX3_restore_2 0 rfl rfl)
theorem dX3_restore_49 : decode cX3_restore 49 = .ok (.getfield 7, 3) := dk_180 0 7 (dk_at dksX3_restore_2 1 rfl rfl)
theorem dX3_restore_52 : decode cX3_restore 52 = .ok (.iconst 0, 1) := dk_3 (dk_at dksX3_restore_2 4 rfl rfl)
theorem dX3_restore_53 : decode cX3_restore 53 = .ok (.invokestatic 86, 3) := dk_184 0 86 (dk_at dksX3_restore_2 5 rfl rfl)
theorem dX3_restore_56 : decode cX3_restore 56 = .ok (.aload_n 0, 1) := dk_42 (dk_at dksX3_restore_2 8 rfl rfl)
theorem dX3_restore_57 : decode cX3_restore 57 = .ok (.iconst 0, 1) := dk_3 (dk_at dksX3_restore_2 9 rfl rfl)
theorem dX3_restore_58 : decode cX3_restore 58 = .ok (.putfield 191, 3) := dk_181 0 191 (dk_at dksX3_restore_2 10 rfl rfl)
theorem dX3_restore_61 : decode cX3_restore 61 = .ok (.return_, 1) := dk_177 (dk_at dksX3_restore_2 13 rfl rfl)
theorem q133 : (Jvm.Cond.initialized "DotRunsModel") ∈ lw_all := lw_g (lw_at lw_m1 23 rfl) rfl
theorem q925 : (Jvm.Cond.selects "DotRunsModel" ({ cls := "java/lang/Object", name := "getClass", desc := "()Ljava/lang/Class;" } : Jvm.MethodName) ({ cls := "java/lang/Object", name := "getClass", desc := "()Ljava/lang/Class;" } : Jvm.MethodName)) ∈ lw_all := lw_g (lw_at lw_m4 95 rfl) rfl
theorem q2173 : (Jvm.Cond.instantiable "DotRunsModel" (42 : Nat)) ∈ lw_all := lw_g (lw_at lw_m9 143 rfl) rfl
theorem q2175 : (Jvm.Cond.instanceMethod ({ cls := "DotRunsModel", name := "<init>", desc := "()V" } : Jvm.MethodName)) ∈ lw_all := lw_g (lw_at lw_m9 145 rfl) rfl
theorem q2176 : (Jvm.Cond.code ({ cls := "DotRunsModel", name := "<init>", desc := "()V" } : Jvm.MethodName) prog_18_method_1_code (1 : Nat) (Option.none : Option Jvm.ClassFile.FieldType)) ∈ lw_all := lw_g (lw_at lw_m9 146 rfl) rfl
theorem q2177 : (Jvm.Cond.methodLink "DotRunsModel" (1 : Nat) ({ cls := "java/lang/Object", name := "<init>", desc := "()V" } : Jvm.MethodName)) ∈ lw_all := lw_g (lw_at lw_m9 147 rfl) rfl
theorem q2178 : (Jvm.Cond.methodLink "DotRunsModel" (82 : Nat) ({ cls := "DotRunsModel", name := "begins", desc := "(I)V" } : Jvm.MethodName)) ∈ lw_all := lw_g (lw_at lw_m9 148 rfl) rfl
theorem q2179 : (Jvm.Cond.privateMethod ({ cls := "DotRunsModel", name := "begins", desc := "(I)V" } : Jvm.MethodName)) ∈ lw_tbl := lw_at lw_m9 149 rfl
theorem q2180 : (Jvm.Cond.instanceMethod ({ cls := "DotRunsModel", name := "begins", desc := "(I)V" } : Jvm.MethodName)) ∈ lw_all := lw_g (lw_at lw_m9 150 rfl) rfl
theorem q2181 : (Jvm.Cond.code ({ cls := "DotRunsModel", name := "begins", desc := "(I)V" } : Jvm.MethodName) prog_18_method_5_code (3 : Nat) (Option.none : Option Jvm.ClassFile.FieldType)) ∈ lw_all := lw_g (lw_at lw_m9 151 rfl) rfl
theorem q2182 : (Jvm.Cond.methodLink "DotRunsModel" (86 : Nat) ({ cls := "DotRunsModel", name := "copies", desc := "([II[II)V" } : Jvm.MethodName)) ∈ lw_all := lw_g (lw_at lw_m9 152 rfl) rfl
theorem q2183 : (Jvm.Cond.static ({ cls := "DotRunsModel", name := "copies", desc := "([II[II)V" } : Jvm.MethodName)) ∈ lw_all := lw_g (lw_at lw_m9 153 rfl) rfl
theorem q2184 : (Jvm.Cond.code ({ cls := "DotRunsModel", name := "copies", desc := "([II[II)V" } : Jvm.MethodName) prog_18_method_4_code (5 : Nat) (Option.none : Option Jvm.ClassFile.FieldType)) ∈ lw_all := lw_g (lw_at lw_m9 154 rfl) rfl
theorem q2185 : (Jvm.Cond.fieldLink "DotRunsModel" (90 : Nat) "DotRunsModel" "thrown" "I") ∈ lw_all := lw_g (lw_at lw_m9 155 rfl) rfl
theorem q2186 : (Jvm.Cond.fieldLink "DotRunsModel" (7 : Nat) "DotRunsModel" "now" "[I") ∈ lw_all := lw_g (lw_at lw_m9 156 rfl) rfl
theorem q2187 : (Jvm.Cond.fieldLink "DotRunsModel" (13 : Nat) "DotRunsModel" "fresh" "[I") ∈ lw_all := lw_g (lw_at lw_m9 157 rfl) rfl
theorem q2188 : (Jvm.Cond.fieldLink "DotRunsModel" (16 : Nat) "DotRunsModel" "undos" "[I") ∈ lw_all := lw_g (lw_at lw_m9 158 rfl) rfl
theorem q2189 : (Jvm.Cond.fieldLink "DotRunsModel" (191 : Nat) "DotRunsModel" "undoMany" "I") ∈ lw_all := lw_g (lw_at lw_m9 159 rfl) rfl
theorem q2190 : (Jvm.Cond.fieldLink "DotRunsModel" (19 : Nat) "DotRunsModel" "saved" "[I") ∈ lw_all := lw_g (lw_at lw_m9 160 rfl) rfl
theorem q2191 : (Jvm.Cond.fieldLink "DotRunsModel" (22 : Nat) "DotRunsModel" "isSaved" "[Z") ∈ lw_all := lw_g (lw_at lw_m9 161 rfl) rfl
theorem q2192 : (Jvm.Cond.fieldLink "DotRunsModel" (26 : Nat) "DotRunsModel" "upper" "[I") ∈ lw_all := lw_g (lw_at lw_m9 162 rfl) rfl
theorem q2193 : (Jvm.Cond.fieldLink "DotRunsModel" (29 : Nat) "DotRunsModel" "lower" "[I") ∈ lw_all := lw_g (lw_at lw_m9 163 rfl) rfl
theorem q2194 : (Jvm.Cond.fieldLink "DotRunsModel" (93 : Nat) "DotRunsModel" "wide" "I") ∈ lw_all := lw_g (lw_at lw_m9 164 rfl) rfl
theorem q2195 : (Jvm.Cond.fieldLink "DotRunsModel" (32 : Nat) "DotRunsModel" "kinds" "[I") ∈ lw_all := lw_g (lw_at lw_m9 165 rfl) rfl
theorem q2196 : (Jvm.Cond.fieldLink "DotRunsModel" (35 : Nat) "DotRunsModel" "ones" "[I") ∈ lw_all := lw_g (lw_at lw_m9 166 rfl) rfl
theorem q2197 : (Jvm.Cond.fieldLink "DotRunsModel" (38 : Nat) "DotRunsModel" "twos" "[I") ∈ lw_all := lw_g (lw_at lw_m9 167 rfl) rfl
theorem q2198 : (Jvm.Cond.fieldLink "DotRunsModel" (41 : Nat) "DotRunsModel" "places" "[I") ∈ lw_all := lw_g (lw_at lw_m9 168 rfl) rfl
theorem q2199 : (Jvm.Cond.fieldLink "DotRunsModel" (111 : Nat) "DotRunsModel" "modes" "I") ∈ lw_all := lw_g (lw_at lw_m9 169 rfl) rfl
theorem q2200 : (Jvm.Cond.fieldLink "DotRunsModel" (44 : Nat) "DotRunsModel" "result" "[I") ∈ lw_all := lw_g (lw_at lw_m9 170 rfl) rfl
theorem q2201 : (Jvm.Cond.fieldLink "DotRunsModel" (135 : Nat) "DotRunsModel" "here" "I") ∈ lw_all := lw_g (lw_at lw_m9 171 rfl) rfl
theorem q2202 : (Jvm.Cond.fieldLink "DotRunsModel" (138 : Nat) "DotRunsModel" "colour" "I") ∈ lw_all := lw_g (lw_at lw_m9 172 rfl) rfl
theorem q2203 : (Jvm.Cond.fieldLink "DotRunsModel" (47 : Nat) "DotRunsModel" "runs" "[I") ∈ lw_all := lw_g (lw_at lw_m9 173 rfl) rfl
theorem q2204 : (Jvm.Cond.fieldLink "DotRunsModel" (151 : Nat) "DotRunsModel" "runMany" "I") ∈ lw_all := lw_g (lw_at lw_m9 174 rfl) rfl
theorem q2205 : (Jvm.Cond.fieldLink "DotRunsModel" (50 : Nat) "DotRunsModel" "got" "[I") ∈ lw_all := lw_g (lw_at lw_m9 175 rfl) rfl
theorem q2206 : (Jvm.Cond.fieldLink "DotRunsModel" (53 : Nat) "DotRunsModel" "states" "[I") ∈ lw_all := lw_g (lw_at lw_m9 176 rfl) rfl
theorem q2207 : (Jvm.Cond.fieldLink "DotRunsModel" (56 : Nat) "DotRunsModel" "times" "[I") ∈ lw_all := lw_g (lw_at lw_m9 177 rfl) rfl
theorem q2208 : (Jvm.Cond.fieldLink "DotRunsModel" (59 : Nat) "DotRunsModel" "bits" "[I") ∈ lw_all := lw_g (lw_at lw_m9 178 rfl) rfl
theorem q2209 : (Jvm.Cond.fieldLink "DotRunsModel" (62 : Nat) "DotRunsModel" "backs" "[I") ∈ lw_all := lw_g (lw_at lw_m9 179 rfl) rfl
theorem q2210 : (Jvm.Cond.fieldLink "DotRunsModel" (65 : Nat) "DotRunsModel" "losses" "[I") ∈ lw_all := lw_g (lw_at lw_m9 180 rfl) rfl
theorem q2211 : (Jvm.Cond.fieldLink "DotRunsModel" (244 : Nat) "DotRunsModel" "allBits" "I") ∈ lw_all := lw_g (lw_at lw_m9 181 rfl) rfl
theorem q2212 : (Jvm.Cond.fieldLink "DotRunsModel" (247 : Nat) "DotRunsModel" "sendings" "I") ∈ lw_all := lw_g (lw_at lw_m9 182 rfl) rfl
theorem q2213 : (Jvm.Cond.fieldLink "DotRunsModel" (262 : Nat) "DotRunsModel" "stepped" "I") ∈ lw_all := lw_g (lw_at lw_m9 183 rfl) rfl
theorem q2214 : (Jvm.Cond.fieldLink "DotRunsModel" (250 : Nat) "DotRunsModel" "lostMany" "I") ∈ lw_all := lw_g (lw_at lw_m9 184 rfl) rfl
theorem q2215 : (Jvm.Cond.fieldLink "DotRunsModel" (256 : Nat) "DotRunsModel" "unreadMany" "I") ∈ lw_all := lw_g (lw_at lw_m9 185 rfl) rfl
theorem q2216 : (Jvm.Cond.fieldLink "DotRunsModel" (68 : Nat) "DotRunsModel" "text" "[B") ∈ lw_all := lw_g (lw_at lw_m9 186 rfl) rfl
theorem q2217 : (Jvm.Cond.fieldLink "DotRunsModel" (292 : Nat) "DotRunsModel" "length" "I") ∈ lw_all := lw_g (lw_at lw_m9 187 rfl) rfl
theorem q2218 : (Jvm.Cond.fieldLink "DotRunsModel" (295 : Nat) "DotRunsModel" "at" "I") ∈ lw_all := lw_g (lw_at lw_m9 188 rfl) rfl
theorem q2219 : (Jvm.Cond.fieldLink "DotRunsModel" (301 : Nat) "DotRunsModel" "start" "I") ∈ lw_all := lw_g (lw_at lw_m9 189 rfl) rfl
theorem q2220 : (Jvm.Cond.fieldLink "DotRunsModel" (307 : Nat) "DotRunsModel" "token" "I") ∈ lw_all := lw_g (lw_at lw_m9 190 rfl) rfl
theorem q2221 : (Jvm.Cond.fieldLink "DotRunsModel" (310 : Nat) "DotRunsModel" "number" "I") ∈ lw_all := lw_g (lw_at lw_m9 191 rfl) rfl
theorem q2222 : (Jvm.Cond.fieldLink "DotRunsModel" (313 : Nat) "DotRunsModel" "error" "I") ∈ lw_all := lw_g (lw_at lw_m9 192 rfl) rfl
theorem q2223 : (Jvm.Cond.fieldLink "DotRunsModel" (72 : Nat) "DotRunsModel" "errorAt" "I") ∈ lw_all := lw_g (lw_at lw_m9 193 rfl) rfl
theorem q2224 : (Jvm.Cond.fieldLink "DotRunsModel" (76 : Nat) "DotRunsModel" "words" "[B") ∈ lw_all := lw_g (lw_at lw_m9 194 rfl) rfl
theorem q2225 : (Jvm.Cond.fieldLink "DotRunsModel" (79 : Nat) "DotRunsModel" "out" "[B") ∈ lw_all := lw_g (lw_at lw_m9 195 rfl) rfl
theorem q2226 : (Jvm.Cond.fieldLink "DotRunsModel" (365 : Nat) "DotRunsModel" "outLong" "I") ∈ lw_all := lw_g (lw_at lw_m9 196 rfl) rfl
theorem q2227 : (Jvm.Cond.lays "DotRunsModel" "DotRunsModel" "thrown" "I") ∈ lw_all := lw_g (lw_at lw_m9 197 rfl) rfl
theorem q2228 : (Jvm.Cond.soleField "DotRunsModel" "thrown") ∈ lw_all := lw_g (lw_at lw_m9 198 rfl) rfl
theorem q2229 : (Jvm.Cond.laysFinal "DotRunsModel" "DotRunsModel" "now" "[I") ∈ lw_all := lw_g (lw_at lw_m9 199 rfl) rfl
theorem q2230 : (Jvm.Cond.soleField "DotRunsModel" "now") ∈ lw_all := lw_g (lw_at lw_m9 200 rfl) rfl
theorem q2231 : (Jvm.Cond.laysFinal "DotRunsModel" "DotRunsModel" "fresh" "[I") ∈ lw_all := lw_g (lw_at lw_m9 201 rfl) rfl
theorem q2232 : (Jvm.Cond.soleField "DotRunsModel" "fresh") ∈ lw_all := lw_g (lw_at lw_m9 202 rfl) rfl
theorem q2233 : (Jvm.Cond.laysFinal "DotRunsModel" "DotRunsModel" "undos" "[I") ∈ lw_all := lw_g (lw_at lw_m9 203 rfl) rfl
theorem q2234 : (Jvm.Cond.soleField "DotRunsModel" "undos") ∈ lw_all := lw_g (lw_at lw_m9 204 rfl) rfl
theorem q2235 : (Jvm.Cond.lays "DotRunsModel" "DotRunsModel" "undoMany" "I") ∈ lw_all := lw_g (lw_at lw_m9 205 rfl) rfl
theorem q2236 : (Jvm.Cond.soleField "DotRunsModel" "undoMany") ∈ lw_all := lw_g (lw_at lw_m9 206 rfl) rfl
theorem q2237 : (Jvm.Cond.laysFinal "DotRunsModel" "DotRunsModel" "saved" "[I") ∈ lw_all := lw_g (lw_at lw_m9 207 rfl) rfl
theorem q2238 : (Jvm.Cond.soleField "DotRunsModel" "saved") ∈ lw_all := lw_g (lw_at lw_m9 208 rfl) rfl
theorem q2239 : (Jvm.Cond.laysFinal "DotRunsModel" "DotRunsModel" "isSaved" "[Z") ∈ lw_all := lw_g (lw_at lw_m9 209 rfl) rfl
theorem q2240 : (Jvm.Cond.soleField "DotRunsModel" "isSaved") ∈ lw_all := lw_g (lw_at lw_m9 210 rfl) rfl
theorem q2241 : (Jvm.Cond.laysFinal "DotRunsModel" "DotRunsModel" "upper" "[I") ∈ lw_all := lw_g (lw_at lw_m9 211 rfl) rfl
theorem q2242 : (Jvm.Cond.soleField "DotRunsModel" "upper") ∈ lw_all := lw_g (lw_at lw_m9 212 rfl) rfl
theorem q2243 : (Jvm.Cond.laysFinal "DotRunsModel" "DotRunsModel" "lower" "[I") ∈ lw_all := lw_g (lw_at lw_m9 213 rfl) rfl
theorem q2244 : (Jvm.Cond.soleField "DotRunsModel" "lower") ∈ lw_all := lw_g (lw_at lw_m9 214 rfl) rfl
theorem q2245 : (Jvm.Cond.lays "DotRunsModel" "DotRunsModel" "wide" "I") ∈ lw_all := lw_g (lw_at lw_m9 215 rfl) rfl
theorem q2246 : (Jvm.Cond.soleField "DotRunsModel" "wide") ∈ lw_all := lw_g (lw_at lw_m9 216 rfl) rfl
theorem q2247 : (Jvm.Cond.laysFinal "DotRunsModel" "DotRunsModel" "kinds" "[I") ∈ lw_all := lw_g (lw_at lw_m9 217 rfl) rfl
theorem q2248 : (Jvm.Cond.soleField "DotRunsModel" "kinds") ∈ lw_all := lw_g (lw_at lw_m9 218 rfl) rfl
theorem q2249 : (Jvm.Cond.laysFinal "DotRunsModel" "DotRunsModel" "ones" "[I") ∈ lw_all := lw_g (lw_at lw_m9 219 rfl) rfl
theorem q2250 : (Jvm.Cond.soleField "DotRunsModel" "ones") ∈ lw_all := lw_g (lw_at lw_m9 220 rfl) rfl
theorem q2251 : (Jvm.Cond.laysFinal "DotRunsModel" "DotRunsModel" "twos" "[I") ∈ lw_all := lw_g (lw_at lw_m9 221 rfl) rfl
theorem q2252 : (Jvm.Cond.soleField "DotRunsModel" "twos") ∈ lw_all := lw_g (lw_at lw_m9 222 rfl) rfl
theorem q2253 : (Jvm.Cond.laysFinal "DotRunsModel" "DotRunsModel" "places" "[I") ∈ lw_all := lw_g (lw_at lw_m9 223 rfl) rfl
theorem q2254 : (Jvm.Cond.soleField "DotRunsModel" "places") ∈ lw_all := lw_g (lw_at lw_m9 224 rfl) rfl
theorem q2255 : (Jvm.Cond.lays "DotRunsModel" "DotRunsModel" "modes" "I") ∈ lw_all := lw_g (lw_at lw_m9 225 rfl) rfl
theorem q2256 : (Jvm.Cond.soleField "DotRunsModel" "modes") ∈ lw_all := lw_g (lw_at lw_m9 226 rfl) rfl
theorem q2257 : (Jvm.Cond.laysFinal "DotRunsModel" "DotRunsModel" "result" "[I") ∈ lw_all := lw_g (lw_at lw_m9 227 rfl) rfl
theorem q2258 : (Jvm.Cond.soleField "DotRunsModel" "result") ∈ lw_all := lw_g (lw_at lw_m9 228 rfl) rfl
theorem q2259 : (Jvm.Cond.lays "DotRunsModel" "DotRunsModel" "here" "I") ∈ lw_all := lw_g (lw_at lw_m9 229 rfl) rfl
theorem q2260 : (Jvm.Cond.soleField "DotRunsModel" "here") ∈ lw_all := lw_g (lw_at lw_m9 230 rfl) rfl
theorem q2261 : (Jvm.Cond.lays "DotRunsModel" "DotRunsModel" "colour" "I") ∈ lw_all := lw_g (lw_at lw_m9 231 rfl) rfl
theorem q2262 : (Jvm.Cond.soleField "DotRunsModel" "colour") ∈ lw_all := lw_g (lw_at lw_m9 232 rfl) rfl
theorem q2263 : (Jvm.Cond.laysFinal "DotRunsModel" "DotRunsModel" "runs" "[I") ∈ lw_all := lw_g (lw_at lw_m9 233 rfl) rfl
theorem q2264 : (Jvm.Cond.soleField "DotRunsModel" "runs") ∈ lw_all := lw_g (lw_at lw_m9 234 rfl) rfl
theorem q2265 : (Jvm.Cond.lays "DotRunsModel" "DotRunsModel" "runMany" "I") ∈ lw_all := lw_g (lw_at lw_m9 235 rfl) rfl
theorem q2266 : (Jvm.Cond.soleField "DotRunsModel" "runMany") ∈ lw_all := lw_g (lw_at lw_m9 236 rfl) rfl
theorem q2267 : (Jvm.Cond.laysFinal "DotRunsModel" "DotRunsModel" "got" "[I") ∈ lw_all := lw_g (lw_at lw_m9 237 rfl) rfl
theorem q2268 : (Jvm.Cond.soleField "DotRunsModel" "got") ∈ lw_all := lw_g (lw_at lw_m9 238 rfl) rfl
theorem q2269 : (Jvm.Cond.laysFinal "DotRunsModel" "DotRunsModel" "states" "[I") ∈ lw_all := lw_g (lw_at lw_m9 239 rfl) rfl
theorem q2270 : (Jvm.Cond.soleField "DotRunsModel" "states") ∈ lw_all := lw_g (lw_at lw_m10 0 rfl) rfl
theorem q2271 : (Jvm.Cond.laysFinal "DotRunsModel" "DotRunsModel" "times" "[I") ∈ lw_all := lw_g (lw_at lw_m10 1 rfl) rfl
theorem q2272 : (Jvm.Cond.soleField "DotRunsModel" "times") ∈ lw_all := lw_g (lw_at lw_m10 2 rfl) rfl
theorem q2273 : (Jvm.Cond.laysFinal "DotRunsModel" "DotRunsModel" "bits" "[I") ∈ lw_all := lw_g (lw_at lw_m10 3 rfl) rfl
theorem q2274 : (Jvm.Cond.soleField "DotRunsModel" "bits") ∈ lw_all := lw_g (lw_at lw_m10 4 rfl) rfl
theorem q2275 : (Jvm.Cond.laysFinal "DotRunsModel" "DotRunsModel" "backs" "[I") ∈ lw_all := lw_g (lw_at lw_m10 5 rfl) rfl
theorem q2276 : (Jvm.Cond.soleField "DotRunsModel" "backs") ∈ lw_all := lw_g (lw_at lw_m10 6 rfl) rfl
theorem q2277 : (Jvm.Cond.laysFinal "DotRunsModel" "DotRunsModel" "losses" "[I") ∈ lw_all := lw_g (lw_at lw_m10 7 rfl) rfl
theorem q2278 : (Jvm.Cond.soleField "DotRunsModel" "losses") ∈ lw_all := lw_g (lw_at lw_m10 8 rfl) rfl
theorem q2279 : (Jvm.Cond.lays "DotRunsModel" "DotRunsModel" "allBits" "I") ∈ lw_all := lw_g (lw_at lw_m10 9 rfl) rfl
theorem q2280 : (Jvm.Cond.soleField "DotRunsModel" "allBits") ∈ lw_all := lw_g (lw_at lw_m10 10 rfl) rfl
theorem q2281 : (Jvm.Cond.lays "DotRunsModel" "DotRunsModel" "sendings" "I") ∈ lw_all := lw_g (lw_at lw_m10 11 rfl) rfl
theorem q2282 : (Jvm.Cond.soleField "DotRunsModel" "sendings") ∈ lw_all := lw_g (lw_at lw_m10 12 rfl) rfl
theorem q2283 : (Jvm.Cond.lays "DotRunsModel" "DotRunsModel" "stepped" "I") ∈ lw_all := lw_g (lw_at lw_m10 13 rfl) rfl
theorem q2284 : (Jvm.Cond.soleField "DotRunsModel" "stepped") ∈ lw_all := lw_g (lw_at lw_m10 14 rfl) rfl
theorem q2285 : (Jvm.Cond.lays "DotRunsModel" "DotRunsModel" "lostMany" "I") ∈ lw_all := lw_g (lw_at lw_m10 15 rfl) rfl
theorem q2286 : (Jvm.Cond.soleField "DotRunsModel" "lostMany") ∈ lw_all := lw_g (lw_at lw_m10 16 rfl) rfl
theorem q2287 : (Jvm.Cond.lays "DotRunsModel" "DotRunsModel" "unreadMany" "I") ∈ lw_all := lw_g (lw_at lw_m10 17 rfl) rfl
theorem q2288 : (Jvm.Cond.soleField "DotRunsModel" "unreadMany") ∈ lw_all := lw_g (lw_at lw_m10 18 rfl) rfl
theorem q2289 : (Jvm.Cond.laysFinal "DotRunsModel" "DotRunsModel" "text" "[B") ∈ lw_all := lw_g (lw_at lw_m10 19 rfl) rfl
theorem q2290 : (Jvm.Cond.soleField "DotRunsModel" "text") ∈ lw_all := lw_g (lw_at lw_m10 20 rfl) rfl
theorem q2291 : (Jvm.Cond.lays "DotRunsModel" "DotRunsModel" "length" "I") ∈ lw_all := lw_g (lw_at lw_m10 21 rfl) rfl
theorem q2292 : (Jvm.Cond.soleField "DotRunsModel" "length") ∈ lw_all := lw_g (lw_at lw_m10 22 rfl) rfl
theorem q2293 : (Jvm.Cond.lays "DotRunsModel" "DotRunsModel" "at" "I") ∈ lw_all := lw_g (lw_at lw_m10 23 rfl) rfl
theorem q2294 : (Jvm.Cond.soleField "DotRunsModel" "at") ∈ lw_all := lw_g (lw_at lw_m10 24 rfl) rfl
theorem q2295 : (Jvm.Cond.lays "DotRunsModel" "DotRunsModel" "start" "I") ∈ lw_all := lw_g (lw_at lw_m10 25 rfl) rfl
theorem q2296 : (Jvm.Cond.soleField "DotRunsModel" "start") ∈ lw_all := lw_g (lw_at lw_m10 26 rfl) rfl
theorem q2297 : (Jvm.Cond.lays "DotRunsModel" "DotRunsModel" "token" "I") ∈ lw_all := lw_g (lw_at lw_m10 27 rfl) rfl
theorem q2298 : (Jvm.Cond.soleField "DotRunsModel" "token") ∈ lw_all := lw_g (lw_at lw_m10 28 rfl) rfl
theorem q2299 : (Jvm.Cond.lays "DotRunsModel" "DotRunsModel" "number" "I") ∈ lw_all := lw_g (lw_at lw_m10 29 rfl) rfl
theorem q2300 : (Jvm.Cond.soleField "DotRunsModel" "number") ∈ lw_all := lw_g (lw_at lw_m10 30 rfl) rfl
theorem q2301 : (Jvm.Cond.lays "DotRunsModel" "DotRunsModel" "error" "I") ∈ lw_all := lw_g (lw_at lw_m10 31 rfl) rfl
theorem q2302 : (Jvm.Cond.soleField "DotRunsModel" "error") ∈ lw_all := lw_g (lw_at lw_m10 32 rfl) rfl
theorem q2303 : (Jvm.Cond.lays "DotRunsModel" "DotRunsModel" "errorAt" "I") ∈ lw_all := lw_g (lw_at lw_m10 33 rfl) rfl
theorem q2304 : (Jvm.Cond.soleField "DotRunsModel" "errorAt") ∈ lw_all := lw_g (lw_at lw_m10 34 rfl) rfl
theorem q2305 : (Jvm.Cond.laysFinal "DotRunsModel" "DotRunsModel" "words" "[B") ∈ lw_all := lw_g (lw_at lw_m10 35 rfl) rfl
theorem q2306 : (Jvm.Cond.soleField "DotRunsModel" "words") ∈ lw_all := lw_g (lw_at lw_m10 36 rfl) rfl
theorem q2307 : (Jvm.Cond.laysFinal "DotRunsModel" "DotRunsModel" "out" "[B") ∈ lw_all := lw_g (lw_at lw_m10 37 rfl) rfl
theorem q2308 : (Jvm.Cond.soleField "DotRunsModel" "out") ∈ lw_all := lw_g (lw_at lw_m10 38 rfl) rfl
theorem q2309 : (Jvm.Cond.lays "DotRunsModel" "DotRunsModel" "outLong" "I") ∈ lw_all := lw_g (lw_at lw_m10 39 rfl) rfl
theorem q2310 : (Jvm.Cond.soleField "DotRunsModel" "outLong") ∈ lw_all := lw_g (lw_at lw_m10 40 rfl) rfl
theorem q2311 : (Jvm.Cond.superclass "DotRunsModel" "java/lang/Object") ∈ lw_all := lw_g (lw_at lw_m10 41 rfl) rfl
theorem q2314 : (Jvm.Cond.instanceMethod ({ cls := "DotRunsModel", name := "thrown", desc := "()I" } : Jvm.MethodName)) ∈ lw_all := lw_g (lw_at lw_m10 44 rfl) rfl
theorem q2315 : (Jvm.Cond.selects "DotRunsModel" ({ cls := "DotRunsModel", name := "thrown", desc := "()I" } : Jvm.MethodName) ({ cls := "DotRunsModel", name := "thrown", desc := "()I" } : Jvm.MethodName)) ∈ lw_all := lw_g (lw_at lw_m10 45 rfl) rfl
theorem q2316 : (Jvm.Cond.code ({ cls := "DotRunsModel", name := "thrown", desc := "()I" } : Jvm.MethodName) prog_18_method_2_code (1 : Nat) (Option.some Jvm.ClassFile.FieldType.int)) ∈ lw_all := lw_g (lw_at lw_m10 46 rfl) rfl
theorem q2318 : (Jvm.Cond.instanceMethod ({ cls := "DotRunsModel", name := "count", desc := "(I)I" } : Jvm.MethodName)) ∈ lw_all := lw_g (lw_at lw_m10 48 rfl) rfl
theorem q2319 : (Jvm.Cond.selects "DotRunsModel" ({ cls := "DotRunsModel", name := "count", desc := "(I)I" } : Jvm.MethodName) ({ cls := "DotRunsModel", name := "count", desc := "(I)I" } : Jvm.MethodName)) ∈ lw_all := lw_g (lw_at lw_m10 49 rfl) rfl
theorem q2320 : (Jvm.Cond.code ({ cls := "DotRunsModel", name := "count", desc := "(I)I" } : Jvm.MethodName) prog_18_method_33_code (2 : Nat) (Option.some Jvm.ClassFile.FieldType.int)) ∈ lw_all := lw_g (lw_at lw_m10 50 rfl) rfl
theorem q2321 : (Jvm.Cond.methodLink "DotRunsModel" (124 : Nat) ({ cls := "DotRunsModel", name := "in", desc := "(III)Z" } : Jvm.MethodName)) ∈ lw_all := lw_g (lw_at lw_m10 51 rfl) rfl
theorem q2322 : (Jvm.Cond.static ({ cls := "DotRunsModel", name := "in", desc := "(III)Z" } : Jvm.MethodName)) ∈ lw_all := lw_g (lw_at lw_m10 52 rfl) rfl
theorem q2323 : (Jvm.Cond.code ({ cls := "DotRunsModel", name := "in", desc := "(III)Z" } : Jvm.MethodName) prog_18_method_3_code (3 : Nat) (Option.some Jvm.ClassFile.FieldType.boolean)) ∈ lw_all := lw_g (lw_at lw_m10 53 rfl) rfl
theorem q2324 : (Jvm.Cond.methodLink "DotRunsModel" (188 : Nat) ({ cls := "DotRunsModel", name := "sumOf", desc := "(I)I" } : Jvm.MethodName)) ∈ lw_all := lw_g (lw_at lw_m10 54 rfl) rfl
theorem q2325 : (Jvm.Cond.privateMethod ({ cls := "DotRunsModel", name := "sumOf", desc := "(I)I" } : Jvm.MethodName)) ∈ lw_tbl := lw_at lw_m10 55 rfl
theorem q2326 : (Jvm.Cond.instanceMethod ({ cls := "DotRunsModel", name := "sumOf", desc := "(I)I" } : Jvm.MethodName)) ∈ lw_all := lw_g (lw_at lw_m10 56 rfl) rfl
theorem q2327 : (Jvm.Cond.code ({ cls := "DotRunsModel", name := "sumOf", desc := "(I)I" } : Jvm.MethodName) prog_18_method_32_code (4 : Nat) (Option.some Jvm.ClassFile.FieldType.int)) ∈ lw_all := lw_g (lw_at lw_m10 57 rfl) rfl
theorem q2328 : (Jvm.Cond.methodLink "DotRunsModel" (179 : Nat) ({ cls := "DotRunsModel", name := "blacks", desc := "(I)I" } : Jvm.MethodName)) ∈ lw_all := lw_g (lw_at lw_m10 58 rfl) rfl
theorem q2329 : (Jvm.Cond.privateMethod ({ cls := "DotRunsModel", name := "blacks", desc := "(I)I" } : Jvm.MethodName)) ∈ lw_tbl := lw_at lw_m10 59 rfl
theorem q2330 : (Jvm.Cond.instanceMethod ({ cls := "DotRunsModel", name := "blacks", desc := "(I)I" } : Jvm.MethodName)) ∈ lw_all := lw_g (lw_at lw_m10 60 rfl) rfl
theorem q2331 : (Jvm.Cond.code ({ cls := "DotRunsModel", name := "blacks", desc := "(I)I" } : Jvm.MethodName) prog_18_method_28_code (4 : Nat) (Option.some Jvm.ClassFile.FieldType.int)) ∈ lw_all := lw_g (lw_at lw_m10 61 rfl) rfl
theorem q2332 : (Jvm.Cond.methodLink "DotRunsModel" (96 : Nat) ({ cls := "DotRunsModel", name := "dotAt", desc := "(II)I" } : Jvm.MethodName)) ∈ lw_all := lw_g (lw_at lw_m10 62 rfl) rfl
theorem q2333 : (Jvm.Cond.static ({ cls := "DotRunsModel", name := "dotAt", desc := "(II)I" } : Jvm.MethodName)) ∈ lw_all := lw_g (lw_at lw_m10 63 rfl) rfl
theorem q2334 : (Jvm.Cond.code ({ cls := "DotRunsModel", name := "dotAt", desc := "(II)I" } : Jvm.MethodName) prog_18_method_6_code (2 : Nat) (Option.some Jvm.ClassFile.FieldType.int)) ∈ lw_all := lw_g (lw_at lw_m10 64 rfl) rfl
theorem q2335 : (Jvm.Cond.methodLink "DotRunsModel" (182 : Nat) ({ cls := "DotRunsModel", name := "changes", desc := "(I)I" } : Jvm.MethodName)) ∈ lw_all := lw_g (lw_at lw_m10 65 rfl) rfl
theorem q2336 : (Jvm.Cond.privateMethod ({ cls := "DotRunsModel", name := "changes", desc := "(I)I" } : Jvm.MethodName)) ∈ lw_tbl := lw_at lw_m10 66 rfl
theorem q2337 : (Jvm.Cond.instanceMethod ({ cls := "DotRunsModel", name := "changes", desc := "(I)I" } : Jvm.MethodName)) ∈ lw_all := lw_g (lw_at lw_m10 67 rfl) rfl
theorem q2338 : (Jvm.Cond.code ({ cls := "DotRunsModel", name := "changes", desc := "(I)I" } : Jvm.MethodName) prog_18_method_30_code (4 : Nat) (Option.some Jvm.ClassFile.FieldType.int)) ∈ lw_all := lw_g (lw_at lw_m10 68 rfl) rfl
theorem q2339 : (Jvm.Cond.methodLink "DotRunsModel" (176 : Nat) ({ cls := "DotRunsModel", name := "ahead", desc := "(II)I" } : Jvm.MethodName)) ∈ lw_all := lw_g (lw_at lw_m10 69 rfl) rfl
theorem q2340 : (Jvm.Cond.privateMethod ({ cls := "DotRunsModel", name := "ahead", desc := "(II)I" } : Jvm.MethodName)) ∈ lw_tbl := lw_at lw_m10 70 rfl
theorem q2341 : (Jvm.Cond.instanceMethod ({ cls := "DotRunsModel", name := "ahead", desc := "(II)I" } : Jvm.MethodName)) ∈ lw_all := lw_g (lw_at lw_m10 71 rfl) rfl
theorem q2342 : (Jvm.Cond.code ({ cls := "DotRunsModel", name := "ahead", desc := "(II)I" } : Jvm.MethodName) prog_18_method_29_code (3 : Nat) (Option.some Jvm.ClassFile.FieldType.int)) ∈ lw_all := lw_g (lw_at lw_m10 72 rfl) rfl
theorem q2343 : (Jvm.Cond.methodLink "DotRunsModel" (173 : Nat) ({ cls := "DotRunsModel", name := "isMark", desc := "(I)Z" } : Jvm.MethodName)) ∈ lw_all := lw_g (lw_at lw_m10 73 rfl) rfl
theorem q2344 : (Jvm.Cond.privateMethod ({ cls := "DotRunsModel", name := "isMark", desc := "(I)Z" } : Jvm.MethodName)) ∈ lw_tbl := lw_at lw_m10 74 rfl
theorem q2345 : (Jvm.Cond.instanceMethod ({ cls := "DotRunsModel", name := "isMark", desc := "(I)Z" } : Jvm.MethodName)) ∈ lw_all := lw_g (lw_at lw_m10 75 rfl) rfl
theorem q2346 : (Jvm.Cond.code ({ cls := "DotRunsModel", name := "isMark", desc := "(I)Z" } : Jvm.MethodName) prog_18_method_25_code (2 : Nat) (Option.some Jvm.ClassFile.FieldType.boolean)) ∈ lw_all := lw_g (lw_at lw_m10 76 rfl) rfl
theorem q2347 : (Jvm.Cond.methodLink "DotRunsModel" (163 : Nat) ({ cls := "DotRunsModel", name := "codesLine", desc := "(I)V" } : Jvm.MethodName)) ∈ lw_all := lw_g (lw_at lw_m10 77 rfl) rfl
theorem q2348 : (Jvm.Cond.privateMethod ({ cls := "DotRunsModel", name := "codesLine", desc := "(I)V" } : Jvm.MethodName)) ∈ lw_tbl := lw_at lw_m10 78 rfl
theorem q2349 : (Jvm.Cond.instanceMethod ({ cls := "DotRunsModel", name := "codesLine", desc := "(I)V" } : Jvm.MethodName)) ∈ lw_all := lw_g (lw_at lw_m10 79 rfl) rfl
theorem q2350 : (Jvm.Cond.code ({ cls := "DotRunsModel", name := "codesLine", desc := "(I)V" } : Jvm.MethodName) prog_18_method_24_code (2 : Nat) (Option.none : Option Jvm.ClassFile.FieldType)) ∈ lw_all := lw_g (lw_at lw_m10 80 rfl) rfl
theorem q2351 : (Jvm.Cond.methodLink "DotRunsModel" (154 : Nat) ({ cls := "DotRunsModel", name := "laysLine", desc := "(I)V" } : Jvm.MethodName)) ∈ lw_all := lw_g (lw_at lw_m10 81 rfl) rfl
theorem q2352 : (Jvm.Cond.privateMethod ({ cls := "DotRunsModel", name := "laysLine", desc := "(I)V" } : Jvm.MethodName)) ∈ lw_tbl := lw_at lw_m10 82 rfl
theorem q2353 : (Jvm.Cond.instanceMethod ({ cls := "DotRunsModel", name := "laysLine", desc := "(I)V" } : Jvm.MethodName)) ∈ lw_all := lw_g (lw_at lw_m10 83 rfl) rfl
theorem q2354 : (Jvm.Cond.code ({ cls := "DotRunsModel", name := "laysLine", desc := "(I)V" } : Jvm.MethodName) prog_18_method_9_code (2 : Nat) (Option.none : Option Jvm.ClassFile.FieldType)) ∈ lw_all := lw_g (lw_at lw_m10 84 rfl) rfl
theorem q2355 : (Jvm.Cond.methodLink "DotRunsModel" (100 : Nat) ({ cls := "DotRunsModel", name := "laysUpper", desc := "([II)V" } : Jvm.MethodName)) ∈ lw_all := lw_g (lw_at lw_m10 85 rfl) rfl
theorem q2356 : (Jvm.Cond.privateMethod ({ cls := "DotRunsModel", name := "laysUpper", desc := "([II)V" } : Jvm.MethodName)) ∈ lw_tbl := lw_at lw_m10 86 rfl
theorem q2357 : (Jvm.Cond.instanceMethod ({ cls := "DotRunsModel", name := "laysUpper", desc := "([II)V" } : Jvm.MethodName)) ∈ lw_all := lw_g (lw_at lw_m10 87 rfl) rfl
theorem q2358 : (Jvm.Cond.code ({ cls := "DotRunsModel", name := "laysUpper", desc := "([II)V" } : Jvm.MethodName) prog_18_method_7_code (4 : Nat) (Option.none : Option Jvm.ClassFile.FieldType)) ∈ lw_all := lw_g (lw_at lw_m10 88 rfl) rfl
theorem q2359 : (Jvm.Cond.methodLink "DotRunsModel" (104 : Nat) ({ cls := "DotRunsModel", name := "laysLower", desc := "([II)V" } : Jvm.MethodName)) ∈ lw_all := lw_g (lw_at lw_m10 89 rfl) rfl
theorem q2360 : (Jvm.Cond.privateMethod ({ cls := "DotRunsModel", name := "laysLower", desc := "([II)V" } : Jvm.MethodName)) ∈ lw_tbl := lw_at lw_m10 90 rfl
theorem q2361 : (Jvm.Cond.instanceMethod ({ cls := "DotRunsModel", name := "laysLower", desc := "([II)V" } : Jvm.MethodName)) ∈ lw_all := lw_g (lw_at lw_m10 91 rfl) rfl
theorem q2362 : (Jvm.Cond.code ({ cls := "DotRunsModel", name := "laysLower", desc := "([II)V" } : Jvm.MethodName) prog_18_method_8_code (4 : Nat) (Option.none : Option Jvm.ClassFile.FieldType)) ∈ lw_all := lw_g (lw_at lw_m10 92 rfl) rfl
theorem q2363 : (Jvm.Cond.methodLink "DotRunsModel" (157 : Nat) ({ cls := "DotRunsModel", name := "codes", desc := "()V" } : Jvm.MethodName)) ∈ lw_all := lw_g (lw_at lw_m10 93 rfl) rfl
theorem q2364 : (Jvm.Cond.privateMethod ({ cls := "DotRunsModel", name := "codes", desc := "()V" } : Jvm.MethodName)) ∈ lw_tbl := lw_at lw_m10 94 rfl
theorem q2365 : (Jvm.Cond.instanceMethod ({ cls := "DotRunsModel", name := "codes", desc := "()V" } : Jvm.MethodName)) ∈ lw_all := lw_g (lw_at lw_m10 95 rfl) rfl
theorem q2366 : (Jvm.Cond.code ({ cls := "DotRunsModel", name := "codes", desc := "()V" } : Jvm.MethodName) prog_18_method_15_code (7 : Nat) (Option.none : Option Jvm.ClassFile.FieldType)) ∈ lw_all := lw_g (lw_at lw_m10 96 rfl) rfl
theorem q2367 : (Jvm.Cond.methodLink "DotRunsModel" (114 : Nat) ({ cls := "DotRunsModel", name := "dotBehind", desc := "(II)I" } : Jvm.MethodName)) ∈ lw_all := lw_g (lw_at lw_m10 97 rfl) rfl
theorem q2368 : (Jvm.Cond.privateMethod ({ cls := "DotRunsModel", name := "dotBehind", desc := "(II)I" } : Jvm.MethodName)) ∈ lw_tbl := lw_at lw_m10 98 rfl
theorem q2369 : (Jvm.Cond.instanceMethod ({ cls := "DotRunsModel", name := "dotBehind", desc := "(II)I" } : Jvm.MethodName)) ∈ lw_all := lw_g (lw_at lw_m10 99 rfl) rfl
theorem q2370 : (Jvm.Cond.code ({ cls := "DotRunsModel", name := "dotBehind", desc := "(II)I" } : Jvm.MethodName) prog_18_method_12_code (4 : Nat) (Option.some Jvm.ClassFile.FieldType.int)) ∈ lw_all := lw_g (lw_at lw_m10 100 rfl) rfl
theorem q2371 : (Jvm.Cond.methodLink "DotRunsModel" (117 : Nat) ({ cls := "DotRunsModel", name := "changeBehind", desc := "(II)I" } : Jvm.MethodName)) ∈ lw_all := lw_g (lw_at lw_m10 101 rfl) rfl
theorem q2372 : (Jvm.Cond.privateMethod ({ cls := "DotRunsModel", name := "changeBehind", desc := "(II)I" } : Jvm.MethodName)) ∈ lw_tbl := lw_at lw_m10 102 rfl
theorem q2373 : (Jvm.Cond.instanceMethod ({ cls := "DotRunsModel", name := "changeBehind", desc := "(II)I" } : Jvm.MethodName)) ∈ lw_all := lw_g (lw_at lw_m10 103 rfl) rfl
theorem q2374 : (Jvm.Cond.code ({ cls := "DotRunsModel", name := "changeBehind", desc := "(II)I" } : Jvm.MethodName) prog_18_method_11_code (4 : Nat) (Option.some Jvm.ClassFile.FieldType.int)) ∈ lw_all := lw_g (lw_at lw_m10 104 rfl) rfl
theorem q2375 : (Jvm.Cond.methodLink "DotRunsModel" (107 : Nat) ({ cls := "DotRunsModel", name := "isChange", desc := "(I)Z" } : Jvm.MethodName)) ∈ lw_all := lw_g (lw_at lw_m10 105 rfl) rfl
theorem q2376 : (Jvm.Cond.privateMethod ({ cls := "DotRunsModel", name := "isChange", desc := "(I)Z" } : Jvm.MethodName)) ∈ lw_tbl := lw_at lw_m10 106 rfl
theorem q2377 : (Jvm.Cond.instanceMethod ({ cls := "DotRunsModel", name := "isChange", desc := "(I)Z" } : Jvm.MethodName)) ∈ lw_all := lw_g (lw_at lw_m10 107 rfl) rfl
theorem q2378 : (Jvm.Cond.code ({ cls := "DotRunsModel", name := "isChange", desc := "(I)Z" } : Jvm.MethodName) prog_18_method_10_code (2 : Nat) (Option.some Jvm.ClassFile.FieldType.boolean)) ∈ lw_all := lw_g (lw_at lw_m10 108 rfl) rfl
theorem q2379 : (Jvm.Cond.methodLink "DotRunsModel" (120 : Nat) ({ cls := "DotRunsModel", name := "adds", desc := "(IIII)V" } : Jvm.MethodName)) ∈ lw_all := lw_g (lw_at lw_m10 109 rfl) rfl
theorem q2380 : (Jvm.Cond.privateMethod ({ cls := "DotRunsModel", name := "adds", desc := "(IIII)V" } : Jvm.MethodName)) ∈ lw_tbl := lw_at lw_m10 110 rfl
theorem q2381 : (Jvm.Cond.instanceMethod ({ cls := "DotRunsModel", name := "adds", desc := "(IIII)V" } : Jvm.MethodName)) ∈ lw_all := lw_g (lw_at lw_m10 111 rfl) rfl
theorem q2382 : (Jvm.Cond.code ({ cls := "DotRunsModel", name := "adds", desc := "(IIII)V" } : Jvm.MethodName) prog_18_method_13_code (5 : Nat) (Option.none : Option Jvm.ClassFile.FieldType)) ∈ lw_all := lw_g (lw_at lw_m10 112 rfl) rfl
theorem q2383 : (Jvm.Cond.methodLink "DotRunsModel" (128 : Nat) ({ cls := "DotRunsModel", name := "least0", desc := "(I)I" } : Jvm.MethodName)) ∈ lw_all := lw_g (lw_at lw_m10 113 rfl) rfl
theorem q2384 : (Jvm.Cond.static ({ cls := "DotRunsModel", name := "least0", desc := "(I)I" } : Jvm.MethodName)) ∈ lw_all := lw_g (lw_at lw_m10 114 rfl) rfl
theorem q2385 : (Jvm.Cond.code ({ cls := "DotRunsModel", name := "least0", desc := "(I)I" } : Jvm.MethodName) prog_18_method_14_code (1 : Nat) (Option.some Jvm.ClassFile.FieldType.int)) ∈ lw_all := lw_g (lw_at lw_m10 115 rfl) rfl
theorem q2386 : (Jvm.Cond.methodLink "DotRunsModel" (160 : Nat) ({ cls := "DotRunsModel", name := "codesAlone", desc := "()V" } : Jvm.MethodName)) ∈ lw_all := lw_g (lw_at lw_m10 116 rfl) rfl
theorem q2387 : (Jvm.Cond.privateMethod ({ cls := "DotRunsModel", name := "codesAlone", desc := "()V" } : Jvm.MethodName)) ∈ lw_tbl := lw_at lw_m10 117 rfl
theorem q2388 : (Jvm.Cond.instanceMethod ({ cls := "DotRunsModel", name := "codesAlone", desc := "()V" } : Jvm.MethodName)) ∈ lw_all := lw_g (lw_at lw_m10 118 rfl) rfl
theorem q2389 : (Jvm.Cond.code ({ cls := "DotRunsModel", name := "codesAlone", desc := "()V" } : Jvm.MethodName) prog_18_method_22_code (4 : Nat) (Option.none : Option Jvm.ClassFile.FieldType)) ∈ lw_all := lw_g (lw_at lw_m10 119 rfl) rfl
theorem q2390 : (Jvm.Cond.methodLink "DotRunsModel" (166 : Nat) ({ cls := "DotRunsModel", name := "aloneBits", desc := "()I" } : Jvm.MethodName)) ∈ lw_all := lw_g (lw_at lw_m10 120 rfl) rfl
theorem q2391 : (Jvm.Cond.privateMethod ({ cls := "DotRunsModel", name := "aloneBits", desc := "()I" } : Jvm.MethodName)) ∈ lw_tbl := lw_at lw_m10 121 rfl
theorem q2392 : (Jvm.Cond.instanceMethod ({ cls := "DotRunsModel", name := "aloneBits", desc := "()I" } : Jvm.MethodName)) ∈ lw_all := lw_g (lw_at lw_m10 122 rfl) rfl
theorem q2393 : (Jvm.Cond.code ({ cls := "DotRunsModel", name := "aloneBits", desc := "()I" } : Jvm.MethodName) prog_18_method_23_code (3 : Nat) (Option.some Jvm.ClassFile.FieldType.int)) ∈ lw_all := lw_g (lw_at lw_m10 123 rfl) rfl
theorem q2394 : (Jvm.Cond.methodLink "DotRunsModel" (132 : Nat) ({ cls := "DotRunsModel", name := "numberBits", desc := "(I)I" } : Jvm.MethodName)) ∈ lw_all := lw_g (lw_at lw_m10 124 rfl) rfl
theorem q2395 : (Jvm.Cond.static ({ cls := "DotRunsModel", name := "numberBits", desc := "(I)I" } : Jvm.MethodName)) ∈ lw_all := lw_g (lw_at lw_m10 125 rfl) rfl
theorem q2396 : (Jvm.Cond.code ({ cls := "DotRunsModel", name := "numberBits", desc := "(I)I" } : Jvm.MethodName) prog_18_method_16_code (1 : Nat) (Option.some Jvm.ClassFile.FieldType.int)) ∈ lw_all := lw_g (lw_at lw_m10 126 rfl) rfl
theorem q2397 : (Jvm.Cond.methodLink "DotRunsModel" (170 : Nat) ({ cls := "DotRunsModel", name := "codeBits", desc := "()I" } : Jvm.MethodName)) ∈ lw_all := lw_g (lw_at lw_m10 127 rfl) rfl
theorem q2398 : (Jvm.Cond.privateMethod ({ cls := "DotRunsModel", name := "codeBits", desc := "()I" } : Jvm.MethodName)) ∈ lw_tbl := lw_at lw_m10 128 rfl
theorem q2399 : (Jvm.Cond.instanceMethod ({ cls := "DotRunsModel", name := "codeBits", desc := "()I" } : Jvm.MethodName)) ∈ lw_all := lw_g (lw_at lw_m10 129 rfl) rfl
theorem q2400 : (Jvm.Cond.code ({ cls := "DotRunsModel", name := "codeBits", desc := "()I" } : Jvm.MethodName) prog_18_method_17_code (4 : Nat) (Option.some Jvm.ClassFile.FieldType.int)) ∈ lw_all := lw_g (lw_at lw_m10 130 rfl) rfl
theorem q2401 : (Jvm.Cond.methodLink "DotRunsModel" (185 : Nat) ({ cls := "DotRunsModel", name := "differs", desc := "(II)I" } : Jvm.MethodName)) ∈ lw_all := lw_g (lw_at lw_m10 131 rfl) rfl
theorem q2402 : (Jvm.Cond.privateMethod ({ cls := "DotRunsModel", name := "differs", desc := "(II)I" } : Jvm.MethodName)) ∈ lw_tbl := lw_at lw_m10 132 rfl
theorem q2403 : (Jvm.Cond.instanceMethod ({ cls := "DotRunsModel", name := "differs", desc := "(II)I" } : Jvm.MethodName)) ∈ lw_all := lw_g (lw_at lw_m10 133 rfl) rfl
theorem q2404 : (Jvm.Cond.code ({ cls := "DotRunsModel", name := "differs", desc := "(II)I" } : Jvm.MethodName) prog_18_method_31_code (5 : Nat) (Option.some Jvm.ClassFile.FieldType.int)) ∈ lw_all := lw_g (lw_at lw_m10 134 rfl) rfl
theorem q2406 : (Jvm.Cond.instanceMethod ({ cls := "DotRunsModel", name := "dot", desc := "(II)I" } : Jvm.MethodName)) ∈ lw_all := lw_g (lw_at lw_m10 136 rfl) rfl
theorem q2407 : (Jvm.Cond.selects "DotRunsModel" ({ cls := "DotRunsModel", name := "dot", desc := "(II)I" } : Jvm.MethodName) ({ cls := "DotRunsModel", name := "dot", desc := "(II)I" } : Jvm.MethodName)) ∈ lw_all := lw_g (lw_at lw_m10 137 rfl) rfl
theorem q2408 : (Jvm.Cond.code ({ cls := "DotRunsModel", name := "dot", desc := "(II)I" } : Jvm.MethodName) prog_18_method_36_code (3 : Nat) (Option.some Jvm.ClassFile.FieldType.int)) ∈ lw_all := lw_g (lw_at lw_m10 138 rfl) rfl
theorem q2409 : (Jvm.Cond.methodLink "DotRunsModel" (197 : Nat) ({ cls := "DotRunsModel", name := "isDot", desc := "(II)Z" } : Jvm.MethodName)) ∈ lw_all := lw_g (lw_at lw_m10 139 rfl) rfl
theorem q2410 : (Jvm.Cond.privateMethod ({ cls := "DotRunsModel", name := "isDot", desc := "(II)Z" } : Jvm.MethodName)) ∈ lw_tbl := lw_at lw_m10 140 rfl
theorem q2411 : (Jvm.Cond.instanceMethod ({ cls := "DotRunsModel", name := "isDot", desc := "(II)Z" } : Jvm.MethodName)) ∈ lw_all := lw_g (lw_at lw_m10 141 rfl) rfl
theorem q2412 : (Jvm.Cond.code ({ cls := "DotRunsModel", name := "isDot", desc := "(II)Z" } : Jvm.MethodName) prog_18_method_35_code (3 : Nat) (Option.some Jvm.ClassFile.FieldType.boolean)) ∈ lw_all := lw_g (lw_at lw_m10 142 rfl) rfl
theorem q2413 : (Jvm.Cond.methodLink "DotRunsModel" (194 : Nat) ({ cls := "DotRunsModel", name := "isLine", desc := "(I)Z" } : Jvm.MethodName)) ∈ lw_all := lw_g (lw_at lw_m10 143 rfl) rfl
theorem q2414 : (Jvm.Cond.privateMethod ({ cls := "DotRunsModel", name := "isLine", desc := "(I)Z" } : Jvm.MethodName)) ∈ lw_tbl := lw_at lw_m10 144 rfl
theorem q2415 : (Jvm.Cond.instanceMethod ({ cls := "DotRunsModel", name := "isLine", desc := "(I)Z" } : Jvm.MethodName)) ∈ lw_all := lw_g (lw_at lw_m10 145 rfl) rfl
theorem q2416 : (Jvm.Cond.code ({ cls := "DotRunsModel", name := "isLine", desc := "(I)Z" } : Jvm.MethodName) prog_18_method_34_code (2 : Nat) (Option.some Jvm.ClassFile.FieldType.boolean)) ∈ lw_all := lw_g (lw_at lw_m10 146 rfl) rfl
theorem q2418 : (Jvm.Cond.instanceMethod ({ cls := "DotRunsModel", name := "line", desc := "(II)I" } : Jvm.MethodName)) ∈ lw_all := lw_g (lw_at lw_m10 148 rfl) rfl
theorem q2419 : (Jvm.Cond.selects "DotRunsModel" ({ cls := "DotRunsModel", name := "line", desc := "(II)I" } : Jvm.MethodName) ({ cls := "DotRunsModel", name := "line", desc := "(II)I" } : Jvm.MethodName)) ∈ lw_all := lw_g (lw_at lw_m10 149 rfl) rfl
theorem q2420 : (Jvm.Cond.code ({ cls := "DotRunsModel", name := "line", desc := "(II)I" } : Jvm.MethodName) prog_18_method_38_code (3 : Nat) (Option.some Jvm.ClassFile.FieldType.int)) ∈ lw_all := lw_g (lw_at lw_m10 150 rfl) rfl
theorem q2421 : (Jvm.Cond.methodLink "DotRunsModel" (201 : Nat) ({ cls := "DotRunsModel", name := "sentBits", desc := "(I)I" } : Jvm.MethodName)) ∈ lw_all := lw_g (lw_at lw_m10 151 rfl) rfl
theorem q2422 : (Jvm.Cond.privateMethod ({ cls := "DotRunsModel", name := "sentBits", desc := "(I)I" } : Jvm.MethodName)) ∈ lw_tbl := lw_at lw_m10 152 rfl
theorem q2423 : (Jvm.Cond.instanceMethod ({ cls := "DotRunsModel", name := "sentBits", desc := "(I)I" } : Jvm.MethodName)) ∈ lw_all := lw_g (lw_at lw_m10 153 rfl) rfl
theorem q2424 : (Jvm.Cond.code ({ cls := "DotRunsModel", name := "sentBits", desc := "(I)I" } : Jvm.MethodName) prog_18_method_26_code (3 : Nat) (Option.some Jvm.ClassFile.FieldType.int)) ∈ lw_all := lw_g (lw_at lw_m10 154 rfl) rfl
theorem q2425 : (Jvm.Cond.methodLink "DotRunsModel" (204 : Nat) ({ cls := "DotRunsModel", name := "markUpTo", desc := "(I)I" } : Jvm.MethodName)) ∈ lw_all := lw_g (lw_at lw_m10 155 rfl) rfl
theorem q2426 : (Jvm.Cond.privateMethod ({ cls := "DotRunsModel", name := "markUpTo", desc := "(I)I" } : Jvm.MethodName)) ∈ lw_tbl := lw_at lw_m10 156 rfl
theorem q2427 : (Jvm.Cond.instanceMethod ({ cls := "DotRunsModel", name := "markUpTo", desc := "(I)I" } : Jvm.MethodName)) ∈ lw_all := lw_g (lw_at lw_m10 157 rfl) rfl
theorem q2428 : (Jvm.Cond.code ({ cls := "DotRunsModel", name := "markUpTo", desc := "(I)I" } : Jvm.MethodName) prog_18_method_27_code (3 : Nat) (Option.some Jvm.ClassFile.FieldType.int)) ∈ lw_all := lw_g (lw_at lw_m10 158 rfl) rfl
theorem q2429 : (Jvm.Cond.methodLink "DotRunsModel" (207 : Nat) ({ cls := "DotRunsModel", name := "modesOf", desc := "(I)I" } : Jvm.MethodName)) ∈ lw_all := lw_g (lw_at lw_m10 159 rfl) rfl
theorem q2430 : (Jvm.Cond.privateMethod ({ cls := "DotRunsModel", name := "modesOf", desc := "(I)I" } : Jvm.MethodName)) ∈ lw_tbl := lw_at lw_m10 160 rfl
theorem q2431 : (Jvm.Cond.instanceMethod ({ cls := "DotRunsModel", name := "modesOf", desc := "(I)I" } : Jvm.MethodName)) ∈ lw_all := lw_g (lw_at lw_m10 161 rfl) rfl
theorem q2432 : (Jvm.Cond.code ({ cls := "DotRunsModel", name := "modesOf", desc := "(I)I" } : Jvm.MethodName) prog_18_method_37_code (4 : Nat) (Option.some Jvm.ClassFile.FieldType.int)) ∈ lw_all := lw_g (lw_at lw_m10 162 rfl) rfl
theorem q2434 : (Jvm.Cond.instanceMethod ({ cls := "DotRunsModel", name := "run", desc := "(II)I" } : Jvm.MethodName)) ∈ lw_all := lw_g (lw_at lw_m10 164 rfl) rfl
theorem q2435 : (Jvm.Cond.selects "DotRunsModel" ({ cls := "DotRunsModel", name := "run", desc := "(II)I" } : Jvm.MethodName) ({ cls := "DotRunsModel", name := "run", desc := "(II)I" } : Jvm.MethodName)) ∈ lw_all := lw_g (lw_at lw_m10 165 rfl) rfl
theorem q2436 : (Jvm.Cond.code ({ cls := "DotRunsModel", name := "run", desc := "(II)I" } : Jvm.MethodName) prog_18_method_39_code (3 : Nat) (Option.some Jvm.ClassFile.FieldType.int)) ∈ lw_all := lw_g (lw_at lw_m10 166 rfl) rfl
theorem q2438 : (Jvm.Cond.instanceMethod ({ cls := "DotRunsModel", name := "mode", desc := "(III)I" } : Jvm.MethodName)) ∈ lw_all := lw_g (lw_at lw_m10 168 rfl) rfl
theorem q2439 : (Jvm.Cond.selects "DotRunsModel" ({ cls := "DotRunsModel", name := "mode", desc := "(III)I" } : Jvm.MethodName) ({ cls := "DotRunsModel", name := "mode", desc := "(III)I" } : Jvm.MethodName)) ∈ lw_all := lw_g (lw_at lw_m10 169 rfl) rfl
theorem q2440 : (Jvm.Cond.code ({ cls := "DotRunsModel", name := "mode", desc := "(III)I" } : Jvm.MethodName) prog_18_method_40_code (4 : Nat) (Option.some Jvm.ClassFile.FieldType.int)) ∈ lw_all := lw_g (lw_at lw_m10 170 rfl) rfl
theorem q2442 : (Jvm.Cond.instanceMethod ({ cls := "DotRunsModel", name := "change", desc := "(II)I" } : Jvm.MethodName)) ∈ lw_all := lw_g (lw_at lw_m10 172 rfl) rfl
theorem q2443 : (Jvm.Cond.selects "DotRunsModel" ({ cls := "DotRunsModel", name := "change", desc := "(II)I" } : Jvm.MethodName) ({ cls := "DotRunsModel", name := "change", desc := "(II)I" } : Jvm.MethodName)) ∈ lw_all := lw_g (lw_at lw_m10 173 rfl) rfl
theorem q2444 : (Jvm.Cond.code ({ cls := "DotRunsModel", name := "change", desc := "(II)I" } : Jvm.MethodName) prog_18_method_41_code (6 : Nat) (Option.some Jvm.ClassFile.FieldType.int)) ∈ lw_all := lw_g (lw_at lw_m10 174 rfl) rfl
theorem q2446 : (Jvm.Cond.instanceMethod ({ cls := "DotRunsModel", name := "longest", desc := "(I)I" } : Jvm.MethodName)) ∈ lw_all := lw_g (lw_at lw_m10 176 rfl) rfl
theorem q2447 : (Jvm.Cond.selects "DotRunsModel" ({ cls := "DotRunsModel", name := "longest", desc := "(I)I" } : Jvm.MethodName) ({ cls := "DotRunsModel", name := "longest", desc := "(I)I" } : Jvm.MethodName)) ∈ lw_all := lw_g (lw_at lw_m10 177 rfl) rfl
theorem q2448 : (Jvm.Cond.code ({ cls := "DotRunsModel", name := "longest", desc := "(I)I" } : Jvm.MethodName) prog_18_method_44_code (6 : Nat) (Option.some Jvm.ClassFile.FieldType.int)) ∈ lw_all := lw_g (lw_at lw_m10 178 rfl) rfl
theorem q2449 : (Jvm.Cond.methodLink "DotRunsModel" (210 : Nat) ({ cls := "DotRunsModel", name := "rowFrom", desc := "(III)I" } : Jvm.MethodName)) ∈ lw_all := lw_g (lw_at lw_m10 179 rfl) rfl
theorem q2450 : (Jvm.Cond.privateMethod ({ cls := "DotRunsModel", name := "rowFrom", desc := "(III)I" } : Jvm.MethodName)) ∈ lw_tbl := lw_at lw_m10 180 rfl
theorem q2451 : (Jvm.Cond.instanceMethod ({ cls := "DotRunsModel", name := "rowFrom", desc := "(III)I" } : Jvm.MethodName)) ∈ lw_all := lw_g (lw_at lw_m10 181 rfl) rfl
theorem q2452 : (Jvm.Cond.code ({ cls := "DotRunsModel", name := "rowFrom", desc := "(III)I" } : Jvm.MethodName) prog_18_method_42_code (5 : Nat) (Option.some Jvm.ClassFile.FieldType.int)) ∈ lw_all := lw_g (lw_at lw_m10 182 rfl) rfl
theorem q2454 : (Jvm.Cond.instanceMethod ({ cls := "DotRunsModel", name := "runsOf", desc := "(II)I" } : Jvm.MethodName)) ∈ lw_all := lw_g (lw_at lw_m10 184 rfl) rfl
theorem q2455 : (Jvm.Cond.selects "DotRunsModel" ({ cls := "DotRunsModel", name := "runsOf", desc := "(II)I" } : Jvm.MethodName) ({ cls := "DotRunsModel", name := "runsOf", desc := "(II)I" } : Jvm.MethodName)) ∈ lw_all := lw_g (lw_at lw_m10 185 rfl) rfl
theorem q2456 : (Jvm.Cond.code ({ cls := "DotRunsModel", name := "runsOf", desc := "(II)I" } : Jvm.MethodName) prog_18_method_45_code (6 : Nat) (Option.some Jvm.ClassFile.FieldType.int)) ∈ lw_all := lw_g (lw_at lw_m10 186 rfl) rfl
theorem q2457 : (Jvm.Cond.methodLink "DotRunsModel" (214 : Nat) ({ cls := "DotRunsModel", name := "beginsRow", desc := "(III)Z" } : Jvm.MethodName)) ∈ lw_all := lw_g (lw_at lw_m10 187 rfl) rfl
theorem q2458 : (Jvm.Cond.privateMethod ({ cls := "DotRunsModel", name := "beginsRow", desc := "(III)Z" } : Jvm.MethodName)) ∈ lw_tbl := lw_at lw_m10 188 rfl
theorem q2459 : (Jvm.Cond.instanceMethod ({ cls := "DotRunsModel", name := "beginsRow", desc := "(III)Z" } : Jvm.MethodName)) ∈ lw_all := lw_g (lw_at lw_m10 189 rfl) rfl
theorem q2460 : (Jvm.Cond.code ({ cls := "DotRunsModel", name := "beginsRow", desc := "(III)Z" } : Jvm.MethodName) prog_18_method_43_code (4 : Nat) (Option.some Jvm.ClassFile.FieldType.boolean)) ∈ lw_all := lw_g (lw_at lw_m10 190 rfl) rfl
theorem q2462 : (Jvm.Cond.instanceMethod ({ cls := "DotRunsModel", name := "readBelow", desc := "(II)I" } : Jvm.MethodName)) ∈ lw_all := lw_g (lw_at lw_m10 192 rfl) rfl
theorem q2463 : (Jvm.Cond.selects "DotRunsModel" ({ cls := "DotRunsModel", name := "readBelow", desc := "(II)I" } : Jvm.MethodName) ({ cls := "DotRunsModel", name := "readBelow", desc := "(II)I" } : Jvm.MethodName)) ∈ lw_all := lw_g (lw_at lw_m10 193 rfl) rfl
theorem q2464 : (Jvm.Cond.code ({ cls := "DotRunsModel", name := "readBelow", desc := "(II)I" } : Jvm.MethodName) prog_18_method_46_code (5 : Nat) (Option.some Jvm.ClassFile.FieldType.int)) ∈ lw_all := lw_g (lw_at lw_m10 194 rfl) rfl
theorem q2465 : (Jvm.Cond.methodLink "DotRunsModel" (217 : Nat) ({ cls := "DotRunsModel", name := "readsCode", desc := "()Z" } : Jvm.MethodName)) ∈ lw_all := lw_g (lw_at lw_m10 195 rfl) rfl
theorem q2466 : (Jvm.Cond.privateMethod ({ cls := "DotRunsModel", name := "readsCode", desc := "()Z" } : Jvm.MethodName)) ∈ lw_tbl := lw_at lw_m10 196 rfl
theorem q2467 : (Jvm.Cond.instanceMethod ({ cls := "DotRunsModel", name := "readsCode", desc := "()Z" } : Jvm.MethodName)) ∈ lw_all := lw_g (lw_at lw_m10 197 rfl) rfl
theorem q2468 : (Jvm.Cond.code ({ cls := "DotRunsModel", name := "readsCode", desc := "()Z" } : Jvm.MethodName) prog_18_method_21_code (3 : Nat) (Option.some Jvm.ClassFile.FieldType.boolean)) ∈ lw_all := lw_g (lw_at lw_m10 198 rfl) rfl
theorem q2469 : (Jvm.Cond.methodLink "DotRunsModel" (145 : Nat) ({ cls := "DotRunsModel", name := "startsReading", desc := "()V" } : Jvm.MethodName)) ∈ lw_all := lw_g (lw_at lw_m10 199 rfl) rfl
theorem q2470 : (Jvm.Cond.privateMethod ({ cls := "DotRunsModel", name := "startsReading", desc := "()V" } : Jvm.MethodName)) ∈ lw_tbl := lw_at lw_m10 200 rfl
theorem q2471 : (Jvm.Cond.instanceMethod ({ cls := "DotRunsModel", name := "startsReading", desc := "()V" } : Jvm.MethodName)) ∈ lw_all := lw_g (lw_at lw_m10 201 rfl) rfl
theorem q2472 : (Jvm.Cond.code ({ cls := "DotRunsModel", name := "startsReading", desc := "()V" } : Jvm.MethodName) prog_18_method_18_code (2 : Nat) (Option.none : Option Jvm.ClassFile.FieldType)) ∈ lw_all := lw_g (lw_at lw_m10 202 rfl) rfl
theorem q2473 : (Jvm.Cond.methodLink "DotRunsModel" (148 : Nat) ({ cls := "DotRunsModel", name := "readsMode", desc := "(III)Z" } : Jvm.MethodName)) ∈ lw_all := lw_g (lw_at lw_m10 203 rfl) rfl
theorem q2474 : (Jvm.Cond.privateMethod ({ cls := "DotRunsModel", name := "readsMode", desc := "(III)Z" } : Jvm.MethodName)) ∈ lw_tbl := lw_at lw_m10 204 rfl
theorem q2475 : (Jvm.Cond.instanceMethod ({ cls := "DotRunsModel", name := "readsMode", desc := "(III)Z" } : Jvm.MethodName)) ∈ lw_all := lw_g (lw_at lw_m10 205 rfl) rfl
theorem q2476 : (Jvm.Cond.code ({ cls := "DotRunsModel", name := "readsMode", desc := "(III)Z" } : Jvm.MethodName) prog_18_method_20_code (8 : Nat) (Option.some Jvm.ClassFile.FieldType.boolean)) ∈ lw_all := lw_g (lw_at lw_m10 206 rfl) rfl
theorem q2477 : (Jvm.Cond.methodLink "DotRunsModel" (141 : Nat) ({ cls := "DotRunsModel", name := "paints", desc := "(III)V" } : Jvm.MethodName)) ∈ lw_all := lw_g (lw_at lw_m10 207 rfl) rfl
theorem q2478 : (Jvm.Cond.privateMethod ({ cls := "DotRunsModel", name := "paints", desc := "(III)V" } : Jvm.MethodName)) ∈ lw_tbl := lw_at lw_m10 208 rfl
theorem q2479 : (Jvm.Cond.instanceMethod ({ cls := "DotRunsModel", name := "paints", desc := "(III)V" } : Jvm.MethodName)) ∈ lw_all := lw_g (lw_at lw_m10 209 rfl) rfl
theorem q2480 : (Jvm.Cond.code ({ cls := "DotRunsModel", name := "paints", desc := "(III)V" } : Jvm.MethodName) prog_18_method_19_code (5 : Nat) (Option.none : Option Jvm.ClassFile.FieldType)) ∈ lw_all := lw_g (lw_at lw_m10 210 rfl) rfl
theorem q2482 : (Jvm.Cond.instanceMethod ({ cls := "DotRunsModel", name := "set", desc := "(II)I" } : Jvm.MethodName)) ∈ lw_all := lw_g (lw_at lw_m10 212 rfl) rfl
theorem q2483 : (Jvm.Cond.selects "DotRunsModel" ({ cls := "DotRunsModel", name := "set", desc := "(II)I" } : Jvm.MethodName) ({ cls := "DotRunsModel", name := "set", desc := "(II)I" } : Jvm.MethodName)) ∈ lw_all := lw_g (lw_at lw_m10 213 rfl) rfl
theorem q2484 : (Jvm.Cond.code ({ cls := "DotRunsModel", name := "set", desc := "(II)I" } : Jvm.MethodName) prog_18_method_50_code (4 : Nat) (Option.some Jvm.ClassFile.FieldType.int)) ∈ lw_all := lw_g (lw_at lw_m10 214 rfl) rfl
theorem q2485 : (Jvm.Cond.methodLink "DotRunsModel" (224 : Nat) ({ cls := "DotRunsModel", name := "isSetting", desc := "(II)Z" } : Jvm.MethodName)) ∈ lw_all := lw_g (lw_at lw_m10 215 rfl) rfl
theorem q2486 : (Jvm.Cond.static ({ cls := "DotRunsModel", name := "isSetting", desc := "(II)Z" } : Jvm.MethodName)) ∈ lw_all := lw_g (lw_at lw_m10 216 rfl) rfl
theorem q2487 : (Jvm.Cond.code ({ cls := "DotRunsModel", name := "isSetting", desc := "(II)Z" } : Jvm.MethodName) prog_18_method_49_code (2 : Nat) (Option.some Jvm.ClassFile.FieldType.boolean)) ∈ lw_all := lw_g (lw_at lw_m10 217 rfl) rfl
theorem q2488 : (Jvm.Cond.methodLink "DotRunsModel" (221 : Nat) ({ cls := "DotRunsModel", name := "highOf", desc := "(I)I" } : Jvm.MethodName)) ∈ lw_all := lw_g (lw_at lw_m10 218 rfl) rfl
theorem q2489 : (Jvm.Cond.static ({ cls := "DotRunsModel", name := "highOf", desc := "(I)I" } : Jvm.MethodName)) ∈ lw_all := lw_g (lw_at lw_m10 219 rfl) rfl
theorem q2490 : (Jvm.Cond.code ({ cls := "DotRunsModel", name := "highOf", desc := "(I)I" } : Jvm.MethodName) prog_18_method_48_code (1 : Nat) (Option.some Jvm.ClassFile.FieldType.int)) ∈ lw_all := lw_g (lw_at lw_m10 220 rfl) rfl
theorem q2491 : (Jvm.Cond.methodLink "DotRunsModel" (227 : Nat) ({ cls := "DotRunsModel", name := "keeps", desc := "()V" } : Jvm.MethodName)) ∈ lw_all := lw_g (lw_at lw_m10 221 rfl) rfl
theorem q2492 : (Jvm.Cond.privateMethod ({ cls := "DotRunsModel", name := "keeps", desc := "()V" } : Jvm.MethodName)) ∈ lw_tbl := lw_at lw_m10 222 rfl
theorem q2493 : (Jvm.Cond.instanceMethod ({ cls := "DotRunsModel", name := "keeps", desc := "()V" } : Jvm.MethodName)) ∈ lw_all := lw_g (lw_at lw_m10 223 rfl) rfl
theorem q2494 : (Jvm.Cond.code ({ cls := "DotRunsModel", name := "keeps", desc := "()V" } : Jvm.MethodName) prog_18_method_47_code (2 : Nat) (Option.none : Option Jvm.ClassFile.FieldType)) ∈ lw_all := lw_g (lw_at lw_m10 224 rfl) rfl
theorem q2496 : (Jvm.Cond.instanceMethod ({ cls := "DotRunsModel", name := "lose", desc := "(II)I" } : Jvm.MethodName)) ∈ lw_all := lw_g (lw_at lw_m10 226 rfl) rfl
theorem q2497 : (Jvm.Cond.selects "DotRunsModel" ({ cls := "DotRunsModel", name := "lose", desc := "(II)I" } : Jvm.MethodName) ({ cls := "DotRunsModel", name := "lose", desc := "(II)I" } : Jvm.MethodName)) ∈ lw_all := lw_g (lw_at lw_m10 227 rfl) rfl
theorem q2498 : (Jvm.Cond.code ({ cls := "DotRunsModel", name := "lose", desc := "(II)I" } : Jvm.MethodName) prog_18_method_51_code (4 : Nat) (Option.some Jvm.ClassFile.FieldType.int)) ∈ lw_all := lw_g (lw_at lw_m10 228 rfl) rfl
theorem q2500 : (Jvm.Cond.instanceMethod ({ cls := "DotRunsModel", name := "addLine", desc := "(II)I" } : Jvm.MethodName)) ∈ lw_all := lw_g (lw_at lw_m10 230 rfl) rfl
theorem q2501 : (Jvm.Cond.selects "DotRunsModel" ({ cls := "DotRunsModel", name := "addLine", desc := "(II)I" } : Jvm.MethodName) ({ cls := "DotRunsModel", name := "addLine", desc := "(II)I" } : Jvm.MethodName)) ∈ lw_all := lw_g (lw_at lw_m10 231 rfl) rfl
theorem q2502 : (Jvm.Cond.code ({ cls := "DotRunsModel", name := "addLine", desc := "(II)I" } : Jvm.MethodName) prog_18_method_55_code (5 : Nat) (Option.some Jvm.ClassFile.FieldType.int)) ∈ lw_all := lw_g (lw_at lw_m10 232 rfl) rfl
theorem q2503 : (Jvm.Cond.methodLink "DotRunsModel" (230 : Nat) ({ cls := "DotRunsModel", name := "isPart", desc := "(II)Z" } : Jvm.MethodName)) ∈ lw_all := lw_g (lw_at lw_m10 233 rfl) rfl
theorem q2504 : (Jvm.Cond.privateMethod ({ cls := "DotRunsModel", name := "isPart", desc := "(II)Z" } : Jvm.MethodName)) ∈ lw_tbl := lw_at lw_m10 234 rfl
theorem q2505 : (Jvm.Cond.instanceMethod ({ cls := "DotRunsModel", name := "isPart", desc := "(II)Z" } : Jvm.MethodName)) ∈ lw_all := lw_g (lw_at lw_m10 235 rfl) rfl
theorem q2506 : (Jvm.Cond.code ({ cls := "DotRunsModel", name := "isPart", desc := "(II)Z" } : Jvm.MethodName) prog_18_method_52_code (3 : Nat) (Option.some Jvm.ClassFile.FieldType.boolean)) ∈ lw_all := lw_g (lw_at lw_m10 236 rfl) rfl
theorem q2507 : (Jvm.Cond.methodLink "DotRunsModel" (233 : Nat) ({ cls := "DotRunsModel", name := "clearsLine", desc := "(I)V" } : Jvm.MethodName)) ∈ lw_all := lw_g (lw_at lw_m10 237 rfl) rfl
theorem q2508 : (Jvm.Cond.privateMethod ({ cls := "DotRunsModel", name := "clearsLine", desc := "(I)V" } : Jvm.MethodName)) ∈ lw_tbl := lw_at lw_m10 238 rfl
theorem q2509 : (Jvm.Cond.instanceMethod ({ cls := "DotRunsModel", name := "clearsLine", desc := "(I)V" } : Jvm.MethodName)) ∈ lw_all := lw_g (lw_at lw_m10 239 rfl) rfl
theorem q2510 : (Jvm.Cond.code ({ cls := "DotRunsModel", name := "clearsLine", desc := "(I)V" } : Jvm.MethodName) prog_18_method_53_code (3 : Nat) (Option.none : Option Jvm.ClassFile.FieldType)) ∈ lw_all := lw_g (lw_at lw_m11 0 rfl) rfl
theorem q2511 : (Jvm.Cond.methodLink "DotRunsModel" (236 : Nat) ({ cls := "DotRunsModel", name := "paintsLine", desc := "(IIII)I" } : Jvm.MethodName)) ∈ lw_all := lw_g (lw_at lw_m11 1 rfl) rfl
theorem q2512 : (Jvm.Cond.privateMethod ({ cls := "DotRunsModel", name := "paintsLine", desc := "(IIII)I" } : Jvm.MethodName)) ∈ lw_tbl := lw_at lw_m11 2 rfl
theorem q2513 : (Jvm.Cond.instanceMethod ({ cls := "DotRunsModel", name := "paintsLine", desc := "(IIII)I" } : Jvm.MethodName)) ∈ lw_all := lw_g (lw_at lw_m11 3 rfl) rfl
theorem q2514 : (Jvm.Cond.code ({ cls := "DotRunsModel", name := "paintsLine", desc := "(IIII)I" } : Jvm.MethodName) prog_18_method_54_code (7 : Nat) (Option.some Jvm.ClassFile.FieldType.int)) ∈ lw_all := lw_g (lw_at lw_m11 4 rfl) rfl
theorem q2516 : (Jvm.Cond.instanceMethod ({ cls := "DotRunsModel", name := "paint", desc := "(IIII)I" } : Jvm.MethodName)) ∈ lw_all := lw_g (lw_at lw_m11 6 rfl) rfl
theorem q2517 : (Jvm.Cond.selects "DotRunsModel" ({ cls := "DotRunsModel", name := "paint", desc := "(IIII)I" } : Jvm.MethodName) ({ cls := "DotRunsModel", name := "paint", desc := "(IIII)I" } : Jvm.MethodName)) ∈ lw_all := lw_g (lw_at lw_m11 7 rfl) rfl
theorem q2518 : (Jvm.Cond.code ({ cls := "DotRunsModel", name := "paint", desc := "(IIII)I" } : Jvm.MethodName) prog_18_method_56_code (5 : Nat) (Option.some Jvm.ClassFile.FieldType.int)) ∈ lw_all := lw_g (lw_at lw_m11 8 rfl) rfl
theorem q2520 : (Jvm.Cond.instanceMethod ({ cls := "DotRunsModel", name := "shift", desc := "(II)I" } : Jvm.MethodName)) ∈ lw_all := lw_g (lw_at lw_m11 10 rfl) rfl
theorem q2521 : (Jvm.Cond.selects "DotRunsModel" ({ cls := "DotRunsModel", name := "shift", desc := "(II)I" } : Jvm.MethodName) ({ cls := "DotRunsModel", name := "shift", desc := "(II)I" } : Jvm.MethodName)) ∈ lw_all := lw_g (lw_at lw_m11 11 rfl) rfl
theorem q2522 : (Jvm.Cond.code ({ cls := "DotRunsModel", name := "shift", desc := "(II)I" } : Jvm.MethodName) prog_18_method_57_code (4 : Nat) (Option.some Jvm.ClassFile.FieldType.int)) ∈ lw_all := lw_g (lw_at lw_m11 12 rfl) rfl
theorem q2524 : (Jvm.Cond.instanceMethod ({ cls := "DotRunsModel", name := "copyLine", desc := "(II)I" } : Jvm.MethodName)) ∈ lw_all := lw_g (lw_at lw_m11 14 rfl) rfl
theorem q2525 : (Jvm.Cond.selects "DotRunsModel" ({ cls := "DotRunsModel", name := "copyLine", desc := "(II)I" } : Jvm.MethodName) ({ cls := "DotRunsModel", name := "copyLine", desc := "(II)I" } : Jvm.MethodName)) ∈ lw_all := lw_g (lw_at lw_m11 15 rfl) rfl
theorem q2526 : (Jvm.Cond.code ({ cls := "DotRunsModel", name := "copyLine", desc := "(II)I" } : Jvm.MethodName) prog_18_method_59_code (4 : Nat) (Option.some Jvm.ClassFile.FieldType.int)) ∈ lw_all := lw_g (lw_at lw_m11 16 rfl) rfl
theorem q2527 : (Jvm.Cond.methodLink "DotRunsModel" (240 : Nat) ({ cls := "DotRunsModel", name := "movesLine", desc := "(II)V" } : Jvm.MethodName)) ∈ lw_all := lw_g (lw_at lw_m11 17 rfl) rfl
theorem q2528 : (Jvm.Cond.privateMethod ({ cls := "DotRunsModel", name := "movesLine", desc := "(II)V" } : Jvm.MethodName)) ∈ lw_tbl := lw_at lw_m11 18 rfl
theorem q2529 : (Jvm.Cond.instanceMethod ({ cls := "DotRunsModel", name := "movesLine", desc := "(II)V" } : Jvm.MethodName)) ∈ lw_all := lw_g (lw_at lw_m11 19 rfl) rfl
theorem q2530 : (Jvm.Cond.code ({ cls := "DotRunsModel", name := "movesLine", desc := "(II)V" } : Jvm.MethodName) prog_18_method_58_code (4 : Nat) (Option.none : Option Jvm.ClassFile.FieldType)) ∈ lw_all := lw_g (lw_at lw_m11 20 rfl) rfl
theorem q2532 : (Jvm.Cond.instanceMethod ({ cls := "DotRunsModel", name := "removeLine", desc := "(I)I" } : Jvm.MethodName)) ∈ lw_all := lw_g (lw_at lw_m11 22 rfl) rfl
theorem q2533 : (Jvm.Cond.selects "DotRunsModel" ({ cls := "DotRunsModel", name := "removeLine", desc := "(I)I" } : Jvm.MethodName) ({ cls := "DotRunsModel", name := "removeLine", desc := "(I)I" } : Jvm.MethodName)) ∈ lw_all := lw_g (lw_at lw_m11 23 rfl) rfl
theorem q2534 : (Jvm.Cond.code ({ cls := "DotRunsModel", name := "removeLine", desc := "(I)I" } : Jvm.MethodName) prog_18_method_60_code (3 : Nat) (Option.some Jvm.ClassFile.FieldType.int)) ∈ lw_all := lw_g (lw_at lw_m11 24 rfl) rfl
theorem q2536 : (Jvm.Cond.instanceMethod ({ cls := "DotRunsModel", name := "invert", desc := "(I)I" } : Jvm.MethodName)) ∈ lw_all := lw_g (lw_at lw_m11 26 rfl) rfl
theorem q2537 : (Jvm.Cond.selects "DotRunsModel" ({ cls := "DotRunsModel", name := "invert", desc := "(I)I" } : Jvm.MethodName) ({ cls := "DotRunsModel", name := "invert", desc := "(I)I" } : Jvm.MethodName)) ∈ lw_all := lw_g (lw_at lw_m11 27 rfl) rfl
theorem q2538 : (Jvm.Cond.code ({ cls := "DotRunsModel", name := "invert", desc := "(I)I" } : Jvm.MethodName) prog_18_method_61_code (3 : Nat) (Option.some Jvm.ClassFile.FieldType.int)) ∈ lw_all := lw_g (lw_at lw_m11 28 rfl) rfl
theorem q2540 : (Jvm.Cond.instanceMethod ({ cls := "DotRunsModel", name := "swap", desc := "(II)I" } : Jvm.MethodName)) ∈ lw_all := lw_g (lw_at lw_m11 30 rfl) rfl
theorem q2541 : (Jvm.Cond.selects "DotRunsModel" ({ cls := "DotRunsModel", name := "swap", desc := "(II)I" } : Jvm.MethodName) ({ cls := "DotRunsModel", name := "swap", desc := "(II)I" } : Jvm.MethodName)) ∈ lw_all := lw_g (lw_at lw_m11 31 rfl) rfl
theorem q2542 : (Jvm.Cond.code ({ cls := "DotRunsModel", name := "swap", desc := "(II)I" } : Jvm.MethodName) prog_18_method_62_code (5 : Nat) (Option.some Jvm.ClassFile.FieldType.int)) ∈ lw_all := lw_g (lw_at lw_m11 32 rfl) rfl
theorem q2544 : (Jvm.Cond.instanceMethod ({ cls := "DotRunsModel", name := "sent", desc := "(I)I" } : Jvm.MethodName)) ∈ lw_all := lw_g (lw_at lw_m11 34 rfl) rfl
theorem q2545 : (Jvm.Cond.selects "DotRunsModel" ({ cls := "DotRunsModel", name := "sent", desc := "(I)I" } : Jvm.MethodName) ({ cls := "DotRunsModel", name := "sent", desc := "(I)I" } : Jvm.MethodName)) ∈ lw_all := lw_g (lw_at lw_m11 35 rfl) rfl
theorem q2546 : (Jvm.Cond.code ({ cls := "DotRunsModel", name := "sent", desc := "(I)I" } : Jvm.MethodName) prog_18_method_72_code (2 : Nat) (Option.some Jvm.ClassFile.FieldType.int)) ∈ lw_all := lw_g (lw_at lw_m11 36 rfl) rfl
theorem q2547 : (Jvm.Cond.methodLink "DotRunsModel" (277 : Nat) ({ cls := "DotRunsModel", name := "sendsPage", desc := "()V" } : Jvm.MethodName)) ∈ lw_all := lw_g (lw_at lw_m11 37 rfl) rfl
theorem q2548 : (Jvm.Cond.privateMethod ({ cls := "DotRunsModel", name := "sendsPage", desc := "()V" } : Jvm.MethodName)) ∈ lw_tbl := lw_at lw_m11 38 rfl
theorem q2549 : (Jvm.Cond.instanceMethod ({ cls := "DotRunsModel", name := "sendsPage", desc := "()V" } : Jvm.MethodName)) ∈ lw_all := lw_g (lw_at lw_m11 39 rfl) rfl
theorem q2550 : (Jvm.Cond.code ({ cls := "DotRunsModel", name := "sendsPage", desc := "()V" } : Jvm.MethodName) prog_18_method_69_code (1 : Nat) (Option.none : Option Jvm.ClassFile.FieldType)) ∈ lw_all := lw_g (lw_at lw_m11 40 rfl) rfl
theorem q2551 : (Jvm.Cond.methodLink "DotRunsModel" (271 : Nat) ({ cls := "DotRunsModel", name := "laysLosses", desc := "()V" } : Jvm.MethodName)) ∈ lw_all := lw_g (lw_at lw_m11 41 rfl) rfl
theorem q2552 : (Jvm.Cond.privateMethod ({ cls := "DotRunsModel", name := "laysLosses", desc := "()V" } : Jvm.MethodName)) ∈ lw_tbl := lw_at lw_m11 42 rfl
theorem q2553 : (Jvm.Cond.instanceMethod ({ cls := "DotRunsModel", name := "laysLosses", desc := "()V" } : Jvm.MethodName)) ∈ lw_all := lw_g (lw_at lw_m11 43 rfl) rfl
theorem q2554 : (Jvm.Cond.code ({ cls := "DotRunsModel", name := "laysLosses", desc := "()V" } : Jvm.MethodName) prog_18_method_63_code (2 : Nat) (Option.none : Option Jvm.ClassFile.FieldType)) ∈ lw_all := lw_g (lw_at lw_m11 44 rfl) rfl
theorem q2555 : (Jvm.Cond.methodLink "DotRunsModel" (274 : Nat) ({ cls := "DotRunsModel", name := "sendsAll", desc := "()V" } : Jvm.MethodName)) ∈ lw_all := lw_g (lw_at lw_m11 45 rfl) rfl
theorem q2556 : (Jvm.Cond.privateMethod ({ cls := "DotRunsModel", name := "sendsAll", desc := "()V" } : Jvm.MethodName)) ∈ lw_tbl := lw_at lw_m11 46 rfl
theorem q2557 : (Jvm.Cond.instanceMethod ({ cls := "DotRunsModel", name := "sendsAll", desc := "()V" } : Jvm.MethodName)) ∈ lw_all := lw_g (lw_at lw_m11 47 rfl) rfl
theorem q2558 : (Jvm.Cond.code ({ cls := "DotRunsModel", name := "sendsAll", desc := "()V" } : Jvm.MethodName) prog_18_method_68_code (3 : Nat) (Option.none : Option Jvm.ClassFile.FieldType)) ∈ lw_all := lw_g (lw_at lw_m11 48 rfl) rfl
theorem q2559 : (Jvm.Cond.methodLink "DotRunsModel" (265 : Nat) ({ cls := "DotRunsModel", name := "sends", desc := "(I)I" } : Jvm.MethodName)) ∈ lw_all := lw_g (lw_at lw_m11 49 rfl) rfl
theorem q2560 : (Jvm.Cond.privateMethod ({ cls := "DotRunsModel", name := "sends", desc := "(I)I" } : Jvm.MethodName)) ∈ lw_tbl := lw_at lw_m11 50 rfl
theorem q2561 : (Jvm.Cond.instanceMethod ({ cls := "DotRunsModel", name := "sends", desc := "(I)I" } : Jvm.MethodName)) ∈ lw_all := lw_g (lw_at lw_m11 51 rfl) rfl
theorem q2562 : (Jvm.Cond.code ({ cls := "DotRunsModel", name := "sends", desc := "(I)I" } : Jvm.MethodName) prog_18_method_67_code (4 : Nat) (Option.some Jvm.ClassFile.FieldType.int)) ∈ lw_all := lw_g (lw_at lw_m11 52 rfl) rfl
theorem q2563 : (Jvm.Cond.methodLink "DotRunsModel" (253 : Nat) ({ cls := "DotRunsModel", name := "isRead", desc := "(I)Z" } : Jvm.MethodName)) ∈ lw_all := lw_g (lw_at lw_m11 53 rfl) rfl
theorem q2564 : (Jvm.Cond.privateMethod ({ cls := "DotRunsModel", name := "isRead", desc := "(I)Z" } : Jvm.MethodName)) ∈ lw_tbl := lw_at lw_m11 54 rfl
theorem q2565 : (Jvm.Cond.instanceMethod ({ cls := "DotRunsModel", name := "isRead", desc := "(I)Z" } : Jvm.MethodName)) ∈ lw_all := lw_g (lw_at lw_m11 55 rfl) rfl
theorem q2566 : (Jvm.Cond.code ({ cls := "DotRunsModel", name := "isRead", desc := "(I)Z" } : Jvm.MethodName) prog_18_method_66_code (4 : Nat) (Option.some Jvm.ClassFile.FieldType.boolean)) ∈ lw_all := lw_g (lw_at lw_m11 56 rfl) rfl
theorem q2567 : (Jvm.Cond.methodLink "DotRunsModel" (259 : Nat) ({ cls := "DotRunsModel", name := "wrongIn", desc := "(I)I" } : Jvm.MethodName)) ∈ lw_all := lw_g (lw_at lw_m11 57 rfl) rfl
theorem q2568 : (Jvm.Cond.privateMethod ({ cls := "DotRunsModel", name := "wrongIn", desc := "(I)I" } : Jvm.MethodName)) ∈ lw_tbl := lw_at lw_m11 58 rfl
theorem q2569 : (Jvm.Cond.instanceMethod ({ cls := "DotRunsModel", name := "wrongIn", desc := "(I)I" } : Jvm.MethodName)) ∈ lw_all := lw_g (lw_at lw_m11 59 rfl) rfl
theorem q2570 : (Jvm.Cond.code ({ cls := "DotRunsModel", name := "wrongIn", desc := "(I)I" } : Jvm.MethodName) prog_18_method_65_code (4 : Nat) (Option.some Jvm.ClassFile.FieldType.int)) ∈ lw_all := lw_g (lw_at lw_m11 60 rfl) rfl
theorem q2571 : (Jvm.Cond.methodLink "DotRunsModel" (268 : Nat) ({ cls := "DotRunsModel", name := "fills", desc := "(II)V" } : Jvm.MethodName)) ∈ lw_all := lw_g (lw_at lw_m11 61 rfl) rfl
theorem q2572 : (Jvm.Cond.privateMethod ({ cls := "DotRunsModel", name := "fills", desc := "(II)V" } : Jvm.MethodName)) ∈ lw_tbl := lw_at lw_m11 62 rfl
theorem q2573 : (Jvm.Cond.instanceMethod ({ cls := "DotRunsModel", name := "fills", desc := "(II)V" } : Jvm.MethodName)) ∈ lw_all := lw_g (lw_at lw_m11 63 rfl) rfl
theorem q2574 : (Jvm.Cond.code ({ cls := "DotRunsModel", name := "fills", desc := "(II)V" } : Jvm.MethodName) prog_18_method_64_code (4 : Nat) (Option.none : Option Jvm.ClassFile.FieldType)) ∈ lw_all := lw_g (lw_at lw_m11 64 rfl) rfl
theorem q2575 : (Jvm.Cond.methodLink "DotRunsModel" (280 : Nat) ({ cls := "DotRunsModel", name := "wrongDots", desc := "()I" } : Jvm.MethodName)) ∈ lw_all := lw_g (lw_at lw_m11 65 rfl) rfl
theorem q2576 : (Jvm.Cond.privateMethod ({ cls := "DotRunsModel", name := "wrongDots", desc := "()I" } : Jvm.MethodName)) ∈ lw_tbl := lw_at lw_m11 66 rfl
theorem q2577 : (Jvm.Cond.instanceMethod ({ cls := "DotRunsModel", name := "wrongDots", desc := "()I" } : Jvm.MethodName)) ∈ lw_all := lw_g (lw_at lw_m11 67 rfl) rfl
theorem q2578 : (Jvm.Cond.code ({ cls := "DotRunsModel", name := "wrongDots", desc := "()I" } : Jvm.MethodName) prog_18_method_70_code (3 : Nat) (Option.some Jvm.ClassFile.FieldType.int)) ∈ lw_all := lw_g (lw_at lw_m11 68 rfl) rfl
theorem q2579 : (Jvm.Cond.methodLink "DotRunsModel" (283 : Nat) ({ cls := "DotRunsModel", name := "statesOf", desc := "(I)I" } : Jvm.MethodName)) ∈ lw_all := lw_g (lw_at lw_m11 69 rfl) rfl
theorem q2580 : (Jvm.Cond.privateMethod ({ cls := "DotRunsModel", name := "statesOf", desc := "(I)I" } : Jvm.MethodName)) ∈ lw_tbl := lw_at lw_m11 70 rfl
theorem q2581 : (Jvm.Cond.instanceMethod ({ cls := "DotRunsModel", name := "statesOf", desc := "(I)I" } : Jvm.MethodName)) ∈ lw_all := lw_g (lw_at lw_m11 71 rfl) rfl
theorem q2582 : (Jvm.Cond.code ({ cls := "DotRunsModel", name := "statesOf", desc := "(I)I" } : Jvm.MethodName) prog_18_method_71_code (4 : Nat) (Option.some Jvm.ClassFile.FieldType.int)) ∈ lw_all := lw_g (lw_at lw_m11 72 rfl) rfl
theorem q2584 : (Jvm.Cond.instanceMethod ({ cls := "DotRunsModel", name := "sentLine", desc := "(II)I" } : Jvm.MethodName)) ∈ lw_all := lw_g (lw_at lw_m11 74 rfl) rfl
theorem q2585 : (Jvm.Cond.selects "DotRunsModel" ({ cls := "DotRunsModel", name := "sentLine", desc := "(II)I" } : Jvm.MethodName) ({ cls := "DotRunsModel", name := "sentLine", desc := "(II)I" } : Jvm.MethodName)) ∈ lw_all := lw_g (lw_at lw_m11 75 rfl) rfl
theorem q2586 : (Jvm.Cond.code ({ cls := "DotRunsModel", name := "sentLine", desc := "(II)I" } : Jvm.MethodName) prog_18_method_73_code (3 : Nat) (Option.some Jvm.ClassFile.FieldType.int)) ∈ lw_all := lw_g (lw_at lw_m11 76 rfl) rfl
theorem q2588 : (Jvm.Cond.instanceMethod ({ cls := "DotRunsModel", name := "received", desc := "(II)I" } : Jvm.MethodName)) ∈ lw_all := lw_g (lw_at lw_m11 78 rfl) rfl
theorem q2589 : (Jvm.Cond.selects "DotRunsModel" ({ cls := "DotRunsModel", name := "received", desc := "(II)I" } : Jvm.MethodName) ({ cls := "DotRunsModel", name := "received", desc := "(II)I" } : Jvm.MethodName)) ∈ lw_all := lw_g (lw_at lw_m11 79 rfl) rfl
theorem q2590 : (Jvm.Cond.code ({ cls := "DotRunsModel", name := "received", desc := "(II)I" } : Jvm.MethodName) prog_18_method_74_code (3 : Nat) (Option.some Jvm.ClassFile.FieldType.int)) ∈ lw_all := lw_g (lw_at lw_m11 80 rfl) rfl
theorem q2592 : (Jvm.Cond.instanceMethod ({ cls := "DotRunsModel", name := "harm", desc := "(II)I" } : Jvm.MethodName)) ∈ lw_all := lw_g (lw_at lw_m11 82 rfl) rfl
theorem q2593 : (Jvm.Cond.selects "DotRunsModel" ({ cls := "DotRunsModel", name := "harm", desc := "(II)I" } : Jvm.MethodName) ({ cls := "DotRunsModel", name := "harm", desc := "(II)I" } : Jvm.MethodName)) ∈ lw_all := lw_g (lw_at lw_m11 83 rfl) rfl
theorem q2594 : (Jvm.Cond.code ({ cls := "DotRunsModel", name := "harm", desc := "(II)I" } : Jvm.MethodName) prog_18_method_77_code (3 : Nat) (Option.some Jvm.ClassFile.FieldType.int)) ∈ lw_all := lw_g (lw_at lw_m11 84 rfl) rfl
theorem q2595 : (Jvm.Cond.methodLink "DotRunsModel" (286 : Nat) ({ cls := "DotRunsModel", name := "sendsHarmed", desc := "(I)V" } : Jvm.MethodName)) ∈ lw_all := lw_g (lw_at lw_m11 85 rfl) rfl
theorem q2596 : (Jvm.Cond.privateMethod ({ cls := "DotRunsModel", name := "sendsHarmed", desc := "(I)V" } : Jvm.MethodName)) ∈ lw_tbl := lw_at lw_m11 86 rfl
theorem q2597 : (Jvm.Cond.instanceMethod ({ cls := "DotRunsModel", name := "sendsHarmed", desc := "(I)V" } : Jvm.MethodName)) ∈ lw_all := lw_g (lw_at lw_m11 87 rfl) rfl
theorem q2598 : (Jvm.Cond.code ({ cls := "DotRunsModel", name := "sendsHarmed", desc := "(I)V" } : Jvm.MethodName) prog_18_method_75_code (3 : Nat) (Option.none : Option Jvm.ClassFile.FieldType)) ∈ lw_all := lw_g (lw_at lw_m11 88 rfl) rfl
theorem q2599 : (Jvm.Cond.methodLink "DotRunsModel" (289 : Nat) ({ cls := "DotRunsModel", name := "harmOf", desc := "(I)I" } : Jvm.MethodName)) ∈ lw_all := lw_g (lw_at lw_m11 89 rfl) rfl
theorem q2600 : (Jvm.Cond.privateMethod ({ cls := "DotRunsModel", name := "harmOf", desc := "(I)I" } : Jvm.MethodName)) ∈ lw_tbl := lw_at lw_m11 90 rfl
theorem q2601 : (Jvm.Cond.instanceMethod ({ cls := "DotRunsModel", name := "harmOf", desc := "(I)I" } : Jvm.MethodName)) ∈ lw_all := lw_g (lw_at lw_m11 91 rfl) rfl
theorem q2602 : (Jvm.Cond.code ({ cls := "DotRunsModel", name := "harmOf", desc := "(I)I" } : Jvm.MethodName) prog_18_method_76_code (6 : Nat) (Option.some Jvm.ClassFile.FieldType.int)) ∈ lw_all := lw_g (lw_at lw_m11 92 rfl) rfl
theorem q2604 : (Jvm.Cond.instanceMethod ({ cls := "DotRunsModel", name := "worst", desc := "()I" } : Jvm.MethodName)) ∈ lw_all := lw_g (lw_at lw_m11 94 rfl) rfl
theorem q2605 : (Jvm.Cond.selects "DotRunsModel" ({ cls := "DotRunsModel", name := "worst", desc := "()I" } : Jvm.MethodName) ({ cls := "DotRunsModel", name := "worst", desc := "()I" } : Jvm.MethodName)) ∈ lw_all := lw_g (lw_at lw_m11 95 rfl) rfl
theorem q2606 : (Jvm.Cond.code ({ cls := "DotRunsModel", name := "worst", desc := "()I" } : Jvm.MethodName) prog_18_method_78_code (5 : Nat) (Option.some Jvm.ClassFile.FieldType.int)) ∈ lw_all := lw_g (lw_at lw_m11 96 rfl) rfl
theorem q2608 : (Jvm.Cond.instanceMethod ({ cls := "DotRunsModel", name := "bestEvery", desc := "()I" } : Jvm.MethodName)) ∈ lw_all := lw_g (lw_at lw_m11 98 rfl) rfl
theorem q2609 : (Jvm.Cond.selects "DotRunsModel" ({ cls := "DotRunsModel", name := "bestEvery", desc := "()I" } : Jvm.MethodName) ({ cls := "DotRunsModel", name := "bestEvery", desc := "()I" } : Jvm.MethodName)) ∈ lw_all := lw_g (lw_at lw_m11 99 rfl) rfl
theorem q2610 : (Jvm.Cond.code ({ cls := "DotRunsModel", name := "bestEvery", desc := "()I" } : Jvm.MethodName) prog_18_method_79_code (7 : Nat) (Option.some Jvm.ClassFile.FieldType.int)) ∈ lw_all := lw_g (lw_at lw_m11 100 rfl) rfl
theorem q2612 : (Jvm.Cond.instanceMethod ({ cls := "DotRunsModel", name := "needsSteps", desc := "()I" } : Jvm.MethodName)) ∈ lw_all := lw_g (lw_at lw_m11 102 rfl) rfl
theorem q2613 : (Jvm.Cond.selects "DotRunsModel" ({ cls := "DotRunsModel", name := "needsSteps", desc := "()I" } : Jvm.MethodName) ({ cls := "DotRunsModel", name := "needsSteps", desc := "()I" } : Jvm.MethodName)) ∈ lw_all := lw_g (lw_at lw_m11 103 rfl) rfl
theorem q2614 : (Jvm.Cond.code ({ cls := "DotRunsModel", name := "needsSteps", desc := "()I" } : Jvm.MethodName) prog_18_method_80_code (4 : Nat) (Option.some Jvm.ClassFile.FieldType.int)) ∈ lw_all := lw_g (lw_at lw_m11 104 rfl) rfl
theorem q2616 : (Jvm.Cond.instanceMethod ({ cls := "DotRunsModel", name := "perDot", desc := "()D" } : Jvm.MethodName)) ∈ lw_all := lw_g (lw_at lw_m11 106 rfl) rfl
theorem q2617 : (Jvm.Cond.selects "DotRunsModel" ({ cls := "DotRunsModel", name := "perDot", desc := "()D" } : Jvm.MethodName) ({ cls := "DotRunsModel", name := "perDot", desc := "()D" } : Jvm.MethodName)) ∈ lw_all := lw_g (lw_at lw_m11 107 rfl) rfl
theorem q2618 : (Jvm.Cond.code ({ cls := "DotRunsModel", name := "perDot", desc := "()D" } : Jvm.MethodName) prog_18_method_81_code (1 : Nat) (Option.some Jvm.ClassFile.FieldType.double)) ∈ lw_all := lw_g (lw_at lw_m11 108 rfl) rfl
theorem q2620 : (Jvm.Cond.instanceMethod ({ cls := "DotRunsModel", name := "byAbove", desc := "()F" } : Jvm.MethodName)) ∈ lw_all := lw_g (lw_at lw_m11 110 rfl) rfl
theorem q2621 : (Jvm.Cond.selects "DotRunsModel" ({ cls := "DotRunsModel", name := "byAbove", desc := "()F" } : Jvm.MethodName) ({ cls := "DotRunsModel", name := "byAbove", desc := "()F" } : Jvm.MethodName)) ∈ lw_all := lw_g (lw_at lw_m11 111 rfl) rfl
theorem q2622 : (Jvm.Cond.code ({ cls := "DotRunsModel", name := "byAbove", desc := "()F" } : Jvm.MethodName) prog_18_method_82_code (2 : Nat) (Option.some Jvm.ClassFile.FieldType.float)) ∈ lw_all := lw_g (lw_at lw_m11 112 rfl) rfl
theorem q2624 : (Jvm.Cond.instanceMethod ({ cls := "DotRunsModel", name := "appendText", desc := "(I)I" } : Jvm.MethodName)) ∈ lw_all := lw_g (lw_at lw_m11 114 rfl) rfl
theorem q2625 : (Jvm.Cond.selects "DotRunsModel" ({ cls := "DotRunsModel", name := "appendText", desc := "(I)I" } : Jvm.MethodName) ({ cls := "DotRunsModel", name := "appendText", desc := "(I)I" } : Jvm.MethodName)) ∈ lw_all := lw_g (lw_at lw_m11 115 rfl) rfl
theorem q2626 : (Jvm.Cond.code ({ cls := "DotRunsModel", name := "appendText", desc := "(I)I" } : Jvm.MethodName) prog_18_method_83_code (3 : Nat) (Option.some Jvm.ClassFile.FieldType.int)) ∈ lw_all := lw_g (lw_at lw_m11 116 rfl) rfl
theorem q2628 : (Jvm.Cond.instanceMethod ({ cls := "DotRunsModel", name := "truncateText", desc := "(I)I" } : Jvm.MethodName)) ∈ lw_all := lw_g (lw_at lw_m11 118 rfl) rfl
theorem q2629 : (Jvm.Cond.selects "DotRunsModel" ({ cls := "DotRunsModel", name := "truncateText", desc := "(I)I" } : Jvm.MethodName) ({ cls := "DotRunsModel", name := "truncateText", desc := "(I)I" } : Jvm.MethodName)) ∈ lw_all := lw_g (lw_at lw_m11 119 rfl) rfl
theorem q2630 : (Jvm.Cond.code ({ cls := "DotRunsModel", name := "truncateText", desc := "(I)I" } : Jvm.MethodName) prog_18_method_84_code (2 : Nat) (Option.some Jvm.ClassFile.FieldType.int)) ∈ lw_all := lw_g (lw_at lw_m11 120 rfl) rfl
theorem q2632 : (Jvm.Cond.instanceMethod ({ cls := "DotRunsModel", name := "load", desc := "()I" } : Jvm.MethodName)) ∈ lw_all := lw_g (lw_at lw_m11 122 rfl) rfl
theorem q2633 : (Jvm.Cond.selects "DotRunsModel" ({ cls := "DotRunsModel", name := "load", desc := "()I" } : Jvm.MethodName) ({ cls := "DotRunsModel", name := "load", desc := "()I" } : Jvm.MethodName)) ∈ lw_all := lw_g (lw_at lw_m11 123 rfl) rfl
theorem q2634 : (Jvm.Cond.code ({ cls := "DotRunsModel", name := "load", desc := "()I" } : Jvm.MethodName) prog_18_method_103_code (2 : Nat) (Option.some Jvm.ClassFile.FieldType.int)) ∈ lw_all := lw_g (lw_at lw_m11 124 rfl) rfl
theorem q2635 : (Jvm.Cond.methodLink "DotRunsModel" (316 : Nat) ({ cls := "DotRunsModel", name := "advances", desc := "()V" } : Jvm.MethodName)) ∈ lw_all := lw_g (lw_at lw_m11 125 rfl) rfl
theorem q2636 : (Jvm.Cond.privateMethod ({ cls := "DotRunsModel", name := "advances", desc := "()V" } : Jvm.MethodName)) ∈ lw_tbl := lw_at lw_m11 126 rfl
theorem q2637 : (Jvm.Cond.instanceMethod ({ cls := "DotRunsModel", name := "advances", desc := "()V" } : Jvm.MethodName)) ∈ lw_all := lw_g (lw_at lw_m11 127 rfl) rfl
theorem q2638 : (Jvm.Cond.code ({ cls := "DotRunsModel", name := "advances", desc := "()V" } : Jvm.MethodName) prog_18_method_87_code (1 : Nat) (Option.none : Option Jvm.ClassFile.FieldType)) ∈ lw_all := lw_g (lw_at lw_m11 128 rfl) rfl
theorem q2639 : (Jvm.Cond.methodLink "DotRunsModel" (298 : Nat) ({ cls := "DotRunsModel", name := "see", desc := "()I" } : Jvm.MethodName)) ∈ lw_all := lw_g (lw_at lw_m11 129 rfl) rfl
theorem q2640 : (Jvm.Cond.privateMethod ({ cls := "DotRunsModel", name := "see", desc := "()I" } : Jvm.MethodName)) ∈ lw_tbl := lw_at lw_m11 130 rfl
theorem q2641 : (Jvm.Cond.instanceMethod ({ cls := "DotRunsModel", name := "see", desc := "()I" } : Jvm.MethodName)) ∈ lw_all := lw_g (lw_at lw_m11 131 rfl) rfl
theorem q2642 : (Jvm.Cond.code ({ cls := "DotRunsModel", name := "see", desc := "()I" } : Jvm.MethodName) prog_18_method_85_code (1 : Nat) (Option.some Jvm.ClassFile.FieldType.int)) ∈ lw_all := lw_g (lw_at lw_m11 132 rfl) rfl
theorem q2643 : (Jvm.Cond.methodLink "DotRunsModel" (304 : Nat) ({ cls := "DotRunsModel", name := "sortOf", desc := "(I)I" } : Jvm.MethodName)) ∈ lw_all := lw_g (lw_at lw_m11 133 rfl) rfl
theorem q2644 : (Jvm.Cond.static ({ cls := "DotRunsModel", name := "sortOf", desc := "(I)I" } : Jvm.MethodName)) ∈ lw_all := lw_g (lw_at lw_m11 134 rfl) rfl
theorem q2645 : (Jvm.Cond.code ({ cls := "DotRunsModel", name := "sortOf", desc := "(I)I" } : Jvm.MethodName) prog_18_method_86_code (1 : Nat) (Option.some Jvm.ClassFile.FieldType.int)) ∈ lw_all := lw_g (lw_at lw_m11 135 rfl) rfl
theorem q2646 : (Jvm.Cond.methodLink "DotRunsModel" (329 : Nat) ({ cls := "DotRunsModel", name := "wordHere", desc := "()I" } : Jvm.MethodName)) ∈ lw_all := lw_g (lw_at lw_m11 136 rfl) rfl
theorem q2647 : (Jvm.Cond.privateMethod ({ cls := "DotRunsModel", name := "wordHere", desc := "()I" } : Jvm.MethodName)) ∈ lw_tbl := lw_at lw_m11 137 rfl
theorem q2648 : (Jvm.Cond.instanceMethod ({ cls := "DotRunsModel", name := "wordHere", desc := "()I" } : Jvm.MethodName)) ∈ lw_all := lw_g (lw_at lw_m11 138 rfl) rfl
theorem q2649 : (Jvm.Cond.code ({ cls := "DotRunsModel", name := "wordHere", desc := "()I" } : Jvm.MethodName) prog_18_method_90_code (5 : Nat) (Option.some Jvm.ClassFile.FieldType.int)) ∈ lw_all := lw_g (lw_at lw_m11 139 rfl) rfl
theorem q2650 : (Jvm.Cond.methodLink "DotRunsModel" (326 : Nat) ({ cls := "DotRunsModel", name := "goesOn", desc := "()V" } : Jvm.MethodName)) ∈ lw_all := lw_g (lw_at lw_m11 140 rfl) rfl
theorem q2651 : (Jvm.Cond.privateMethod ({ cls := "DotRunsModel", name := "goesOn", desc := "()V" } : Jvm.MethodName)) ∈ lw_tbl := lw_at lw_m11 141 rfl
theorem q2652 : (Jvm.Cond.instanceMethod ({ cls := "DotRunsModel", name := "goesOn", desc := "()V" } : Jvm.MethodName)) ∈ lw_all := lw_g (lw_at lw_m11 142 rfl) rfl
theorem q2653 : (Jvm.Cond.code ({ cls := "DotRunsModel", name := "goesOn", desc := "()V" } : Jvm.MethodName) prog_18_method_89_code (1 : Nat) (Option.none : Option Jvm.ClassFile.FieldType)) ∈ lw_all := lw_g (lw_at lw_m11 143 rfl) rfl
theorem q2654 : (Jvm.Cond.methodLink "DotRunsModel" (332 : Nat) ({ cls := "DotRunsModel", name := "reads", desc := "(II)I" } : Jvm.MethodName)) ∈ lw_all := lw_g (lw_at lw_m11 144 rfl) rfl
theorem q2655 : (Jvm.Cond.privateMethod ({ cls := "DotRunsModel", name := "reads", desc := "(II)I" } : Jvm.MethodName)) ∈ lw_tbl := lw_at lw_m11 145 rfl
theorem q2656 : (Jvm.Cond.instanceMethod ({ cls := "DotRunsModel", name := "reads", desc := "(II)I" } : Jvm.MethodName)) ∈ lw_all := lw_g (lw_at lw_m11 146 rfl) rfl
theorem q2657 : (Jvm.Cond.code ({ cls := "DotRunsModel", name := "reads", desc := "(II)I" } : Jvm.MethodName) prog_18_method_92_code (4 : Nat) (Option.some Jvm.ClassFile.FieldType.int)) ∈ lw_all := lw_g (lw_at lw_m11 147 rfl) rfl
theorem q2658 : (Jvm.Cond.methodLink "DotRunsModel" (323 : Nat) ({ cls := "DotRunsModel", name := "looks", desc := "(II)I" } : Jvm.MethodName)) ∈ lw_all := lw_g (lw_at lw_m11 148 rfl) rfl
theorem q2659 : (Jvm.Cond.privateMethod ({ cls := "DotRunsModel", name := "looks", desc := "(II)I" } : Jvm.MethodName)) ∈ lw_tbl := lw_at lw_m11 149 rfl
theorem q2660 : (Jvm.Cond.instanceMethod ({ cls := "DotRunsModel", name := "looks", desc := "(II)I" } : Jvm.MethodName)) ∈ lw_all := lw_g (lw_at lw_m11 150 rfl) rfl
theorem q2661 : (Jvm.Cond.code ({ cls := "DotRunsModel", name := "looks", desc := "(II)I" } : Jvm.MethodName) prog_18_method_91_code (3 : Nat) (Option.some Jvm.ClassFile.FieldType.int)) ∈ lw_all := lw_g (lw_at lw_m11 151 rfl) rfl
theorem q2662 : (Jvm.Cond.methodLink "DotRunsModel" (319 : Nat) ({ cls := "DotRunsModel", name := "must", desc := "(ZI)V" } : Jvm.MethodName)) ∈ lw_all := lw_g (lw_at lw_m11 152 rfl) rfl
theorem q2663 : (Jvm.Cond.privateMethod ({ cls := "DotRunsModel", name := "must", desc := "(ZI)V" } : Jvm.MethodName)) ∈ lw_tbl := lw_at lw_m11 153 rfl
theorem q2664 : (Jvm.Cond.instanceMethod ({ cls := "DotRunsModel", name := "must", desc := "(ZI)V" } : Jvm.MethodName)) ∈ lw_all := lw_g (lw_at lw_m11 154 rfl) rfl
theorem q2665 : (Jvm.Cond.code ({ cls := "DotRunsModel", name := "must", desc := "(ZI)V" } : Jvm.MethodName) prog_18_method_88_code (3 : Nat) (Option.none : Option Jvm.ClassFile.FieldType)) ∈ lw_all := lw_g (lw_at lw_m11 155 rfl) rfl
theorem q2666 : (Jvm.Cond.methodLink "DotRunsModel" (362 : Nat) ({ cls := "DotRunsModel", name := "readsStatement", desc := "()V" } : Jvm.MethodName)) ∈ lw_all := lw_g (lw_at lw_m11 156 rfl) rfl
theorem q2667 : (Jvm.Cond.privateMethod ({ cls := "DotRunsModel", name := "readsStatement", desc := "()V" } : Jvm.MethodName)) ∈ lw_tbl := lw_at lw_m11 157 rfl
theorem q2668 : (Jvm.Cond.instanceMethod ({ cls := "DotRunsModel", name := "readsStatement", desc := "()V" } : Jvm.MethodName)) ∈ lw_all := lw_g (lw_at lw_m11 158 rfl) rfl
theorem q2669 : (Jvm.Cond.code ({ cls := "DotRunsModel", name := "readsStatement", desc := "()V" } : Jvm.MethodName) prog_18_method_102_code (2 : Nat) (Option.none : Option Jvm.ClassFile.FieldType)) ∈ lw_all := lw_g (lw_at lw_m11 159 rfl) rfl
theorem q2670 : (Jvm.Cond.methodLink "DotRunsModel" (353 : Nat) ({ cls := "DotRunsModel", name := "readsLine", desc := "(I)V" } : Jvm.MethodName)) ∈ lw_all := lw_g (lw_at lw_m11 160 rfl) rfl
theorem q2671 : (Jvm.Cond.privateMethod ({ cls := "DotRunsModel", name := "readsLine", desc := "(I)V" } : Jvm.MethodName)) ∈ lw_tbl := lw_at lw_m11 161 rfl
theorem q2672 : (Jvm.Cond.instanceMethod ({ cls := "DotRunsModel", name := "readsLine", desc := "(I)V" } : Jvm.MethodName)) ∈ lw_all := lw_g (lw_at lw_m11 162 rfl) rfl
theorem q2673 : (Jvm.Cond.code ({ cls := "DotRunsModel", name := "readsLine", desc := "(I)V" } : Jvm.MethodName) prog_18_method_101_code (2 : Nat) (Option.none : Option Jvm.ClassFile.FieldType)) ∈ lw_all := lw_g (lw_at lw_m11 163 rfl) rfl
theorem q2674 : (Jvm.Cond.methodLink "DotRunsModel" (338 : Nat) ({ cls := "DotRunsModel", name := "laysTold", desc := "()V" } : Jvm.MethodName)) ∈ lw_all := lw_g (lw_at lw_m11 164 rfl) rfl
theorem q2675 : (Jvm.Cond.privateMethod ({ cls := "DotRunsModel", name := "laysTold", desc := "()V" } : Jvm.MethodName)) ∈ lw_tbl := lw_at lw_m11 165 rfl
theorem q2676 : (Jvm.Cond.instanceMethod ({ cls := "DotRunsModel", name := "laysTold", desc := "()V" } : Jvm.MethodName)) ∈ lw_all := lw_g (lw_at lw_m11 166 rfl) rfl
theorem q2677 : (Jvm.Cond.code ({ cls := "DotRunsModel", name := "laysTold", desc := "()V" } : Jvm.MethodName) prog_18_method_93_code (1 : Nat) (Option.none : Option Jvm.ClassFile.FieldType)) ∈ lw_all := lw_g (lw_at lw_m11 167 rfl) rfl
theorem q2678 : (Jvm.Cond.methodLink "DotRunsModel" (341 : Nat) ({ cls := "DotRunsModel", name := "readsRow", desc := "()V" } : Jvm.MethodName)) ∈ lw_all := lw_g (lw_at lw_m11 168 rfl) rfl
theorem q2679 : (Jvm.Cond.privateMethod ({ cls := "DotRunsModel", name := "readsRow", desc := "()V" } : Jvm.MethodName)) ∈ lw_tbl := lw_at lw_m11 169 rfl
theorem q2680 : (Jvm.Cond.instanceMethod ({ cls := "DotRunsModel", name := "readsRow", desc := "()V" } : Jvm.MethodName)) ∈ lw_all := lw_g (lw_at lw_m11 170 rfl) rfl
theorem q2681 : (Jvm.Cond.code ({ cls := "DotRunsModel", name := "readsRow", desc := "()V" } : Jvm.MethodName) prog_18_method_95_code (2 : Nat) (Option.none : Option Jvm.ClassFile.FieldType)) ∈ lw_all := lw_g (lw_at lw_m11 171 rfl) rfl
theorem q2682 : (Jvm.Cond.methodLink "DotRunsModel" (344 : Nat) ({ cls := "DotRunsModel", name := "readsAlone", desc := "()V" } : Jvm.MethodName)) ∈ lw_all := lw_g (lw_at lw_m11 172 rfl) rfl
theorem q2683 : (Jvm.Cond.privateMethod ({ cls := "DotRunsModel", name := "readsAlone", desc := "()V" } : Jvm.MethodName)) ∈ lw_tbl := lw_at lw_m11 173 rfl
theorem q2684 : (Jvm.Cond.instanceMethod ({ cls := "DotRunsModel", name := "readsAlone", desc := "()V" } : Jvm.MethodName)) ∈ lw_all := lw_g (lw_at lw_m11 174 rfl) rfl
theorem q2685 : (Jvm.Cond.code ({ cls := "DotRunsModel", name := "readsAlone", desc := "()V" } : Jvm.MethodName) prog_18_method_96_code (5 : Nat) (Option.none : Option Jvm.ClassFile.FieldType)) ∈ lw_all := lw_g (lw_at lw_m11 175 rfl) rfl
theorem q2686 : (Jvm.Cond.methodLink "DotRunsModel" (347 : Nat) ({ cls := "DotRunsModel", name := "readsAbove", desc := "()V" } : Jvm.MethodName)) ∈ lw_all := lw_g (lw_at lw_m11 176 rfl) rfl
theorem q2687 : (Jvm.Cond.privateMethod ({ cls := "DotRunsModel", name := "readsAbove", desc := "()V" } : Jvm.MethodName)) ∈ lw_tbl := lw_at lw_m11 177 rfl
theorem q2688 : (Jvm.Cond.instanceMethod ({ cls := "DotRunsModel", name := "readsAbove", desc := "()V" } : Jvm.MethodName)) ∈ lw_all := lw_g (lw_at lw_m11 178 rfl) rfl
theorem q2689 : (Jvm.Cond.code ({ cls := "DotRunsModel", name := "readsAbove", desc := "()V" } : Jvm.MethodName) prog_18_method_98_code (1 : Nat) (Option.none : Option Jvm.ClassFile.FieldType)) ∈ lw_all := lw_g (lw_at lw_m11 179 rfl) rfl
theorem q2690 : (Jvm.Cond.methodLink "DotRunsModel" (335 : Nat) ({ cls := "DotRunsModel", name := "readsOne", desc := "()V" } : Jvm.MethodName)) ∈ lw_all := lw_g (lw_at lw_m11 180 rfl) rfl
theorem q2691 : (Jvm.Cond.privateMethod ({ cls := "DotRunsModel", name := "readsOne", desc := "()V" } : Jvm.MethodName)) ∈ lw_tbl := lw_at lw_m11 181 rfl
theorem q2692 : (Jvm.Cond.instanceMethod ({ cls := "DotRunsModel", name := "readsOne", desc := "()V" } : Jvm.MethodName)) ∈ lw_all := lw_g (lw_at lw_m11 182 rfl) rfl
theorem q2693 : (Jvm.Cond.code ({ cls := "DotRunsModel", name := "readsOne", desc := "()V" } : Jvm.MethodName) prog_18_method_97_code (6 : Nat) (Option.none : Option Jvm.ClassFile.FieldType)) ∈ lw_all := lw_g (lw_at lw_m11 183 rfl) rfl
theorem q2694 : (Jvm.Cond.methodLink "DotRunsModel" (350 : Nat) ({ cls := "DotRunsModel", name := "addsTold", desc := "()V" } : Jvm.MethodName)) ∈ lw_all := lw_g (lw_at lw_m11 184 rfl) rfl
theorem q2695 : (Jvm.Cond.privateMethod ({ cls := "DotRunsModel", name := "addsTold", desc := "()V" } : Jvm.MethodName)) ∈ lw_tbl := lw_at lw_m11 185 rfl
theorem q2696 : (Jvm.Cond.instanceMethod ({ cls := "DotRunsModel", name := "addsTold", desc := "()V" } : Jvm.MethodName)) ∈ lw_all := lw_g (lw_at lw_m11 186 rfl) rfl
theorem q2697 : (Jvm.Cond.code ({ cls := "DotRunsModel", name := "addsTold", desc := "()V" } : Jvm.MethodName) prog_18_method_94_code (2 : Nat) (Option.none : Option Jvm.ClassFile.FieldType)) ∈ lw_all := lw_g (lw_at lw_m11 187 rfl) rfl
theorem q2698 : (Jvm.Cond.methodLink "DotRunsModel" (356 : Nat) ({ cls := "DotRunsModel", name := "readsSetting", desc := "()V" } : Jvm.MethodName)) ∈ lw_all := lw_g (lw_at lw_m11 188 rfl) rfl
theorem q2699 : (Jvm.Cond.privateMethod ({ cls := "DotRunsModel", name := "readsSetting", desc := "()V" } : Jvm.MethodName)) ∈ lw_tbl := lw_at lw_m11 189 rfl
theorem q2700 : (Jvm.Cond.instanceMethod ({ cls := "DotRunsModel", name := "readsSetting", desc := "()V" } : Jvm.MethodName)) ∈ lw_all := lw_g (lw_at lw_m11 190 rfl) rfl
theorem q2701 : (Jvm.Cond.code ({ cls := "DotRunsModel", name := "readsSetting", desc := "()V" } : Jvm.MethodName) prog_18_method_99_code (3 : Nat) (Option.none : Option Jvm.ClassFile.FieldType)) ∈ lw_all := lw_g (lw_at lw_m11 191 rfl) rfl
theorem q2702 : (Jvm.Cond.methodLink "DotRunsModel" (359 : Nat) ({ cls := "DotRunsModel", name := "readsLoss", desc := "()V" } : Jvm.MethodName)) ∈ lw_all := lw_g (lw_at lw_m11 192 rfl) rfl
theorem q2703 : (Jvm.Cond.privateMethod ({ cls := "DotRunsModel", name := "readsLoss", desc := "()V" } : Jvm.MethodName)) ∈ lw_tbl := lw_at lw_m11 193 rfl
theorem q2704 : (Jvm.Cond.instanceMethod ({ cls := "DotRunsModel", name := "readsLoss", desc := "()V" } : Jvm.MethodName)) ∈ lw_all := lw_g (lw_at lw_m11 194 rfl) rfl
theorem q2705 : (Jvm.Cond.code ({ cls := "DotRunsModel", name := "readsLoss", desc := "()V" } : Jvm.MethodName) prog_18_method_100_code (3 : Nat) (Option.none : Option Jvm.ClassFile.FieldType)) ∈ lw_all := lw_g (lw_at lw_m11 195 rfl) rfl
theorem q2707 : (Jvm.Cond.instanceMethod ({ cls := "DotRunsModel", name := "errorCode", desc := "()I" } : Jvm.MethodName)) ∈ lw_all := lw_g (lw_at lw_m11 197 rfl) rfl
theorem q2708 : (Jvm.Cond.selects "DotRunsModel" ({ cls := "DotRunsModel", name := "errorCode", desc := "()I" } : Jvm.MethodName) ({ cls := "DotRunsModel", name := "errorCode", desc := "()I" } : Jvm.MethodName)) ∈ lw_all := lw_g (lw_at lw_m11 198 rfl) rfl
theorem q2709 : (Jvm.Cond.code ({ cls := "DotRunsModel", name := "errorCode", desc := "()I" } : Jvm.MethodName) prog_18_method_104_code (1 : Nat) (Option.some Jvm.ClassFile.FieldType.int)) ∈ lw_all := lw_g (lw_at lw_m11 199 rfl) rfl
theorem q2711 : (Jvm.Cond.instanceMethod ({ cls := "DotRunsModel", name := "errorPosition", desc := "()I" } : Jvm.MethodName)) ∈ lw_all := lw_g (lw_at lw_m11 201 rfl) rfl
theorem q2712 : (Jvm.Cond.selects "DotRunsModel" ({ cls := "DotRunsModel", name := "errorPosition", desc := "()I" } : Jvm.MethodName) ({ cls := "DotRunsModel", name := "errorPosition", desc := "()I" } : Jvm.MethodName)) ∈ lw_all := lw_g (lw_at lw_m11 202 rfl) rfl
theorem q2713 : (Jvm.Cond.code ({ cls := "DotRunsModel", name := "errorPosition", desc := "()I" } : Jvm.MethodName) prog_18_method_105_code (1 : Nat) (Option.some Jvm.ClassFile.FieldType.int)) ∈ lw_all := lw_g (lw_at lw_m11 203 rfl) rfl
theorem q2715 : (Jvm.Cond.instanceMethod ({ cls := "DotRunsModel", name := "write", desc := "(I)I" } : Jvm.MethodName)) ∈ lw_all := lw_g (lw_at lw_m11 205 rfl) rfl
theorem q2716 : (Jvm.Cond.selects "DotRunsModel" ({ cls := "DotRunsModel", name := "write", desc := "(I)I" } : Jvm.MethodName) ({ cls := "DotRunsModel", name := "write", desc := "(I)I" } : Jvm.MethodName)) ∈ lw_all := lw_g (lw_at lw_m11 206 rfl) rfl
theorem q2717 : (Jvm.Cond.code ({ cls := "DotRunsModel", name := "write", desc := "(I)I" } : Jvm.MethodName) prog_18_method_110_code (4 : Nat) (Option.some Jvm.ClassFile.FieldType.int)) ∈ lw_all := lw_g (lw_at lw_m11 207 rfl) rfl
theorem q2718 : (Jvm.Cond.methodLink "DotRunsModel" (374 : Nat) ({ cls := "DotRunsModel", name := "printsWord", desc := "(I)V" } : Jvm.MethodName)) ∈ lw_all := lw_g (lw_at lw_m11 208 rfl) rfl
theorem q2719 : (Jvm.Cond.privateMethod ({ cls := "DotRunsModel", name := "printsWord", desc := "(I)V" } : Jvm.MethodName)) ∈ lw_tbl := lw_at lw_m11 209 rfl
theorem q2720 : (Jvm.Cond.instanceMethod ({ cls := "DotRunsModel", name := "printsWord", desc := "(I)V" } : Jvm.MethodName)) ∈ lw_all := lw_g (lw_at lw_m11 210 rfl) rfl
theorem q2721 : (Jvm.Cond.code ({ cls := "DotRunsModel", name := "printsWord", desc := "(I)V" } : Jvm.MethodName) prog_18_method_107_code (4 : Nat) (Option.none : Option Jvm.ClassFile.FieldType)) ∈ lw_all := lw_g (lw_at lw_m11 211 rfl) rfl
theorem q2722 : (Jvm.Cond.methodLink "DotRunsModel" (368 : Nat) ({ cls := "DotRunsModel", name := "prints", desc := "(I)V" } : Jvm.MethodName)) ∈ lw_all := lw_g (lw_at lw_m11 212 rfl) rfl
theorem q2723 : (Jvm.Cond.privateMethod ({ cls := "DotRunsModel", name := "prints", desc := "(I)V" } : Jvm.MethodName)) ∈ lw_tbl := lw_at lw_m11 213 rfl
theorem q2724 : (Jvm.Cond.instanceMethod ({ cls := "DotRunsModel", name := "prints", desc := "(I)V" } : Jvm.MethodName)) ∈ lw_all := lw_g (lw_at lw_m11 214 rfl) rfl
theorem q2725 : (Jvm.Cond.code ({ cls := "DotRunsModel", name := "prints", desc := "(I)V" } : Jvm.MethodName) prog_18_method_106_code (2 : Nat) (Option.none : Option Jvm.ClassFile.FieldType)) ∈ lw_all := lw_g (lw_at lw_m11 215 rfl) rfl
theorem q2726 : (Jvm.Cond.methodLink "DotRunsModel" (371 : Nat) ({ cls := "DotRunsModel", name := "printsNumber", desc := "(I)V" } : Jvm.MethodName)) ∈ lw_all := lw_g (lw_at lw_m11 216 rfl) rfl
theorem q2727 : (Jvm.Cond.privateMethod ({ cls := "DotRunsModel", name := "printsNumber", desc := "(I)V" } : Jvm.MethodName)) ∈ lw_tbl := lw_at lw_m11 217 rfl
theorem q2728 : (Jvm.Cond.instanceMethod ({ cls := "DotRunsModel", name := "printsNumber", desc := "(I)V" } : Jvm.MethodName)) ∈ lw_all := lw_g (lw_at lw_m11 218 rfl) rfl
theorem q2729 : (Jvm.Cond.code ({ cls := "DotRunsModel", name := "printsNumber", desc := "(I)V" } : Jvm.MethodName) prog_18_method_108_code (3 : Nat) (Option.none : Option Jvm.ClassFile.FieldType)) ∈ lw_all := lw_g (lw_at lw_m11 219 rfl) rfl
theorem q2730 : (Jvm.Cond.methodLink "DotRunsModel" (377 : Nat) ({ cls := "DotRunsModel", name := "printsMode", desc := "(I)V" } : Jvm.MethodName)) ∈ lw_all := lw_g (lw_at lw_m11 220 rfl) rfl
theorem q2731 : (Jvm.Cond.privateMethod ({ cls := "DotRunsModel", name := "printsMode", desc := "(I)V" } : Jvm.MethodName)) ∈ lw_tbl := lw_at lw_m11 221 rfl
theorem q2732 : (Jvm.Cond.instanceMethod ({ cls := "DotRunsModel", name := "printsMode", desc := "(I)V" } : Jvm.MethodName)) ∈ lw_all := lw_g (lw_at lw_m11 222 rfl) rfl
theorem q2733 : (Jvm.Cond.code ({ cls := "DotRunsModel", name := "printsMode", desc := "(I)V" } : Jvm.MethodName) prog_18_method_109_code (2 : Nat) (Option.none : Option Jvm.ClassFile.FieldType)) ∈ lw_all := lw_g (lw_at lw_m11 223 rfl) rfl
theorem q2735 : (Jvm.Cond.instanceMethod ({ cls := "DotRunsModel", name := "show", desc := "(I)I" } : Jvm.MethodName)) ∈ lw_all := lw_g (lw_at lw_m11 225 rfl) rfl
theorem q2736 : (Jvm.Cond.selects "DotRunsModel" ({ cls := "DotRunsModel", name := "show", desc := "(I)I" } : Jvm.MethodName) ({ cls := "DotRunsModel", name := "show", desc := "(I)I" } : Jvm.MethodName)) ∈ lw_all := lw_g (lw_at lw_m11 226 rfl) rfl
theorem q2737 : (Jvm.Cond.code ({ cls := "DotRunsModel", name := "show", desc := "(I)I" } : Jvm.MethodName) prog_18_method_111_code (3 : Nat) (Option.some Jvm.ClassFile.FieldType.int)) ∈ lw_all := lw_g (lw_at lw_m11 227 rfl) rfl
theorem q2739 : (Jvm.Cond.instanceMethod ({ cls := "DotRunsModel", name := "output", desc := "(I)I" } : Jvm.MethodName)) ∈ lw_all := lw_g (lw_at lw_m11 229 rfl) rfl
theorem q2740 : (Jvm.Cond.selects "DotRunsModel" ({ cls := "DotRunsModel", name := "output", desc := "(I)I" } : Jvm.MethodName) ({ cls := "DotRunsModel", name := "output", desc := "(I)I" } : Jvm.MethodName)) ∈ lw_all := lw_g (lw_at lw_m11 230 rfl) rfl
theorem q2741 : (Jvm.Cond.code ({ cls := "DotRunsModel", name := "output", desc := "(I)I" } : Jvm.MethodName) prog_18_method_112_code (2 : Nat) (Option.some Jvm.ClassFile.FieldType.int)) ∈ lw_all := lw_g (lw_at lw_m11 231 rfl) rfl
theorem q2743 : (Jvm.Cond.instanceMethod ({ cls := "DotRunsModel", name := "undo", desc := "()I" } : Jvm.MethodName)) ∈ lw_all := lw_g (lw_at lw_m11 233 rfl) rfl
theorem q2744 : (Jvm.Cond.selects "DotRunsModel" ({ cls := "DotRunsModel", name := "undo", desc := "()I" } : Jvm.MethodName) ({ cls := "DotRunsModel", name := "undo", desc := "()I" } : Jvm.MethodName)) ∈ lw_all := lw_g (lw_at lw_m11 234 rfl) rfl
theorem q2745 : (Jvm.Cond.code ({ cls := "DotRunsModel", name := "undo", desc := "()I" } : Jvm.MethodName) prog_18_method_113_code (1 : Nat) (Option.some Jvm.ClassFile.FieldType.int)) ∈ lw_all := lw_g (lw_at lw_m11 235 rfl) rfl
theorem q2747 : (Jvm.Cond.instanceMethod ({ cls := "DotRunsModel", name := "save", desc := "(I)V" } : Jvm.MethodName)) ∈ lw_all := lw_g (lw_at lw_m11 237 rfl) rfl
theorem q2748 : (Jvm.Cond.selects "DotRunsModel" ({ cls := "DotRunsModel", name := "save", desc := "(I)V" } : Jvm.MethodName) ({ cls := "DotRunsModel", name := "save", desc := "(I)V" } : Jvm.MethodName)) ∈ lw_all := lw_g (lw_at lw_m11 238 rfl) rfl
theorem q2749 : (Jvm.Cond.code ({ cls := "DotRunsModel", name := "save", desc := "(I)V" } : Jvm.MethodName) prog_18_method_114_code (2 : Nat) (Option.none : Option Jvm.ClassFile.FieldType)) ∈ lw_all := lw_g (lw_at lw_m11 239 rfl) rfl
theorem q2751 : (Jvm.Cond.instanceMethod ({ cls := "DotRunsModel", name := "restore", desc := "(I)V" } : Jvm.MethodName)) ∈ lw_all := lw_g (lw_at lw_m12 1 rfl) rfl
theorem q2752 : (Jvm.Cond.selects "DotRunsModel" ({ cls := "DotRunsModel", name := "restore", desc := "(I)V" } : Jvm.MethodName) ({ cls := "DotRunsModel", name := "restore", desc := "(I)V" } : Jvm.MethodName)) ∈ lw_all := lw_g (lw_at lw_m12 2 rfl) rfl
theorem q2753 : (Jvm.Cond.code ({ cls := "DotRunsModel", name := "restore", desc := "(I)V" } : Jvm.MethodName) prog_18_method_115_code (2 : Nat) (Option.none : Option Jvm.ClassFile.FieldType)) ∈ lw_all := lw_g (lw_at lw_m12 3 rfl) rfl
theorem q2781 : (Jvm.Cond.castable "DotRunsModel" "java/lang/Object") ∈ lw_tbl := lw_at lw_m12 31 rfl
theorem in_X3 : ∀ w ∈ wsX30, w ∈ lw_all := lw_in wsX30 [2227, 2229, 2231, 2233, 2235, 2237, 2239, 2241, 2243, 2245, 2247, 2249, 2251, 2253, 2255, 2257, 2259, 2261, 2263, 2265, 2267, 2269, 2271, 2273, 2275, 2277, 2279, 2281, 2283, 2285, 2287, 2289, 2291, 2293, 2295, 2297, 2299, 2301, 2303, 2305, 2307, 2309] (by decide +kernel) (by decide +kernel)
