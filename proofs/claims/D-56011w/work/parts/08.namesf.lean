/-! WindowExchangeModel -/
set_option maxRecDepth 100000
def RX3 : String := "WindowExchangeModel"
def TX3 : u_T := fun k => match k with
  | 0 => ("WindowExchangeModel", "m", "[I", true)
  | 1 => ("WindowExchangeModel", "aside", "[I", true)
  | 2 => ("WindowExchangeModel", "saved", "[I", true)
  | 3 => ("WindowExchangeModel", "isSaved", "Z", false)
  | 4 => ("WindowExchangeModel", "past", "[I", true)
  | 5 => ("WindowExchangeModel", "changes", "I", false)
  | 6 => ("WindowExchangeModel", "errorAt", "I", false)
  | 7 => ("WindowExchangeModel", "failed", "I", false)
  | 8 => ("WindowExchangeModel", "thrown", "I", false)
  | 9 => ("WindowExchangeModel", "program", "[I", true)
  | 10 => ("WindowExchangeModel", "programMany", "I", false)
  | 11 => ("WindowExchangeModel", "line", "[I", true)
  | 12 => ("WindowExchangeModel", "lineMany", "I", false)
  | 13 => ("WindowExchangeModel", "letters", "[C", true)
  | 14 => ("WindowExchangeModel", "begins0", "[I", true)
  | 15 => ("WindowExchangeModel", "commands", "[I", true)
  | 16 => ("WindowExchangeModel", "commandMany", "I", false)
  | 17 => ("WindowExchangeModel", "place0", "I", false)
  | 18 => ("WindowExchangeModel", "size0", "I", false)
  | _ => ("WindowExchangeModel", "isWrong", "Z", false)
def tyX3 : Nat → FieldType := fun k => match k with
  | 0 => .array .int
  | 1 => .array .int
  | 2 => .array .int
  | 3 => .boolean
  | 4 => .array .int
  | 5 => .int
  | 6 => .int
  | 7 => .int
  | 8 => .int
  | 9 => .array .int
  | 10 => .int
  | 11 => .array .int
  | 12 => .int
  | 13 => .array .char
  | 14 => .array .int
  | 15 => .array .int
  | 16 => .int
  | 17 => .int
  | 18 => .int
  | _ => .boolean
abbrev wsX30 : List Cond := u_ws RX3 TX3 20
set_option maxRecDepth 100000 in
theorem nmX3 : ∀ a, a < 20 → ∀ b, b < 20 → a ≠ b → (TX3 a).2.1 ≠ (TX3 b).2.1 := by decide +kernel
set_option maxRecDepth 100000 in
theorem tyX3_ok : ∀ k, k < 20 → parseFieldDescriptor (TX3 k).2.2.1 = some (tyX3 k) := by decide +kernel
abbrev cX3_init : ByteArray := prog_15_method_1_code
def yX3_init : MethodName := ⟨RX3, "<init>", "()V"⟩
def dkwX3_init_19 : List UInt8 := [177]
abbrev dktX3_init_19 : List UInt8 := dkwX3_init_19 ++ []
def dkwX3_init_18 : List UInt8 := [79, 3, 60, 27, 7, 162, 0, 19, 42, 180, 0, 9, 16, 13, 27, 96, 2, 79, 132, 1, 1, 167, 255, 238]
abbrev dktX3_init_18 : List UInt8 := dkwX3_init_18 ++ dktX3_init_19
def dkwX3_init_17 : List UInt8 := [16, 9, 16, 47, 79, 181, 0, 39, 42, 17, 1, 110, 188, 10, 181, 0, 42, 42, 180, 0, 9, 16, 11, 2]
abbrev dktX3_init_17 : List UInt8 := dkwX3_init_17 ++ dktX3_init_18
def dkwX3_init_16 : List UInt8 := [8, 16, 29, 79, 89, 16, 6, 16, 34, 79, 89, 16, 7, 16, 39, 79, 89, 16, 8, 16, 44, 79, 89]
abbrev dktX3_init_16 : List UInt8 := dkwX3_init_16 ++ dktX3_init_17
def dkwX3_init_15 : List UInt8 := [3, 3, 79, 89, 4, 16, 7, 79, 89, 5, 16, 11, 79, 89, 6, 16, 16, 79, 89, 7, 16, 23, 79, 89]
abbrev dktX3_init_15 : List UInt8 := dkwX3_init_15 ++ dktX3_init_16
def dkwX3_init_14 : List UInt8 := [16, 100, 85, 89, 16, 45, 16, 97, 85, 89, 16, 46, 16, 121, 85, 181, 0, 35, 42, 16, 10, 188, 10, 89]
abbrev dktX3_init_14 : List UInt8 := dkwX3_init_14 ++ dktX3_init_15
def dkwX3_init_13 : List UInt8 := [16, 108, 85, 89, 16, 41, 16, 111, 85, 89, 16, 42, 16, 115, 85, 89, 16, 43, 16, 101, 85, 89, 16, 44]
abbrev dktX3_init_13 : List UInt8 := dkwX3_init_13 ++ dktX3_init_14
def dkwX3_init_12 : List UInt8 := [16, 97, 85, 89, 16, 37, 16, 108, 85, 89, 16, 38, 16, 32, 85, 89, 16, 39, 16, 99, 85, 89, 16, 40]
abbrev dktX3_init_12 : List UInt8 := dkwX3_init_12 ++ dktX3_init_13
def dkwX3_init_11 : List UInt8 := [16, 110, 85, 89, 16, 33, 16, 32, 85, 89, 16, 34, 16, 115, 85, 89, 16, 35, 16, 101, 85, 89, 16, 36]
abbrev dktX3_init_11 : List UInt8 := dkwX3_init_11 ++ dktX3_init_12
def dkwX3_init_10 : List UInt8 := [16, 32, 85, 89, 16, 29, 16, 111, 85, 89, 16, 30, 16, 112, 85, 89, 16, 31, 16, 101, 85, 89, 16, 32]
abbrev dktX3_init_10 : List UInt8 := dkwX3_init_10 ++ dktX3_init_11
def dkwX3_init_9 : List UInt8 := [16, 103, 85, 89, 16, 25, 16, 114, 85, 89, 16, 26, 16, 101, 85, 89, 16, 27, 16, 101, 85, 89, 16, 28]
abbrev dktX3_init_9 : List UInt8 := dkwX3_init_9 ++ dktX3_init_10
def dkwX3_init_8 : List UInt8 := [16, 101, 85, 89, 16, 21, 16, 108, 85, 89, 16, 22, 16, 32, 85, 89, 16, 23, 16, 97, 85, 89, 16, 24]
abbrev dktX3_init_8 : List UInt8 := dkwX3_init_8 ++ dktX3_init_9
def dkwX3_init_7 : List UInt8 := [16, 99, 85, 89, 16, 17, 16, 97, 85, 89, 16, 18, 16, 110, 85, 89, 16, 19, 16, 99, 85, 89, 16, 20]
abbrev dktX3_init_7 : List UInt8 := dkwX3_init_7 ++ dktX3_init_8
def dkwX3_init_6 : List UInt8 := [16, 101, 85, 89, 16, 13, 16, 108, 85, 89, 16, 14, 16, 108, 85, 89, 16, 15, 16, 32, 85, 89, 16, 16]
abbrev dktX3_init_6 : List UInt8 := dkwX3_init_6 ++ dktX3_init_7
def dkwX3_init_5 : List UInt8 := [16, 117, 85, 89, 16, 9, 16, 121, 85, 89, 16, 10, 16, 32, 85, 89, 16, 11, 16, 115, 85, 89, 16, 12]
abbrev dktX3_init_5 : List UInt8 := dkwX3_init_5 ++ dktX3_init_6
def dkwX3_init_4 : List UInt8 := [16, 101, 85, 89, 8, 16, 114, 85, 89, 16, 6, 16, 32, 85, 89, 16, 7, 16, 98, 85, 89, 16, 8]
abbrev dktX3_init_4 : List UInt8 := dkwX3_init_4 ++ dktX3_init_5
def dkwX3_init_3 : List UInt8 := [188, 5, 89, 3, 16, 116, 85, 89, 4, 16, 114, 85, 89, 5, 16, 97, 85, 89, 6, 16, 100, 85, 89, 7]
abbrev dktX3_init_3 : List UInt8 := dkwX3_init_3 ++ dktX3_init_4
def dkwX3_init_2 : List UInt8 := [181, 0, 26, 42, 16, 60, 188, 10, 181, 0, 29, 42, 17, 0, 160, 188, 10, 181, 0, 32, 42, 16, 47]
abbrev dktX3_init_2 : List UInt8 := dkwX3_init_2 ++ dktX3_init_3
def dkwX3_init_1 : List UInt8 := [17, 0, 155, 188, 10, 181, 0, 16, 42, 17, 4, 216, 188, 10, 181, 0, 19, 42, 2, 181, 0, 22, 42, 2]
abbrev dktX3_init_1 : List UInt8 := dkwX3_init_1 ++ dktX3_init_2
def dkwX3_init_0 : List UInt8 := [42, 183, 0, 1, 42, 17, 0, 155, 188, 10, 181, 0, 9, 42, 17, 0, 155, 188, 10, 181, 0, 13, 42]
abbrev dktX3_init_0 : List UInt8 := dkwX3_init_0 ++ dktX3_init_1
theorem dksX3_init_0 : cX3_init.data.toList.drop 0 = dktX3_init_0 := by decide +kernel
theorem dksX3_init_1 : cX3_init.data.toList.drop 23 = dktX3_init_1 := dk_seg dksX3_init_0 23 rfl rfl
theorem dksX3_init_2 : cX3_init.data.toList.drop 47 = dktX3_init_2 := dk_seg dksX3_init_1 24 rfl rfl
theorem dksX3_init_3 : cX3_init.data.toList.drop 70 = dktX3_init_3 := dk_seg dksX3_init_2 23 rfl rfl
theorem dksX3_init_4 : cX3_init.data.toList.drop 94 = dktX3_init_4 := dk_seg dksX3_init_3 24 rfl rfl
theorem dksX3_init_5 : cX3_init.data.toList.drop 117 = dktX3_init_5 := dk_seg dksX3_init_4 23 rfl rfl
theorem dksX3_init_6 : cX3_init.data.toList.drop 141 = dktX3_init_6 := dk_seg dksX3_init_5 24 rfl rfl
theorem dksX3_init_7 : cX3_init.data.toList.drop 165 = dktX3_init_7 := dk_seg dksX3_init_6 24 rfl rfl
theorem dksX3_init_8 : cX3_init.data.toList.drop 189 = dktX3_init_8 := dk_seg dksX3_init_7 24 rfl rfl
theorem dksX3_init_9 : cX3_init.data.toList.drop 213 = dktX3_init_9 := dk_seg dksX3_init_8 24 rfl rfl
theorem dksX3_init_10 : cX3_init.data.toList.drop 237 = dktX3_init_10 := dk_seg dksX3_init_9 24 rfl rfl
theorem dksX3_init_11 : cX3_init.data.toList.drop 261 = dktX3_init_11 := dk_seg dksX3_init_10 24 rfl rfl
theorem dksX3_init_12 : cX3_init.data.toList.drop 285 = dktX3_init_12 := dk_seg dksX3_init_11 24 rfl rfl
theorem dksX3_init_13 : cX3_init.data.toList.drop 309 = dktX3_init_13 := dk_seg dksX3_init_12 24 rfl rfl
theorem dksX3_init_14 : cX3_init.data.toList.drop 333 = dktX3_init_14 := dk_seg dksX3_init_13 24 rfl rfl
theorem dksX3_init_15 : cX3_init.data.toList.drop 357 = dktX3_init_15 := dk_seg dksX3_init_14 24 rfl rfl
theorem dksX3_init_16 : cX3_init.data.toList.drop 381 = dktX3_init_16 := dk_seg dksX3_init_15 24 rfl rfl
theorem dksX3_init_17 : cX3_init.data.toList.drop 404 = dktX3_init_17 := dk_seg dksX3_init_16 23 rfl rfl
theorem dksX3_init_18 : cX3_init.data.toList.drop 428 = dktX3_init_18 := dk_seg dksX3_init_17 24 rfl rfl
theorem dksX3_init_19 : cX3_init.data.toList.drop 452 = dktX3_init_19 := dk_seg dksX3_init_18 24 rfl rfl
theorem dX3_init_0 : decode cX3_init 0 = .ok (.aload_n 0, 1) := dk_42 (dk_at dksX3_init_0 0 rfl rfl)
theorem dX3_init_1 : decode cX3_init 1 = .ok (.invokespecial 1, 3) := dk_183 0 1 (dk_at dksX3_init_0 1 rfl rfl)
theorem dX3_init_4 : decode cX3_init 4 = .ok (.aload_n 0, 1) := dk_42 (dk_at dksX3_init_0 4 rfl rfl)
theorem dX3_init_5 : decode cX3_init 5 = .ok (.sipush 155, 3) := dk_17 0 155 (dk_at dksX3_init_0 5 rfl rfl)
theorem dX3_init_8 : decode cX3_init 8 = .ok (.newarray .int, 2) := dk_188_10 (dk_at dksX3_init_0 8 rfl rfl)
theorem dX3_init_10 : decode cX3_init 10 = .ok (.putfield 9, 3) := dk_181 0 9 (dk_at dksX3_init_0 10 rfl rfl)
theorem dX3_init_13 : decode cX3_init 13 = .ok (.aload_n 0, 1) := dk_42 (dk_at dksX3_init_0 13 rfl rfl)
theorem dX3_init_14 : decode cX3_init 14 = .ok (.sipush 155, 3) := dk_17 0 155 (dk_at dksX3_init_0 14 rfl rfl)
theorem dX3_init_17 : decode cX3_init 17 = .ok (.newarray .int, 2) := dk_188_10 (dk_at dksX3_init_0 17 rfl rfl)
theorem dX3_init_19 : decode cX3_init 19 = .ok (.putfield 13, 3) := dk_181 0 13 (dk_at dksX3_init_0 19 rfl rfl)
theorem dX3_init_22 : decode cX3_init 22 = .ok (.aload_n 0, 1) := dk_42 (dk_at dksX3_init_0 22 rfl rfl)
theorem dX3_init_23 : decode cX3_init 23 = .ok (.sipush 155, 3) := dk_17 0 155 (dk_at dksX3_init_1 0 rfl rfl)
theorem dX3_init_26 : decode cX3_init 26 = .ok (.newarray .int, 2) := dk_188_10 (dk_at dksX3_init_1 3 rfl rfl)
theorem dX3_init_28 : decode cX3_init 28 = .ok (.putfield 16, 3) := dk_181 0 16 (dk_at dksX3_init_1 5 rfl rfl)
theorem dX3_init_31 : decode cX3_init 31 = .ok (.aload_n 0, 1) := dk_42 (dk_at dksX3_init_1 8 rfl rfl)
theorem dX3_init_32 : decode cX3_init 32 = .ok (.sipush 1240, 3) := dk_17 4 216 (dk_at dksX3_init_1 9 rfl rfl)
theorem dX3_init_35 : decode cX3_init 35 = .ok (.newarray .int, 2) := dk_188_10 (dk_at dksX3_init_1 12 rfl rfl)
theorem dX3_init_37 : decode cX3_init 37 = .ok (.putfield 19, 3) := dk_181 0 19 (dk_at dksX3_init_1 14 rfl rfl)
theorem dX3_init_40 : decode cX3_init 40 = .ok (.aload_n 0, 1) := dk_42 (dk_at dksX3_init_1 17 rfl rfl)
theorem dX3_init_41 : decode cX3_init 41 = .ok (.iconst (-1), 1) := dk_2 (dk_at dksX3_init_1 18 rfl rfl)
theorem dX3_init_42 : decode cX3_init 42 = .ok (.putfield 22, 3) := dk_181 0 22 (dk_at dksX3_init_1 19 rfl rfl)
theorem dX3_init_45 : decode cX3_init 45 = .ok (.aload_n 0, 1) := dk_42 (dk_at dksX3_init_1 22 rfl rfl)
theorem dX3_init_46 : decode cX3_init 46 = .ok (.iconst (-1), 1) := dk_2 (dk_at dksX3_init_1 23 rfl rfl)
theorem dX3_init_47 : decode cX3_init 47 = .ok (.putfield 26, 3) := dk_181 0 26 (dk_at dksX3_init_2 0 rfl rfl)
theorem dX3_init_50 : decode cX3_init 50 = .ok (.aload_n 0, 1) := dk_42 (dk_at dksX3_init_2 3 rfl rfl)
theorem dX3_init_51 : decode cX3_init 51 = .ok (.bipush 60, 2) := dk_16 60 (dk_at dksX3_init_2 4 rfl rfl)
theorem dX3_init_53 : decode cX3_init 53 = .ok (.newarray .int, 2) := dk_188_10 (dk_at dksX3_init_2 6 rfl rfl)
theorem dX3_init_55 : decode cX3_init 55 = .ok (.putfield 29, 3) := dk_181 0 29 (dk_at dksX3_init_2 8 rfl rfl)
theorem dX3_init_58 : decode cX3_init 58 = .ok (.aload_n 0, 1) := dk_42 (dk_at dksX3_init_2 11 rfl rfl)
theorem dX3_init_59 : decode cX3_init 59 = .ok (.sipush 160, 3) := dk_17 0 160 (dk_at dksX3_init_2 12 rfl rfl)
theorem dX3_init_62 : decode cX3_init 62 = .ok (.newarray .int, 2) := dk_188_10 (dk_at dksX3_init_2 15 rfl rfl)
theorem dX3_init_64 : decode cX3_init 64 = .ok (.putfield 32, 3) := dk_181 0 32 (dk_at dksX3_init_2 17 rfl rfl)
theorem dX3_init_67 : decode cX3_init 67 = .ok (.aload_n 0, 1) := dk_42 (dk_at dksX3_init_2 20 rfl rfl)
theorem dX3_init_68 : decode cX3_init 68 = .ok (.bipush 47, 2) := dk_16 47 (dk_at dksX3_init_2 21 rfl rfl)
theorem dX3_init_70 : decode cX3_init 70 = .ok (.newarray .char, 2) := dk_188_5 (dk_at dksX3_init_3 0 rfl rfl)
theorem dX3_init_72 : decode cX3_init 72 = .ok (.dup, 1) := dk_89 (dk_at dksX3_init_3 2 rfl rfl)
theorem dX3_init_73 : decode cX3_init 73 = .ok (.iconst 0, 1) := dk_3 (dk_at dksX3_init_3 3 rfl rfl)
theorem dX3_init_74 : decode cX3_init 74 = .ok (.bipush 116, 2) := dk_16 116 (dk_at dksX3_init_3 4 rfl rfl)
theorem dX3_init_76 : decode cX3_init 76 = .ok (.castore, 1) := dk_85 (dk_at dksX3_init_3 6 rfl rfl)
theorem dX3_init_77 : decode cX3_init 77 = .ok (.dup, 1) := dk_89 (dk_at dksX3_init_3 7 rfl rfl)
theorem dX3_init_78 : decode cX3_init 78 = .ok (.iconst 1, 1) := dk_4 (dk_at dksX3_init_3 8 rfl rfl)
theorem dX3_init_79 : decode cX3_init 79 = .ok (.bipush 114, 2) := dk_16 114 (dk_at dksX3_init_3 9 rfl rfl)
theorem dX3_init_81 : decode cX3_init 81 = .ok (.castore, 1) := dk_85 (dk_at dksX3_init_3 11 rfl rfl)
theorem dX3_init_82 : decode cX3_init 82 = .ok (.dup, 1) := dk_89 (dk_at dksX3_init_3 12 rfl rfl)
theorem dX3_init_83 : decode cX3_init 83 = .ok (.iconst 2, 1) := dk_5 (dk_at dksX3_init_3 13 rfl rfl)
theorem dX3_init_84 : decode cX3_init 84 = .ok (.bipush 97, 2) := dk_16 97 (dk_at dksX3_init_3 14 rfl rfl)
theorem dX3_init_86 : decode cX3_init 86 = .ok (.castore, 1) := dk_85 (dk_at dksX3_init_3 16 rfl rfl)
theorem dX3_init_87 : decode cX3_init 87 = .ok (.dup, 1) := dk_89 (dk_at dksX3_init_3 17 rfl rfl)
theorem dX3_init_88 : decode cX3_init 88 = .ok (.iconst 3, 1) := dk_6 (dk_at dksX3_init_3 18 rfl rfl)
theorem dX3_init_89 : decode cX3_init 89 = .ok (.bipush 100, 2) := dk_16 100 (dk_at dksX3_init_3 19 rfl rfl)
theorem dX3_init_91 : decode cX3_init 91 = .ok (.castore, 1) := dk_85 (dk_at dksX3_init_3 21 rfl rfl)
theorem dX3_init_92 : decode cX3_init 92 = .ok (.dup, 1) := dk_89 (dk_at dksX3_init_3 22 rfl rfl)
theorem dX3_init_93 : decode cX3_init 93 = .ok (.iconst 4, 1) := dk_7 (dk_at dksX3_init_3 23 rfl rfl)
theorem dX3_init_94 : decode cX3_init 94 = .ok (.bipush 101, 2) := dk_16 101 (dk_at dksX3_init_4 0 rfl rfl)
theorem dX3_init_96 : decode cX3_init 96 = .ok (.castore, 1) := dk_85 (dk_at dksX3_init_4 2 rfl rfl)
theorem dX3_init_97 : decode cX3_init 97 = .ok (.dup, 1) := dk_89 (dk_at dksX3_init_4 3 rfl rfl)
theorem dX3_init_98 : decode cX3_init 98 = .ok (.iconst 5, 1) := dk_8 (dk_at dksX3_init_4 4 rfl rfl)
theorem dX3_init_99 : decode cX3_init 99 = .ok (.bipush 114, 2) := dk_16 114 (dk_at dksX3_init_4 5 rfl rfl)
theorem dX3_init_101 : decode cX3_init 101 = .ok (.castore, 1) := dk_85 (dk_at dksX3_init_4 7 rfl rfl)
theorem dX3_init_102 : decode cX3_init 102 = .ok (.dup, 1) := dk_89 (dk_at dksX3_init_4 8 rfl rfl)
theorem dX3_init_103 : decode cX3_init 103 = .ok (.bipush 6, 2) := dk_16 6 (dk_at dksX3_init_4 9 rfl rfl)
theorem dX3_init_105 : decode cX3_init 105 = .ok (.bipush 32, 2) := dk_16 32 (dk_at dksX3_init_4 11 rfl rfl)
theorem dX3_init_107 : decode cX3_init 107 = .ok (.castore, 1) := dk_85 (dk_at dksX3_init_4 13 rfl rfl)
theorem dX3_init_108 : decode cX3_init 108 = .ok (.dup, 1) := dk_89 (dk_at dksX3_init_4 14 rfl rfl)
theorem dX3_init_109 : decode cX3_init 109 = .ok (.bipush 7, 2) := dk_16 7 (dk_at dksX3_init_4 15 rfl rfl)
theorem dX3_init_111 : decode cX3_init 111 = .ok (.bipush 98, 2) := dk_16 98 (dk_at dksX3_init_4 17 rfl rfl)
theorem dX3_init_113 : decode cX3_init 113 = .ok (.castore, 1) := dk_85 (dk_at dksX3_init_4 19 rfl rfl)
theorem dX3_init_114 : decode cX3_init 114 = .ok (.dup, 1) := dk_89 (dk_at dksX3_init_4 20 rfl rfl)
theorem dX3_init_115 : decode cX3_init 115 = .ok (.bipush 8, 2) := dk_16 8 (dk_at dksX3_init_4 21 rfl rfl)
theorem dX3_init_117 : decode cX3_init 117 = .ok (.bipush 117, 2) := dk_16 117 (dk_at dksX3_init_5 0 rfl rfl)
theorem dX3_init_119 : decode cX3_init 119 = .ok (.castore, 1) := dk_85 (dk_at dksX3_init_5 2 rfl rfl)
theorem dX3_init_120 : decode cX3_init 120 = .ok (.dup, 1) := dk_89 (dk_at dksX3_init_5 3 rfl rfl)
theorem dX3_init_121 : decode cX3_init 121 = .ok (.bipush 9, 2) := dk_16 9 (dk_at dksX3_init_5 4 rfl rfl)
theorem dX3_init_123 : decode cX3_init 123 = .ok (.bipush 121, 2) := dk_16 121 (dk_at dksX3_init_5 6 rfl rfl)
theorem dX3_init_125 : decode cX3_init 125 = .ok (.castore, 1) := dk_85 (dk_at dksX3_init_5 8 rfl rfl)
theorem dX3_init_126 : decode cX3_init 126 = .ok (.dup, 1) := dk_89 (dk_at dksX3_init_5 9 rfl rfl)
theorem dX3_init_127 : decode cX3_init 127 = .ok (.bipush 10, 2) := dk_16 10 (dk_at dksX3_init_5 10 rfl rfl)
theorem dX3_init_129 : decode cX3_init 129 = .ok (.bipush 32, 2) := dk_16 32 (dk_at dksX3_init_5 12 rfl rfl)
theorem dX3_init_131 : decode cX3_init 131 = .ok (.castore, 1) := dk_85 (dk_at dksX3_init_5 14 rfl rfl)
theorem dX3_init_132 : decode cX3_init 132 = .ok (.dup, 1) := dk_89 (dk_at dksX3_init_5 15 rfl rfl)
theorem dX3_init_133 : decode cX3_init 133 = .ok (.bipush 11, 2) := dk_16 11 (dk_at dksX3_init_5 16 rfl rfl)
theorem dX3_init_135 : decode cX3_init 135 = .ok (.bipush 115, 2) := dk_16 115 (dk_at dksX3_init_5 18 rfl rfl)
theorem dX3_init_137 : decode cX3_init 137 = .ok (.castore, 1) := dk_85 (dk_at dksX3_init_5 20 rfl rfl)
theorem dX3_init_138 : decode cX3_init 138 = .ok (.dup, 1) := dk_89 (dk_at dksX3_init_5 21 rfl rfl)
theorem dX3_init_139 : decode cX3_init 139 = .ok (.bipush 12, 2) := dk_16 12 (dk_at dksX3_init_5 22 rfl rfl)
theorem dX3_init_141 : decode cX3_init 141 = .ok (.bipush 101, 2) := dk_16 101 (dk_at dksX3_init_6 0 rfl rfl)
theorem dX3_init_143 : decode cX3_init 143 = .ok (.castore, 1) := dk_85 (dk_at dksX3_init_6 2 rfl rfl)
theorem dX3_init_144 : decode cX3_init 144 = .ok (.dup, 1) := dk_89 (dk_at dksX3_init_6 3 rfl rfl)
theorem dX3_init_145 : decode cX3_init 145 = .ok (.bipush 13, 2) := dk_16 13 (dk_at dksX3_init_6 4 rfl rfl)
theorem dX3_init_147 : decode cX3_init 147 = .ok (.bipush 108, 2) := dk_16 108 (dk_at dksX3_init_6 6 rfl rfl)
theorem dX3_init_149 : decode cX3_init 149 = .ok (.castore, 1) := dk_85 (dk_at dksX3_init_6 8 rfl rfl)
theorem dX3_init_150 : decode cX3_init 150 = .ok (.dup, 1) := dk_89 (dk_at dksX3_init_6 9 rfl rfl)
theorem dX3_init_151 : decode cX3_init 151 = .ok (.bipush 14, 2) := dk_16 14 (dk_at dksX3_init_6 10 rfl rfl)
theorem dX3_init_153 : decode cX3_init 153 = .ok (.bipush 108, 2) := dk_16 108 (dk_at dksX3_init_6 12 rfl rfl)
theorem dX3_init_155 : decode cX3_init 155 = .ok (.castore, 1) := dk_85 (dk_at dksX3_init_6 14 rfl rfl)
theorem dX3_init_156 : decode cX3_init 156 = .ok (.dup, 1) := dk_89 (dk_at dksX3_init_6 15 rfl rfl)
theorem dX3_init_157 : decode cX3_init 157 = .ok (.bipush 15, 2) := dk_16 15 (dk_at dksX3_init_6 16 rfl rfl)
theorem dX3_init_159 : decode cX3_init 159 = .ok (.bipush 32, 2) := dk_16 32 (dk_at dksX3_init_6 18 rfl rfl)
theorem dX3_init_161 : decode cX3_init 161 = .ok (.castore, 1) := dk_85 (dk_at dksX3_init_6 20 rfl rfl)
theorem dX3_init_162 : decode cX3_init 162 = .ok (.dup, 1) := dk_89 (dk_at dksX3_init_6 21 rfl rfl)
theorem dX3_init_163 : decode cX3_init 163 = .ok (.bipush 16, 2) := dk_16 16 (dk_at dksX3_init_6 22 rfl rfl)
theorem dX3_init_165 : decode cX3_init 165 = .ok (.bipush 99, 2) := dk_16 99 (dk_at dksX3_init_7 0 rfl rfl)
theorem dX3_init_167 : decode cX3_init 167 = .ok (.castore, 1) := dk_85 (dk_at dksX3_init_7 2 rfl rfl)
theorem dX3_init_168 : decode cX3_init 168 = .ok (.dup, 1) := dk_89 (dk_at dksX3_init_7 3 rfl rfl)
theorem dX3_init_169 : decode cX3_init 169 = .ok (.bipush 17, 2) := dk_16 17 (dk_at dksX3_init_7 4 rfl rfl)
theorem dX3_init_171 : decode cX3_init 171 = .ok (.bipush 97, 2) := dk_16 97 (dk_at dksX3_init_7 6 rfl rfl)
theorem dX3_init_173 : decode cX3_init 173 = .ok (.castore, 1) := dk_85 (dk_at dksX3_init_7 8 rfl rfl)
theorem dX3_init_174 : decode cX3_init 174 = .ok (.dup, 1) := dk_89 (dk_at dksX3_init_7 9 rfl rfl)
theorem dX3_init_175 : decode cX3_init 175 = .ok (.bipush 18, 2) := dk_16 18 (dk_at dksX3_init_7 10 rfl rfl)
theorem dX3_init_177 : decode cX3_init 177 = .ok (.bipush 110, 2) := dk_16 110 (dk_at dksX3_init_7 12 rfl rfl)
theorem dX3_init_179 : decode cX3_init 179 = .ok (.castore, 1) := dk_85 (dk_at dksX3_init_7 14 rfl rfl)
theorem dX3_init_180 : decode cX3_init 180 = .ok (.dup, 1) := dk_89 (dk_at dksX3_init_7 15 rfl rfl)
theorem dX3_init_181 : decode cX3_init 181 = .ok (.bipush 19, 2) := dk_16 19 (dk_at dksX3_init_7 16 rfl rfl)
theorem dX3_init_183 : decode cX3_init 183 = .ok (.bipush 99, 2) := dk_16 99 (dk_at dksX3_init_7 18 rfl rfl)
theorem dX3_init_185 : decode cX3_init 185 = .ok (.castore, 1) := dk_85 (dk_at dksX3_init_7 20 rfl rfl)
theorem dX3_init_186 : decode cX3_init 186 = .ok (.dup, 1) := dk_89 (dk_at dksX3_init_7 21 rfl rfl)
theorem dX3_init_187 : decode cX3_init 187 = .ok (.bipush 20, 2) := dk_16 20 (dk_at dksX3_init_7 22 rfl rfl)
theorem dX3_init_189 : decode cX3_init 189 = .ok (.bipush 101, 2) := dk_16 101 (dk_at dksX3_init_8 0 rfl rfl)
theorem dX3_init_191 : decode cX3_init 191 = .ok (.castore, 1) := dk_85 (dk_at dksX3_init_8 2 rfl rfl)
theorem dX3_init_192 : decode cX3_init 192 = .ok (.dup, 1) := dk_89 (dk_at dksX3_init_8 3 rfl rfl)
theorem dX3_init_193 : decode cX3_init 193 = .ok (.bipush 21, 2) := dk_16 21 (dk_at dksX3_init_8 4 rfl rfl)
theorem dX3_init_195 : decode cX3_init 195 = .ok (.bipush 108, 2) := dk_16 108 (dk_at dksX3_init_8 6 rfl rfl)
theorem dX3_init_197 : decode cX3_init 197 = .ok (.castore, 1) := dk_85 (dk_at dksX3_init_8 8 rfl rfl)
theorem dX3_init_198 : decode cX3_init 198 = .ok (.dup, 1) := dk_89 (dk_at dksX3_init_8 9 rfl rfl)
theorem dX3_init_199 : decode cX3_init 199 = .ok (.bipush 22, 2) := dk_16 22 (dk_at dksX3_init_8 10 rfl rfl)
theorem dX3_init_201 : decode cX3_init 201 = .ok (.bipush 32, 2) := dk_16 32 (dk_at dksX3_init_8 12 rfl rfl)
theorem dX3_init_203 : decode cX3_init 203 = .ok (.castore, 1) := dk_85 (dk_at dksX3_init_8 14 rfl rfl)
theorem dX3_init_204 : decode cX3_init 204 = .ok (.dup, 1) := dk_89 (dk_at dksX3_init_8 15 rfl rfl)
theorem dX3_init_205 : decode cX3_init 205 = .ok (.bipush 23, 2) := dk_16 23 (dk_at dksX3_init_8 16 rfl rfl)
theorem dX3_init_207 : decode cX3_init 207 = .ok (.bipush 97, 2) := dk_16 97 (dk_at dksX3_init_8 18 rfl rfl)
theorem dX3_init_209 : decode cX3_init 209 = .ok (.castore, 1) := dk_85 (dk_at dksX3_init_8 20 rfl rfl)
theorem dX3_init_210 : decode cX3_init 210 = .ok (.dup, 1) := dk_89 (dk_at dksX3_init_8 21 rfl rfl)
theorem dX3_init_211 : decode cX3_init 211 = .ok (.bipush 24, 2) := dk_16 24 (dk_at dksX3_init_8 22 rfl rfl)
theorem dX3_init_213 : decode cX3_init 213 = .ok (.bipush 103, 2) := dk_16 103 (dk_at dksX3_init_9 0 rfl rfl)
theorem dX3_init_215 : decode cX3_init 215 = .ok (.castore, 1) := dk_85 (dk_at dksX3_init_9 2 rfl rfl)
theorem dX3_init_216 : decode cX3_init 216 = .ok (.dup, 1) := dk_89 (dk_at dksX3_init_9 3 rfl rfl)
theorem dX3_init_217 : decode cX3_init 217 = .ok (.bipush 25, 2) := dk_16 25 (dk_at dksX3_init_9 4 rfl rfl)
theorem dX3_init_219 : decode cX3_init 219 = .ok (.bipush 114, 2) := dk_16 114 (dk_at dksX3_init_9 6 rfl rfl)
theorem dX3_init_221 : decode cX3_init 221 = .ok (.castore, 1) := dk_85 (dk_at dksX3_init_9 8 rfl rfl)
theorem dX3_init_222 : decode cX3_init 222 = .ok (.dup, 1) := dk_89 (dk_at dksX3_init_9 9 rfl rfl)
theorem dX3_init_223 : decode cX3_init 223 = .ok (.bipush 26, 2) := dk_16 26 (dk_at dksX3_init_9 10 rfl rfl)
theorem dX3_init_225 : decode cX3_init 225 = .ok (.bipush 101, 2) := dk_16 101 (dk_at dksX3_init_9 12 rfl rfl)
theorem dX3_init_227 : decode cX3_init 227 = .ok (.castore, 1) := dk_85 (dk_at dksX3_init_9 14 rfl rfl)
theorem dX3_init_228 : decode cX3_init 228 = .ok (.dup, 1) := dk_89 (dk_at dksX3_init_9 15 rfl rfl)
theorem dX3_init_229 : decode cX3_init 229 = .ok (.bipush 27, 2) := dk_16 27 (dk_at dksX3_init_9 16 rfl rfl)
theorem dX3_init_231 : decode cX3_init 231 = .ok (.bipush 101, 2) := dk_16 101 (dk_at dksX3_init_9 18 rfl rfl)
theorem dX3_init_233 : decode cX3_init 233 = .ok (.castore, 1) := dk_85 (dk_at dksX3_init_9 20 rfl rfl)
theorem dX3_init_234 : decode cX3_init 234 = .ok (.dup, 1) := dk_89 (dk_at dksX3_init_9 21 rfl rfl)
theorem dX3_init_235 : decode cX3_init 235 = .ok (.bipush 28, 2) := dk_16 28 (dk_at dksX3_init_9 22 rfl rfl)
theorem dX3_init_237 : decode cX3_init 237 = .ok (.bipush 32, 2) := dk_16 32 (dk_at dksX3_init_10 0 rfl rfl)
theorem dX3_init_239 : decode cX3_init 239 = .ok (.castore, 1) := dk_85 (dk_at dksX3_init_10 2 rfl rfl)
theorem dX3_init_240 : decode cX3_init 240 = .ok (.dup, 1) := dk_89 (dk_at dksX3_init_10 3 rfl rfl)
theorem dX3_init_241 : decode cX3_init 241 = .ok (.bipush 29, 2) := dk_16 29 (dk_at dksX3_init_10 4 rfl rfl)
theorem dX3_init_243 : decode cX3_init 243 = .ok (.bipush 111, 2) := dk_16 111 (dk_at dksX3_init_10 6 rfl rfl)
theorem dX3_init_245 : decode cX3_init 245 = .ok (.castore, 1) := dk_85 (dk_at dksX3_init_10 8 rfl rfl)
theorem dX3_init_246 : decode cX3_init 246 = .ok (.dup, 1) := dk_89 (dk_at dksX3_init_10 9 rfl rfl)
theorem dX3_init_247 : decode cX3_init 247 = .ok (.bipush 30, 2) := dk_16 30 (dk_at dksX3_init_10 10 rfl rfl)
theorem dX3_init_249 : decode cX3_init 249 = .ok (.bipush 112, 2) := dk_16 112 (dk_at dksX3_init_10 12 rfl rfl)
theorem dX3_init_251 : decode cX3_init 251 = .ok (.castore, 1) := dk_85 (dk_at dksX3_init_10 14 rfl rfl)
theorem dX3_init_252 : decode cX3_init 252 = .ok (.dup, 1) := dk_89 (dk_at dksX3_init_10 15 rfl rfl)
theorem dX3_init_253 : decode cX3_init 253 = .ok (.bipush 31, 2) := dk_16 31 (dk_at dksX3_init_10 16 rfl rfl)
theorem dX3_init_255 : decode cX3_init 255 = .ok (.bipush 101, 2) := dk_16 101 (dk_at dksX3_init_10 18 rfl rfl)
theorem dX3_init_257 : decode cX3_init 257 = .ok (.castore, 1) := dk_85 (dk_at dksX3_init_10 20 rfl rfl)
theorem dX3_init_258 : decode cX3_init 258 = .ok (.dup, 1) := dk_89 (dk_at dksX3_init_10 21 rfl rfl)
theorem dX3_init_259 : decode cX3_init 259 = .ok (.bipush 32, 2) := dk_16 32 (dk_at dksX3_init_10 22 rfl rfl)
theorem dX3_init_261 : decode cX3_init 261 = .ok (.bipush 110, 2) := dk_16 110 (dk_at dksX3_init_11 0 rfl rfl)
theorem dX3_init_263 : decode cX3_init 263 = .ok (.castore, 1) := dk_85 (dk_at dksX3_init_11 2 rfl rfl)
theorem dX3_init_264 : decode cX3_init 264 = .ok (.dup, 1) := dk_89 (dk_at dksX3_init_11 3 rfl rfl)
theorem dX3_init_265 : decode cX3_init 265 = .ok (.bipush 33, 2) := dk_16 33 (dk_at dksX3_init_11 4 rfl rfl)
theorem dX3_init_267 : decode cX3_init 267 = .ok (.bipush 32, 2) := dk_16 32 (dk_at dksX3_init_11 6 rfl rfl)
theorem dX3_init_269 : decode cX3_init 269 = .ok (.castore, 1) := dk_85 (dk_at dksX3_init_11 8 rfl rfl)
theorem dX3_init_270 : decode cX3_init 270 = .ok (.dup, 1) := dk_89 (dk_at dksX3_init_11 9 rfl rfl)
theorem dX3_init_271 : decode cX3_init 271 = .ok (.bipush 34, 2) := dk_16 34 (dk_at dksX3_init_11 10 rfl rfl)
theorem dX3_init_273 : decode cX3_init 273 = .ok (.bipush 115, 2) := dk_16 115 (dk_at dksX3_init_11 12 rfl rfl)
theorem dX3_init_275 : decode cX3_init 275 = .ok (.castore, 1) := dk_85 (dk_at dksX3_init_11 14 rfl rfl)
theorem dX3_init_276 : decode cX3_init 276 = .ok (.dup, 1) := dk_89 (dk_at dksX3_init_11 15 rfl rfl)
theorem dX3_init_277 : decode cX3_init 277 = .ok (.bipush 35, 2) := dk_16 35 (dk_at dksX3_init_11 16 rfl rfl)
theorem dX3_init_279 : decode cX3_init 279 = .ok (.bipush 101, 2) := dk_16 101 (dk_at dksX3_init_11 18 rfl rfl)
theorem dX3_init_281 : decode cX3_init 281 = .ok (.castore, 1) := dk_85 (dk_at dksX3_init_11 20 rfl rfl)
theorem dX3_init_282 : decode cX3_init 282 = .ok (.dup, 1) := dk_89 (dk_at dksX3_init_11 21 rfl rfl)
theorem dX3_init_283 : decode cX3_init 283 = .ok (.bipush 36, 2) := dk_16 36 (dk_at dksX3_init_11 22 rfl rfl)
theorem dX3_init_285 : decode cX3_init 285 = .ok (.bipush 97, 2) := dk_16 97 (dk_at dksX3_init_12 0 rfl rfl)
theorem dX3_init_287 : decode cX3_init 287 = .ok (.castore, 1) := dk_85 (dk_at dksX3_init_12 2 rfl rfl)
theorem dX3_init_288 : decode cX3_init 288 = .ok (.dup, 1) := dk_89 (dk_at dksX3_init_12 3 rfl rfl)
theorem dX3_init_289 : decode cX3_init 289 = .ok (.bipush 37, 2) := dk_16 37 (dk_at dksX3_init_12 4 rfl rfl)
theorem dX3_init_291 : decode cX3_init 291 = .ok (.bipush 108, 2) := dk_16 108 (dk_at dksX3_init_12 6 rfl rfl)
theorem dX3_init_293 : decode cX3_init 293 = .ok (.castore, 1) := dk_85 (dk_at dksX3_init_12 8 rfl rfl)
theorem dX3_init_294 : decode cX3_init 294 = .ok (.dup, 1) := dk_89 (dk_at dksX3_init_12 9 rfl rfl)
theorem dX3_init_295 : decode cX3_init 295 = .ok (.bipush 38, 2) := dk_16 38 (dk_at dksX3_init_12 10 rfl rfl)
theorem dX3_init_297 : decode cX3_init 297 = .ok (.bipush 32, 2) := dk_16 32 (dk_at dksX3_init_12 12 rfl rfl)
theorem dX3_init_299 : decode cX3_init 299 = .ok (.castore, 1) := dk_85 (dk_at dksX3_init_12 14 rfl rfl)
theorem dX3_init_300 : decode cX3_init 300 = .ok (.dup, 1) := dk_89 (dk_at dksX3_init_12 15 rfl rfl)
theorem dX3_init_301 : decode cX3_init 301 = .ok (.bipush 39, 2) := dk_16 39 (dk_at dksX3_init_12 16 rfl rfl)
theorem dX3_init_303 : decode cX3_init 303 = .ok (.bipush 99, 2) := dk_16 99 (dk_at dksX3_init_12 18 rfl rfl)
theorem dX3_init_305 : decode cX3_init 305 = .ok (.castore, 1) := dk_85 (dk_at dksX3_init_12 20 rfl rfl)
theorem dX3_init_306 : decode cX3_init 306 = .ok (.dup, 1) := dk_89 (dk_at dksX3_init_12 21 rfl rfl)
theorem dX3_init_307 : decode cX3_init 307 = .ok (.bipush 40, 2) := dk_16 40 (dk_at dksX3_init_12 22 rfl rfl)
theorem dX3_init_309 : decode cX3_init 309 = .ok (.bipush 108, 2) := dk_16 108 (dk_at dksX3_init_13 0 rfl rfl)
theorem dX3_init_311 : decode cX3_init 311 = .ok (.castore, 1) := dk_85 (dk_at dksX3_init_13 2 rfl rfl)
theorem dX3_init_312 : decode cX3_init 312 = .ok (.dup, 1) := dk_89 (dk_at dksX3_init_13 3 rfl rfl)
theorem dX3_init_313 : decode cX3_init 313 = .ok (.bipush 41, 2) := dk_16 41 (dk_at dksX3_init_13 4 rfl rfl)
theorem dX3_init_315 : decode cX3_init 315 = .ok (.bipush 111, 2) := dk_16 111 (dk_at dksX3_init_13 6 rfl rfl)
theorem dX3_init_317 : decode cX3_init 317 = .ok (.castore, 1) := dk_85 (dk_at dksX3_init_13 8 rfl rfl)
theorem dX3_init_318 : decode cX3_init 318 = .ok (.dup, 1) := dk_89 (dk_at dksX3_init_13 9 rfl rfl)
theorem dX3_init_319 : decode cX3_init 319 = .ok (.bipush 42, 2) := dk_16 42 (dk_at dksX3_init_13 10 rfl rfl)
theorem dX3_init_321 : decode cX3_init 321 = .ok (.bipush 115, 2) := dk_16 115 (dk_at dksX3_init_13 12 rfl rfl)
theorem dX3_init_323 : decode cX3_init 323 = .ok (.castore, 1) := dk_85 (dk_at dksX3_init_13 14 rfl rfl)
theorem dX3_init_324 : decode cX3_init 324 = .ok (.dup, 1) := dk_89 (dk_at dksX3_init_13 15 rfl rfl)
theorem dX3_init_325 : decode cX3_init 325 = .ok (.bipush 43, 2) := dk_16 43 (dk_at dksX3_init_13 16 rfl rfl)
theorem dX3_init_327 : decode cX3_init 327 = .ok (.bipush 101, 2) := dk_16 101 (dk_at dksX3_init_13 18 rfl rfl)
theorem dX3_init_329 : decode cX3_init 329 = .ok (.castore, 1) := dk_85 (dk_at dksX3_init_13 20 rfl rfl)
theorem dX3_init_330 : decode cX3_init 330 = .ok (.dup, 1) := dk_89 (dk_at dksX3_init_13 21 rfl rfl)
theorem dX3_init_331 : decode cX3_init 331 = .ok (.bipush 44, 2) := dk_16 44 (dk_at dksX3_init_13 22 rfl rfl)
theorem dX3_init_333 : decode cX3_init 333 = .ok (.bipush 100, 2) := dk_16 100 (dk_at dksX3_init_14 0 rfl rfl)
theorem dX3_init_335 : decode cX3_init 335 = .ok (.castore, 1) := dk_85 (dk_at dksX3_init_14 2 rfl rfl)
theorem dX3_init_336 : decode cX3_init 336 = .ok (.dup, 1) := dk_89 (dk_at dksX3_init_14 3 rfl rfl)
theorem dX3_init_337 : decode cX3_init 337 = .ok (.bipush 45, 2) := dk_16 45 (dk_at dksX3_init_14 4 rfl rfl)
theorem dX3_init_339 : decode cX3_init 339 = .ok (.bipush 97, 2) := dk_16 97 (dk_at dksX3_init_14 6 rfl rfl)
theorem dX3_init_341 : decode cX3_init 341 = .ok (.castore, 1) := dk_85 (dk_at dksX3_init_14 8 rfl rfl)
theorem dX3_init_342 : decode cX3_init 342 = .ok (.dup, 1) := dk_89 (dk_at dksX3_init_14 9 rfl rfl)
theorem dX3_init_343 : decode cX3_init 343 = .ok (.bipush 46, 2) := dk_16 46 (dk_at dksX3_init_14 10 rfl rfl)
theorem dX3_init_345 : decode cX3_init 345 = .ok (.bipush 121, 2) := dk_16 121 (dk_at dksX3_init_14 12 rfl rfl)
theorem dX3_init_347 : decode cX3_init 347 = .ok (.castore, 1) := dk_85 (dk_at dksX3_init_14 14 rfl rfl)
theorem dX3_init_348 : decode cX3_init 348 = .ok (.putfield 35, 3) := dk_181 0 35 (dk_at dksX3_init_14 15 rfl rfl)
theorem dX3_init_351 : decode cX3_init 351 = .ok (.aload_n 0, 1) := dk_42 (dk_at dksX3_init_14 18 rfl rfl)
theorem dX3_init_352 : decode cX3_init 352 = .ok (.bipush 10, 2) := dk_16 10 (dk_at dksX3_init_14 19 rfl rfl)
theorem dX3_init_354 : decode cX3_init 354 = .ok (.newarray .int, 2) := dk_188_10 (dk_at dksX3_init_14 21 rfl rfl)
theorem dX3_init_356 : decode cX3_init 356 = .ok (.dup, 1) := dk_89 (dk_at dksX3_init_14 23 rfl rfl)
theorem dX3_init_357 : decode cX3_init 357 = .ok (.iconst 0, 1) := dk_3 (dk_at dksX3_init_15 0 rfl rfl)
theorem dX3_init_358 : decode cX3_init 358 = .ok (.iconst 0, 1) := dk_3 (dk_at dksX3_init_15 1 rfl rfl)
theorem dX3_init_359 : decode cX3_init 359 = .ok (.iastore, 1) := dk_79 (dk_at dksX3_init_15 2 rfl rfl)
theorem dX3_init_360 : decode cX3_init 360 = .ok (.dup, 1) := dk_89 (dk_at dksX3_init_15 3 rfl rfl)
theorem dX3_init_361 : decode cX3_init 361 = .ok (.iconst 1, 1) := dk_4 (dk_at dksX3_init_15 4 rfl rfl)
theorem dX3_init_362 : decode cX3_init 362 = .ok (.bipush 7, 2) := dk_16 7 (dk_at dksX3_init_15 5 rfl rfl)
theorem dX3_init_364 : decode cX3_init 364 = .ok (.iastore, 1) := dk_79 (dk_at dksX3_init_15 7 rfl rfl)
theorem dX3_init_365 : decode cX3_init 365 = .ok (.dup, 1) := dk_89 (dk_at dksX3_init_15 8 rfl rfl)
theorem dX3_init_366 : decode cX3_init 366 = .ok (.iconst 2, 1) := dk_5 (dk_at dksX3_init_15 9 rfl rfl)
theorem dX3_init_367 : decode cX3_init 367 = .ok (.bipush 11, 2) := dk_16 11 (dk_at dksX3_init_15 10 rfl rfl)
theorem dX3_init_369 : decode cX3_init 369 = .ok (.iastore, 1) := dk_79 (dk_at dksX3_init_15 12 rfl rfl)
theorem dX3_init_370 : decode cX3_init 370 = .ok (.dup, 1) := dk_89 (dk_at dksX3_init_15 13 rfl rfl)
theorem dX3_init_371 : decode cX3_init 371 = .ok (.iconst 3, 1) := dk_6 (dk_at dksX3_init_15 14 rfl rfl)
theorem dX3_init_372 : decode cX3_init 372 = .ok (.bipush 16, 2) := dk_16 16 (dk_at dksX3_init_15 15 rfl rfl)
theorem dX3_init_374 : decode cX3_init 374 = .ok (.iastore, 1) := dk_79 (dk_at dksX3_init_15 17 rfl rfl)
theorem dX3_init_375 : decode cX3_init 375 = .ok (.dup, 1) := dk_89 (dk_at dksX3_init_15 18 rfl rfl)
theorem dX3_init_376 : decode cX3_init 376 = .ok (.iconst 4, 1) := dk_7 (dk_at dksX3_init_15 19 rfl rfl)
theorem dX3_init_377 : decode cX3_init 377 = .ok (.bipush 23, 2) := dk_16 23 (dk_at dksX3_init_15 20 rfl rfl)
theorem dX3_init_379 : decode cX3_init 379 = .ok (.iastore, 1) := dk_79 (dk_at dksX3_init_15 22 rfl rfl)
theorem dX3_init_380 : decode cX3_init 380 = .ok (.dup, 1) := dk_89 (dk_at dksX3_init_15 23 rfl rfl)
theorem dX3_init_381 : decode cX3_init 381 = .ok (.iconst 5, 1) := dk_8 (dk_at dksX3_init_16 0 rfl rfl)
theorem dX3_init_382 : decode cX3_init 382 = .ok (.bipush 29, 2) := dk_16 29 (dk_at dksX3_init_16 1 rfl rfl)
theorem dX3_init_384 : decode cX3_init 384 = .ok (.iastore, 1) := dk_79 (dk_at dksX3_init_16 3 rfl rfl)
theorem dX3_init_385 : decode cX3_init 385 = .ok (.dup, 1) := dk_89 (dk_at dksX3_init_16 4 rfl rfl)
theorem dX3_init_386 : decode cX3_init 386 = .ok (.bipush 6, 2) := dk_16 6 (dk_at dksX3_init_16 5 rfl rfl)
theorem dX3_init_388 : decode cX3_init 388 = .ok (.bipush 34, 2) := dk_16 34 (dk_at dksX3_init_16 7 rfl rfl)
theorem dX3_init_390 : decode cX3_init 390 = .ok (.iastore, 1) := dk_79 (dk_at dksX3_init_16 9 rfl rfl)
theorem dX3_init_391 : decode cX3_init 391 = .ok (.dup, 1) := dk_89 (dk_at dksX3_init_16 10 rfl rfl)
theorem dX3_init_392 : decode cX3_init 392 = .ok (.bipush 7, 2) := dk_16 7 (dk_at dksX3_init_16 11 rfl rfl)
theorem dX3_init_394 : decode cX3_init 394 = .ok (.bipush 39, 2) := dk_16 39 (dk_at dksX3_init_16 13 rfl rfl)
theorem dX3_init_396 : decode cX3_init 396 = .ok (.iastore, 1) := dk_79 (dk_at dksX3_init_16 15 rfl rfl)
theorem dX3_init_397 : decode cX3_init 397 = .ok (.dup, 1) := dk_89 (dk_at dksX3_init_16 16 rfl rfl)
theorem dX3_init_398 : decode cX3_init 398 = .ok (.bipush 8, 2) := dk_16 8 (dk_at dksX3_init_16 17 rfl rfl)
theorem dX3_init_400 : decode cX3_init 400 = .ok (.bipush 44, 2) := dk_16 44 (dk_at dksX3_init_16 19 rfl rfl)
theorem dX3_init_402 : decode cX3_init 402 = .ok (.iastore, 1) := dk_79 (dk_at dksX3_init_16 21 rfl rfl)
theorem dX3_init_403 : decode cX3_init 403 = .ok (.dup, 1) := dk_89 (dk_at dksX3_init_16 22 rfl rfl)
theorem dX3_init_404 : decode cX3_init 404 = .ok (.bipush 9, 2) := dk_16 9 (dk_at dksX3_init_17 0 rfl rfl)
theorem dX3_init_406 : decode cX3_init 406 = .ok (.bipush 47, 2) := dk_16 47 (dk_at dksX3_init_17 2 rfl rfl)
theorem dX3_init_408 : decode cX3_init 408 = .ok (.iastore, 1) := dk_79 (dk_at dksX3_init_17 4 rfl rfl)
theorem dX3_init_409 : decode cX3_init 409 = .ok (.putfield 39, 3) := dk_181 0 39 (dk_at dksX3_init_17 5 rfl rfl)
theorem dX3_init_412 : decode cX3_init 412 = .ok (.aload_n 0, 1) := dk_42 (dk_at dksX3_init_17 8 rfl rfl)
theorem dX3_init_413 : decode cX3_init 413 = .ok (.sipush 366, 3) := dk_17 1 110 (dk_at dksX3_init_17 9 rfl rfl)
theorem dX3_init_416 : decode cX3_init 416 = .ok (.newarray .int, 2) := dk_188_10 (dk_at dksX3_init_17 12 rfl rfl)
theorem dX3_init_418 : decode cX3_init 418 = .ok (.putfield 42, 3) := dk_181 0 42 (dk_at dksX3_init_17 14 rfl rfl)
theorem dX3_init_421 : decode cX3_init 421 = .ok (.aload_n 0, 1) := dk_42 (dk_at dksX3_init_17 17 rfl rfl)
theorem dX3_init_422 : decode cX3_init 422 = .ok (.getfield 9, 3) := dk_180 0 9 (dk_at dksX3_init_17 18 rfl rfl)
theorem dX3_init_425 : decode cX3_init 425 = .ok (.bipush 11, 2) := dk_16 11 (dk_at dksX3_init_17 21 rfl rfl)
theorem dX3_init_427 : decode cX3_init 427 = .ok (.iconst (-1), 1) := dk_2 (dk_at dksX3_init_17 23 rfl rfl)
theorem dX3_init_428 : decode cX3_init 428 = .ok (.iastore, 1) := dk_79 (dk_at dksX3_init_18 0 rfl rfl)
theorem dX3_init_429 : decode cX3_init 429 = .ok (.iconst 0, 1) := dk_3 (dk_at dksX3_init_18 1 rfl rfl)
theorem dX3_init_430 : decode cX3_init 430 = .ok (.istore_n 1, 1) := dk_60 (dk_at dksX3_init_18 2 rfl rfl)
theorem dX3_init_431 : decode cX3_init 431 = .ok (.iload_n 1, 1) := dk_27 (dk_at dksX3_init_18 3 rfl rfl)
theorem dX3_init_432 : decode cX3_init 432 = .ok (.iconst 4, 1) := dk_7 (dk_at dksX3_init_18 4 rfl rfl)
theorem dX3_init_433 : decode cX3_init 433 = .ok (.if_icmp .ge 19, 3) := dk_162 0 19 (dk_at dksX3_init_18 5 rfl rfl)
theorem dX3_init_436 : decode cX3_init 436 = .ok (.aload_n 0, 1) := dk_42 (dk_at dksX3_init_18 8 rfl rfl)
theorem dX3_init_437 : decode cX3_init 437 = .ok (.getfield 9, 3) := dk_180 0 9 (dk_at dksX3_init_18 9 rfl rfl)
theorem dX3_init_440 : decode cX3_init 440 = .ok (.bipush 13, 2) := dk_16 13 (dk_at dksX3_init_18 12 rfl rfl)
theorem dX3_init_442 : decode cX3_init 442 = .ok (.iload_n 1, 1) := dk_27 (dk_at dksX3_init_18 14 rfl rfl)
theorem dX3_init_443 : decode cX3_init 443 = .ok (.iadd, 1) := dk_96 (dk_at dksX3_init_18 15 rfl rfl)
theorem dX3_init_444 : decode cX3_init 444 = .ok (.iconst (-1), 1) := dk_2 (dk_at dksX3_init_18 16 rfl rfl)
theorem dX3_init_445 : decode cX3_init 445 = .ok (.iastore, 1) := dk_79 (dk_at dksX3_init_18 17 rfl rfl)
theorem dX3_init_446 : decode cX3_init 446 = .ok (.iinc 1 1, 3) := dk_132 1 1 (dk_at dksX3_init_18 18 rfl rfl)
theorem dX3_init_449 : decode cX3_init 449 = .ok (.goto (-18), 3) := dk_167 255 238 (dk_at dksX3_init_18 21 rfl rfl)
theorem dX3_init_452 : decode cX3_init 452 = .ok (.return_, 1) := dk_177 (dk_at dksX3_init_19 0 rfl rfl)
abbrev cX3_thrown : ByteArray := prog_15_method_2_code
def yX3_thrown : MethodName := ⟨RX3, "thrown", "()I"⟩
theorem dX3_thrown_0 : decode cX3_thrown 0 = .ok (.aload_n 0, 1) := by decide +kernel
theorem dX3_thrown_1 : decode cX3_thrown 1 = .ok (.getfield 45, 3) := by decide +kernel
theorem dX3_thrown_4 : decode cX3_thrown 4 = .ok (.ireturn, 1) := by decide +kernel
abbrev cX3_addTrader : ByteArray := prog_15_method_21_code
def yX3_addTrader : MethodName := ⟨RX3, "addTrader", "(II)I"⟩
def dkwX3_addTrader_0 : List UInt8 := [42, 182, 0, 81, 42, 42, 27, 28, 182, 0, 84, 182, 0, 88, 172]
abbrev dktX3_addTrader_0 : List UInt8 := dkwX3_addTrader_0 ++ []
theorem dksX3_addTrader_0 : cX3_addTrader.data.toList.drop 0 = dktX3_addTrader_0 := by decide +kernel
theorem dX3_addTrader_0 : decode cX3_addTrader 0 = .ok (.aload_n 0, 1) := dk_42 (dk_at dksX3_addTrader_0 0 rfl rfl)
theorem dX3_addTrader_1 : decode cX3_addTrader 1 = .ok (.invokevirtual 81, 3) := dk_182 0 81 (dk_at dksX3_addTrader_0 1 rfl rfl)
theorem dX3_addTrader_4 : decode cX3_addTrader 4 = .ok (.aload_n 0, 1) := dk_42 (dk_at dksX3_addTrader_0 4 rfl rfl)
theorem dX3_addTrader_5 : decode cX3_addTrader 5 = .ok (.aload_n 0, 1) := dk_42 (dk_at dksX3_addTrader_0 5 rfl rfl)
theorem dX3_addTrader_6 : decode cX3_addTrader 6 = .ok (.iload_n 1, 1) := dk_27 (dk_at dksX3_addTrader_0 6 rfl rfl)
theorem dX3_addTrader_7 : decode cX3_addTrader 7 = .ok (.iload_n 2, 1) := dk_28 (dk_at dksX3_addTrader_0 7 rfl rfl)
theorem dX3_addTrader_8 : decode cX3_addTrader 8 = .ok (.invokevirtual 84, 3) := dk_182 0 84 (dk_at dksX3_addTrader_0 8 rfl rfl)
theorem dX3_addTrader_11 : decode cX3_addTrader 11 = .ok (.invokevirtual 88, 3) := dk_182 0 88 (dk_at dksX3_addTrader_0 11 rfl rfl)
theorem dX3_addTrader_14 : decode cX3_addTrader 14 = .ok (.ireturn, 1) := dk_172 (dk_at dksX3_addTrader_0 14 rfl rfl)
abbrev cX3_starts : ByteArray := prog_15_method_5_code
def yX3_starts : MethodName := ⟨RX3, "starts", "()V"⟩
def dkwX3_starts_1 : List UInt8 := [46, 79, 132, 1, 1, 167, 255, 234, 177]
abbrev dktX3_starts_1 : List UInt8 := dkwX3_starts_1 ++ []
def dkwX3_starts_0 : List UInt8 := [42, 3, 181, 0, 45, 3, 60, 27, 17, 0, 155, 162, 0, 21, 42, 180, 0, 13, 27, 42, 180, 0, 9, 27]
abbrev dktX3_starts_0 : List UInt8 := dkwX3_starts_0 ++ dktX3_starts_1
theorem dksX3_starts_0 : cX3_starts.data.toList.drop 0 = dktX3_starts_0 := by decide +kernel
theorem dksX3_starts_1 : cX3_starts.data.toList.drop 24 = dktX3_starts_1 := dk_seg dksX3_starts_0 24 rfl rfl
theorem dX3_starts_0 : decode cX3_starts 0 = .ok (.aload_n 0, 1) := dk_42 (dk_at dksX3_starts_0 0 rfl rfl)
theorem dX3_starts_1 : decode cX3_starts 1 = .ok (.iconst 0, 1) := dk_3 (dk_at dksX3_starts_0 1 rfl rfl)
theorem dX3_starts_2 : decode cX3_starts 2 = .ok (.putfield 45, 3) := dk_181 0 45 (dk_at dksX3_starts_0 2 rfl rfl)
theorem dX3_starts_5 : decode cX3_starts 5 = .ok (.iconst 0, 1) := dk_3 (dk_at dksX3_starts_0 5 rfl rfl)
theorem dX3_starts_6 : decode cX3_starts 6 = .ok (.istore_n 1, 1) := dk_60 (dk_at dksX3_starts_0 6 rfl rfl)
theorem dX3_starts_7 : decode cX3_starts 7 = .ok (.iload_n 1, 1) := dk_27 (dk_at dksX3_starts_0 7 rfl rfl)
theorem dX3_starts_8 : decode cX3_starts 8 = .ok (.sipush 155, 3) := dk_17 0 155 (dk_at dksX3_starts_0 8 rfl rfl)
theorem dX3_starts_11 : decode cX3_starts 11 = .ok (.if_icmp .ge 21, 3) := dk_162 0 21 (dk_at dksX3_starts_0 11 rfl rfl)
theorem dX3_starts_14 : decode cX3_starts 14 = .ok (.aload_n 0, 1) := dk_42 (dk_at dksX3_starts_0 14 rfl rfl)
theorem dX3_starts_15 : decode cX3_starts 15 = .ok (.getfield 13, 3) := dk_180 0 13 (dk_at dksX3_starts_0 15 rfl rfl)
theorem dX3_starts_18 : decode cX3_starts 18 = .ok (.iload_n 1, 1) := dk_27 (dk_at dksX3_starts_0 18 rfl rfl)
theorem dX3_starts_19 : decode cX3_starts 19 = .ok (.aload_n 0, 1) := dk_42 (dk_at dksX3_starts_0 19 rfl rfl)
theorem dX3_starts_20 : decode cX3_starts 20 = .ok (.getfield 9, 3) := dk_180 0 9 (dk_at dksX3_starts_0 20 rfl rfl)
theorem dX3_starts_23 : decode cX3_starts 23 = .ok (.iload_n 1, 1) := dk_27 (dk_at dksX3_starts_0 23 rfl rfl)
theorem dX3_starts_24 : decode cX3_starts 24 = .ok (.iaload, 1) := dk_46 (dk_at dksX3_starts_1 0 rfl rfl)
theorem dX3_starts_25 : decode cX3_starts 25 = .ok (.iastore, 1) := dk_79 (dk_at dksX3_starts_1 1 rfl rfl)
theorem dX3_starts_26 : decode cX3_starts 26 = .ok (.iinc 1 1, 3) := dk_132 1 1 (dk_at dksX3_starts_1 2 rfl rfl)
theorem dX3_starts_29 : decode cX3_starts 29 = .ok (.goto (-22), 3) := dk_167 255 234 (dk_at dksX3_starts_1 5 rfl rfl)
theorem dX3_starts_32 : decode cX3_starts 32 = .ok (.return_, 1) := dk_177 (dk_at dksX3_starts_1 8 rfl rfl)
abbrev cX3_traderIt : ByteArray := prog_15_method_20_code
def yX3_traderIt : MethodName := ⟨RX3, "traderIt", "(II)I"⟩
def dkwX3_traderIt_4 : List UInt8 := [100, 172]
abbrev dktX3_traderIt_4 : List UInt8 := dkwX3_traderIt_4 ++ []
def dkwX3_traderIt_3 : List UInt8 := [184, 0, 78, 4, 96, 28, 79, 42, 180, 0, 9, 3, 92, 46, 4, 96, 79, 42, 180, 0, 9, 3, 46, 4]
abbrev dktX3_traderIt_3 : List UInt8 := dkwX3_traderIt_3 ++ dktX3_traderIt_4
def dkwX3_traderIt_2 : List UInt8 := [180, 0, 9, 42, 180, 0, 9, 3, 46, 184, 0, 78, 27, 79, 42, 180, 0, 9, 42, 180, 0, 9, 3, 46]
abbrev dktX3_traderIt_2 : List UInt8 := dkwX3_traderIt_2 ++ dktX3_traderIt_3
def dkwX3_traderIt_1 : List UInt8 := [42, 4, 182, 0, 75, 172, 42, 180, 0, 9, 3, 46, 16, 6, 160, 0, 9, 42, 5, 182, 0, 75, 172, 42]
abbrev dktX3_traderIt_1 : List UInt8 := dkwX3_traderIt_1 ++ dktX3_traderIt_2
def dkwX3_traderIt_0 : List UInt8 := [27, 133, 9, 20, 0, 73, 184, 0, 51, 153, 0, 15, 28, 133, 9, 20, 0, 59, 184, 0, 51, 154, 0, 9]
abbrev dktX3_traderIt_0 : List UInt8 := dkwX3_traderIt_0 ++ dktX3_traderIt_1
theorem dksX3_traderIt_0 : cX3_traderIt.data.toList.drop 0 = dktX3_traderIt_0 := by decide +kernel
theorem dksX3_traderIt_1 : cX3_traderIt.data.toList.drop 24 = dktX3_traderIt_1 := dk_seg dksX3_traderIt_0 24 rfl rfl
theorem dksX3_traderIt_2 : cX3_traderIt.data.toList.drop 48 = dktX3_traderIt_2 := dk_seg dksX3_traderIt_1 24 rfl rfl
theorem dksX3_traderIt_3 : cX3_traderIt.data.toList.drop 72 = dktX3_traderIt_3 := dk_seg dksX3_traderIt_2 24 rfl rfl
theorem dksX3_traderIt_4 : cX3_traderIt.data.toList.drop 96 = dktX3_traderIt_4 := dk_seg dksX3_traderIt_3 24 rfl rfl
theorem dX3_traderIt_0 : decode cX3_traderIt 0 = .ok (.iload_n 1, 1) := dk_27 (dk_at dksX3_traderIt_0 0 rfl rfl)
theorem dX3_traderIt_1 : decode cX3_traderIt 1 = .ok (.i2l, 1) := dk_133 (dk_at dksX3_traderIt_0 1 rfl rfl)
theorem dX3_traderIt_2 : decode cX3_traderIt 2 = .ok (.lconst 0, 1) := dk_9 (dk_at dksX3_traderIt_0 2 rfl rfl)
theorem dX3_traderIt_3 : decode cX3_traderIt 3 = .ok (.ldc2_w 73, 3) := dk_20 0 73 (dk_at dksX3_traderIt_0 3 rfl rfl)
theorem dX3_traderIt_6 : decode cX3_traderIt 6 = .ok (.invokestatic 51, 3) := dk_184 0 51 (dk_at dksX3_traderIt_0 6 rfl rfl)
theorem dX3_traderIt_9 : decode cX3_traderIt 9 = .ok (.ifCond .eq 15, 3) := dk_153 0 15 (dk_at dksX3_traderIt_0 9 rfl rfl)
theorem dX3_traderIt_12 : decode cX3_traderIt 12 = .ok (.iload_n 2, 1) := dk_28 (dk_at dksX3_traderIt_0 12 rfl rfl)
theorem dX3_traderIt_13 : decode cX3_traderIt 13 = .ok (.i2l, 1) := dk_133 (dk_at dksX3_traderIt_0 13 rfl rfl)
theorem dX3_traderIt_14 : decode cX3_traderIt 14 = .ok (.lconst 0, 1) := dk_9 (dk_at dksX3_traderIt_0 14 rfl rfl)
theorem dX3_traderIt_15 : decode cX3_traderIt 15 = .ok (.ldc2_w 59, 3) := dk_20 0 59 (dk_at dksX3_traderIt_0 15 rfl rfl)
theorem dX3_traderIt_18 : decode cX3_traderIt 18 = .ok (.invokestatic 51, 3) := dk_184 0 51 (dk_at dksX3_traderIt_0 18 rfl rfl)
theorem dX3_traderIt_21 : decode cX3_traderIt 21 = .ok (.ifCond .ne 9, 3) := dk_154 0 9 (dk_at dksX3_traderIt_0 21 rfl rfl)
theorem dX3_traderIt_24 : decode cX3_traderIt 24 = .ok (.aload_n 0, 1) := dk_42 (dk_at dksX3_traderIt_1 0 rfl rfl)
theorem dX3_traderIt_25 : decode cX3_traderIt 25 = .ok (.iconst 1, 1) := dk_4 (dk_at dksX3_traderIt_1 1 rfl rfl)
theorem dX3_traderIt_26 : decode cX3_traderIt 26 = .ok (.invokevirtual 75, 3) := dk_182 0 75 (dk_at dksX3_traderIt_1 2 rfl rfl)
theorem dX3_traderIt_29 : decode cX3_traderIt 29 = .ok (.ireturn, 1) := dk_172 (dk_at dksX3_traderIt_1 5 rfl rfl)
theorem dX3_traderIt_30 : decode cX3_traderIt 30 = .ok (.aload_n 0, 1) := dk_42 (dk_at dksX3_traderIt_1 6 rfl rfl)
theorem dX3_traderIt_31 : decode cX3_traderIt 31 = .ok (.getfield 9, 3) := dk_180 0 9 (dk_at dksX3_traderIt_1 7 rfl rfl)
theorem dX3_traderIt_34 : decode cX3_traderIt 34 = .ok (.iconst 0, 1) := dk_3 (dk_at dksX3_traderIt_1 10 rfl rfl)
theorem dX3_traderIt_35 : decode cX3_traderIt 35 = .ok (.iaload, 1) := dk_46 (dk_at dksX3_traderIt_1 11 rfl rfl)
theorem dX3_traderIt_36 : decode cX3_traderIt 36 = .ok (.bipush 6, 2) := dk_16 6 (dk_at dksX3_traderIt_1 12 rfl rfl)
theorem dX3_traderIt_38 : decode cX3_traderIt 38 = .ok (.if_icmp .ne 9, 3) := dk_160 0 9 (dk_at dksX3_traderIt_1 14 rfl rfl)
theorem dX3_traderIt_41 : decode cX3_traderIt 41 = .ok (.aload_n 0, 1) := dk_42 (dk_at dksX3_traderIt_1 17 rfl rfl)
theorem dX3_traderIt_42 : decode cX3_traderIt 42 = .ok (.iconst 2, 1) := dk_5 (dk_at dksX3_traderIt_1 18 rfl rfl)
theorem dX3_traderIt_43 : decode cX3_traderIt 43 = .ok (.invokevirtual 75, 3) := dk_182 0 75 (dk_at dksX3_traderIt_1 19 rfl rfl)
theorem dX3_traderIt_46 : decode cX3_traderIt 46 = .ok (.ireturn, 1) := dk_172 (dk_at dksX3_traderIt_1 22 rfl rfl)
theorem dX3_traderIt_47 : decode cX3_traderIt 47 = .ok (.aload_n 0, 1) := dk_42 (dk_at dksX3_traderIt_1 23 rfl rfl)
theorem dX3_traderIt_48 : decode cX3_traderIt 48 = .ok (.getfield 9, 3) := dk_180 0 9 (dk_at dksX3_traderIt_2 0 rfl rfl)
theorem dX3_traderIt_51 : decode cX3_traderIt 51 = .ok (.aload_n 0, 1) := dk_42 (dk_at dksX3_traderIt_2 3 rfl rfl)
theorem dX3_traderIt_52 : decode cX3_traderIt 52 = .ok (.getfield 9, 3) := dk_180 0 9 (dk_at dksX3_traderIt_2 4 rfl rfl)
theorem dX3_traderIt_55 : decode cX3_traderIt 55 = .ok (.iconst 0, 1) := dk_3 (dk_at dksX3_traderIt_2 7 rfl rfl)
theorem dX3_traderIt_56 : decode cX3_traderIt 56 = .ok (.iaload, 1) := dk_46 (dk_at dksX3_traderIt_2 8 rfl rfl)
theorem dX3_traderIt_57 : decode cX3_traderIt 57 = .ok (.invokestatic 78, 3) := dk_184 0 78 (dk_at dksX3_traderIt_2 9 rfl rfl)
theorem dX3_traderIt_60 : decode cX3_traderIt 60 = .ok (.iload_n 1, 1) := dk_27 (dk_at dksX3_traderIt_2 12 rfl rfl)
theorem dX3_traderIt_61 : decode cX3_traderIt 61 = .ok (.iastore, 1) := dk_79 (dk_at dksX3_traderIt_2 13 rfl rfl)
theorem dX3_traderIt_62 : decode cX3_traderIt 62 = .ok (.aload_n 0, 1) := dk_42 (dk_at dksX3_traderIt_2 14 rfl rfl)
theorem dX3_traderIt_63 : decode cX3_traderIt 63 = .ok (.getfield 9, 3) := dk_180 0 9 (dk_at dksX3_traderIt_2 15 rfl rfl)
theorem dX3_traderIt_66 : decode cX3_traderIt 66 = .ok (.aload_n 0, 1) := dk_42 (dk_at dksX3_traderIt_2 18 rfl rfl)
theorem dX3_traderIt_67 : decode cX3_traderIt 67 = .ok (.getfield 9, 3) := dk_180 0 9 (dk_at dksX3_traderIt_2 19 rfl rfl)
theorem dX3_traderIt_70 : decode cX3_traderIt 70 = .ok (.iconst 0, 1) := dk_3 (dk_at dksX3_traderIt_2 22 rfl rfl)
theorem dX3_traderIt_71 : decode cX3_traderIt 71 = .ok (.iaload, 1) := dk_46 (dk_at dksX3_traderIt_2 23 rfl rfl)
theorem dX3_traderIt_72 : decode cX3_traderIt 72 = .ok (.invokestatic 78, 3) := dk_184 0 78 (dk_at dksX3_traderIt_3 0 rfl rfl)
theorem dX3_traderIt_75 : decode cX3_traderIt 75 = .ok (.iconst 1, 1) := dk_4 (dk_at dksX3_traderIt_3 3 rfl rfl)
theorem dX3_traderIt_76 : decode cX3_traderIt 76 = .ok (.iadd, 1) := dk_96 (dk_at dksX3_traderIt_3 4 rfl rfl)
theorem dX3_traderIt_77 : decode cX3_traderIt 77 = .ok (.iload_n 2, 1) := dk_28 (dk_at dksX3_traderIt_3 5 rfl rfl)
theorem dX3_traderIt_78 : decode cX3_traderIt 78 = .ok (.iastore, 1) := dk_79 (dk_at dksX3_traderIt_3 6 rfl rfl)
theorem dX3_traderIt_79 : decode cX3_traderIt 79 = .ok (.aload_n 0, 1) := dk_42 (dk_at dksX3_traderIt_3 7 rfl rfl)
theorem dX3_traderIt_80 : decode cX3_traderIt 80 = .ok (.getfield 9, 3) := dk_180 0 9 (dk_at dksX3_traderIt_3 8 rfl rfl)
theorem dX3_traderIt_83 : decode cX3_traderIt 83 = .ok (.iconst 0, 1) := dk_3 (dk_at dksX3_traderIt_3 11 rfl rfl)
theorem dX3_traderIt_84 : decode cX3_traderIt 84 = .ok (.dup2, 1) := dk_92 (dk_at dksX3_traderIt_3 12 rfl rfl)
theorem dX3_traderIt_85 : decode cX3_traderIt 85 = .ok (.iaload, 1) := dk_46 (dk_at dksX3_traderIt_3 13 rfl rfl)
theorem dX3_traderIt_86 : decode cX3_traderIt 86 = .ok (.iconst 1, 1) := dk_4 (dk_at dksX3_traderIt_3 14 rfl rfl)
theorem dX3_traderIt_87 : decode cX3_traderIt 87 = .ok (.iadd, 1) := dk_96 (dk_at dksX3_traderIt_3 15 rfl rfl)
theorem dX3_traderIt_88 : decode cX3_traderIt 88 = .ok (.iastore, 1) := dk_79 (dk_at dksX3_traderIt_3 16 rfl rfl)
theorem dX3_traderIt_89 : decode cX3_traderIt 89 = .ok (.aload_n 0, 1) := dk_42 (dk_at dksX3_traderIt_3 17 rfl rfl)
theorem dX3_traderIt_90 : decode cX3_traderIt 90 = .ok (.getfield 9, 3) := dk_180 0 9 (dk_at dksX3_traderIt_3 18 rfl rfl)
theorem dX3_traderIt_93 : decode cX3_traderIt 93 = .ok (.iconst 0, 1) := dk_3 (dk_at dksX3_traderIt_3 21 rfl rfl)
theorem dX3_traderIt_94 : decode cX3_traderIt 94 = .ok (.iaload, 1) := dk_46 (dk_at dksX3_traderIt_3 22 rfl rfl)
theorem dX3_traderIt_95 : decode cX3_traderIt 95 = .ok (.iconst 1, 1) := dk_4 (dk_at dksX3_traderIt_3 23 rfl rfl)
theorem dX3_traderIt_96 : decode cX3_traderIt 96 = .ok (.isub, 1) := dk_100 (dk_at dksX3_traderIt_4 0 rfl rfl)
theorem dX3_traderIt_97 : decode cX3_traderIt 97 = .ok (.ireturn, 1) := dk_172 (dk_at dksX3_traderIt_4 1 rfl rfl)
abbrev cX3_in : ByteArray := prog_15_method_4_code
def yX3_in : MethodName := ⟨RX3, "in", "(JJJ)Z"⟩
def dkwX3_in_0 : List UInt8 := [30, 32, 148, 155, 0, 14, 30, 22, 4, 148, 157, 0, 7, 4, 167, 0, 4, 3, 172]
abbrev dktX3_in_0 : List UInt8 := dkwX3_in_0 ++ []
theorem dksX3_in_0 : cX3_in.data.toList.drop 0 = dktX3_in_0 := by decide +kernel
theorem dX3_in_0 : decode cX3_in 0 = .ok (.lload_n 0, 1) := dk_30 (dk_at dksX3_in_0 0 rfl rfl)
theorem dX3_in_1 : decode cX3_in 1 = .ok (.lload_n 2, 1) := dk_32 (dk_at dksX3_in_0 1 rfl rfl)
theorem dX3_in_2 : decode cX3_in 2 = .ok (.lcmp, 1) := dk_148 (dk_at dksX3_in_0 2 rfl rfl)
theorem dX3_in_3 : decode cX3_in 3 = .ok (.ifCond .lt 14, 3) := dk_155 0 14 (dk_at dksX3_in_0 3 rfl rfl)
theorem dX3_in_6 : decode cX3_in 6 = .ok (.lload_n 0, 1) := dk_30 (dk_at dksX3_in_0 6 rfl rfl)
theorem dX3_in_7 : decode cX3_in 7 = .ok (.lload 4, 2) := dk_22 4 (dk_at dksX3_in_0 7 rfl rfl)
theorem dX3_in_9 : decode cX3_in 9 = .ok (.lcmp, 1) := dk_148 (dk_at dksX3_in_0 9 rfl rfl)
theorem dX3_in_10 : decode cX3_in 10 = .ok (.ifCond .gt 7, 3) := dk_157 0 7 (dk_at dksX3_in_0 10 rfl rfl)
theorem dX3_in_13 : decode cX3_in 13 = .ok (.iconst 1, 1) := dk_4 (dk_at dksX3_in_0 13 rfl rfl)
theorem dX3_in_14 : decode cX3_in 14 = .ok (.goto 4, 3) := dk_167 0 4 (dk_at dksX3_in_0 14 rfl rfl)
theorem dX3_in_17 : decode cX3_in 17 = .ok (.iconst 0, 1) := dk_3 (dk_at dksX3_in_0 17 rfl rfl)
theorem dX3_in_18 : decode cX3_in 18 = .ok (.ireturn, 1) := dk_172 (dk_at dksX3_in_0 18 rfl rfl)
abbrev cX3_throwing : ByteArray := prog_15_method_3_code
def yX3_throwing : MethodName := ⟨RX3, "throwing", "(I)I"⟩
def dkwX3_throwing_0 : List UInt8 := [42, 27, 181, 0, 45, 2, 172]
abbrev dktX3_throwing_0 : List UInt8 := dkwX3_throwing_0 ++ []
theorem dksX3_throwing_0 : cX3_throwing.data.toList.drop 0 = dktX3_throwing_0 := by decide +kernel
theorem dX3_throwing_0 : decode cX3_throwing 0 = .ok (.aload_n 0, 1) := dk_42 (dk_at dksX3_throwing_0 0 rfl rfl)
theorem dX3_throwing_1 : decode cX3_throwing 1 = .ok (.iload_n 1, 1) := dk_27 (dk_at dksX3_throwing_0 1 rfl rfl)
theorem dX3_throwing_2 : decode cX3_throwing 2 = .ok (.putfield 45, 3) := dk_181 0 45 (dk_at dksX3_throwing_0 2 rfl rfl)
theorem dX3_throwing_5 : decode cX3_throwing 5 = .ok (.iconst (-1), 1) := dk_2 (dk_at dksX3_throwing_0 5 rfl rfl)
theorem dX3_throwing_6 : decode cX3_throwing 6 = .ok (.ireturn, 1) := dk_172 (dk_at dksX3_throwing_0 6 rfl rfl)
abbrev cX3_traderAt : ByteArray := prog_15_method_7_code
def yX3_traderAt : MethodName := ⟨RX3, "traderAt", "(I)I"⟩
def dkwX3_traderAt_0 : List UInt8 := [16, 17, 6, 26, 104, 96, 172]
abbrev dktX3_traderAt_0 : List UInt8 := dkwX3_traderAt_0 ++ []
theorem dksX3_traderAt_0 : cX3_traderAt.data.toList.drop 0 = dktX3_traderAt_0 := by decide +kernel
theorem dX3_traderAt_0 : decode cX3_traderAt 0 = .ok (.bipush 17, 2) := dk_16 17 (dk_at dksX3_traderAt_0 0 rfl rfl)
theorem dX3_traderAt_2 : decode cX3_traderAt 2 = .ok (.iconst 3, 1) := dk_6 (dk_at dksX3_traderAt_0 2 rfl rfl)
theorem dX3_traderAt_3 : decode cX3_traderAt 3 = .ok (.iload_n 0, 1) := dk_26 (dk_at dksX3_traderAt_0 3 rfl rfl)
theorem dX3_traderAt_4 : decode cX3_traderAt 4 = .ok (.imul, 1) := dk_104 (dk_at dksX3_traderAt_0 4 rfl rfl)
theorem dX3_traderAt_5 : decode cX3_traderAt 5 = .ok (.iadd, 1) := dk_96 (dk_at dksX3_traderAt_0 5 rfl rfl)
theorem dX3_traderAt_6 : decode cX3_traderAt 6 = .ok (.ireturn, 1) := dk_172 (dk_at dksX3_traderAt_0 6 rfl rfl)
abbrev cX3_changed : ByteArray := prog_15_method_6_code
def yX3_changed : MethodName := ⟨RX3, "changed", "(I)I"⟩
def dkwX3_changed_4 : List UInt8 := [167, 255, 225, 42, 89, 180, 0, 48, 4, 96, 181, 0, 48, 27, 172]
abbrev dktX3_changed_4 : List UInt8 := dkwX3_changed_4 ++ []
def dkwX3_changed_3 : List UInt8 := [180, 0, 19, 17, 0, 155, 42, 180, 0, 48, 104, 28, 96, 42, 180, 0, 13, 28, 46, 79, 132, 2, 1]
abbrev dktX3_changed_3 : List UInt8 := dkwX3_changed_3 ++ dktX3_changed_4
def dkwX3_changed_2 : List UInt8 := [167, 255, 230, 42, 89, 180, 0, 48, 4, 100, 181, 0, 48, 3, 61, 28, 17, 0, 155, 162, 0, 30, 42]
abbrev dktX3_changed_2 : List UInt8 := dkwX3_changed_2 ++ dktX3_changed_3
def dkwX3_changed_1 : List UInt8 := [162, 0, 25, 42, 180, 0, 19, 28, 42, 180, 0, 19, 28, 17, 0, 155, 96, 46, 79, 132, 2, 1]
abbrev dktX3_changed_1 : List UInt8 := dkwX3_changed_1 ++ dktX3_changed_2
def dkwX3_changed_0 : List UInt8 := [42, 180, 0, 45, 158, 0, 5, 27, 172, 42, 180, 0, 48, 16, 8, 160, 0, 44, 3, 61, 28, 17, 4, 61]
abbrev dktX3_changed_0 : List UInt8 := dkwX3_changed_0 ++ dktX3_changed_1
theorem dksX3_changed_0 : cX3_changed.data.toList.drop 0 = dktX3_changed_0 := by decide +kernel
theorem dksX3_changed_1 : cX3_changed.data.toList.drop 24 = dktX3_changed_1 := dk_seg dksX3_changed_0 24 rfl rfl
theorem dksX3_changed_2 : cX3_changed.data.toList.drop 46 = dktX3_changed_2 := dk_seg dksX3_changed_1 22 rfl rfl
theorem dksX3_changed_3 : cX3_changed.data.toList.drop 69 = dktX3_changed_3 := dk_seg dksX3_changed_2 23 rfl rfl
theorem dksX3_changed_4 : cX3_changed.data.toList.drop 92 = dktX3_changed_4 := dk_seg dksX3_changed_3 23 rfl rfl
theorem dX3_changed_0 : decode cX3_changed 0 = .ok (.aload_n 0, 1) := dk_42 (dk_at dksX3_changed_0 0 rfl rfl)
theorem dX3_changed_1 : decode cX3_changed 1 = .ok (.getfield 45, 3) := dk_180 0 45 (dk_at dksX3_changed_0 1 rfl rfl)
theorem dX3_changed_4 : decode cX3_changed 4 = .ok (.ifCond .le 5, 3) := dk_158 0 5 (dk_at dksX3_changed_0 4 rfl rfl)
theorem dX3_changed_7 : decode cX3_changed 7 = .ok (.iload_n 1, 1) := dk_27 (dk_at dksX3_changed_0 7 rfl rfl)
theorem dX3_changed_8 : decode cX3_changed 8 = .ok (.ireturn, 1) := dk_172 (dk_at dksX3_changed_0 8 rfl rfl)
theorem dX3_changed_9 : decode cX3_changed 9 = .ok (.aload_n 0, 1) := dk_42 (dk_at dksX3_changed_0 9 rfl rfl)
theorem dX3_changed_10 : decode cX3_changed 10 = .ok (.getfield 48, 3) := dk_180 0 48 (dk_at dksX3_changed_0 10 rfl rfl)
theorem dX3_changed_13 : decode cX3_changed 13 = .ok (.bipush 8, 2) := dk_16 8 (dk_at dksX3_changed_0 13 rfl rfl)
theorem dX3_changed_15 : decode cX3_changed 15 = .ok (.if_icmp .ne 44, 3) := dk_160 0 44 (dk_at dksX3_changed_0 15 rfl rfl)
theorem dX3_changed_18 : decode cX3_changed 18 = .ok (.iconst 0, 1) := dk_3 (dk_at dksX3_changed_0 18 rfl rfl)
theorem dX3_changed_19 : decode cX3_changed 19 = .ok (.istore_n 2, 1) := dk_61 (dk_at dksX3_changed_0 19 rfl rfl)
theorem dX3_changed_20 : decode cX3_changed 20 = .ok (.iload_n 2, 1) := dk_28 (dk_at dksX3_changed_0 20 rfl rfl)
theorem dX3_changed_21 : decode cX3_changed 21 = .ok (.sipush 1085, 3) := dk_17 4 61 (dk_at dksX3_changed_0 21 rfl rfl)
theorem dX3_changed_24 : decode cX3_changed 24 = .ok (.if_icmp .ge 25, 3) := dk_162 0 25 (dk_at dksX3_changed_1 0 rfl rfl)
theorem dX3_changed_27 : decode cX3_changed 27 = .ok (.aload_n 0, 1) := dk_42 (dk_at dksX3_changed_1 3 rfl rfl)
theorem dX3_changed_28 : decode cX3_changed 28 = .ok (.getfield 19, 3) := dk_180 0 19 (dk_at dksX3_changed_1 4 rfl rfl)
theorem dX3_changed_31 : decode cX3_changed 31 = .ok (.iload_n 2, 1) := dk_28 (dk_at dksX3_changed_1 7 rfl rfl)
theorem dX3_changed_32 : decode cX3_changed 32 = .ok (.aload_n 0, 1) := dk_42 (dk_at dksX3_changed_1 8 rfl rfl)
theorem dX3_changed_33 : decode cX3_changed 33 = .ok (.getfield 19, 3) := dk_180 0 19 (dk_at dksX3_changed_1 9 rfl rfl)
theorem dX3_changed_36 : decode cX3_changed 36 = .ok (.iload_n 2, 1) := dk_28 (dk_at dksX3_changed_1 12 rfl rfl)
theorem dX3_changed_37 : decode cX3_changed 37 = .ok (.sipush 155, 3) := dk_17 0 155 (dk_at dksX3_changed_1 13 rfl rfl)
theorem dX3_changed_40 : decode cX3_changed 40 = .ok (.iadd, 1) := dk_96 (dk_at dksX3_changed_1 16 rfl rfl)
theorem dX3_changed_41 : decode cX3_changed 41 = .ok (.iaload, 1) := dk_46 (dk_at dksX3_changed_1 17 rfl rfl)
theorem dX3_changed_42 : decode cX3_changed 42 = .ok (.iastore, 1) := dk_79 (dk_at dksX3_changed_1 18 rfl rfl)
theorem dX3_changed_43 : decode cX3_changed 43 = .ok (.iinc 2 1, 3) := dk_132 2 1 (dk_at dksX3_changed_1 19 rfl rfl)
theorem dX3_changed_46 : decode cX3_changed 46 = .ok (.goto (-26), 3) := dk_167 255 230 (dk_at dksX3_changed_2 0 rfl rfl)
theorem dX3_changed_49 : decode cX3_changed 49 = .ok (.aload_n 0, 1) := dk_42 (dk_at dksX3_changed_2 3 rfl rfl)
theorem dX3_changed_50 : decode cX3_changed 50 = .ok (.dup, 1) := dk_89 (dk_at dksX3_changed_2 4 rfl rfl)
theorem dX3_changed_51 : decode cX3_changed 51 = .ok (.getfield 48, 3) := dk_180 0 48 (dk_at dksX3_changed_2 5 rfl rfl)
theorem dX3_changed_54 : decode cX3_changed 54 = .ok (.iconst 1, 1) := dk_4 (dk_at dksX3_changed_2 8 rfl rfl)
theorem dX3_changed_55 : decode cX3_changed 55 = .ok (.isub, 1) := dk_100 (dk_at dksX3_changed_2 9 rfl rfl)
theorem dX3_changed_56 : decode cX3_changed 56 = .ok (.putfield 48, 3) := dk_181 0 48 (dk_at dksX3_changed_2 10 rfl rfl)
theorem dX3_changed_59 : decode cX3_changed 59 = .ok (.iconst 0, 1) := dk_3 (dk_at dksX3_changed_2 13 rfl rfl)
theorem dX3_changed_60 : decode cX3_changed 60 = .ok (.istore_n 2, 1) := dk_61 (dk_at dksX3_changed_2 14 rfl rfl)
theorem dX3_changed_61 : decode cX3_changed 61 = .ok (.iload_n 2, 1) := dk_28 (dk_at dksX3_changed_2 15 rfl rfl)
theorem dX3_changed_62 : decode cX3_changed 62 = .ok (.sipush 155, 3) := dk_17 0 155 (dk_at dksX3_changed_2 16 rfl rfl)
theorem dX3_changed_65 : decode cX3_changed 65 = .ok (.if_icmp .ge 30, 3) := dk_162 0 30 (dk_at dksX3_changed_2 19 rfl rfl)
theorem dX3_changed_68 : decode cX3_changed 68 = .ok (.aload_n 0, 1) := dk_42 (dk_at dksX3_changed_2 22 rfl rfl)
theorem dX3_changed_69 : decode cX3_changed 69 = .ok (.getfield 19, 3) := dk_180 0 19 (dk_at dksX3_changed_3 0 rfl rfl)
theorem dX3_changed_72 : decode cX3_changed 72 = .ok (.sipush 155, 3) := dk_17 0 155 (dk_at dksX3_changed_3 3 rfl rfl)
theorem dX3_changed_75 : decode cX3_changed 75 = .ok (.aload_n 0, 1) := dk_42 (dk_at dksX3_changed_3 6 rfl rfl)
theorem dX3_changed_76 : decode cX3_changed 76 = .ok (.getfield 48, 3) := dk_180 0 48 (dk_at dksX3_changed_3 7 rfl rfl)
theorem dX3_changed_79 : decode cX3_changed 79 = .ok (.imul, 1) := dk_104 (dk_at dksX3_changed_3 10 rfl rfl)
theorem dX3_changed_80 : decode cX3_changed 80 = .ok (.iload_n 2, 1) := dk_28 (dk_at dksX3_changed_3 11 rfl rfl)
theorem dX3_changed_81 : decode cX3_changed 81 = .ok (.iadd, 1) := dk_96 (dk_at dksX3_changed_3 12 rfl rfl)
theorem dX3_changed_82 : decode cX3_changed 82 = .ok (.aload_n 0, 1) := dk_42 (dk_at dksX3_changed_3 13 rfl rfl)
theorem dX3_changed_83 : decode cX3_changed 83 = .ok (.getfield 13, 3) := dk_180 0 13 (dk_at dksX3_changed_3 14 rfl rfl)
theorem dX3_changed_86 : decode cX3_changed 86 = .ok (.iload_n 2, 1) := dk_28 (dk_at dksX3_changed_3 17 rfl rfl)
theorem dX3_changed_87 : decode cX3_changed 87 = .ok (.iaload, 1) := dk_46 (dk_at dksX3_changed_3 18 rfl rfl)
theorem dX3_changed_88 : decode cX3_changed 88 = .ok (.iastore, 1) := dk_79 (dk_at dksX3_changed_3 19 rfl rfl)
theorem dX3_changed_89 : decode cX3_changed 89 = .ok (.iinc 2 1, 3) := dk_132 2 1 (dk_at dksX3_changed_3 20 rfl rfl)
theorem dX3_changed_92 : decode cX3_changed 92 = .ok (.goto (-31), 3) := dk_167 255 225 (dk_at dksX3_changed_4 0 rfl rfl)
theorem dX3_changed_95 : decode cX3_changed 95 = .ok (.aload_n 0, 1) := dk_42 (dk_at dksX3_changed_4 3 rfl rfl)
theorem dX3_changed_96 : decode cX3_changed 96 = .ok (.dup, 1) := dk_89 (dk_at dksX3_changed_4 4 rfl rfl)
theorem dX3_changed_97 : decode cX3_changed 97 = .ok (.getfield 48, 3) := dk_180 0 48 (dk_at dksX3_changed_4 5 rfl rfl)
theorem dX3_changed_100 : decode cX3_changed 100 = .ok (.iconst 1, 1) := dk_4 (dk_at dksX3_changed_4 8 rfl rfl)
theorem dX3_changed_101 : decode cX3_changed 101 = .ok (.iadd, 1) := dk_96 (dk_at dksX3_changed_4 9 rfl rfl)
theorem dX3_changed_102 : decode cX3_changed 102 = .ok (.putfield 48, 3) := dk_181 0 48 (dk_at dksX3_changed_4 10 rfl rfl)
theorem dX3_changed_105 : decode cX3_changed 105 = .ok (.iload_n 1, 1) := dk_27 (dk_at dksX3_changed_4 13 rfl rfl)
theorem dX3_changed_106 : decode cX3_changed 106 = .ok (.ireturn, 1) := dk_172 (dk_at dksX3_changed_4 14 rfl rfl)
abbrev cX3_placeBid : ByteArray := prog_15_method_24_code
def yX3_placeBid : MethodName := ⟨RX3, "placeBid", "(III)I"⟩
def dkwX3_placeBid_0 : List UInt8 := [42, 182, 0, 81, 42, 42, 27, 4, 28, 29, 182, 0, 120, 182, 0, 88, 172]
abbrev dktX3_placeBid_0 : List UInt8 := dkwX3_placeBid_0 ++ []
theorem dksX3_placeBid_0 : cX3_placeBid.data.toList.drop 0 = dktX3_placeBid_0 := by decide +kernel
theorem dX3_placeBid_0 : decode cX3_placeBid 0 = .ok (.aload_n 0, 1) := dk_42 (dk_at dksX3_placeBid_0 0 rfl rfl)
theorem dX3_placeBid_1 : decode cX3_placeBid 1 = .ok (.invokevirtual 81, 3) := dk_182 0 81 (dk_at dksX3_placeBid_0 1 rfl rfl)
theorem dX3_placeBid_4 : decode cX3_placeBid 4 = .ok (.aload_n 0, 1) := dk_42 (dk_at dksX3_placeBid_0 4 rfl rfl)
theorem dX3_placeBid_5 : decode cX3_placeBid 5 = .ok (.aload_n 0, 1) := dk_42 (dk_at dksX3_placeBid_0 5 rfl rfl)
theorem dX3_placeBid_6 : decode cX3_placeBid 6 = .ok (.iload_n 1, 1) := dk_27 (dk_at dksX3_placeBid_0 6 rfl rfl)
theorem dX3_placeBid_7 : decode cX3_placeBid 7 = .ok (.iconst 1, 1) := dk_4 (dk_at dksX3_placeBid_0 7 rfl rfl)
theorem dX3_placeBid_8 : decode cX3_placeBid 8 = .ok (.iload_n 2, 1) := dk_28 (dk_at dksX3_placeBid_0 8 rfl rfl)
theorem dX3_placeBid_9 : decode cX3_placeBid 9 = .ok (.iload_n 3, 1) := dk_29 (dk_at dksX3_placeBid_0 9 rfl rfl)
theorem dX3_placeBid_10 : decode cX3_placeBid 10 = .ok (.invokevirtual 120, 3) := dk_182 0 120 (dk_at dksX3_placeBid_0 10 rfl rfl)
theorem dX3_placeBid_13 : decode cX3_placeBid 13 = .ok (.invokevirtual 88, 3) := dk_182 0 88 (dk_at dksX3_placeBid_0 13 rfl rfl)
theorem dX3_placeBid_16 : decode cX3_placeBid 16 = .ok (.ireturn, 1) := dk_172 (dk_at dksX3_placeBid_0 16 rfl rfl)
abbrev cX3_placesIt : ByteArray := prog_15_method_23_code
def yX3_placesIt : MethodName := ⟨RX3, "placesIt", "(IZII)I"⟩
def dkwX3_placesIt_14 : List UInt8 := [79, 29, 21, 6, 100, 172]
abbrev dktX3_placesIt_14 : List UInt8 := dkwX3_placesIt_14 ++ []
def dkwX3_placesIt_13 : List UInt8 := [180, 0, 9, 27, 184, 0, 78, 4, 96, 92, 46, 21, 6, 100, 79, 42, 180, 0, 9, 5, 92, 46, 4, 96]
abbrev dktX3_placesIt_13 : List UInt8 := dkwX3_placesIt_13 ++ dktX3_placesIt_14
def dkwX3_placesIt_12 : List UInt8 := [153, 0, 23, 42, 180, 0, 9, 27, 184, 0, 78, 92, 46, 21, 6, 21, 4, 104, 100, 79, 167, 0, 19, 42]
abbrev dktX3_placesIt_12 : List UInt8 := dkwX3_placesIt_12 ++ dktX3_placesIt_13
def dkwX3_placesIt_11 : List UInt8 := [79, 42, 180, 0, 9, 21, 8, 7, 96, 21, 6, 79, 42, 180, 0, 9, 4, 92, 46, 4, 96, 79, 28]
abbrev dktX3_placesIt_11 : List UInt8 := dkwX3_placesIt_11 ++ dktX3_placesIt_12
def dkwX3_placesIt_10 : List UInt8 := [21, 8, 5, 96, 28, 153, 0, 7, 4, 167, 0, 4, 3, 79, 42, 180, 0, 9, 21, 8, 6, 96, 21, 4]
abbrev dktX3_placesIt_10 : List UInt8 := dkwX3_placesIt_10 ++ dktX3_placesIt_11
def dkwX3_placesIt_9 : List UInt8 := [21, 8, 42, 180, 0, 9, 5, 46, 79, 42, 180, 0, 9, 21, 8, 4, 96, 27, 79, 42, 180, 0, 9]
abbrev dktX3_placesIt_9 : List UInt8 := dkwX3_placesIt_9 ++ dktX3_placesIt_10
def dkwX3_placesIt_8 : List UInt8 := [167, 255, 200, 21, 6, 158, 0, 127, 42, 180, 0, 9, 4, 46, 184, 0, 61, 54, 8, 42, 180, 0, 9]
abbrev dktX3_placesIt_8 : List UInt8 := dkwX3_placesIt_8 ++ dktX3_placesIt_9
def dkwX3_placesIt_7 : List UInt8 := [28, 21, 7, 21, 8, 182, 0, 116, 21, 6, 21, 8, 100, 54, 6, 42, 28, 21, 4, 182, 0, 107, 54, 7]
abbrev dktX3_placesIt_7 : List UInt8 := dkwX3_placesIt_7 ++ dktX3_placesIt_8
def dkwX3_placesIt_6 : List UInt8 := [159, 0, 51, 21, 6, 42, 180, 0, 9, 21, 7, 184, 0, 61, 7, 96, 46, 184, 0, 111, 54, 8, 42, 27]
abbrev dktX3_placesIt_6 : List UInt8 := dkwX3_placesIt_6 ++ dktX3_placesIt_7
def dkwX3_placesIt_5 : List UInt8 := [182, 0, 75, 172, 29, 54, 6, 42, 28, 21, 4, 182, 0, 107, 54, 7, 21, 6, 158, 0, 57, 21, 7, 2]
abbrev dktX3_placesIt_5 : List UInt8 := dkwX3_placesIt_5 ++ dktX3_placesIt_6
def dkwX3_placesIt_4 : List UInt8 := [153, 0, 9, 42, 6, 182, 0, 75, 172, 42, 180, 0, 9, 4, 46, 16, 16, 160, 0, 9, 42, 7]
abbrev dktX3_placesIt_4 : List UInt8 := dkwX3_placesIt_4 ++ dktX3_placesIt_5
def dkwX3_placesIt_3 : List UInt8 := [162, 0, 7, 4, 167, 0, 4, 3, 54, 5, 21, 5, 154, 0, 14, 42, 27, 28, 21, 4, 182, 0, 103]
abbrev dktX3_placesIt_3 : List UInt8 := dkwX3_placesIt_3 ++ dktX3_placesIt_4
def dkwX3_placesIt_2 : List UInt8 := [162, 0, 7, 4, 167, 0, 27, 3, 167, 0, 23, 42, 180, 0, 9, 27, 184, 0, 78, 4, 96, 46, 29]
abbrev dktX3_placesIt_2 : List UInt8 := dkwX3_placesIt_2 ++ dktX3_placesIt_3
def dkwX3_placesIt_1 : List UInt8 := [5, 182, 0, 75, 172, 28, 153, 0, 27, 42, 180, 0, 9, 27, 184, 0, 78, 46, 29, 21, 4, 104]
abbrev dktX3_placesIt_1 : List UInt8 := dkwX3_placesIt_1 ++ dktX3_placesIt_2
def dkwX3_placesIt_0 : List UInt8 := [42, 27, 182, 0, 95, 154, 0, 9, 42, 4, 182, 0, 75, 172, 29, 21, 4, 184, 0, 99, 154, 0, 9, 42]
abbrev dktX3_placesIt_0 : List UInt8 := dkwX3_placesIt_0 ++ dktX3_placesIt_1
theorem dksX3_placesIt_0 : cX3_placesIt.data.toList.drop 0 = dktX3_placesIt_0 := by decide +kernel
theorem dksX3_placesIt_1 : cX3_placesIt.data.toList.drop 24 = dktX3_placesIt_1 := dk_seg dksX3_placesIt_0 24 rfl rfl
theorem dksX3_placesIt_2 : cX3_placesIt.data.toList.drop 46 = dktX3_placesIt_2 := dk_seg dksX3_placesIt_1 22 rfl rfl
theorem dksX3_placesIt_3 : cX3_placesIt.data.toList.drop 69 = dktX3_placesIt_3 := dk_seg dksX3_placesIt_2 23 rfl rfl
theorem dksX3_placesIt_4 : cX3_placesIt.data.toList.drop 92 = dktX3_placesIt_4 := dk_seg dksX3_placesIt_3 23 rfl rfl
theorem dksX3_placesIt_5 : cX3_placesIt.data.toList.drop 114 = dktX3_placesIt_5 := dk_seg dksX3_placesIt_4 22 rfl rfl
theorem dksX3_placesIt_6 : cX3_placesIt.data.toList.drop 138 = dktX3_placesIt_6 := dk_seg dksX3_placesIt_5 24 rfl rfl
theorem dksX3_placesIt_7 : cX3_placesIt.data.toList.drop 162 = dktX3_placesIt_7 := dk_seg dksX3_placesIt_6 24 rfl rfl
theorem dksX3_placesIt_8 : cX3_placesIt.data.toList.drop 186 = dktX3_placesIt_8 := dk_seg dksX3_placesIt_7 24 rfl rfl
theorem dksX3_placesIt_9 : cX3_placesIt.data.toList.drop 209 = dktX3_placesIt_9 := dk_seg dksX3_placesIt_8 23 rfl rfl
theorem dksX3_placesIt_10 : cX3_placesIt.data.toList.drop 232 = dktX3_placesIt_10 := dk_seg dksX3_placesIt_9 23 rfl rfl
theorem dksX3_placesIt_11 : cX3_placesIt.data.toList.drop 256 = dktX3_placesIt_11 := dk_seg dksX3_placesIt_10 24 rfl rfl
theorem dksX3_placesIt_12 : cX3_placesIt.data.toList.drop 279 = dktX3_placesIt_12 := dk_seg dksX3_placesIt_11 23 rfl rfl
theorem dksX3_placesIt_13 : cX3_placesIt.data.toList.drop 303 = dktX3_placesIt_13 := dk_seg dksX3_placesIt_12 24 rfl rfl
theorem dksX3_placesIt_14 : cX3_placesIt.data.toList.drop 327 = dktX3_placesIt_14 := dk_seg dksX3_placesIt_13 24 rfl rfl
theorem dX3_placesIt_0 : decode cX3_placesIt 0 = .ok (.aload_n 0, 1) := dk_42 (dk_at dksX3_placesIt_0 0 rfl rfl)
theorem dX3_placesIt_1 : decode cX3_placesIt 1 = .ok (.iload_n 1, 1) := dk_27 (dk_at dksX3_placesIt_0 1 rfl rfl)
theorem dX3_placesIt_2 : decode cX3_placesIt 2 = .ok (.invokevirtual 95, 3) := dk_182 0 95 (dk_at dksX3_placesIt_0 2 rfl rfl)
theorem dX3_placesIt_5 : decode cX3_placesIt 5 = .ok (.ifCond .ne 9, 3) := dk_154 0 9 (dk_at dksX3_placesIt_0 5 rfl rfl)
theorem dX3_placesIt_8 : decode cX3_placesIt 8 = .ok (.aload_n 0, 1) := dk_42 (dk_at dksX3_placesIt_0 8 rfl rfl)
theorem dX3_placesIt_9 : decode cX3_placesIt 9 = .ok (.iconst 1, 1) := dk_4 (dk_at dksX3_placesIt_0 9 rfl rfl)
theorem dX3_placesIt_10 : decode cX3_placesIt 10 = .ok (.invokevirtual 75, 3) := dk_182 0 75 (dk_at dksX3_placesIt_0 10 rfl rfl)
theorem dX3_placesIt_13 : decode cX3_placesIt 13 = .ok (.ireturn, 1) := dk_172 (dk_at dksX3_placesIt_0 13 rfl rfl)
theorem dX3_placesIt_14 : decode cX3_placesIt 14 = .ok (.iload_n 3, 1) := dk_29 (dk_at dksX3_placesIt_0 14 rfl rfl)
theorem dX3_placesIt_15 : decode cX3_placesIt 15 = .ok (.iload 4, 2) := dk_21 4 (dk_at dksX3_placesIt_0 15 rfl rfl)
theorem dX3_placesIt_17 : decode cX3_placesIt 17 = .ok (.invokestatic 99, 3) := dk_184 0 99 (dk_at dksX3_placesIt_0 17 rfl rfl)
theorem dX3_placesIt_20 : decode cX3_placesIt 20 = .ok (.ifCond .ne 9, 3) := dk_154 0 9 (dk_at dksX3_placesIt_0 20 rfl rfl)
theorem dX3_placesIt_23 : decode cX3_placesIt 23 = .ok (.aload_n 0, 1) := dk_42 (dk_at dksX3_placesIt_0 23 rfl rfl)
theorem dX3_placesIt_24 : decode cX3_placesIt 24 = .ok (.iconst 2, 1) := dk_5 (dk_at dksX3_placesIt_1 0 rfl rfl)
theorem dX3_placesIt_25 : decode cX3_placesIt 25 = .ok (.invokevirtual 75, 3) := dk_182 0 75 (dk_at dksX3_placesIt_1 1 rfl rfl)
theorem dX3_placesIt_28 : decode cX3_placesIt 28 = .ok (.ireturn, 1) := dk_172 (dk_at dksX3_placesIt_1 4 rfl rfl)
theorem dX3_placesIt_29 : decode cX3_placesIt 29 = .ok (.iload_n 2, 1) := dk_28 (dk_at dksX3_placesIt_1 5 rfl rfl)
theorem dX3_placesIt_30 : decode cX3_placesIt 30 = .ok (.ifCond .eq 27, 3) := dk_153 0 27 (dk_at dksX3_placesIt_1 6 rfl rfl)
theorem dX3_placesIt_33 : decode cX3_placesIt 33 = .ok (.aload_n 0, 1) := dk_42 (dk_at dksX3_placesIt_1 9 rfl rfl)
theorem dX3_placesIt_34 : decode cX3_placesIt 34 = .ok (.getfield 9, 3) := dk_180 0 9 (dk_at dksX3_placesIt_1 10 rfl rfl)
theorem dX3_placesIt_37 : decode cX3_placesIt 37 = .ok (.iload_n 1, 1) := dk_27 (dk_at dksX3_placesIt_1 13 rfl rfl)
theorem dX3_placesIt_38 : decode cX3_placesIt 38 = .ok (.invokestatic 78, 3) := dk_184 0 78 (dk_at dksX3_placesIt_1 14 rfl rfl)
theorem dX3_placesIt_41 : decode cX3_placesIt 41 = .ok (.iaload, 1) := dk_46 (dk_at dksX3_placesIt_1 17 rfl rfl)
theorem dX3_placesIt_42 : decode cX3_placesIt 42 = .ok (.iload_n 3, 1) := dk_29 (dk_at dksX3_placesIt_1 18 rfl rfl)
theorem dX3_placesIt_43 : decode cX3_placesIt 43 = .ok (.iload 4, 2) := dk_21 4 (dk_at dksX3_placesIt_1 19 rfl rfl)
theorem dX3_placesIt_45 : decode cX3_placesIt 45 = .ok (.imul, 1) := dk_104 (dk_at dksX3_placesIt_1 21 rfl rfl)
theorem dX3_placesIt_46 : decode cX3_placesIt 46 = .ok (.if_icmp .ge 7, 3) := dk_162 0 7 (dk_at dksX3_placesIt_2 0 rfl rfl)
theorem dX3_placesIt_49 : decode cX3_placesIt 49 = .ok (.iconst 1, 1) := dk_4 (dk_at dksX3_placesIt_2 3 rfl rfl)
theorem dX3_placesIt_50 : decode cX3_placesIt 50 = .ok (.goto 27, 3) := dk_167 0 27 (dk_at dksX3_placesIt_2 4 rfl rfl)
theorem dX3_placesIt_53 : decode cX3_placesIt 53 = .ok (.iconst 0, 1) := dk_3 (dk_at dksX3_placesIt_2 7 rfl rfl)
theorem dX3_placesIt_54 : decode cX3_placesIt 54 = .ok (.goto 23, 3) := dk_167 0 23 (dk_at dksX3_placesIt_2 8 rfl rfl)
theorem dX3_placesIt_57 : decode cX3_placesIt 57 = .ok (.aload_n 0, 1) := dk_42 (dk_at dksX3_placesIt_2 11 rfl rfl)
theorem dX3_placesIt_58 : decode cX3_placesIt 58 = .ok (.getfield 9, 3) := dk_180 0 9 (dk_at dksX3_placesIt_2 12 rfl rfl)
theorem dX3_placesIt_61 : decode cX3_placesIt 61 = .ok (.iload_n 1, 1) := dk_27 (dk_at dksX3_placesIt_2 15 rfl rfl)
theorem dX3_placesIt_62 : decode cX3_placesIt 62 = .ok (.invokestatic 78, 3) := dk_184 0 78 (dk_at dksX3_placesIt_2 16 rfl rfl)
theorem dX3_placesIt_65 : decode cX3_placesIt 65 = .ok (.iconst 1, 1) := dk_4 (dk_at dksX3_placesIt_2 19 rfl rfl)
theorem dX3_placesIt_66 : decode cX3_placesIt 66 = .ok (.iadd, 1) := dk_96 (dk_at dksX3_placesIt_2 20 rfl rfl)
theorem dX3_placesIt_67 : decode cX3_placesIt 67 = .ok (.iaload, 1) := dk_46 (dk_at dksX3_placesIt_2 21 rfl rfl)
theorem dX3_placesIt_68 : decode cX3_placesIt 68 = .ok (.iload_n 3, 1) := dk_29 (dk_at dksX3_placesIt_2 22 rfl rfl)
theorem dX3_placesIt_69 : decode cX3_placesIt 69 = .ok (.if_icmp .ge 7, 3) := dk_162 0 7 (dk_at dksX3_placesIt_3 0 rfl rfl)
theorem dX3_placesIt_72 : decode cX3_placesIt 72 = .ok (.iconst 1, 1) := dk_4 (dk_at dksX3_placesIt_3 3 rfl rfl)
theorem dX3_placesIt_73 : decode cX3_placesIt 73 = .ok (.goto 4, 3) := dk_167 0 4 (dk_at dksX3_placesIt_3 4 rfl rfl)
theorem dX3_placesIt_76 : decode cX3_placesIt 76 = .ok (.iconst 0, 1) := dk_3 (dk_at dksX3_placesIt_3 7 rfl rfl)
theorem dX3_placesIt_77 : decode cX3_placesIt 77 = .ok (.istore 5, 2) := dk_54 5 (dk_at dksX3_placesIt_3 8 rfl rfl)
theorem dX3_placesIt_79 : decode cX3_placesIt 79 = .ok (.iload 5, 2) := dk_21 5 (dk_at dksX3_placesIt_3 10 rfl rfl)
theorem dX3_placesIt_81 : decode cX3_placesIt 81 = .ok (.ifCond .ne 14, 3) := dk_154 0 14 (dk_at dksX3_placesIt_3 12 rfl rfl)
theorem dX3_placesIt_84 : decode cX3_placesIt 84 = .ok (.aload_n 0, 1) := dk_42 (dk_at dksX3_placesIt_3 15 rfl rfl)
theorem dX3_placesIt_85 : decode cX3_placesIt 85 = .ok (.iload_n 1, 1) := dk_27 (dk_at dksX3_placesIt_3 16 rfl rfl)
theorem dX3_placesIt_86 : decode cX3_placesIt 86 = .ok (.iload_n 2, 1) := dk_28 (dk_at dksX3_placesIt_3 17 rfl rfl)
theorem dX3_placesIt_87 : decode cX3_placesIt 87 = .ok (.iload 4, 2) := dk_21 4 (dk_at dksX3_placesIt_3 18 rfl rfl)
theorem dX3_placesIt_89 : decode cX3_placesIt 89 = .ok (.invokevirtual 103, 3) := dk_182 0 103 (dk_at dksX3_placesIt_3 20 rfl rfl)
theorem dX3_placesIt_92 : decode cX3_placesIt 92 = .ok (.ifCond .eq 9, 3) := dk_153 0 9 (dk_at dksX3_placesIt_4 0 rfl rfl)
theorem dX3_placesIt_95 : decode cX3_placesIt 95 = .ok (.aload_n 0, 1) := dk_42 (dk_at dksX3_placesIt_4 3 rfl rfl)
theorem dX3_placesIt_96 : decode cX3_placesIt 96 = .ok (.iconst 3, 1) := dk_6 (dk_at dksX3_placesIt_4 4 rfl rfl)
theorem dX3_placesIt_97 : decode cX3_placesIt 97 = .ok (.invokevirtual 75, 3) := dk_182 0 75 (dk_at dksX3_placesIt_4 5 rfl rfl)
theorem dX3_placesIt_100 : decode cX3_placesIt 100 = .ok (.ireturn, 1) := dk_172 (dk_at dksX3_placesIt_4 8 rfl rfl)
theorem dX3_placesIt_101 : decode cX3_placesIt 101 = .ok (.aload_n 0, 1) := dk_42 (dk_at dksX3_placesIt_4 9 rfl rfl)
theorem dX3_placesIt_102 : decode cX3_placesIt 102 = .ok (.getfield 9, 3) := dk_180 0 9 (dk_at dksX3_placesIt_4 10 rfl rfl)
theorem dX3_placesIt_105 : decode cX3_placesIt 105 = .ok (.iconst 1, 1) := dk_4 (dk_at dksX3_placesIt_4 13 rfl rfl)
theorem dX3_placesIt_106 : decode cX3_placesIt 106 = .ok (.iaload, 1) := dk_46 (dk_at dksX3_placesIt_4 14 rfl rfl)
theorem dX3_placesIt_107 : decode cX3_placesIt 107 = .ok (.bipush 16, 2) := dk_16 16 (dk_at dksX3_placesIt_4 15 rfl rfl)
theorem dX3_placesIt_109 : decode cX3_placesIt 109 = .ok (.if_icmp .ne 9, 3) := dk_160 0 9 (dk_at dksX3_placesIt_4 17 rfl rfl)
theorem dX3_placesIt_112 : decode cX3_placesIt 112 = .ok (.aload_n 0, 1) := dk_42 (dk_at dksX3_placesIt_4 20 rfl rfl)
theorem dX3_placesIt_113 : decode cX3_placesIt 113 = .ok (.iconst 4, 1) := dk_7 (dk_at dksX3_placesIt_4 21 rfl rfl)
theorem dX3_placesIt_114 : decode cX3_placesIt 114 = .ok (.invokevirtual 75, 3) := dk_182 0 75 (dk_at dksX3_placesIt_5 0 rfl rfl)
theorem dX3_placesIt_117 : decode cX3_placesIt 117 = .ok (.ireturn, 1) := dk_172 (dk_at dksX3_placesIt_5 3 rfl rfl)
theorem dX3_placesIt_118 : decode cX3_placesIt 118 = .ok (.iload_n 3, 1) := dk_29 (dk_at dksX3_placesIt_5 4 rfl rfl)
theorem dX3_placesIt_119 : decode cX3_placesIt 119 = .ok (.istore 6, 2) := dk_54 6 (dk_at dksX3_placesIt_5 5 rfl rfl)
theorem dX3_placesIt_121 : decode cX3_placesIt 121 = .ok (.aload_n 0, 1) := dk_42 (dk_at dksX3_placesIt_5 7 rfl rfl)
theorem dX3_placesIt_122 : decode cX3_placesIt 122 = .ok (.iload_n 2, 1) := dk_28 (dk_at dksX3_placesIt_5 8 rfl rfl)
theorem dX3_placesIt_123 : decode cX3_placesIt 123 = .ok (.iload 4, 2) := dk_21 4 (dk_at dksX3_placesIt_5 9 rfl rfl)
theorem dX3_placesIt_125 : decode cX3_placesIt 125 = .ok (.invokevirtual 107, 3) := dk_182 0 107 (dk_at dksX3_placesIt_5 11 rfl rfl)
theorem dX3_placesIt_128 : decode cX3_placesIt 128 = .ok (.istore 7, 2) := dk_54 7 (dk_at dksX3_placesIt_5 14 rfl rfl)
theorem dX3_placesIt_130 : decode cX3_placesIt 130 = .ok (.iload 6, 2) := dk_21 6 (dk_at dksX3_placesIt_5 16 rfl rfl)
theorem dX3_placesIt_132 : decode cX3_placesIt 132 = .ok (.ifCond .le 57, 3) := dk_158 0 57 (dk_at dksX3_placesIt_5 18 rfl rfl)
theorem dX3_placesIt_135 : decode cX3_placesIt 135 = .ok (.iload 7, 2) := dk_21 7 (dk_at dksX3_placesIt_5 21 rfl rfl)
theorem dX3_placesIt_137 : decode cX3_placesIt 137 = .ok (.iconst (-1), 1) := dk_2 (dk_at dksX3_placesIt_5 23 rfl rfl)
theorem dX3_placesIt_138 : decode cX3_placesIt 138 = .ok (.if_icmp .eq 51, 3) := dk_159 0 51 (dk_at dksX3_placesIt_6 0 rfl rfl)
theorem dX3_placesIt_141 : decode cX3_placesIt 141 = .ok (.iload 6, 2) := dk_21 6 (dk_at dksX3_placesIt_6 3 rfl rfl)
theorem dX3_placesIt_143 : decode cX3_placesIt 143 = .ok (.aload_n 0, 1) := dk_42 (dk_at dksX3_placesIt_6 5 rfl rfl)
theorem dX3_placesIt_144 : decode cX3_placesIt 144 = .ok (.getfield 9, 3) := dk_180 0 9 (dk_at dksX3_placesIt_6 6 rfl rfl)
theorem dX3_placesIt_147 : decode cX3_placesIt 147 = .ok (.iload 7, 2) := dk_21 7 (dk_at dksX3_placesIt_6 9 rfl rfl)
theorem dX3_placesIt_149 : decode cX3_placesIt 149 = .ok (.invokestatic 61, 3) := dk_184 0 61 (dk_at dksX3_placesIt_6 11 rfl rfl)
theorem dX3_placesIt_152 : decode cX3_placesIt 152 = .ok (.iconst 4, 1) := dk_7 (dk_at dksX3_placesIt_6 14 rfl rfl)
theorem dX3_placesIt_153 : decode cX3_placesIt 153 = .ok (.iadd, 1) := dk_96 (dk_at dksX3_placesIt_6 15 rfl rfl)
theorem dX3_placesIt_154 : decode cX3_placesIt 154 = .ok (.iaload, 1) := dk_46 (dk_at dksX3_placesIt_6 16 rfl rfl)
theorem dX3_placesIt_155 : decode cX3_placesIt 155 = .ok (.invokestatic 111, 3) := dk_184 0 111 (dk_at dksX3_placesIt_6 17 rfl rfl)
theorem dX3_placesIt_158 : decode cX3_placesIt 158 = .ok (.istore 8, 2) := dk_54 8 (dk_at dksX3_placesIt_6 20 rfl rfl)
theorem dX3_placesIt_160 : decode cX3_placesIt 160 = .ok (.aload_n 0, 1) := dk_42 (dk_at dksX3_placesIt_6 22 rfl rfl)
theorem dX3_placesIt_161 : decode cX3_placesIt 161 = .ok (.iload_n 1, 1) := dk_27 (dk_at dksX3_placesIt_6 23 rfl rfl)
theorem dX3_placesIt_162 : decode cX3_placesIt 162 = .ok (.iload_n 2, 1) := dk_28 (dk_at dksX3_placesIt_7 0 rfl rfl)
theorem dX3_placesIt_163 : decode cX3_placesIt 163 = .ok (.iload 7, 2) := dk_21 7 (dk_at dksX3_placesIt_7 1 rfl rfl)
theorem dX3_placesIt_165 : decode cX3_placesIt 165 = .ok (.iload 8, 2) := dk_21 8 (dk_at dksX3_placesIt_7 3 rfl rfl)
theorem dX3_placesIt_167 : decode cX3_placesIt 167 = .ok (.invokevirtual 116, 3) := dk_182 0 116 (dk_at dksX3_placesIt_7 5 rfl rfl)
theorem dX3_placesIt_170 : decode cX3_placesIt 170 = .ok (.iload 6, 2) := dk_21 6 (dk_at dksX3_placesIt_7 8 rfl rfl)
theorem dX3_placesIt_172 : decode cX3_placesIt 172 = .ok (.iload 8, 2) := dk_21 8 (dk_at dksX3_placesIt_7 10 rfl rfl)
theorem dX3_placesIt_174 : decode cX3_placesIt 174 = .ok (.isub, 1) := dk_100 (dk_at dksX3_placesIt_7 12 rfl rfl)
theorem dX3_placesIt_175 : decode cX3_placesIt 175 = .ok (.istore 6, 2) := dk_54 6 (dk_at dksX3_placesIt_7 13 rfl rfl)
theorem dX3_placesIt_177 : decode cX3_placesIt 177 = .ok (.aload_n 0, 1) := dk_42 (dk_at dksX3_placesIt_7 15 rfl rfl)
theorem dX3_placesIt_178 : decode cX3_placesIt 178 = .ok (.iload_n 2, 1) := dk_28 (dk_at dksX3_placesIt_7 16 rfl rfl)
theorem dX3_placesIt_179 : decode cX3_placesIt 179 = .ok (.iload 4, 2) := dk_21 4 (dk_at dksX3_placesIt_7 17 rfl rfl)
theorem dX3_placesIt_181 : decode cX3_placesIt 181 = .ok (.invokevirtual 107, 3) := dk_182 0 107 (dk_at dksX3_placesIt_7 19 rfl rfl)
theorem dX3_placesIt_184 : decode cX3_placesIt 184 = .ok (.istore 7, 2) := dk_54 7 (dk_at dksX3_placesIt_7 22 rfl rfl)
theorem dX3_placesIt_186 : decode cX3_placesIt 186 = .ok (.goto (-56), 3) := dk_167 255 200 (dk_at dksX3_placesIt_8 0 rfl rfl)
theorem dX3_placesIt_189 : decode cX3_placesIt 189 = .ok (.iload 6, 2) := dk_21 6 (dk_at dksX3_placesIt_8 3 rfl rfl)
theorem dX3_placesIt_191 : decode cX3_placesIt 191 = .ok (.ifCond .le 127, 3) := dk_158 0 127 (dk_at dksX3_placesIt_8 5 rfl rfl)
theorem dX3_placesIt_194 : decode cX3_placesIt 194 = .ok (.aload_n 0, 1) := dk_42 (dk_at dksX3_placesIt_8 8 rfl rfl)
theorem dX3_placesIt_195 : decode cX3_placesIt 195 = .ok (.getfield 9, 3) := dk_180 0 9 (dk_at dksX3_placesIt_8 9 rfl rfl)
theorem dX3_placesIt_198 : decode cX3_placesIt 198 = .ok (.iconst 1, 1) := dk_4 (dk_at dksX3_placesIt_8 12 rfl rfl)
theorem dX3_placesIt_199 : decode cX3_placesIt 199 = .ok (.iaload, 1) := dk_46 (dk_at dksX3_placesIt_8 13 rfl rfl)
theorem dX3_placesIt_200 : decode cX3_placesIt 200 = .ok (.invokestatic 61, 3) := dk_184 0 61 (dk_at dksX3_placesIt_8 14 rfl rfl)
theorem dX3_placesIt_203 : decode cX3_placesIt 203 = .ok (.istore 8, 2) := dk_54 8 (dk_at dksX3_placesIt_8 17 rfl rfl)
theorem dX3_placesIt_205 : decode cX3_placesIt 205 = .ok (.aload_n 0, 1) := dk_42 (dk_at dksX3_placesIt_8 19 rfl rfl)
theorem dX3_placesIt_206 : decode cX3_placesIt 206 = .ok (.getfield 9, 3) := dk_180 0 9 (dk_at dksX3_placesIt_8 20 rfl rfl)
theorem dX3_placesIt_209 : decode cX3_placesIt 209 = .ok (.iload 8, 2) := dk_21 8 (dk_at dksX3_placesIt_9 0 rfl rfl)
theorem dX3_placesIt_211 : decode cX3_placesIt 211 = .ok (.aload_n 0, 1) := dk_42 (dk_at dksX3_placesIt_9 2 rfl rfl)
theorem dX3_placesIt_212 : decode cX3_placesIt 212 = .ok (.getfield 9, 3) := dk_180 0 9 (dk_at dksX3_placesIt_9 3 rfl rfl)
theorem dX3_placesIt_215 : decode cX3_placesIt 215 = .ok (.iconst 2, 1) := dk_5 (dk_at dksX3_placesIt_9 6 rfl rfl)
theorem dX3_placesIt_216 : decode cX3_placesIt 216 = .ok (.iaload, 1) := dk_46 (dk_at dksX3_placesIt_9 7 rfl rfl)
theorem dX3_placesIt_217 : decode cX3_placesIt 217 = .ok (.iastore, 1) := dk_79 (dk_at dksX3_placesIt_9 8 rfl rfl)
theorem dX3_placesIt_218 : decode cX3_placesIt 218 = .ok (.aload_n 0, 1) := dk_42 (dk_at dksX3_placesIt_9 9 rfl rfl)
theorem dX3_placesIt_219 : decode cX3_placesIt 219 = .ok (.getfield 9, 3) := dk_180 0 9 (dk_at dksX3_placesIt_9 10 rfl rfl)
theorem dX3_placesIt_222 : decode cX3_placesIt 222 = .ok (.iload 8, 2) := dk_21 8 (dk_at dksX3_placesIt_9 13 rfl rfl)
theorem dX3_placesIt_224 : decode cX3_placesIt 224 = .ok (.iconst 1, 1) := dk_4 (dk_at dksX3_placesIt_9 15 rfl rfl)
theorem dX3_placesIt_225 : decode cX3_placesIt 225 = .ok (.iadd, 1) := dk_96 (dk_at dksX3_placesIt_9 16 rfl rfl)
theorem dX3_placesIt_226 : decode cX3_placesIt 226 = .ok (.iload_n 1, 1) := dk_27 (dk_at dksX3_placesIt_9 17 rfl rfl)
theorem dX3_placesIt_227 : decode cX3_placesIt 227 = .ok (.iastore, 1) := dk_79 (dk_at dksX3_placesIt_9 18 rfl rfl)
theorem dX3_placesIt_228 : decode cX3_placesIt 228 = .ok (.aload_n 0, 1) := dk_42 (dk_at dksX3_placesIt_9 19 rfl rfl)
theorem dX3_placesIt_229 : decode cX3_placesIt 229 = .ok (.getfield 9, 3) := dk_180 0 9 (dk_at dksX3_placesIt_9 20 rfl rfl)
theorem dX3_placesIt_232 : decode cX3_placesIt 232 = .ok (.iload 8, 2) := dk_21 8 (dk_at dksX3_placesIt_10 0 rfl rfl)
theorem dX3_placesIt_234 : decode cX3_placesIt 234 = .ok (.iconst 2, 1) := dk_5 (dk_at dksX3_placesIt_10 2 rfl rfl)
theorem dX3_placesIt_235 : decode cX3_placesIt 235 = .ok (.iadd, 1) := dk_96 (dk_at dksX3_placesIt_10 3 rfl rfl)
theorem dX3_placesIt_236 : decode cX3_placesIt 236 = .ok (.iload_n 2, 1) := dk_28 (dk_at dksX3_placesIt_10 4 rfl rfl)
theorem dX3_placesIt_237 : decode cX3_placesIt 237 = .ok (.ifCond .eq 7, 3) := dk_153 0 7 (dk_at dksX3_placesIt_10 5 rfl rfl)
theorem dX3_placesIt_240 : decode cX3_placesIt 240 = .ok (.iconst 1, 1) := dk_4 (dk_at dksX3_placesIt_10 8 rfl rfl)
theorem dX3_placesIt_241 : decode cX3_placesIt 241 = .ok (.goto 4, 3) := dk_167 0 4 (dk_at dksX3_placesIt_10 9 rfl rfl)
theorem dX3_placesIt_244 : decode cX3_placesIt 244 = .ok (.iconst 0, 1) := dk_3 (dk_at dksX3_placesIt_10 12 rfl rfl)
theorem dX3_placesIt_245 : decode cX3_placesIt 245 = .ok (.iastore, 1) := dk_79 (dk_at dksX3_placesIt_10 13 rfl rfl)
theorem dX3_placesIt_246 : decode cX3_placesIt 246 = .ok (.aload_n 0, 1) := dk_42 (dk_at dksX3_placesIt_10 14 rfl rfl)
theorem dX3_placesIt_247 : decode cX3_placesIt 247 = .ok (.getfield 9, 3) := dk_180 0 9 (dk_at dksX3_placesIt_10 15 rfl rfl)
theorem dX3_placesIt_250 : decode cX3_placesIt 250 = .ok (.iload 8, 2) := dk_21 8 (dk_at dksX3_placesIt_10 18 rfl rfl)
theorem dX3_placesIt_252 : decode cX3_placesIt 252 = .ok (.iconst 3, 1) := dk_6 (dk_at dksX3_placesIt_10 20 rfl rfl)
theorem dX3_placesIt_253 : decode cX3_placesIt 253 = .ok (.iadd, 1) := dk_96 (dk_at dksX3_placesIt_10 21 rfl rfl)
theorem dX3_placesIt_254 : decode cX3_placesIt 254 = .ok (.iload 4, 2) := dk_21 4 (dk_at dksX3_placesIt_10 22 rfl rfl)
theorem dX3_placesIt_256 : decode cX3_placesIt 256 = .ok (.iastore, 1) := dk_79 (dk_at dksX3_placesIt_11 0 rfl rfl)
theorem dX3_placesIt_257 : decode cX3_placesIt 257 = .ok (.aload_n 0, 1) := dk_42 (dk_at dksX3_placesIt_11 1 rfl rfl)
theorem dX3_placesIt_258 : decode cX3_placesIt 258 = .ok (.getfield 9, 3) := dk_180 0 9 (dk_at dksX3_placesIt_11 2 rfl rfl)
theorem dX3_placesIt_261 : decode cX3_placesIt 261 = .ok (.iload 8, 2) := dk_21 8 (dk_at dksX3_placesIt_11 5 rfl rfl)
theorem dX3_placesIt_263 : decode cX3_placesIt 263 = .ok (.iconst 4, 1) := dk_7 (dk_at dksX3_placesIt_11 7 rfl rfl)
theorem dX3_placesIt_264 : decode cX3_placesIt 264 = .ok (.iadd, 1) := dk_96 (dk_at dksX3_placesIt_11 8 rfl rfl)
theorem dX3_placesIt_265 : decode cX3_placesIt 265 = .ok (.iload 6, 2) := dk_21 6 (dk_at dksX3_placesIt_11 9 rfl rfl)
theorem dX3_placesIt_267 : decode cX3_placesIt 267 = .ok (.iastore, 1) := dk_79 (dk_at dksX3_placesIt_11 11 rfl rfl)
theorem dX3_placesIt_268 : decode cX3_placesIt 268 = .ok (.aload_n 0, 1) := dk_42 (dk_at dksX3_placesIt_11 12 rfl rfl)
theorem dX3_placesIt_269 : decode cX3_placesIt 269 = .ok (.getfield 9, 3) := dk_180 0 9 (dk_at dksX3_placesIt_11 13 rfl rfl)
theorem dX3_placesIt_272 : decode cX3_placesIt 272 = .ok (.iconst 1, 1) := dk_4 (dk_at dksX3_placesIt_11 16 rfl rfl)
theorem dX3_placesIt_273 : decode cX3_placesIt 273 = .ok (.dup2, 1) := dk_92 (dk_at dksX3_placesIt_11 17 rfl rfl)
theorem dX3_placesIt_274 : decode cX3_placesIt 274 = .ok (.iaload, 1) := dk_46 (dk_at dksX3_placesIt_11 18 rfl rfl)
theorem dX3_placesIt_275 : decode cX3_placesIt 275 = .ok (.iconst 1, 1) := dk_4 (dk_at dksX3_placesIt_11 19 rfl rfl)
theorem dX3_placesIt_276 : decode cX3_placesIt 276 = .ok (.iadd, 1) := dk_96 (dk_at dksX3_placesIt_11 20 rfl rfl)
theorem dX3_placesIt_277 : decode cX3_placesIt 277 = .ok (.iastore, 1) := dk_79 (dk_at dksX3_placesIt_11 21 rfl rfl)
theorem dX3_placesIt_278 : decode cX3_placesIt 278 = .ok (.iload_n 2, 1) := dk_28 (dk_at dksX3_placesIt_11 22 rfl rfl)
theorem dX3_placesIt_279 : decode cX3_placesIt 279 = .ok (.ifCond .eq 23, 3) := dk_153 0 23 (dk_at dksX3_placesIt_12 0 rfl rfl)
theorem dX3_placesIt_282 : decode cX3_placesIt 282 = .ok (.aload_n 0, 1) := dk_42 (dk_at dksX3_placesIt_12 3 rfl rfl)
theorem dX3_placesIt_283 : decode cX3_placesIt 283 = .ok (.getfield 9, 3) := dk_180 0 9 (dk_at dksX3_placesIt_12 4 rfl rfl)
theorem dX3_placesIt_286 : decode cX3_placesIt 286 = .ok (.iload_n 1, 1) := dk_27 (dk_at dksX3_placesIt_12 7 rfl rfl)
theorem dX3_placesIt_287 : decode cX3_placesIt 287 = .ok (.invokestatic 78, 3) := dk_184 0 78 (dk_at dksX3_placesIt_12 8 rfl rfl)
theorem dX3_placesIt_290 : decode cX3_placesIt 290 = .ok (.dup2, 1) := dk_92 (dk_at dksX3_placesIt_12 11 rfl rfl)
theorem dX3_placesIt_291 : decode cX3_placesIt 291 = .ok (.iaload, 1) := dk_46 (dk_at dksX3_placesIt_12 12 rfl rfl)
theorem dX3_placesIt_292 : decode cX3_placesIt 292 = .ok (.iload 6, 2) := dk_21 6 (dk_at dksX3_placesIt_12 13 rfl rfl)
theorem dX3_placesIt_294 : decode cX3_placesIt 294 = .ok (.iload 4, 2) := dk_21 4 (dk_at dksX3_placesIt_12 15 rfl rfl)
theorem dX3_placesIt_296 : decode cX3_placesIt 296 = .ok (.imul, 1) := dk_104 (dk_at dksX3_placesIt_12 17 rfl rfl)
theorem dX3_placesIt_297 : decode cX3_placesIt 297 = .ok (.isub, 1) := dk_100 (dk_at dksX3_placesIt_12 18 rfl rfl)
theorem dX3_placesIt_298 : decode cX3_placesIt 298 = .ok (.iastore, 1) := dk_79 (dk_at dksX3_placesIt_12 19 rfl rfl)
theorem dX3_placesIt_299 : decode cX3_placesIt 299 = .ok (.goto 19, 3) := dk_167 0 19 (dk_at dksX3_placesIt_12 20 rfl rfl)
theorem dX3_placesIt_302 : decode cX3_placesIt 302 = .ok (.aload_n 0, 1) := dk_42 (dk_at dksX3_placesIt_12 23 rfl rfl)
theorem dX3_placesIt_303 : decode cX3_placesIt 303 = .ok (.getfield 9, 3) := dk_180 0 9 (dk_at dksX3_placesIt_13 0 rfl rfl)
theorem dX3_placesIt_306 : decode cX3_placesIt 306 = .ok (.iload_n 1, 1) := dk_27 (dk_at dksX3_placesIt_13 3 rfl rfl)
theorem dX3_placesIt_307 : decode cX3_placesIt 307 = .ok (.invokestatic 78, 3) := dk_184 0 78 (dk_at dksX3_placesIt_13 4 rfl rfl)
theorem dX3_placesIt_310 : decode cX3_placesIt 310 = .ok (.iconst 1, 1) := dk_4 (dk_at dksX3_placesIt_13 7 rfl rfl)
theorem dX3_placesIt_311 : decode cX3_placesIt 311 = .ok (.iadd, 1) := dk_96 (dk_at dksX3_placesIt_13 8 rfl rfl)
theorem dX3_placesIt_312 : decode cX3_placesIt 312 = .ok (.dup2, 1) := dk_92 (dk_at dksX3_placesIt_13 9 rfl rfl)
theorem dX3_placesIt_313 : decode cX3_placesIt 313 = .ok (.iaload, 1) := dk_46 (dk_at dksX3_placesIt_13 10 rfl rfl)
theorem dX3_placesIt_314 : decode cX3_placesIt 314 = .ok (.iload 6, 2) := dk_21 6 (dk_at dksX3_placesIt_13 11 rfl rfl)
theorem dX3_placesIt_316 : decode cX3_placesIt 316 = .ok (.isub, 1) := dk_100 (dk_at dksX3_placesIt_13 13 rfl rfl)
theorem dX3_placesIt_317 : decode cX3_placesIt 317 = .ok (.iastore, 1) := dk_79 (dk_at dksX3_placesIt_13 14 rfl rfl)
theorem dX3_placesIt_318 : decode cX3_placesIt 318 = .ok (.aload_n 0, 1) := dk_42 (dk_at dksX3_placesIt_13 15 rfl rfl)
theorem dX3_placesIt_319 : decode cX3_placesIt 319 = .ok (.getfield 9, 3) := dk_180 0 9 (dk_at dksX3_placesIt_13 16 rfl rfl)
theorem dX3_placesIt_322 : decode cX3_placesIt 322 = .ok (.iconst 2, 1) := dk_5 (dk_at dksX3_placesIt_13 19 rfl rfl)
theorem dX3_placesIt_323 : decode cX3_placesIt 323 = .ok (.dup2, 1) := dk_92 (dk_at dksX3_placesIt_13 20 rfl rfl)
theorem dX3_placesIt_324 : decode cX3_placesIt 324 = .ok (.iaload, 1) := dk_46 (dk_at dksX3_placesIt_13 21 rfl rfl)
theorem dX3_placesIt_325 : decode cX3_placesIt 325 = .ok (.iconst 1, 1) := dk_4 (dk_at dksX3_placesIt_13 22 rfl rfl)
theorem dX3_placesIt_326 : decode cX3_placesIt 326 = .ok (.iadd, 1) := dk_96 (dk_at dksX3_placesIt_13 23 rfl rfl)
theorem dX3_placesIt_327 : decode cX3_placesIt 327 = .ok (.iastore, 1) := dk_79 (dk_at dksX3_placesIt_14 0 rfl rfl)
theorem dX3_placesIt_328 : decode cX3_placesIt 328 = .ok (.iload_n 3, 1) := dk_29 (dk_at dksX3_placesIt_14 1 rfl rfl)
theorem dX3_placesIt_329 : decode cX3_placesIt 329 = .ok (.iload 6, 2) := dk_21 6 (dk_at dksX3_placesIt_14 2 rfl rfl)
theorem dX3_placesIt_331 : decode cX3_placesIt 331 = .ok (.isub, 1) := dk_100 (dk_at dksX3_placesIt_14 4 rfl rfl)
theorem dX3_placesIt_332 : decode cX3_placesIt 332 = .ok (.ireturn, 1) := dk_172 (dk_at dksX3_placesIt_14 5 rfl rfl)
abbrev cX3_isTrader : ByteArray := prog_15_method_10_code
def yX3_isTrader : MethodName := ⟨RX3, "isTrader", "(I)Z"⟩
def dkwX3_isTrader_0 : List UInt8 := [27, 133, 9, 42, 180, 0, 9, 3, 46, 4, 100, 133, 184, 0, 51, 172]
abbrev dktX3_isTrader_0 : List UInt8 := dkwX3_isTrader_0 ++ []
theorem dksX3_isTrader_0 : cX3_isTrader.data.toList.drop 0 = dktX3_isTrader_0 := by decide +kernel
theorem dX3_isTrader_0 : decode cX3_isTrader 0 = .ok (.iload_n 1, 1) := dk_27 (dk_at dksX3_isTrader_0 0 rfl rfl)
theorem dX3_isTrader_1 : decode cX3_isTrader 1 = .ok (.i2l, 1) := dk_133 (dk_at dksX3_isTrader_0 1 rfl rfl)
theorem dX3_isTrader_2 : decode cX3_isTrader 2 = .ok (.lconst 0, 1) := dk_9 (dk_at dksX3_isTrader_0 2 rfl rfl)
theorem dX3_isTrader_3 : decode cX3_isTrader 3 = .ok (.aload_n 0, 1) := dk_42 (dk_at dksX3_isTrader_0 3 rfl rfl)
theorem dX3_isTrader_4 : decode cX3_isTrader 4 = .ok (.getfield 9, 3) := dk_180 0 9 (dk_at dksX3_isTrader_0 4 rfl rfl)
theorem dX3_isTrader_7 : decode cX3_isTrader 7 = .ok (.iconst 0, 1) := dk_3 (dk_at dksX3_isTrader_0 7 rfl rfl)
theorem dX3_isTrader_8 : decode cX3_isTrader 8 = .ok (.iaload, 1) := dk_46 (dk_at dksX3_isTrader_0 8 rfl rfl)
theorem dX3_isTrader_9 : decode cX3_isTrader 9 = .ok (.iconst 1, 1) := dk_4 (dk_at dksX3_isTrader_0 9 rfl rfl)
theorem dX3_isTrader_10 : decode cX3_isTrader 10 = .ok (.isub, 1) := dk_100 (dk_at dksX3_isTrader_0 10 rfl rfl)
theorem dX3_isTrader_11 : decode cX3_isTrader 11 = .ok (.i2l, 1) := dk_133 (dk_at dksX3_isTrader_0 11 rfl rfl)
theorem dX3_isTrader_12 : decode cX3_isTrader 12 = .ok (.invokestatic 51, 3) := dk_184 0 51 (dk_at dksX3_isTrader_0 12 rfl rfl)
theorem dX3_isTrader_15 : decode cX3_isTrader 15 = .ok (.ireturn, 1) := dk_172 (dk_at dksX3_isTrader_0 15 rfl rfl)
abbrev cX3_isDeal : ByteArray := prog_15_method_13_code
def yX3_isDeal : MethodName := ⟨RX3, "isDeal", "(II)Z"⟩
def dkwX3_isDeal_1 : List UInt8 := [4, 167, 0, 4, 3, 172]
abbrev dktX3_isDeal_1 : List UInt8 := dkwX3_isDeal_1 ++ []
def dkwX3_isDeal_0 : List UInt8 := [26, 133, 10, 20, 0, 57, 184, 0, 51, 153, 0, 19, 27, 133, 10, 20, 0, 59, 184, 0, 51, 153, 0, 7]
abbrev dktX3_isDeal_0 : List UInt8 := dkwX3_isDeal_0 ++ dktX3_isDeal_1
theorem dksX3_isDeal_0 : cX3_isDeal.data.toList.drop 0 = dktX3_isDeal_0 := by decide +kernel
theorem dksX3_isDeal_1 : cX3_isDeal.data.toList.drop 24 = dktX3_isDeal_1 := dk_seg dksX3_isDeal_0 24 rfl rfl
theorem dX3_isDeal_0 : decode cX3_isDeal 0 = .ok (.iload_n 0, 1) := dk_26 (dk_at dksX3_isDeal_0 0 rfl rfl)
theorem dX3_isDeal_1 : decode cX3_isDeal 1 = .ok (.i2l, 1) := dk_133 (dk_at dksX3_isDeal_0 1 rfl rfl)
theorem dX3_isDeal_2 : decode cX3_isDeal 2 = .ok (.lconst 1, 1) := dk_10 (dk_at dksX3_isDeal_0 2 rfl rfl)
theorem dX3_isDeal_3 : decode cX3_isDeal 3 = .ok (.ldc2_w 57, 3) := dk_20 0 57 (dk_at dksX3_isDeal_0 3 rfl rfl)
theorem dX3_isDeal_6 : decode cX3_isDeal 6 = .ok (.invokestatic 51, 3) := dk_184 0 51 (dk_at dksX3_isDeal_0 6 rfl rfl)
theorem dX3_isDeal_9 : decode cX3_isDeal 9 = .ok (.ifCond .eq 19, 3) := dk_153 0 19 (dk_at dksX3_isDeal_0 9 rfl rfl)
theorem dX3_isDeal_12 : decode cX3_isDeal 12 = .ok (.iload_n 1, 1) := dk_27 (dk_at dksX3_isDeal_0 12 rfl rfl)
theorem dX3_isDeal_13 : decode cX3_isDeal 13 = .ok (.i2l, 1) := dk_133 (dk_at dksX3_isDeal_0 13 rfl rfl)
theorem dX3_isDeal_14 : decode cX3_isDeal 14 = .ok (.lconst 1, 1) := dk_10 (dk_at dksX3_isDeal_0 14 rfl rfl)
theorem dX3_isDeal_15 : decode cX3_isDeal 15 = .ok (.ldc2_w 59, 3) := dk_20 0 59 (dk_at dksX3_isDeal_0 15 rfl rfl)
theorem dX3_isDeal_18 : decode cX3_isDeal 18 = .ok (.invokestatic 51, 3) := dk_184 0 51 (dk_at dksX3_isDeal_0 18 rfl rfl)
theorem dX3_isDeal_21 : decode cX3_isDeal 21 = .ok (.ifCond .eq 7, 3) := dk_153 0 7 (dk_at dksX3_isDeal_0 21 rfl rfl)
theorem dX3_isDeal_24 : decode cX3_isDeal 24 = .ok (.iconst 1, 1) := dk_4 (dk_at dksX3_isDeal_1 0 rfl rfl)
theorem dX3_isDeal_25 : decode cX3_isDeal 25 = .ok (.goto 4, 3) := dk_167 0 4 (dk_at dksX3_isDeal_1 1 rfl rfl)
theorem dX3_isDeal_28 : decode cX3_isDeal 28 = .ok (.iconst 0, 1) := dk_3 (dk_at dksX3_isDeal_1 4 rfl rfl)
theorem dX3_isDeal_29 : decode cX3_isDeal 29 = .ok (.ireturn, 1) := dk_172 (dk_at dksX3_isDeal_1 5 rfl rfl)
abbrev cX3_matchesOwn : ByteArray := prog_15_method_19_code
def yX3_matchesOwn : MethodName := ⟨RX3, "matchesOwn", "(IZI)Z"⟩
def dkwX3_matchesOwn_2 : List UInt8 := [160, 0, 7, 4, 167, 0, 4, 3, 54, 4, 132, 5, 1, 167, 255, 203, 21, 4, 172]
abbrev dktX3_matchesOwn_2 : List UInt8 := dkwX3_matchesOwn_2 ++ []
def dkwX3_matchesOwn_1 : List UInt8 := [29, 21, 5, 182, 0, 69, 153, 0, 23, 42, 180, 0, 9, 21, 5, 184, 0, 61, 4, 96, 46, 27]
abbrev dktX3_matchesOwn_1 : List UInt8 := dkwX3_matchesOwn_1 ++ dktX3_matchesOwn_2
def dkwX3_matchesOwn_0 : List UInt8 := [3, 54, 4, 3, 54, 5, 21, 5, 42, 180, 0, 9, 4, 46, 162, 0, 48, 21, 4, 154, 0, 30, 42, 28]
abbrev dktX3_matchesOwn_0 : List UInt8 := dkwX3_matchesOwn_0 ++ dktX3_matchesOwn_1
theorem dksX3_matchesOwn_0 : cX3_matchesOwn.data.toList.drop 0 = dktX3_matchesOwn_0 := by decide +kernel
theorem dksX3_matchesOwn_1 : cX3_matchesOwn.data.toList.drop 24 = dktX3_matchesOwn_1 := dk_seg dksX3_matchesOwn_0 24 rfl rfl
theorem dksX3_matchesOwn_2 : cX3_matchesOwn.data.toList.drop 46 = dktX3_matchesOwn_2 := dk_seg dksX3_matchesOwn_1 22 rfl rfl
theorem dX3_matchesOwn_0 : decode cX3_matchesOwn 0 = .ok (.iconst 0, 1) := dk_3 (dk_at dksX3_matchesOwn_0 0 rfl rfl)
theorem dX3_matchesOwn_1 : decode cX3_matchesOwn 1 = .ok (.istore 4, 2) := dk_54 4 (dk_at dksX3_matchesOwn_0 1 rfl rfl)
theorem dX3_matchesOwn_3 : decode cX3_matchesOwn 3 = .ok (.iconst 0, 1) := dk_3 (dk_at dksX3_matchesOwn_0 3 rfl rfl)
theorem dX3_matchesOwn_4 : decode cX3_matchesOwn 4 = .ok (.istore 5, 2) := dk_54 5 (dk_at dksX3_matchesOwn_0 4 rfl rfl)
theorem dX3_matchesOwn_6 : decode cX3_matchesOwn 6 = .ok (.iload 5, 2) := dk_21 5 (dk_at dksX3_matchesOwn_0 6 rfl rfl)
theorem dX3_matchesOwn_8 : decode cX3_matchesOwn 8 = .ok (.aload_n 0, 1) := dk_42 (dk_at dksX3_matchesOwn_0 8 rfl rfl)
theorem dX3_matchesOwn_9 : decode cX3_matchesOwn 9 = .ok (.getfield 9, 3) := dk_180 0 9 (dk_at dksX3_matchesOwn_0 9 rfl rfl)
theorem dX3_matchesOwn_12 : decode cX3_matchesOwn 12 = .ok (.iconst 1, 1) := dk_4 (dk_at dksX3_matchesOwn_0 12 rfl rfl)
theorem dX3_matchesOwn_13 : decode cX3_matchesOwn 13 = .ok (.iaload, 1) := dk_46 (dk_at dksX3_matchesOwn_0 13 rfl rfl)
theorem dX3_matchesOwn_14 : decode cX3_matchesOwn 14 = .ok (.if_icmp .ge 48, 3) := dk_162 0 48 (dk_at dksX3_matchesOwn_0 14 rfl rfl)
theorem dX3_matchesOwn_17 : decode cX3_matchesOwn 17 = .ok (.iload 4, 2) := dk_21 4 (dk_at dksX3_matchesOwn_0 17 rfl rfl)
theorem dX3_matchesOwn_19 : decode cX3_matchesOwn 19 = .ok (.ifCond .ne 30, 3) := dk_154 0 30 (dk_at dksX3_matchesOwn_0 19 rfl rfl)
theorem dX3_matchesOwn_22 : decode cX3_matchesOwn 22 = .ok (.aload_n 0, 1) := dk_42 (dk_at dksX3_matchesOwn_0 22 rfl rfl)
theorem dX3_matchesOwn_23 : decode cX3_matchesOwn 23 = .ok (.iload_n 2, 1) := dk_28 (dk_at dksX3_matchesOwn_0 23 rfl rfl)
theorem dX3_matchesOwn_24 : decode cX3_matchesOwn 24 = .ok (.iload_n 3, 1) := dk_29 (dk_at dksX3_matchesOwn_1 0 rfl rfl)
theorem dX3_matchesOwn_25 : decode cX3_matchesOwn 25 = .ok (.iload 5, 2) := dk_21 5 (dk_at dksX3_matchesOwn_1 1 rfl rfl)
theorem dX3_matchesOwn_27 : decode cX3_matchesOwn 27 = .ok (.invokevirtual 69, 3) := dk_182 0 69 (dk_at dksX3_matchesOwn_1 3 rfl rfl)
theorem dX3_matchesOwn_30 : decode cX3_matchesOwn 30 = .ok (.ifCond .eq 23, 3) := dk_153 0 23 (dk_at dksX3_matchesOwn_1 6 rfl rfl)
theorem dX3_matchesOwn_33 : decode cX3_matchesOwn 33 = .ok (.aload_n 0, 1) := dk_42 (dk_at dksX3_matchesOwn_1 9 rfl rfl)
theorem dX3_matchesOwn_34 : decode cX3_matchesOwn 34 = .ok (.getfield 9, 3) := dk_180 0 9 (dk_at dksX3_matchesOwn_1 10 rfl rfl)
theorem dX3_matchesOwn_37 : decode cX3_matchesOwn 37 = .ok (.iload 5, 2) := dk_21 5 (dk_at dksX3_matchesOwn_1 13 rfl rfl)
theorem dX3_matchesOwn_39 : decode cX3_matchesOwn 39 = .ok (.invokestatic 61, 3) := dk_184 0 61 (dk_at dksX3_matchesOwn_1 15 rfl rfl)
theorem dX3_matchesOwn_42 : decode cX3_matchesOwn 42 = .ok (.iconst 1, 1) := dk_4 (dk_at dksX3_matchesOwn_1 18 rfl rfl)
theorem dX3_matchesOwn_43 : decode cX3_matchesOwn 43 = .ok (.iadd, 1) := dk_96 (dk_at dksX3_matchesOwn_1 19 rfl rfl)
theorem dX3_matchesOwn_44 : decode cX3_matchesOwn 44 = .ok (.iaload, 1) := dk_46 (dk_at dksX3_matchesOwn_1 20 rfl rfl)
theorem dX3_matchesOwn_45 : decode cX3_matchesOwn 45 = .ok (.iload_n 1, 1) := dk_27 (dk_at dksX3_matchesOwn_1 21 rfl rfl)
theorem dX3_matchesOwn_46 : decode cX3_matchesOwn 46 = .ok (.if_icmp .ne 7, 3) := dk_160 0 7 (dk_at dksX3_matchesOwn_2 0 rfl rfl)
theorem dX3_matchesOwn_49 : decode cX3_matchesOwn 49 = .ok (.iconst 1, 1) := dk_4 (dk_at dksX3_matchesOwn_2 3 rfl rfl)
theorem dX3_matchesOwn_50 : decode cX3_matchesOwn 50 = .ok (.goto 4, 3) := dk_167 0 4 (dk_at dksX3_matchesOwn_2 4 rfl rfl)
theorem dX3_matchesOwn_53 : decode cX3_matchesOwn 53 = .ok (.iconst 0, 1) := dk_3 (dk_at dksX3_matchesOwn_2 7 rfl rfl)
theorem dX3_matchesOwn_54 : decode cX3_matchesOwn 54 = .ok (.istore 4, 2) := dk_54 4 (dk_at dksX3_matchesOwn_2 8 rfl rfl)
theorem dX3_matchesOwn_56 : decode cX3_matchesOwn 56 = .ok (.iinc 5 1, 3) := dk_132 5 1 (dk_at dksX3_matchesOwn_2 10 rfl rfl)
theorem dX3_matchesOwn_59 : decode cX3_matchesOwn 59 = .ok (.goto (-53), 3) := dk_167 255 203 (dk_at dksX3_matchesOwn_2 13 rfl rfl)
theorem dX3_matchesOwn_62 : decode cX3_matchesOwn 62 = .ok (.iload 4, 2) := dk_21 4 (dk_at dksX3_matchesOwn_2 16 rfl rfl)
theorem dX3_matchesOwn_64 : decode cX3_matchesOwn 64 = .ok (.ireturn, 1) := dk_172 (dk_at dksX3_matchesOwn_2 18 rfl rfl)
abbrev cX3_matches : ByteArray := prog_15_method_17_code
def yX3_matches : MethodName := ⟨RX3, "matches", "(ZII)Z"⟩
def dkwX3_matches_1 : List UInt8 := [153, 0, 12, 28, 21, 4, 161, 0, 16, 167, 0, 9, 21, 4, 28, 161, 0, 7, 4, 167, 0, 4, 3, 172]
abbrev dktX3_matches_1 : List UInt8 := dkwX3_matches_1 ++ []
def dkwX3_matches_0 : List UInt8 := [42, 180, 0, 9, 29, 184, 0, 61, 6, 96, 46, 54, 4, 42, 29, 27, 182, 0, 65, 154, 0, 26, 27]
abbrev dktX3_matches_0 : List UInt8 := dkwX3_matches_0 ++ dktX3_matches_1
theorem dksX3_matches_0 : cX3_matches.data.toList.drop 0 = dktX3_matches_0 := by decide +kernel
theorem dksX3_matches_1 : cX3_matches.data.toList.drop 23 = dktX3_matches_1 := dk_seg dksX3_matches_0 23 rfl rfl
theorem dX3_matches_0 : decode cX3_matches 0 = .ok (.aload_n 0, 1) := dk_42 (dk_at dksX3_matches_0 0 rfl rfl)
theorem dX3_matches_1 : decode cX3_matches 1 = .ok (.getfield 9, 3) := dk_180 0 9 (dk_at dksX3_matches_0 1 rfl rfl)
theorem dX3_matches_4 : decode cX3_matches 4 = .ok (.iload_n 3, 1) := dk_29 (dk_at dksX3_matches_0 4 rfl rfl)
theorem dX3_matches_5 : decode cX3_matches 5 = .ok (.invokestatic 61, 3) := dk_184 0 61 (dk_at dksX3_matches_0 5 rfl rfl)
theorem dX3_matches_8 : decode cX3_matches 8 = .ok (.iconst 3, 1) := dk_6 (dk_at dksX3_matches_0 8 rfl rfl)
theorem dX3_matches_9 : decode cX3_matches 9 = .ok (.iadd, 1) := dk_96 (dk_at dksX3_matches_0 9 rfl rfl)
theorem dX3_matches_10 : decode cX3_matches 10 = .ok (.iaload, 1) := dk_46 (dk_at dksX3_matches_0 10 rfl rfl)
theorem dX3_matches_11 : decode cX3_matches 11 = .ok (.istore 4, 2) := dk_54 4 (dk_at dksX3_matches_0 11 rfl rfl)
theorem dX3_matches_13 : decode cX3_matches 13 = .ok (.aload_n 0, 1) := dk_42 (dk_at dksX3_matches_0 13 rfl rfl)
theorem dX3_matches_14 : decode cX3_matches 14 = .ok (.iload_n 3, 1) := dk_29 (dk_at dksX3_matches_0 14 rfl rfl)
theorem dX3_matches_15 : decode cX3_matches 15 = .ok (.iload_n 1, 1) := dk_27 (dk_at dksX3_matches_0 15 rfl rfl)
theorem dX3_matches_16 : decode cX3_matches 16 = .ok (.invokevirtual 65, 3) := dk_182 0 65 (dk_at dksX3_matches_0 16 rfl rfl)
theorem dX3_matches_19 : decode cX3_matches 19 = .ok (.ifCond .ne 26, 3) := dk_154 0 26 (dk_at dksX3_matches_0 19 rfl rfl)
theorem dX3_matches_22 : decode cX3_matches 22 = .ok (.iload_n 1, 1) := dk_27 (dk_at dksX3_matches_0 22 rfl rfl)
theorem dX3_matches_23 : decode cX3_matches 23 = .ok (.ifCond .eq 12, 3) := dk_153 0 12 (dk_at dksX3_matches_1 0 rfl rfl)
theorem dX3_matches_26 : decode cX3_matches 26 = .ok (.iload_n 2, 1) := dk_28 (dk_at dksX3_matches_1 3 rfl rfl)
theorem dX3_matches_27 : decode cX3_matches 27 = .ok (.iload 4, 2) := dk_21 4 (dk_at dksX3_matches_1 4 rfl rfl)
theorem dX3_matches_29 : decode cX3_matches 29 = .ok (.if_icmp .lt 16, 3) := dk_161 0 16 (dk_at dksX3_matches_1 6 rfl rfl)
theorem dX3_matches_32 : decode cX3_matches 32 = .ok (.goto 9, 3) := dk_167 0 9 (dk_at dksX3_matches_1 9 rfl rfl)
theorem dX3_matches_35 : decode cX3_matches 35 = .ok (.iload 4, 2) := dk_21 4 (dk_at dksX3_matches_1 12 rfl rfl)
theorem dX3_matches_37 : decode cX3_matches 37 = .ok (.iload_n 2, 1) := dk_28 (dk_at dksX3_matches_1 14 rfl rfl)
theorem dX3_matches_38 : decode cX3_matches 38 = .ok (.if_icmp .lt 7, 3) := dk_161 0 7 (dk_at dksX3_matches_1 15 rfl rfl)
theorem dX3_matches_41 : decode cX3_matches 41 = .ok (.iconst 1, 1) := dk_4 (dk_at dksX3_matches_1 18 rfl rfl)
theorem dX3_matches_42 : decode cX3_matches 42 = .ok (.goto 4, 3) := dk_167 0 4 (dk_at dksX3_matches_1 19 rfl rfl)
theorem dX3_matches_45 : decode cX3_matches 45 = .ok (.iconst 0, 1) := dk_3 (dk_at dksX3_matches_1 22 rfl rfl)
theorem dX3_matches_46 : decode cX3_matches 46 = .ok (.ireturn, 1) := dk_172 (dk_at dksX3_matches_1 23 rfl rfl)
abbrev cX3_orderAtPlace : ByteArray := prog_15_method_8_code
def yX3_orderAtPlace : MethodName := ⟨RX3, "orderAtPlace", "(I)I"⟩
def dkwX3_orderAtPlace_0 : List UInt8 := [16, 35, 8, 26, 104, 96, 172]
abbrev dktX3_orderAtPlace_0 : List UInt8 := dkwX3_orderAtPlace_0 ++ []
theorem dksX3_orderAtPlace_0 : cX3_orderAtPlace.data.toList.drop 0 = dktX3_orderAtPlace_0 := by decide +kernel
theorem dX3_orderAtPlace_0 : decode cX3_orderAtPlace 0 = .ok (.bipush 35, 2) := dk_16 35 (dk_at dksX3_orderAtPlace_0 0 rfl rfl)
theorem dX3_orderAtPlace_2 : decode cX3_orderAtPlace 2 = .ok (.iconst 5, 1) := dk_8 (dk_at dksX3_orderAtPlace_0 2 rfl rfl)
theorem dX3_orderAtPlace_3 : decode cX3_orderAtPlace 3 = .ok (.iload_n 0, 1) := dk_26 (dk_at dksX3_orderAtPlace_0 3 rfl rfl)
theorem dX3_orderAtPlace_4 : decode cX3_orderAtPlace 4 = .ok (.imul, 1) := dk_104 (dk_at dksX3_orderAtPlace_0 4 rfl rfl)
theorem dX3_orderAtPlace_5 : decode cX3_orderAtPlace 5 = .ok (.iadd, 1) := dk_96 (dk_at dksX3_orderAtPlace_0 5 rfl rfl)
theorem dX3_orderAtPlace_6 : decode cX3_orderAtPlace 6 = .ok (.ireturn, 1) := dk_172 (dk_at dksX3_orderAtPlace_0 6 rfl rfl)
abbrev cX3_isSide : ByteArray := prog_15_method_16_code
def yX3_isSide : MethodName := ⟨RX3, "isSide", "(IZ)Z"⟩
def dkwX3_isSide_1 : List UInt8 := [4, 167, 0, 4, 3, 172]
abbrev dktX3_isSide_1 : List UInt8 := dkwX3_isSide_1 ++ []
def dkwX3_isSide_0 : List UInt8 := [42, 180, 0, 9, 27, 184, 0, 61, 5, 96, 46, 4, 160, 0, 7, 4, 167, 0, 4, 3, 28, 160, 0, 7]
abbrev dktX3_isSide_0 : List UInt8 := dkwX3_isSide_0 ++ dktX3_isSide_1
theorem dksX3_isSide_0 : cX3_isSide.data.toList.drop 0 = dktX3_isSide_0 := by decide +kernel
theorem dksX3_isSide_1 : cX3_isSide.data.toList.drop 24 = dktX3_isSide_1 := dk_seg dksX3_isSide_0 24 rfl rfl
theorem dX3_isSide_0 : decode cX3_isSide 0 = .ok (.aload_n 0, 1) := dk_42 (dk_at dksX3_isSide_0 0 rfl rfl)
theorem dX3_isSide_1 : decode cX3_isSide 1 = .ok (.getfield 9, 3) := dk_180 0 9 (dk_at dksX3_isSide_0 1 rfl rfl)
theorem dX3_isSide_4 : decode cX3_isSide 4 = .ok (.iload_n 1, 1) := dk_27 (dk_at dksX3_isSide_0 4 rfl rfl)
theorem dX3_isSide_5 : decode cX3_isSide 5 = .ok (.invokestatic 61, 3) := dk_184 0 61 (dk_at dksX3_isSide_0 5 rfl rfl)
theorem dX3_isSide_8 : decode cX3_isSide 8 = .ok (.iconst 2, 1) := dk_5 (dk_at dksX3_isSide_0 8 rfl rfl)
theorem dX3_isSide_9 : decode cX3_isSide 9 = .ok (.iadd, 1) := dk_96 (dk_at dksX3_isSide_0 9 rfl rfl)
theorem dX3_isSide_10 : decode cX3_isSide 10 = .ok (.iaload, 1) := dk_46 (dk_at dksX3_isSide_0 10 rfl rfl)
theorem dX3_isSide_11 : decode cX3_isSide 11 = .ok (.iconst 1, 1) := dk_4 (dk_at dksX3_isSide_0 11 rfl rfl)
theorem dX3_isSide_12 : decode cX3_isSide 12 = .ok (.if_icmp .ne 7, 3) := dk_160 0 7 (dk_at dksX3_isSide_0 12 rfl rfl)
theorem dX3_isSide_15 : decode cX3_isSide 15 = .ok (.iconst 1, 1) := dk_4 (dk_at dksX3_isSide_0 15 rfl rfl)
theorem dX3_isSide_16 : decode cX3_isSide 16 = .ok (.goto 4, 3) := dk_167 0 4 (dk_at dksX3_isSide_0 16 rfl rfl)
theorem dX3_isSide_19 : decode cX3_isSide 19 = .ok (.iconst 0, 1) := dk_3 (dk_at dksX3_isSide_0 19 rfl rfl)
theorem dX3_isSide_20 : decode cX3_isSide 20 = .ok (.iload_n 2, 1) := dk_28 (dk_at dksX3_isSide_0 20 rfl rfl)
theorem dX3_isSide_21 : decode cX3_isSide 21 = .ok (.if_icmp .ne 7, 3) := dk_160 0 7 (dk_at dksX3_isSide_0 21 rfl rfl)
theorem dX3_isSide_24 : decode cX3_isSide 24 = .ok (.iconst 1, 1) := dk_4 (dk_at dksX3_isSide_1 0 rfl rfl)
theorem dX3_isSide_25 : decode cX3_isSide 25 = .ok (.goto 4, 3) := dk_167 0 4 (dk_at dksX3_isSide_1 1 rfl rfl)
theorem dX3_isSide_28 : decode cX3_isSide 28 = .ok (.iconst 0, 1) := dk_3 (dk_at dksX3_isSide_1 4 rfl rfl)
theorem dX3_isSide_29 : decode cX3_isSide 29 = .ok (.ireturn, 1) := dk_172 (dk_at dksX3_isSide_1 5 rfl rfl)
abbrev cX3_firstMatch : ByteArray := prog_15_method_18_code
def yX3_firstMatch : MethodName := ⟨RX3, "firstMatch", "(ZI)I"⟩
def dkwX3_firstMatch_4 : List UInt8 := [153, 0, 8, 21, 4, 167, 0, 4, 29, 62, 132, 4, 1, 167, 255, 154, 29, 172]
abbrev dktX3_firstMatch_4 : List UInt8 := dkwX3_firstMatch_4 ++ []
def dkwX3_firstMatch_3 : List UInt8 := [42, 180, 0, 9, 29, 184, 0, 61, 6, 96, 46, 164, 0, 7, 4, 167, 0, 4, 3, 54, 6, 21, 6]
abbrev dktX3_firstMatch_3 : List UInt8 := dkwX3_firstMatch_3 ++ dktX3_firstMatch_4
def dkwX3_firstMatch_2 : List UInt8 := [153, 0, 22, 21, 5, 42, 180, 0, 9, 29, 184, 0, 61, 6, 96, 46, 162, 0, 26, 167, 0, 19, 21, 5]
abbrev dktX3_firstMatch_2 : List UInt8 := dkwX3_firstMatch_2 ++ dktX3_firstMatch_3
def dkwX3_firstMatch_1 : List UInt8 := [153, 0, 80, 42, 180, 0, 9, 21, 4, 184, 0, 61, 6, 96, 46, 54, 5, 29, 2, 159, 0, 42, 27]
abbrev dktX3_firstMatch_1 : List UInt8 := dkwX3_firstMatch_1 ++ dktX3_firstMatch_2
def dkwX3_firstMatch_0 : List UInt8 := [2, 62, 3, 54, 4, 21, 4, 42, 180, 0, 9, 4, 46, 162, 0, 97, 42, 27, 28, 21, 4, 182, 0, 69]
abbrev dktX3_firstMatch_0 : List UInt8 := dkwX3_firstMatch_0 ++ dktX3_firstMatch_1
theorem dksX3_firstMatch_0 : cX3_firstMatch.data.toList.drop 0 = dktX3_firstMatch_0 := by decide +kernel
theorem dksX3_firstMatch_1 : cX3_firstMatch.data.toList.drop 24 = dktX3_firstMatch_1 := dk_seg dksX3_firstMatch_0 24 rfl rfl
theorem dksX3_firstMatch_2 : cX3_firstMatch.data.toList.drop 47 = dktX3_firstMatch_2 := dk_seg dksX3_firstMatch_1 23 rfl rfl
theorem dksX3_firstMatch_3 : cX3_firstMatch.data.toList.drop 71 = dktX3_firstMatch_3 := dk_seg dksX3_firstMatch_2 24 rfl rfl
theorem dksX3_firstMatch_4 : cX3_firstMatch.data.toList.drop 94 = dktX3_firstMatch_4 := dk_seg dksX3_firstMatch_3 23 rfl rfl
theorem dX3_firstMatch_0 : decode cX3_firstMatch 0 = .ok (.iconst (-1), 1) := dk_2 (dk_at dksX3_firstMatch_0 0 rfl rfl)
theorem dX3_firstMatch_1 : decode cX3_firstMatch 1 = .ok (.istore_n 3, 1) := dk_62 (dk_at dksX3_firstMatch_0 1 rfl rfl)
theorem dX3_firstMatch_2 : decode cX3_firstMatch 2 = .ok (.iconst 0, 1) := dk_3 (dk_at dksX3_firstMatch_0 2 rfl rfl)
theorem dX3_firstMatch_3 : decode cX3_firstMatch 3 = .ok (.istore 4, 2) := dk_54 4 (dk_at dksX3_firstMatch_0 3 rfl rfl)
theorem dX3_firstMatch_5 : decode cX3_firstMatch 5 = .ok (.iload 4, 2) := dk_21 4 (dk_at dksX3_firstMatch_0 5 rfl rfl)
theorem dX3_firstMatch_7 : decode cX3_firstMatch 7 = .ok (.aload_n 0, 1) := dk_42 (dk_at dksX3_firstMatch_0 7 rfl rfl)
theorem dX3_firstMatch_8 : decode cX3_firstMatch 8 = .ok (.getfield 9, 3) := dk_180 0 9 (dk_at dksX3_firstMatch_0 8 rfl rfl)
theorem dX3_firstMatch_11 : decode cX3_firstMatch 11 = .ok (.iconst 1, 1) := dk_4 (dk_at dksX3_firstMatch_0 11 rfl rfl)
theorem dX3_firstMatch_12 : decode cX3_firstMatch 12 = .ok (.iaload, 1) := dk_46 (dk_at dksX3_firstMatch_0 12 rfl rfl)
theorem dX3_firstMatch_13 : decode cX3_firstMatch 13 = .ok (.if_icmp .ge 97, 3) := dk_162 0 97 (dk_at dksX3_firstMatch_0 13 rfl rfl)
theorem dX3_firstMatch_16 : decode cX3_firstMatch 16 = .ok (.aload_n 0, 1) := dk_42 (dk_at dksX3_firstMatch_0 16 rfl rfl)
theorem dX3_firstMatch_17 : decode cX3_firstMatch 17 = .ok (.iload_n 1, 1) := dk_27 (dk_at dksX3_firstMatch_0 17 rfl rfl)
theorem dX3_firstMatch_18 : decode cX3_firstMatch 18 = .ok (.iload_n 2, 1) := dk_28 (dk_at dksX3_firstMatch_0 18 rfl rfl)
theorem dX3_firstMatch_19 : decode cX3_firstMatch 19 = .ok (.iload 4, 2) := dk_21 4 (dk_at dksX3_firstMatch_0 19 rfl rfl)
theorem dX3_firstMatch_21 : decode cX3_firstMatch 21 = .ok (.invokevirtual 69, 3) := dk_182 0 69 (dk_at dksX3_firstMatch_0 21 rfl rfl)
theorem dX3_firstMatch_24 : decode cX3_firstMatch 24 = .ok (.ifCond .eq 80, 3) := dk_153 0 80 (dk_at dksX3_firstMatch_1 0 rfl rfl)
theorem dX3_firstMatch_27 : decode cX3_firstMatch 27 = .ok (.aload_n 0, 1) := dk_42 (dk_at dksX3_firstMatch_1 3 rfl rfl)
theorem dX3_firstMatch_28 : decode cX3_firstMatch 28 = .ok (.getfield 9, 3) := dk_180 0 9 (dk_at dksX3_firstMatch_1 4 rfl rfl)
theorem dX3_firstMatch_31 : decode cX3_firstMatch 31 = .ok (.iload 4, 2) := dk_21 4 (dk_at dksX3_firstMatch_1 7 rfl rfl)
theorem dX3_firstMatch_33 : decode cX3_firstMatch 33 = .ok (.invokestatic 61, 3) := dk_184 0 61 (dk_at dksX3_firstMatch_1 9 rfl rfl)
theorem dX3_firstMatch_36 : decode cX3_firstMatch 36 = .ok (.iconst 3, 1) := dk_6 (dk_at dksX3_firstMatch_1 12 rfl rfl)
theorem dX3_firstMatch_37 : decode cX3_firstMatch 37 = .ok (.iadd, 1) := dk_96 (dk_at dksX3_firstMatch_1 13 rfl rfl)
theorem dX3_firstMatch_38 : decode cX3_firstMatch 38 = .ok (.iaload, 1) := dk_46 (dk_at dksX3_firstMatch_1 14 rfl rfl)
theorem dX3_firstMatch_39 : decode cX3_firstMatch 39 = .ok (.istore 5, 2) := dk_54 5 (dk_at dksX3_firstMatch_1 15 rfl rfl)
theorem dX3_firstMatch_41 : decode cX3_firstMatch 41 = .ok (.iload_n 3, 1) := dk_29 (dk_at dksX3_firstMatch_1 17 rfl rfl)
theorem dX3_firstMatch_42 : decode cX3_firstMatch 42 = .ok (.iconst (-1), 1) := dk_2 (dk_at dksX3_firstMatch_1 18 rfl rfl)
theorem dX3_firstMatch_43 : decode cX3_firstMatch 43 = .ok (.if_icmp .eq 42, 3) := dk_159 0 42 (dk_at dksX3_firstMatch_1 19 rfl rfl)
theorem dX3_firstMatch_46 : decode cX3_firstMatch 46 = .ok (.iload_n 1, 1) := dk_27 (dk_at dksX3_firstMatch_1 22 rfl rfl)
theorem dX3_firstMatch_47 : decode cX3_firstMatch 47 = .ok (.ifCond .eq 22, 3) := dk_153 0 22 (dk_at dksX3_firstMatch_2 0 rfl rfl)
theorem dX3_firstMatch_50 : decode cX3_firstMatch 50 = .ok (.iload 5, 2) := dk_21 5 (dk_at dksX3_firstMatch_2 3 rfl rfl)
theorem dX3_firstMatch_52 : decode cX3_firstMatch 52 = .ok (.aload_n 0, 1) := dk_42 (dk_at dksX3_firstMatch_2 5 rfl rfl)
theorem dX3_firstMatch_53 : decode cX3_firstMatch 53 = .ok (.getfield 9, 3) := dk_180 0 9 (dk_at dksX3_firstMatch_2 6 rfl rfl)
theorem dX3_firstMatch_56 : decode cX3_firstMatch 56 = .ok (.iload_n 3, 1) := dk_29 (dk_at dksX3_firstMatch_2 9 rfl rfl)
theorem dX3_firstMatch_57 : decode cX3_firstMatch 57 = .ok (.invokestatic 61, 3) := dk_184 0 61 (dk_at dksX3_firstMatch_2 10 rfl rfl)
theorem dX3_firstMatch_60 : decode cX3_firstMatch 60 = .ok (.iconst 3, 1) := dk_6 (dk_at dksX3_firstMatch_2 13 rfl rfl)
theorem dX3_firstMatch_61 : decode cX3_firstMatch 61 = .ok (.iadd, 1) := dk_96 (dk_at dksX3_firstMatch_2 14 rfl rfl)
theorem dX3_firstMatch_62 : decode cX3_firstMatch 62 = .ok (.iaload, 1) := dk_46 (dk_at dksX3_firstMatch_2 15 rfl rfl)
theorem dX3_firstMatch_63 : decode cX3_firstMatch 63 = .ok (.if_icmp .ge 26, 3) := dk_162 0 26 (dk_at dksX3_firstMatch_2 16 rfl rfl)
theorem dX3_firstMatch_66 : decode cX3_firstMatch 66 = .ok (.goto 19, 3) := dk_167 0 19 (dk_at dksX3_firstMatch_2 19 rfl rfl)
theorem dX3_firstMatch_69 : decode cX3_firstMatch 69 = .ok (.iload 5, 2) := dk_21 5 (dk_at dksX3_firstMatch_2 22 rfl rfl)
theorem dX3_firstMatch_71 : decode cX3_firstMatch 71 = .ok (.aload_n 0, 1) := dk_42 (dk_at dksX3_firstMatch_3 0 rfl rfl)
theorem dX3_firstMatch_72 : decode cX3_firstMatch 72 = .ok (.getfield 9, 3) := dk_180 0 9 (dk_at dksX3_firstMatch_3 1 rfl rfl)
theorem dX3_firstMatch_75 : decode cX3_firstMatch 75 = .ok (.iload_n 3, 1) := dk_29 (dk_at dksX3_firstMatch_3 4 rfl rfl)
theorem dX3_firstMatch_76 : decode cX3_firstMatch 76 = .ok (.invokestatic 61, 3) := dk_184 0 61 (dk_at dksX3_firstMatch_3 5 rfl rfl)
theorem dX3_firstMatch_79 : decode cX3_firstMatch 79 = .ok (.iconst 3, 1) := dk_6 (dk_at dksX3_firstMatch_3 8 rfl rfl)
theorem dX3_firstMatch_80 : decode cX3_firstMatch 80 = .ok (.iadd, 1) := dk_96 (dk_at dksX3_firstMatch_3 9 rfl rfl)
theorem dX3_firstMatch_81 : decode cX3_firstMatch 81 = .ok (.iaload, 1) := dk_46 (dk_at dksX3_firstMatch_3 10 rfl rfl)
theorem dX3_firstMatch_82 : decode cX3_firstMatch 82 = .ok (.if_icmp .le 7, 3) := dk_164 0 7 (dk_at dksX3_firstMatch_3 11 rfl rfl)
theorem dX3_firstMatch_85 : decode cX3_firstMatch 85 = .ok (.iconst 1, 1) := dk_4 (dk_at dksX3_firstMatch_3 14 rfl rfl)
theorem dX3_firstMatch_86 : decode cX3_firstMatch 86 = .ok (.goto 4, 3) := dk_167 0 4 (dk_at dksX3_firstMatch_3 15 rfl rfl)
theorem dX3_firstMatch_89 : decode cX3_firstMatch 89 = .ok (.iconst 0, 1) := dk_3 (dk_at dksX3_firstMatch_3 18 rfl rfl)
theorem dX3_firstMatch_90 : decode cX3_firstMatch 90 = .ok (.istore 6, 2) := dk_54 6 (dk_at dksX3_firstMatch_3 19 rfl rfl)
theorem dX3_firstMatch_92 : decode cX3_firstMatch 92 = .ok (.iload 6, 2) := dk_21 6 (dk_at dksX3_firstMatch_3 21 rfl rfl)
theorem dX3_firstMatch_94 : decode cX3_firstMatch 94 = .ok (.ifCond .eq 8, 3) := dk_153 0 8 (dk_at dksX3_firstMatch_4 0 rfl rfl)
theorem dX3_firstMatch_97 : decode cX3_firstMatch 97 = .ok (.iload 4, 2) := dk_21 4 (dk_at dksX3_firstMatch_4 3 rfl rfl)
theorem dX3_firstMatch_99 : decode cX3_firstMatch 99 = .ok (.goto 4, 3) := dk_167 0 4 (dk_at dksX3_firstMatch_4 5 rfl rfl)
theorem dX3_firstMatch_102 : decode cX3_firstMatch 102 = .ok (.iload_n 3, 1) := dk_29 (dk_at dksX3_firstMatch_4 8 rfl rfl)
theorem dX3_firstMatch_103 : decode cX3_firstMatch 103 = .ok (.istore_n 3, 1) := dk_62 (dk_at dksX3_firstMatch_4 9 rfl rfl)
theorem dX3_firstMatch_104 : decode cX3_firstMatch 104 = .ok (.iinc 4 1, 3) := dk_132 4 1 (dk_at dksX3_firstMatch_4 10 rfl rfl)
theorem dX3_firstMatch_107 : decode cX3_firstMatch 107 = .ok (.goto (-102), 3) := dk_167 255 154 (dk_at dksX3_firstMatch_4 13 rfl rfl)
theorem dX3_firstMatch_110 : decode cX3_firstMatch 110 = .ok (.iload_n 3, 1) := dk_29 (dk_at dksX3_firstMatch_4 16 rfl rfl)
theorem dX3_firstMatch_111 : decode cX3_firstMatch 111 = .ok (.ireturn, 1) := dk_172 (dk_at dksX3_firstMatch_4 17 rfl rfl)
abbrev cX3_trades : ByteArray := prog_15_method_22_code
def yX3_trades : MethodName := ⟨RX3, "trades", "(IZII)V"⟩
def dkwX3_trades_8 : List UInt8 := [46, 154, 0, 8, 42, 29, 182, 0, 91, 177]
abbrev dktX3_trades_8 : List UInt8 := dkwX3_trades_8 ++ []
def dkwX3_trades_7 : List UInt8 := [96, 79, 42, 180, 0, 9, 21, 5, 7, 96, 92, 46, 21, 4, 100, 79, 42, 180, 0, 9, 21, 5, 7, 96]
abbrev dktX3_trades_7 : List UInt8 := dkwX3_trades_7 ++ dktX3_trades_8
def dkwX3_trades_6 : List UInt8 := [46, 79, 42, 180, 0, 9, 16, 6, 92, 46, 21, 4, 96, 79, 42, 180, 0, 9, 16, 7, 92, 46, 21, 7]
abbrev dktX3_trades_6 : List UInt8 := dkwX3_trades_6 ++ dktX3_trades_7
def dkwX3_trades_5 : List UInt8 := [184, 0, 78, 4, 96, 92, 46, 21, 4, 96, 79, 42, 180, 0, 9, 8, 42, 180, 0, 9, 21, 5, 6, 96]
abbrev dktX3_trades_5 : List UInt8 := dkwX3_trades_5 ++ dktX3_trades_6
def dkwX3_trades_4 : List UInt8 := [96, 79, 42, 180, 0, 9, 27, 184, 0, 78, 4, 96, 92, 46, 21, 4, 100, 79, 42, 180, 0, 9, 21, 6]
abbrev dktX3_trades_4 : List UInt8 := dkwX3_trades_4 ++ dktX3_trades_5
def dkwX3_trades_3 : List UInt8 := [184, 0, 78, 92, 46, 21, 7, 96, 79, 167, 0, 50, 42, 180, 0, 9, 27, 184, 0, 78, 92, 46, 21, 7]
abbrev dktX3_trades_3 : List UInt8 := dkwX3_trades_3 ++ dktX3_trades_4
def dkwX3_trades_2 : List UInt8 := [100, 79, 42, 180, 0, 9, 27, 184, 0, 78, 4, 96, 92, 46, 21, 4, 96, 79, 42, 180, 0, 9, 21, 6]
abbrev dktX3_trades_2 : List UInt8 := dkwX3_trades_2 ++ dktX3_trades_3
def dkwX3_trades_1 : List UInt8 := [21, 5, 6, 96, 46, 104, 54, 7, 28, 153, 0, 51, 42, 180, 0, 9, 27, 184, 0, 78, 92, 46, 21, 7]
abbrev dktX3_trades_1 : List UInt8 := dkwX3_trades_1 ++ dktX3_trades_2
def dkwX3_trades_0 : List UInt8 := [29, 184, 0, 61, 54, 5, 42, 180, 0, 9, 21, 5, 4, 96, 46, 54, 6, 21, 4, 42, 180, 0, 9]
abbrev dktX3_trades_0 : List UInt8 := dkwX3_trades_0 ++ dktX3_trades_1
theorem dksX3_trades_0 : cX3_trades.data.toList.drop 0 = dktX3_trades_0 := by decide +kernel
theorem dksX3_trades_1 : cX3_trades.data.toList.drop 23 = dktX3_trades_1 := dk_seg dksX3_trades_0 23 rfl rfl
theorem dksX3_trades_2 : cX3_trades.data.toList.drop 47 = dktX3_trades_2 := dk_seg dksX3_trades_1 24 rfl rfl
theorem dksX3_trades_3 : cX3_trades.data.toList.drop 71 = dktX3_trades_3 := dk_seg dksX3_trades_2 24 rfl rfl
theorem dksX3_trades_4 : cX3_trades.data.toList.drop 95 = dktX3_trades_4 := dk_seg dksX3_trades_3 24 rfl rfl
theorem dksX3_trades_5 : cX3_trades.data.toList.drop 119 = dktX3_trades_5 := dk_seg dksX3_trades_4 24 rfl rfl
theorem dksX3_trades_6 : cX3_trades.data.toList.drop 143 = dktX3_trades_6 := dk_seg dksX3_trades_5 24 rfl rfl
theorem dksX3_trades_7 : cX3_trades.data.toList.drop 167 = dktX3_trades_7 := dk_seg dksX3_trades_6 24 rfl rfl
theorem dksX3_trades_8 : cX3_trades.data.toList.drop 191 = dktX3_trades_8 := dk_seg dksX3_trades_7 24 rfl rfl
theorem dX3_trades_0 : decode cX3_trades 0 = .ok (.iload_n 3, 1) := dk_29 (dk_at dksX3_trades_0 0 rfl rfl)
theorem dX3_trades_1 : decode cX3_trades 1 = .ok (.invokestatic 61, 3) := dk_184 0 61 (dk_at dksX3_trades_0 1 rfl rfl)
theorem dX3_trades_4 : decode cX3_trades 4 = .ok (.istore 5, 2) := dk_54 5 (dk_at dksX3_trades_0 4 rfl rfl)
theorem dX3_trades_6 : decode cX3_trades 6 = .ok (.aload_n 0, 1) := dk_42 (dk_at dksX3_trades_0 6 rfl rfl)
theorem dX3_trades_7 : decode cX3_trades 7 = .ok (.getfield 9, 3) := dk_180 0 9 (dk_at dksX3_trades_0 7 rfl rfl)
theorem dX3_trades_10 : decode cX3_trades 10 = .ok (.iload 5, 2) := dk_21 5 (dk_at dksX3_trades_0 10 rfl rfl)
theorem dX3_trades_12 : decode cX3_trades 12 = .ok (.iconst 1, 1) := dk_4 (dk_at dksX3_trades_0 12 rfl rfl)
theorem dX3_trades_13 : decode cX3_trades 13 = .ok (.iadd, 1) := dk_96 (dk_at dksX3_trades_0 13 rfl rfl)
theorem dX3_trades_14 : decode cX3_trades 14 = .ok (.iaload, 1) := dk_46 (dk_at dksX3_trades_0 14 rfl rfl)
theorem dX3_trades_15 : decode cX3_trades 15 = .ok (.istore 6, 2) := dk_54 6 (dk_at dksX3_trades_0 15 rfl rfl)
theorem dX3_trades_17 : decode cX3_trades 17 = .ok (.iload 4, 2) := dk_21 4 (dk_at dksX3_trades_0 17 rfl rfl)
theorem dX3_trades_19 : decode cX3_trades 19 = .ok (.aload_n 0, 1) := dk_42 (dk_at dksX3_trades_0 19 rfl rfl)
theorem dX3_trades_20 : decode cX3_trades 20 = .ok (.getfield 9, 3) := dk_180 0 9 (dk_at dksX3_trades_0 20 rfl rfl)
theorem dX3_trades_23 : decode cX3_trades 23 = .ok (.iload 5, 2) := dk_21 5 (dk_at dksX3_trades_1 0 rfl rfl)
theorem dX3_trades_25 : decode cX3_trades 25 = .ok (.iconst 3, 1) := dk_6 (dk_at dksX3_trades_1 2 rfl rfl)
theorem dX3_trades_26 : decode cX3_trades 26 = .ok (.iadd, 1) := dk_96 (dk_at dksX3_trades_1 3 rfl rfl)
theorem dX3_trades_27 : decode cX3_trades 27 = .ok (.iaload, 1) := dk_46 (dk_at dksX3_trades_1 4 rfl rfl)
theorem dX3_trades_28 : decode cX3_trades 28 = .ok (.imul, 1) := dk_104 (dk_at dksX3_trades_1 5 rfl rfl)
theorem dX3_trades_29 : decode cX3_trades 29 = .ok (.istore 7, 2) := dk_54 7 (dk_at dksX3_trades_1 6 rfl rfl)
theorem dX3_trades_31 : decode cX3_trades 31 = .ok (.iload_n 2, 1) := dk_28 (dk_at dksX3_trades_1 8 rfl rfl)
theorem dX3_trades_32 : decode cX3_trades 32 = .ok (.ifCond .eq 51, 3) := dk_153 0 51 (dk_at dksX3_trades_1 9 rfl rfl)
theorem dX3_trades_35 : decode cX3_trades 35 = .ok (.aload_n 0, 1) := dk_42 (dk_at dksX3_trades_1 12 rfl rfl)
theorem dX3_trades_36 : decode cX3_trades 36 = .ok (.getfield 9, 3) := dk_180 0 9 (dk_at dksX3_trades_1 13 rfl rfl)
theorem dX3_trades_39 : decode cX3_trades 39 = .ok (.iload_n 1, 1) := dk_27 (dk_at dksX3_trades_1 16 rfl rfl)
theorem dX3_trades_40 : decode cX3_trades 40 = .ok (.invokestatic 78, 3) := dk_184 0 78 (dk_at dksX3_trades_1 17 rfl rfl)
theorem dX3_trades_43 : decode cX3_trades 43 = .ok (.dup2, 1) := dk_92 (dk_at dksX3_trades_1 20 rfl rfl)
theorem dX3_trades_44 : decode cX3_trades 44 = .ok (.iaload, 1) := dk_46 (dk_at dksX3_trades_1 21 rfl rfl)
theorem dX3_trades_45 : decode cX3_trades 45 = .ok (.iload 7, 2) := dk_21 7 (dk_at dksX3_trades_1 22 rfl rfl)
theorem dX3_trades_47 : decode cX3_trades 47 = .ok (.isub, 1) := dk_100 (dk_at dksX3_trades_2 0 rfl rfl)
theorem dX3_trades_48 : decode cX3_trades 48 = .ok (.iastore, 1) := dk_79 (dk_at dksX3_trades_2 1 rfl rfl)
theorem dX3_trades_49 : decode cX3_trades 49 = .ok (.aload_n 0, 1) := dk_42 (dk_at dksX3_trades_2 2 rfl rfl)
theorem dX3_trades_50 : decode cX3_trades 50 = .ok (.getfield 9, 3) := dk_180 0 9 (dk_at dksX3_trades_2 3 rfl rfl)
theorem dX3_trades_53 : decode cX3_trades 53 = .ok (.iload_n 1, 1) := dk_27 (dk_at dksX3_trades_2 6 rfl rfl)
theorem dX3_trades_54 : decode cX3_trades 54 = .ok (.invokestatic 78, 3) := dk_184 0 78 (dk_at dksX3_trades_2 7 rfl rfl)
theorem dX3_trades_57 : decode cX3_trades 57 = .ok (.iconst 1, 1) := dk_4 (dk_at dksX3_trades_2 10 rfl rfl)
theorem dX3_trades_58 : decode cX3_trades 58 = .ok (.iadd, 1) := dk_96 (dk_at dksX3_trades_2 11 rfl rfl)
theorem dX3_trades_59 : decode cX3_trades 59 = .ok (.dup2, 1) := dk_92 (dk_at dksX3_trades_2 12 rfl rfl)
theorem dX3_trades_60 : decode cX3_trades 60 = .ok (.iaload, 1) := dk_46 (dk_at dksX3_trades_2 13 rfl rfl)
theorem dX3_trades_61 : decode cX3_trades 61 = .ok (.iload 4, 2) := dk_21 4 (dk_at dksX3_trades_2 14 rfl rfl)
theorem dX3_trades_63 : decode cX3_trades 63 = .ok (.iadd, 1) := dk_96 (dk_at dksX3_trades_2 16 rfl rfl)
theorem dX3_trades_64 : decode cX3_trades 64 = .ok (.iastore, 1) := dk_79 (dk_at dksX3_trades_2 17 rfl rfl)
theorem dX3_trades_65 : decode cX3_trades 65 = .ok (.aload_n 0, 1) := dk_42 (dk_at dksX3_trades_2 18 rfl rfl)
theorem dX3_trades_66 : decode cX3_trades 66 = .ok (.getfield 9, 3) := dk_180 0 9 (dk_at dksX3_trades_2 19 rfl rfl)
theorem dX3_trades_69 : decode cX3_trades 69 = .ok (.iload 6, 2) := dk_21 6 (dk_at dksX3_trades_2 22 rfl rfl)
theorem dX3_trades_71 : decode cX3_trades 71 = .ok (.invokestatic 78, 3) := dk_184 0 78 (dk_at dksX3_trades_3 0 rfl rfl)
theorem dX3_trades_74 : decode cX3_trades 74 = .ok (.dup2, 1) := dk_92 (dk_at dksX3_trades_3 3 rfl rfl)
theorem dX3_trades_75 : decode cX3_trades 75 = .ok (.iaload, 1) := dk_46 (dk_at dksX3_trades_3 4 rfl rfl)
theorem dX3_trades_76 : decode cX3_trades 76 = .ok (.iload 7, 2) := dk_21 7 (dk_at dksX3_trades_3 5 rfl rfl)
theorem dX3_trades_78 : decode cX3_trades 78 = .ok (.iadd, 1) := dk_96 (dk_at dksX3_trades_3 7 rfl rfl)
theorem dX3_trades_79 : decode cX3_trades 79 = .ok (.iastore, 1) := dk_79 (dk_at dksX3_trades_3 8 rfl rfl)
theorem dX3_trades_80 : decode cX3_trades 80 = .ok (.goto 50, 3) := dk_167 0 50 (dk_at dksX3_trades_3 9 rfl rfl)
theorem dX3_trades_83 : decode cX3_trades 83 = .ok (.aload_n 0, 1) := dk_42 (dk_at dksX3_trades_3 12 rfl rfl)
theorem dX3_trades_84 : decode cX3_trades 84 = .ok (.getfield 9, 3) := dk_180 0 9 (dk_at dksX3_trades_3 13 rfl rfl)
theorem dX3_trades_87 : decode cX3_trades 87 = .ok (.iload_n 1, 1) := dk_27 (dk_at dksX3_trades_3 16 rfl rfl)
theorem dX3_trades_88 : decode cX3_trades 88 = .ok (.invokestatic 78, 3) := dk_184 0 78 (dk_at dksX3_trades_3 17 rfl rfl)
theorem dX3_trades_91 : decode cX3_trades 91 = .ok (.dup2, 1) := dk_92 (dk_at dksX3_trades_3 20 rfl rfl)
theorem dX3_trades_92 : decode cX3_trades 92 = .ok (.iaload, 1) := dk_46 (dk_at dksX3_trades_3 21 rfl rfl)
theorem dX3_trades_93 : decode cX3_trades 93 = .ok (.iload 7, 2) := dk_21 7 (dk_at dksX3_trades_3 22 rfl rfl)
theorem dX3_trades_95 : decode cX3_trades 95 = .ok (.iadd, 1) := dk_96 (dk_at dksX3_trades_4 0 rfl rfl)
theorem dX3_trades_96 : decode cX3_trades 96 = .ok (.iastore, 1) := dk_79 (dk_at dksX3_trades_4 1 rfl rfl)
theorem dX3_trades_97 : decode cX3_trades 97 = .ok (.aload_n 0, 1) := dk_42 (dk_at dksX3_trades_4 2 rfl rfl)
theorem dX3_trades_98 : decode cX3_trades 98 = .ok (.getfield 9, 3) := dk_180 0 9 (dk_at dksX3_trades_4 3 rfl rfl)
theorem dX3_trades_101 : decode cX3_trades 101 = .ok (.iload_n 1, 1) := dk_27 (dk_at dksX3_trades_4 6 rfl rfl)
theorem dX3_trades_102 : decode cX3_trades 102 = .ok (.invokestatic 78, 3) := dk_184 0 78 (dk_at dksX3_trades_4 7 rfl rfl)
theorem dX3_trades_105 : decode cX3_trades 105 = .ok (.iconst 1, 1) := dk_4 (dk_at dksX3_trades_4 10 rfl rfl)
theorem dX3_trades_106 : decode cX3_trades 106 = .ok (.iadd, 1) := dk_96 (dk_at dksX3_trades_4 11 rfl rfl)
theorem dX3_trades_107 : decode cX3_trades 107 = .ok (.dup2, 1) := dk_92 (dk_at dksX3_trades_4 12 rfl rfl)
theorem dX3_trades_108 : decode cX3_trades 108 = .ok (.iaload, 1) := dk_46 (dk_at dksX3_trades_4 13 rfl rfl)
theorem dX3_trades_109 : decode cX3_trades 109 = .ok (.iload 4, 2) := dk_21 4 (dk_at dksX3_trades_4 14 rfl rfl)
theorem dX3_trades_111 : decode cX3_trades 111 = .ok (.isub, 1) := dk_100 (dk_at dksX3_trades_4 16 rfl rfl)
theorem dX3_trades_112 : decode cX3_trades 112 = .ok (.iastore, 1) := dk_79 (dk_at dksX3_trades_4 17 rfl rfl)
theorem dX3_trades_113 : decode cX3_trades 113 = .ok (.aload_n 0, 1) := dk_42 (dk_at dksX3_trades_4 18 rfl rfl)
theorem dX3_trades_114 : decode cX3_trades 114 = .ok (.getfield 9, 3) := dk_180 0 9 (dk_at dksX3_trades_4 19 rfl rfl)
theorem dX3_trades_117 : decode cX3_trades 117 = .ok (.iload 6, 2) := dk_21 6 (dk_at dksX3_trades_4 22 rfl rfl)
theorem dX3_trades_119 : decode cX3_trades 119 = .ok (.invokestatic 78, 3) := dk_184 0 78 (dk_at dksX3_trades_5 0 rfl rfl)
theorem dX3_trades_122 : decode cX3_trades 122 = .ok (.iconst 1, 1) := dk_4 (dk_at dksX3_trades_5 3 rfl rfl)
theorem dX3_trades_123 : decode cX3_trades 123 = .ok (.iadd, 1) := dk_96 (dk_at dksX3_trades_5 4 rfl rfl)
theorem dX3_trades_124 : decode cX3_trades 124 = .ok (.dup2, 1) := dk_92 (dk_at dksX3_trades_5 5 rfl rfl)
theorem dX3_trades_125 : decode cX3_trades 125 = .ok (.iaload, 1) := dk_46 (dk_at dksX3_trades_5 6 rfl rfl)
theorem dX3_trades_126 : decode cX3_trades 126 = .ok (.iload 4, 2) := dk_21 4 (dk_at dksX3_trades_5 7 rfl rfl)
theorem dX3_trades_128 : decode cX3_trades 128 = .ok (.iadd, 1) := dk_96 (dk_at dksX3_trades_5 9 rfl rfl)
theorem dX3_trades_129 : decode cX3_trades 129 = .ok (.iastore, 1) := dk_79 (dk_at dksX3_trades_5 10 rfl rfl)
theorem dX3_trades_130 : decode cX3_trades 130 = .ok (.aload_n 0, 1) := dk_42 (dk_at dksX3_trades_5 11 rfl rfl)
theorem dX3_trades_131 : decode cX3_trades 131 = .ok (.getfield 9, 3) := dk_180 0 9 (dk_at dksX3_trades_5 12 rfl rfl)
theorem dX3_trades_134 : decode cX3_trades 134 = .ok (.iconst 5, 1) := dk_8 (dk_at dksX3_trades_5 15 rfl rfl)
theorem dX3_trades_135 : decode cX3_trades 135 = .ok (.aload_n 0, 1) := dk_42 (dk_at dksX3_trades_5 16 rfl rfl)
theorem dX3_trades_136 : decode cX3_trades 136 = .ok (.getfield 9, 3) := dk_180 0 9 (dk_at dksX3_trades_5 17 rfl rfl)
theorem dX3_trades_139 : decode cX3_trades 139 = .ok (.iload 5, 2) := dk_21 5 (dk_at dksX3_trades_5 20 rfl rfl)
theorem dX3_trades_141 : decode cX3_trades 141 = .ok (.iconst 3, 1) := dk_6 (dk_at dksX3_trades_5 22 rfl rfl)
theorem dX3_trades_142 : decode cX3_trades 142 = .ok (.iadd, 1) := dk_96 (dk_at dksX3_trades_5 23 rfl rfl)
theorem dX3_trades_143 : decode cX3_trades 143 = .ok (.iaload, 1) := dk_46 (dk_at dksX3_trades_6 0 rfl rfl)
theorem dX3_trades_144 : decode cX3_trades 144 = .ok (.iastore, 1) := dk_79 (dk_at dksX3_trades_6 1 rfl rfl)
theorem dX3_trades_145 : decode cX3_trades 145 = .ok (.aload_n 0, 1) := dk_42 (dk_at dksX3_trades_6 2 rfl rfl)
theorem dX3_trades_146 : decode cX3_trades 146 = .ok (.getfield 9, 3) := dk_180 0 9 (dk_at dksX3_trades_6 3 rfl rfl)
theorem dX3_trades_149 : decode cX3_trades 149 = .ok (.bipush 6, 2) := dk_16 6 (dk_at dksX3_trades_6 6 rfl rfl)
theorem dX3_trades_151 : decode cX3_trades 151 = .ok (.dup2, 1) := dk_92 (dk_at dksX3_trades_6 8 rfl rfl)
theorem dX3_trades_152 : decode cX3_trades 152 = .ok (.iaload, 1) := dk_46 (dk_at dksX3_trades_6 9 rfl rfl)
theorem dX3_trades_153 : decode cX3_trades 153 = .ok (.iload 4, 2) := dk_21 4 (dk_at dksX3_trades_6 10 rfl rfl)
theorem dX3_trades_155 : decode cX3_trades 155 = .ok (.iadd, 1) := dk_96 (dk_at dksX3_trades_6 12 rfl rfl)
theorem dX3_trades_156 : decode cX3_trades 156 = .ok (.iastore, 1) := dk_79 (dk_at dksX3_trades_6 13 rfl rfl)
theorem dX3_trades_157 : decode cX3_trades 157 = .ok (.aload_n 0, 1) := dk_42 (dk_at dksX3_trades_6 14 rfl rfl)
theorem dX3_trades_158 : decode cX3_trades 158 = .ok (.getfield 9, 3) := dk_180 0 9 (dk_at dksX3_trades_6 15 rfl rfl)
theorem dX3_trades_161 : decode cX3_trades 161 = .ok (.bipush 7, 2) := dk_16 7 (dk_at dksX3_trades_6 18 rfl rfl)
theorem dX3_trades_163 : decode cX3_trades 163 = .ok (.dup2, 1) := dk_92 (dk_at dksX3_trades_6 20 rfl rfl)
theorem dX3_trades_164 : decode cX3_trades 164 = .ok (.iaload, 1) := dk_46 (dk_at dksX3_trades_6 21 rfl rfl)
theorem dX3_trades_165 : decode cX3_trades 165 = .ok (.iload 7, 2) := dk_21 7 (dk_at dksX3_trades_6 22 rfl rfl)
theorem dX3_trades_167 : decode cX3_trades 167 = .ok (.iadd, 1) := dk_96 (dk_at dksX3_trades_7 0 rfl rfl)
theorem dX3_trades_168 : decode cX3_trades 168 = .ok (.iastore, 1) := dk_79 (dk_at dksX3_trades_7 1 rfl rfl)
theorem dX3_trades_169 : decode cX3_trades 169 = .ok (.aload_n 0, 1) := dk_42 (dk_at dksX3_trades_7 2 rfl rfl)
theorem dX3_trades_170 : decode cX3_trades 170 = .ok (.getfield 9, 3) := dk_180 0 9 (dk_at dksX3_trades_7 3 rfl rfl)
theorem dX3_trades_173 : decode cX3_trades 173 = .ok (.iload 5, 2) := dk_21 5 (dk_at dksX3_trades_7 6 rfl rfl)
theorem dX3_trades_175 : decode cX3_trades 175 = .ok (.iconst 4, 1) := dk_7 (dk_at dksX3_trades_7 8 rfl rfl)
theorem dX3_trades_176 : decode cX3_trades 176 = .ok (.iadd, 1) := dk_96 (dk_at dksX3_trades_7 9 rfl rfl)
theorem dX3_trades_177 : decode cX3_trades 177 = .ok (.dup2, 1) := dk_92 (dk_at dksX3_trades_7 10 rfl rfl)
theorem dX3_trades_178 : decode cX3_trades 178 = .ok (.iaload, 1) := dk_46 (dk_at dksX3_trades_7 11 rfl rfl)
theorem dX3_trades_179 : decode cX3_trades 179 = .ok (.iload 4, 2) := dk_21 4 (dk_at dksX3_trades_7 12 rfl rfl)
theorem dX3_trades_181 : decode cX3_trades 181 = .ok (.isub, 1) := dk_100 (dk_at dksX3_trades_7 14 rfl rfl)
theorem dX3_trades_182 : decode cX3_trades 182 = .ok (.iastore, 1) := dk_79 (dk_at dksX3_trades_7 15 rfl rfl)
theorem dX3_trades_183 : decode cX3_trades 183 = .ok (.aload_n 0, 1) := dk_42 (dk_at dksX3_trades_7 16 rfl rfl)
theorem dX3_trades_184 : decode cX3_trades 184 = .ok (.getfield 9, 3) := dk_180 0 9 (dk_at dksX3_trades_7 17 rfl rfl)
theorem dX3_trades_187 : decode cX3_trades 187 = .ok (.iload 5, 2) := dk_21 5 (dk_at dksX3_trades_7 20 rfl rfl)
theorem dX3_trades_189 : decode cX3_trades 189 = .ok (.iconst 4, 1) := dk_7 (dk_at dksX3_trades_7 22 rfl rfl)
theorem dX3_trades_190 : decode cX3_trades 190 = .ok (.iadd, 1) := dk_96 (dk_at dksX3_trades_7 23 rfl rfl)
theorem dX3_trades_191 : decode cX3_trades 191 = .ok (.iaload, 1) := dk_46 (dk_at dksX3_trades_8 0 rfl rfl)
theorem dX3_trades_192 : decode cX3_trades 192 = .ok (.ifCond .ne 8, 3) := dk_154 0 8 (dk_at dksX3_trades_8 1 rfl rfl)
theorem dX3_trades_195 : decode cX3_trades 195 = .ok (.aload_n 0, 1) := dk_42 (dk_at dksX3_trades_8 4 rfl rfl)
theorem dX3_trades_196 : decode cX3_trades 196 = .ok (.iload_n 3, 1) := dk_29 (dk_at dksX3_trades_8 5 rfl rfl)
theorem dX3_trades_197 : decode cX3_trades 197 = .ok (.invokevirtual 91, 3) := dk_182 0 91 (dk_at dksX3_trades_8 6 rfl rfl)
theorem dX3_trades_200 : decode cX3_trades 200 = .ok (.return_, 1) := dk_177 (dk_at dksX3_trades_8 9 rfl rfl)
abbrev cX3_closesOrder : ByteArray := prog_15_method_15_code
def yX3_closesOrder : MethodName := ⟨RX3, "closesOrder", "(I)V"⟩
def dkwX3_closesOrder_2 : List UInt8 := [132, 2, 1, 167, 255, 240, 42, 180, 0, 9, 4, 92, 46, 4, 100, 79, 177]
abbrev dktX3_closesOrder_2 : List UInt8 := dkwX3_closesOrder_2 ++ []
def dkwX3_closesOrder_1 : List UInt8 := [79, 132, 2, 1, 167, 255, 233, 16, 110, 61, 28, 16, 115, 162, 0, 16, 42, 180, 0, 9, 28, 3, 79]
abbrev dktX3_closesOrder_1 : List UInt8 := dkwX3_closesOrder_1 ++ dktX3_closesOrder_2
def dkwX3_closesOrder_0 : List UInt8 := [27, 184, 0, 61, 61, 28, 16, 110, 162, 0, 23, 42, 180, 0, 9, 28, 42, 180, 0, 9, 28, 8, 96, 46]
abbrev dktX3_closesOrder_0 : List UInt8 := dkwX3_closesOrder_0 ++ dktX3_closesOrder_1
theorem dksX3_closesOrder_0 : cX3_closesOrder.data.toList.drop 0 = dktX3_closesOrder_0 := by decide +kernel
theorem dksX3_closesOrder_1 : cX3_closesOrder.data.toList.drop 24 = dktX3_closesOrder_1 := dk_seg dksX3_closesOrder_0 24 rfl rfl
theorem dksX3_closesOrder_2 : cX3_closesOrder.data.toList.drop 47 = dktX3_closesOrder_2 := dk_seg dksX3_closesOrder_1 23 rfl rfl
theorem dX3_closesOrder_0 : decode cX3_closesOrder 0 = .ok (.iload_n 1, 1) := dk_27 (dk_at dksX3_closesOrder_0 0 rfl rfl)
theorem dX3_closesOrder_1 : decode cX3_closesOrder 1 = .ok (.invokestatic 61, 3) := dk_184 0 61 (dk_at dksX3_closesOrder_0 1 rfl rfl)
theorem dX3_closesOrder_4 : decode cX3_closesOrder 4 = .ok (.istore_n 2, 1) := dk_61 (dk_at dksX3_closesOrder_0 4 rfl rfl)
theorem dX3_closesOrder_5 : decode cX3_closesOrder 5 = .ok (.iload_n 2, 1) := dk_28 (dk_at dksX3_closesOrder_0 5 rfl rfl)
theorem dX3_closesOrder_6 : decode cX3_closesOrder 6 = .ok (.bipush 110, 2) := dk_16 110 (dk_at dksX3_closesOrder_0 6 rfl rfl)
theorem dX3_closesOrder_8 : decode cX3_closesOrder 8 = .ok (.if_icmp .ge 23, 3) := dk_162 0 23 (dk_at dksX3_closesOrder_0 8 rfl rfl)
theorem dX3_closesOrder_11 : decode cX3_closesOrder 11 = .ok (.aload_n 0, 1) := dk_42 (dk_at dksX3_closesOrder_0 11 rfl rfl)
theorem dX3_closesOrder_12 : decode cX3_closesOrder 12 = .ok (.getfield 9, 3) := dk_180 0 9 (dk_at dksX3_closesOrder_0 12 rfl rfl)
theorem dX3_closesOrder_15 : decode cX3_closesOrder 15 = .ok (.iload_n 2, 1) := dk_28 (dk_at dksX3_closesOrder_0 15 rfl rfl)
theorem dX3_closesOrder_16 : decode cX3_closesOrder 16 = .ok (.aload_n 0, 1) := dk_42 (dk_at dksX3_closesOrder_0 16 rfl rfl)
theorem dX3_closesOrder_17 : decode cX3_closesOrder 17 = .ok (.getfield 9, 3) := dk_180 0 9 (dk_at dksX3_closesOrder_0 17 rfl rfl)
theorem dX3_closesOrder_20 : decode cX3_closesOrder 20 = .ok (.iload_n 2, 1) := dk_28 (dk_at dksX3_closesOrder_0 20 rfl rfl)
theorem dX3_closesOrder_21 : decode cX3_closesOrder 21 = .ok (.iconst 5, 1) := dk_8 (dk_at dksX3_closesOrder_0 21 rfl rfl)
theorem dX3_closesOrder_22 : decode cX3_closesOrder 22 = .ok (.iadd, 1) := dk_96 (dk_at dksX3_closesOrder_0 22 rfl rfl)
theorem dX3_closesOrder_23 : decode cX3_closesOrder 23 = .ok (.iaload, 1) := dk_46 (dk_at dksX3_closesOrder_0 23 rfl rfl)
theorem dX3_closesOrder_24 : decode cX3_closesOrder 24 = .ok (.iastore, 1) := dk_79 (dk_at dksX3_closesOrder_1 0 rfl rfl)
theorem dX3_closesOrder_25 : decode cX3_closesOrder 25 = .ok (.iinc 2 1, 3) := dk_132 2 1 (dk_at dksX3_closesOrder_1 1 rfl rfl)
theorem dX3_closesOrder_28 : decode cX3_closesOrder 28 = .ok (.goto (-23), 3) := dk_167 255 233 (dk_at dksX3_closesOrder_1 4 rfl rfl)
theorem dX3_closesOrder_31 : decode cX3_closesOrder 31 = .ok (.bipush 110, 2) := dk_16 110 (dk_at dksX3_closesOrder_1 7 rfl rfl)
theorem dX3_closesOrder_33 : decode cX3_closesOrder 33 = .ok (.istore_n 2, 1) := dk_61 (dk_at dksX3_closesOrder_1 9 rfl rfl)
theorem dX3_closesOrder_34 : decode cX3_closesOrder 34 = .ok (.iload_n 2, 1) := dk_28 (dk_at dksX3_closesOrder_1 10 rfl rfl)
theorem dX3_closesOrder_35 : decode cX3_closesOrder 35 = .ok (.bipush 115, 2) := dk_16 115 (dk_at dksX3_closesOrder_1 11 rfl rfl)
theorem dX3_closesOrder_37 : decode cX3_closesOrder 37 = .ok (.if_icmp .ge 16, 3) := dk_162 0 16 (dk_at dksX3_closesOrder_1 13 rfl rfl)
theorem dX3_closesOrder_40 : decode cX3_closesOrder 40 = .ok (.aload_n 0, 1) := dk_42 (dk_at dksX3_closesOrder_1 16 rfl rfl)
theorem dX3_closesOrder_41 : decode cX3_closesOrder 41 = .ok (.getfield 9, 3) := dk_180 0 9 (dk_at dksX3_closesOrder_1 17 rfl rfl)
theorem dX3_closesOrder_44 : decode cX3_closesOrder 44 = .ok (.iload_n 2, 1) := dk_28 (dk_at dksX3_closesOrder_1 20 rfl rfl)
theorem dX3_closesOrder_45 : decode cX3_closesOrder 45 = .ok (.iconst 0, 1) := dk_3 (dk_at dksX3_closesOrder_1 21 rfl rfl)
theorem dX3_closesOrder_46 : decode cX3_closesOrder 46 = .ok (.iastore, 1) := dk_79 (dk_at dksX3_closesOrder_1 22 rfl rfl)
theorem dX3_closesOrder_47 : decode cX3_closesOrder 47 = .ok (.iinc 2 1, 3) := dk_132 2 1 (dk_at dksX3_closesOrder_2 0 rfl rfl)
theorem dX3_closesOrder_50 : decode cX3_closesOrder 50 = .ok (.goto (-16), 3) := dk_167 255 240 (dk_at dksX3_closesOrder_2 3 rfl rfl)
theorem dX3_closesOrder_53 : decode cX3_closesOrder 53 = .ok (.aload_n 0, 1) := dk_42 (dk_at dksX3_closesOrder_2 6 rfl rfl)
theorem dX3_closesOrder_54 : decode cX3_closesOrder 54 = .ok (.getfield 9, 3) := dk_180 0 9 (dk_at dksX3_closesOrder_2 7 rfl rfl)
theorem dX3_closesOrder_57 : decode cX3_closesOrder 57 = .ok (.iconst 1, 1) := dk_4 (dk_at dksX3_closesOrder_2 10 rfl rfl)
theorem dX3_closesOrder_58 : decode cX3_closesOrder 58 = .ok (.dup2, 1) := dk_92 (dk_at dksX3_closesOrder_2 11 rfl rfl)
theorem dX3_closesOrder_59 : decode cX3_closesOrder 59 = .ok (.iaload, 1) := dk_46 (dk_at dksX3_closesOrder_2 12 rfl rfl)
theorem dX3_closesOrder_60 : decode cX3_closesOrder 60 = .ok (.iconst 1, 1) := dk_4 (dk_at dksX3_closesOrder_2 13 rfl rfl)
theorem dX3_closesOrder_61 : decode cX3_closesOrder 61 = .ok (.isub, 1) := dk_100 (dk_at dksX3_closesOrder_2 14 rfl rfl)
theorem dX3_closesOrder_62 : decode cX3_closesOrder 62 = .ok (.iastore, 1) := dk_79 (dk_at dksX3_closesOrder_2 15 rfl rfl)
theorem dX3_closesOrder_63 : decode cX3_closesOrder 63 = .ok (.return_, 1) := dk_177 (dk_at dksX3_closesOrder_2 16 rfl rfl)
abbrev cX3_placeAsk : ByteArray := prog_15_method_25_code
def yX3_placeAsk : MethodName := ⟨RX3, "placeAsk", "(III)I"⟩
def dkwX3_placeAsk_0 : List UInt8 := [42, 182, 0, 81, 42, 42, 27, 3, 28, 29, 182, 0, 120, 182, 0, 88, 172]
abbrev dktX3_placeAsk_0 : List UInt8 := dkwX3_placeAsk_0 ++ []
theorem dksX3_placeAsk_0 : cX3_placeAsk.data.toList.drop 0 = dktX3_placeAsk_0 := by decide +kernel
theorem dX3_placeAsk_0 : decode cX3_placeAsk 0 = .ok (.aload_n 0, 1) := dk_42 (dk_at dksX3_placeAsk_0 0 rfl rfl)
theorem dX3_placeAsk_1 : decode cX3_placeAsk 1 = .ok (.invokevirtual 81, 3) := dk_182 0 81 (dk_at dksX3_placeAsk_0 1 rfl rfl)
theorem dX3_placeAsk_4 : decode cX3_placeAsk 4 = .ok (.aload_n 0, 1) := dk_42 (dk_at dksX3_placeAsk_0 4 rfl rfl)
theorem dX3_placeAsk_5 : decode cX3_placeAsk 5 = .ok (.aload_n 0, 1) := dk_42 (dk_at dksX3_placeAsk_0 5 rfl rfl)
theorem dX3_placeAsk_6 : decode cX3_placeAsk 6 = .ok (.iload_n 1, 1) := dk_27 (dk_at dksX3_placeAsk_0 6 rfl rfl)
theorem dX3_placeAsk_7 : decode cX3_placeAsk 7 = .ok (.iconst 0, 1) := dk_3 (dk_at dksX3_placeAsk_0 7 rfl rfl)
theorem dX3_placeAsk_8 : decode cX3_placeAsk 8 = .ok (.iload_n 2, 1) := dk_28 (dk_at dksX3_placeAsk_0 8 rfl rfl)
theorem dX3_placeAsk_9 : decode cX3_placeAsk 9 = .ok (.iload_n 3, 1) := dk_29 (dk_at dksX3_placeAsk_0 9 rfl rfl)
theorem dX3_placeAsk_10 : decode cX3_placeAsk 10 = .ok (.invokevirtual 120, 3) := dk_182 0 120 (dk_at dksX3_placeAsk_0 10 rfl rfl)
theorem dX3_placeAsk_13 : decode cX3_placeAsk 13 = .ok (.invokevirtual 88, 3) := dk_182 0 88 (dk_at dksX3_placeAsk_0 13 rfl rfl)
theorem dX3_placeAsk_16 : decode cX3_placeAsk 16 = .ok (.ireturn, 1) := dk_172 (dk_at dksX3_placeAsk_0 16 rfl rfl)
abbrev cX3_cancelOrder : ByteArray := prog_15_method_27_code
def yX3_cancelOrder : MethodName := ⟨RX3, "cancelOrder", "(I)I"⟩
def dkwX3_cancelOrder_0 : List UInt8 := [42, 182, 0, 81, 42, 42, 27, 182, 0, 127, 182, 0, 88, 172]
abbrev dktX3_cancelOrder_0 : List UInt8 := dkwX3_cancelOrder_0 ++ []
theorem dksX3_cancelOrder_0 : cX3_cancelOrder.data.toList.drop 0 = dktX3_cancelOrder_0 := by decide +kernel
theorem dX3_cancelOrder_0 : decode cX3_cancelOrder 0 = .ok (.aload_n 0, 1) := dk_42 (dk_at dksX3_cancelOrder_0 0 rfl rfl)
theorem dX3_cancelOrder_1 : decode cX3_cancelOrder 1 = .ok (.invokevirtual 81, 3) := dk_182 0 81 (dk_at dksX3_cancelOrder_0 1 rfl rfl)
theorem dX3_cancelOrder_4 : decode cX3_cancelOrder 4 = .ok (.aload_n 0, 1) := dk_42 (dk_at dksX3_cancelOrder_0 4 rfl rfl)
theorem dX3_cancelOrder_5 : decode cX3_cancelOrder 5 = .ok (.aload_n 0, 1) := dk_42 (dk_at dksX3_cancelOrder_0 5 rfl rfl)
theorem dX3_cancelOrder_6 : decode cX3_cancelOrder 6 = .ok (.iload_n 1, 1) := dk_27 (dk_at dksX3_cancelOrder_0 6 rfl rfl)
theorem dX3_cancelOrder_7 : decode cX3_cancelOrder 7 = .ok (.invokevirtual 127, 3) := dk_182 0 127 (dk_at dksX3_cancelOrder_0 7 rfl rfl)
theorem dX3_cancelOrder_10 : decode cX3_cancelOrder 10 = .ok (.invokevirtual 88, 3) := dk_182 0 88 (dk_at dksX3_cancelOrder_0 10 rfl rfl)
theorem dX3_cancelOrder_13 : decode cX3_cancelOrder 13 = .ok (.ireturn, 1) := dk_172 (dk_at dksX3_cancelOrder_0 13 rfl rfl)
abbrev cX3_cancelIt : ByteArray := prog_15_method_26_code
def yX3_cancelIt : MethodName := ⟨RX3, "cancelIt", "(I)I"⟩
def dkwX3_cancelIt_4 : List UInt8 := [96, 92, 46, 21, 4, 96, 79, 42, 28, 182, 0, 91, 21, 4, 172]
abbrev dktX3_cancelIt_4 : List UInt8 := dkwX3_cancelIt_4 ++ []
def dkwX3_cancelIt_3 : List UInt8 := [96, 46, 104, 96, 79, 167, 0, 26, 42, 180, 0, 9, 42, 180, 0, 9, 29, 4, 96, 46, 184, 0, 78, 4]
abbrev dktX3_cancelIt_3 : List UInt8 := dkwX3_cancelIt_3 ++ dktX3_cancelIt_4
def dkwX3_cancelIt_2 : List UInt8 := [180, 0, 9, 42, 180, 0, 9, 29, 4, 96, 46, 184, 0, 78, 92, 46, 21, 4, 42, 180, 0, 9, 29, 6]
abbrev dktX3_cancelIt_2 : List UInt8 := dkwX3_cancelIt_2 ++ dktX3_cancelIt_3
def dkwX3_cancelIt_1 : List UInt8 := [180, 0, 9, 29, 7, 96, 46, 54, 4, 42, 180, 0, 9, 29, 5, 96, 46, 4, 160, 0, 36, 42]
abbrev dktX3_cancelIt_1 : List UInt8 := dkwX3_cancelIt_1 ++ dktX3_cancelIt_2
def dkwX3_cancelIt_0 : List UInt8 := [42, 27, 182, 0, 124, 61, 28, 2, 160, 0, 9, 42, 4, 182, 0, 75, 172, 28, 184, 0, 61, 62, 42]
abbrev dktX3_cancelIt_0 : List UInt8 := dkwX3_cancelIt_0 ++ dktX3_cancelIt_1
theorem dksX3_cancelIt_0 : cX3_cancelIt.data.toList.drop 0 = dktX3_cancelIt_0 := by decide +kernel
theorem dksX3_cancelIt_1 : cX3_cancelIt.data.toList.drop 23 = dktX3_cancelIt_1 := dk_seg dksX3_cancelIt_0 23 rfl rfl
theorem dksX3_cancelIt_2 : cX3_cancelIt.data.toList.drop 45 = dktX3_cancelIt_2 := dk_seg dksX3_cancelIt_1 22 rfl rfl
theorem dksX3_cancelIt_3 : cX3_cancelIt.data.toList.drop 69 = dktX3_cancelIt_3 := dk_seg dksX3_cancelIt_2 24 rfl rfl
theorem dksX3_cancelIt_4 : cX3_cancelIt.data.toList.drop 93 = dktX3_cancelIt_4 := dk_seg dksX3_cancelIt_3 24 rfl rfl
theorem dX3_cancelIt_0 : decode cX3_cancelIt 0 = .ok (.aload_n 0, 1) := dk_42 (dk_at dksX3_cancelIt_0 0 rfl rfl)
theorem dX3_cancelIt_1 : decode cX3_cancelIt 1 = .ok (.iload_n 1, 1) := dk_27 (dk_at dksX3_cancelIt_0 1 rfl rfl)
theorem dX3_cancelIt_2 : decode cX3_cancelIt 2 = .ok (.invokevirtual 124, 3) := dk_182 0 124 (dk_at dksX3_cancelIt_0 2 rfl rfl)
theorem dX3_cancelIt_5 : decode cX3_cancelIt 5 = .ok (.istore_n 2, 1) := dk_61 (dk_at dksX3_cancelIt_0 5 rfl rfl)
theorem dX3_cancelIt_6 : decode cX3_cancelIt 6 = .ok (.iload_n 2, 1) := dk_28 (dk_at dksX3_cancelIt_0 6 rfl rfl)
theorem dX3_cancelIt_7 : decode cX3_cancelIt 7 = .ok (.iconst (-1), 1) := dk_2 (dk_at dksX3_cancelIt_0 7 rfl rfl)
theorem dX3_cancelIt_8 : decode cX3_cancelIt 8 = .ok (.if_icmp .ne 9, 3) := dk_160 0 9 (dk_at dksX3_cancelIt_0 8 rfl rfl)
theorem dX3_cancelIt_11 : decode cX3_cancelIt 11 = .ok (.aload_n 0, 1) := dk_42 (dk_at dksX3_cancelIt_0 11 rfl rfl)
theorem dX3_cancelIt_12 : decode cX3_cancelIt 12 = .ok (.iconst 1, 1) := dk_4 (dk_at dksX3_cancelIt_0 12 rfl rfl)
theorem dX3_cancelIt_13 : decode cX3_cancelIt 13 = .ok (.invokevirtual 75, 3) := dk_182 0 75 (dk_at dksX3_cancelIt_0 13 rfl rfl)
theorem dX3_cancelIt_16 : decode cX3_cancelIt 16 = .ok (.ireturn, 1) := dk_172 (dk_at dksX3_cancelIt_0 16 rfl rfl)
theorem dX3_cancelIt_17 : decode cX3_cancelIt 17 = .ok (.iload_n 2, 1) := dk_28 (dk_at dksX3_cancelIt_0 17 rfl rfl)
theorem dX3_cancelIt_18 : decode cX3_cancelIt 18 = .ok (.invokestatic 61, 3) := dk_184 0 61 (dk_at dksX3_cancelIt_0 18 rfl rfl)
theorem dX3_cancelIt_21 : decode cX3_cancelIt 21 = .ok (.istore_n 3, 1) := dk_62 (dk_at dksX3_cancelIt_0 21 rfl rfl)
theorem dX3_cancelIt_22 : decode cX3_cancelIt 22 = .ok (.aload_n 0, 1) := dk_42 (dk_at dksX3_cancelIt_0 22 rfl rfl)
theorem dX3_cancelIt_23 : decode cX3_cancelIt 23 = .ok (.getfield 9, 3) := dk_180 0 9 (dk_at dksX3_cancelIt_1 0 rfl rfl)
theorem dX3_cancelIt_26 : decode cX3_cancelIt 26 = .ok (.iload_n 3, 1) := dk_29 (dk_at dksX3_cancelIt_1 3 rfl rfl)
theorem dX3_cancelIt_27 : decode cX3_cancelIt 27 = .ok (.iconst 4, 1) := dk_7 (dk_at dksX3_cancelIt_1 4 rfl rfl)
theorem dX3_cancelIt_28 : decode cX3_cancelIt 28 = .ok (.iadd, 1) := dk_96 (dk_at dksX3_cancelIt_1 5 rfl rfl)
theorem dX3_cancelIt_29 : decode cX3_cancelIt 29 = .ok (.iaload, 1) := dk_46 (dk_at dksX3_cancelIt_1 6 rfl rfl)
theorem dX3_cancelIt_30 : decode cX3_cancelIt 30 = .ok (.istore 4, 2) := dk_54 4 (dk_at dksX3_cancelIt_1 7 rfl rfl)
theorem dX3_cancelIt_32 : decode cX3_cancelIt 32 = .ok (.aload_n 0, 1) := dk_42 (dk_at dksX3_cancelIt_1 9 rfl rfl)
theorem dX3_cancelIt_33 : decode cX3_cancelIt 33 = .ok (.getfield 9, 3) := dk_180 0 9 (dk_at dksX3_cancelIt_1 10 rfl rfl)
theorem dX3_cancelIt_36 : decode cX3_cancelIt 36 = .ok (.iload_n 3, 1) := dk_29 (dk_at dksX3_cancelIt_1 13 rfl rfl)
theorem dX3_cancelIt_37 : decode cX3_cancelIt 37 = .ok (.iconst 2, 1) := dk_5 (dk_at dksX3_cancelIt_1 14 rfl rfl)
theorem dX3_cancelIt_38 : decode cX3_cancelIt 38 = .ok (.iadd, 1) := dk_96 (dk_at dksX3_cancelIt_1 15 rfl rfl)
theorem dX3_cancelIt_39 : decode cX3_cancelIt 39 = .ok (.iaload, 1) := dk_46 (dk_at dksX3_cancelIt_1 16 rfl rfl)
theorem dX3_cancelIt_40 : decode cX3_cancelIt 40 = .ok (.iconst 1, 1) := dk_4 (dk_at dksX3_cancelIt_1 17 rfl rfl)
theorem dX3_cancelIt_41 : decode cX3_cancelIt 41 = .ok (.if_icmp .ne 36, 3) := dk_160 0 36 (dk_at dksX3_cancelIt_1 18 rfl rfl)
theorem dX3_cancelIt_44 : decode cX3_cancelIt 44 = .ok (.aload_n 0, 1) := dk_42 (dk_at dksX3_cancelIt_1 21 rfl rfl)
theorem dX3_cancelIt_45 : decode cX3_cancelIt 45 = .ok (.getfield 9, 3) := dk_180 0 9 (dk_at dksX3_cancelIt_2 0 rfl rfl)
theorem dX3_cancelIt_48 : decode cX3_cancelIt 48 = .ok (.aload_n 0, 1) := dk_42 (dk_at dksX3_cancelIt_2 3 rfl rfl)
theorem dX3_cancelIt_49 : decode cX3_cancelIt 49 = .ok (.getfield 9, 3) := dk_180 0 9 (dk_at dksX3_cancelIt_2 4 rfl rfl)
theorem dX3_cancelIt_52 : decode cX3_cancelIt 52 = .ok (.iload_n 3, 1) := dk_29 (dk_at dksX3_cancelIt_2 7 rfl rfl)
theorem dX3_cancelIt_53 : decode cX3_cancelIt 53 = .ok (.iconst 1, 1) := dk_4 (dk_at dksX3_cancelIt_2 8 rfl rfl)
theorem dX3_cancelIt_54 : decode cX3_cancelIt 54 = .ok (.iadd, 1) := dk_96 (dk_at dksX3_cancelIt_2 9 rfl rfl)
theorem dX3_cancelIt_55 : decode cX3_cancelIt 55 = .ok (.iaload, 1) := dk_46 (dk_at dksX3_cancelIt_2 10 rfl rfl)
theorem dX3_cancelIt_56 : decode cX3_cancelIt 56 = .ok (.invokestatic 78, 3) := dk_184 0 78 (dk_at dksX3_cancelIt_2 11 rfl rfl)
theorem dX3_cancelIt_59 : decode cX3_cancelIt 59 = .ok (.dup2, 1) := dk_92 (dk_at dksX3_cancelIt_2 14 rfl rfl)
theorem dX3_cancelIt_60 : decode cX3_cancelIt 60 = .ok (.iaload, 1) := dk_46 (dk_at dksX3_cancelIt_2 15 rfl rfl)
theorem dX3_cancelIt_61 : decode cX3_cancelIt 61 = .ok (.iload 4, 2) := dk_21 4 (dk_at dksX3_cancelIt_2 16 rfl rfl)
theorem dX3_cancelIt_63 : decode cX3_cancelIt 63 = .ok (.aload_n 0, 1) := dk_42 (dk_at dksX3_cancelIt_2 18 rfl rfl)
theorem dX3_cancelIt_64 : decode cX3_cancelIt 64 = .ok (.getfield 9, 3) := dk_180 0 9 (dk_at dksX3_cancelIt_2 19 rfl rfl)
theorem dX3_cancelIt_67 : decode cX3_cancelIt 67 = .ok (.iload_n 3, 1) := dk_29 (dk_at dksX3_cancelIt_2 22 rfl rfl)
theorem dX3_cancelIt_68 : decode cX3_cancelIt 68 = .ok (.iconst 3, 1) := dk_6 (dk_at dksX3_cancelIt_2 23 rfl rfl)
theorem dX3_cancelIt_69 : decode cX3_cancelIt 69 = .ok (.iadd, 1) := dk_96 (dk_at dksX3_cancelIt_3 0 rfl rfl)
theorem dX3_cancelIt_70 : decode cX3_cancelIt 70 = .ok (.iaload, 1) := dk_46 (dk_at dksX3_cancelIt_3 1 rfl rfl)
theorem dX3_cancelIt_71 : decode cX3_cancelIt 71 = .ok (.imul, 1) := dk_104 (dk_at dksX3_cancelIt_3 2 rfl rfl)
theorem dX3_cancelIt_72 : decode cX3_cancelIt 72 = .ok (.iadd, 1) := dk_96 (dk_at dksX3_cancelIt_3 3 rfl rfl)
theorem dX3_cancelIt_73 : decode cX3_cancelIt 73 = .ok (.iastore, 1) := dk_79 (dk_at dksX3_cancelIt_3 4 rfl rfl)
theorem dX3_cancelIt_74 : decode cX3_cancelIt 74 = .ok (.goto 26, 3) := dk_167 0 26 (dk_at dksX3_cancelIt_3 5 rfl rfl)
theorem dX3_cancelIt_77 : decode cX3_cancelIt 77 = .ok (.aload_n 0, 1) := dk_42 (dk_at dksX3_cancelIt_3 8 rfl rfl)
theorem dX3_cancelIt_78 : decode cX3_cancelIt 78 = .ok (.getfield 9, 3) := dk_180 0 9 (dk_at dksX3_cancelIt_3 9 rfl rfl)
theorem dX3_cancelIt_81 : decode cX3_cancelIt 81 = .ok (.aload_n 0, 1) := dk_42 (dk_at dksX3_cancelIt_3 12 rfl rfl)
theorem dX3_cancelIt_82 : decode cX3_cancelIt 82 = .ok (.getfield 9, 3) := dk_180 0 9 (dk_at dksX3_cancelIt_3 13 rfl rfl)
theorem dX3_cancelIt_85 : decode cX3_cancelIt 85 = .ok (.iload_n 3, 1) := dk_29 (dk_at dksX3_cancelIt_3 16 rfl rfl)
theorem dX3_cancelIt_86 : decode cX3_cancelIt 86 = .ok (.iconst 1, 1) := dk_4 (dk_at dksX3_cancelIt_3 17 rfl rfl)
theorem dX3_cancelIt_87 : decode cX3_cancelIt 87 = .ok (.iadd, 1) := dk_96 (dk_at dksX3_cancelIt_3 18 rfl rfl)
theorem dX3_cancelIt_88 : decode cX3_cancelIt 88 = .ok (.iaload, 1) := dk_46 (dk_at dksX3_cancelIt_3 19 rfl rfl)
theorem dX3_cancelIt_89 : decode cX3_cancelIt 89 = .ok (.invokestatic 78, 3) := dk_184 0 78 (dk_at dksX3_cancelIt_3 20 rfl rfl)
theorem dX3_cancelIt_92 : decode cX3_cancelIt 92 = .ok (.iconst 1, 1) := dk_4 (dk_at dksX3_cancelIt_3 23 rfl rfl)
theorem dX3_cancelIt_93 : decode cX3_cancelIt 93 = .ok (.iadd, 1) := dk_96 (dk_at dksX3_cancelIt_4 0 rfl rfl)
theorem dX3_cancelIt_94 : decode cX3_cancelIt 94 = .ok (.dup2, 1) := dk_92 (dk_at dksX3_cancelIt_4 1 rfl rfl)
theorem dX3_cancelIt_95 : decode cX3_cancelIt 95 = .ok (.iaload, 1) := dk_46 (dk_at dksX3_cancelIt_4 2 rfl rfl)
theorem dX3_cancelIt_96 : decode cX3_cancelIt 96 = .ok (.iload 4, 2) := dk_21 4 (dk_at dksX3_cancelIt_4 3 rfl rfl)
theorem dX3_cancelIt_98 : decode cX3_cancelIt 98 = .ok (.iadd, 1) := dk_96 (dk_at dksX3_cancelIt_4 5 rfl rfl)
theorem dX3_cancelIt_99 : decode cX3_cancelIt 99 = .ok (.iastore, 1) := dk_79 (dk_at dksX3_cancelIt_4 6 rfl rfl)
theorem dX3_cancelIt_100 : decode cX3_cancelIt 100 = .ok (.aload_n 0, 1) := dk_42 (dk_at dksX3_cancelIt_4 7 rfl rfl)
theorem dX3_cancelIt_101 : decode cX3_cancelIt 101 = .ok (.iload_n 2, 1) := dk_28 (dk_at dksX3_cancelIt_4 8 rfl rfl)
theorem dX3_cancelIt_102 : decode cX3_cancelIt 102 = .ok (.invokevirtual 91, 3) := dk_182 0 91 (dk_at dksX3_cancelIt_4 9 rfl rfl)
theorem dX3_cancelIt_105 : decode cX3_cancelIt 105 = .ok (.iload 4, 2) := dk_21 4 (dk_at dksX3_cancelIt_4 12 rfl rfl)
theorem dX3_cancelIt_107 : decode cX3_cancelIt 107 = .ok (.ireturn, 1) := dk_172 (dk_at dksX3_cancelIt_4 14 rfl rfl)
abbrev cX3_placeOf : ByteArray := prog_15_method_14_code
def yX3_placeOf : MethodName := ⟨RX3, "placeOf", "(I)I"⟩
def dkwX3_placeOf_1 : List UInt8 := [160, 0, 5, 28, 172, 132, 2, 1, 167, 255, 228, 2, 172]
abbrev dktX3_placeOf_1 : List UInt8 := dkwX3_placeOf_1 ++ []
def dkwX3_placeOf_0 : List UInt8 := [3, 61, 28, 42, 180, 0, 9, 4, 46, 162, 0, 24, 42, 180, 0, 9, 28, 184, 0, 61, 46, 27]
abbrev dktX3_placeOf_0 : List UInt8 := dkwX3_placeOf_0 ++ dktX3_placeOf_1
theorem dksX3_placeOf_0 : cX3_placeOf.data.toList.drop 0 = dktX3_placeOf_0 := by decide +kernel
theorem dksX3_placeOf_1 : cX3_placeOf.data.toList.drop 22 = dktX3_placeOf_1 := dk_seg dksX3_placeOf_0 22 rfl rfl
theorem dX3_placeOf_0 : decode cX3_placeOf 0 = .ok (.iconst 0, 1) := dk_3 (dk_at dksX3_placeOf_0 0 rfl rfl)
theorem dX3_placeOf_1 : decode cX3_placeOf 1 = .ok (.istore_n 2, 1) := dk_61 (dk_at dksX3_placeOf_0 1 rfl rfl)
theorem dX3_placeOf_2 : decode cX3_placeOf 2 = .ok (.iload_n 2, 1) := dk_28 (dk_at dksX3_placeOf_0 2 rfl rfl)
theorem dX3_placeOf_3 : decode cX3_placeOf 3 = .ok (.aload_n 0, 1) := dk_42 (dk_at dksX3_placeOf_0 3 rfl rfl)
theorem dX3_placeOf_4 : decode cX3_placeOf 4 = .ok (.getfield 9, 3) := dk_180 0 9 (dk_at dksX3_placeOf_0 4 rfl rfl)
theorem dX3_placeOf_7 : decode cX3_placeOf 7 = .ok (.iconst 1, 1) := dk_4 (dk_at dksX3_placeOf_0 7 rfl rfl)
theorem dX3_placeOf_8 : decode cX3_placeOf 8 = .ok (.iaload, 1) := dk_46 (dk_at dksX3_placeOf_0 8 rfl rfl)
theorem dX3_placeOf_9 : decode cX3_placeOf 9 = .ok (.if_icmp .ge 24, 3) := dk_162 0 24 (dk_at dksX3_placeOf_0 9 rfl rfl)
theorem dX3_placeOf_12 : decode cX3_placeOf 12 = .ok (.aload_n 0, 1) := dk_42 (dk_at dksX3_placeOf_0 12 rfl rfl)
theorem dX3_placeOf_13 : decode cX3_placeOf 13 = .ok (.getfield 9, 3) := dk_180 0 9 (dk_at dksX3_placeOf_0 13 rfl rfl)
theorem dX3_placeOf_16 : decode cX3_placeOf 16 = .ok (.iload_n 2, 1) := dk_28 (dk_at dksX3_placeOf_0 16 rfl rfl)
theorem dX3_placeOf_17 : decode cX3_placeOf 17 = .ok (.invokestatic 61, 3) := dk_184 0 61 (dk_at dksX3_placeOf_0 17 rfl rfl)
theorem dX3_placeOf_20 : decode cX3_placeOf 20 = .ok (.iaload, 1) := dk_46 (dk_at dksX3_placeOf_0 20 rfl rfl)
theorem dX3_placeOf_21 : decode cX3_placeOf 21 = .ok (.iload_n 1, 1) := dk_27 (dk_at dksX3_placeOf_0 21 rfl rfl)
theorem dX3_placeOf_22 : decode cX3_placeOf 22 = .ok (.if_icmp .ne 5, 3) := dk_160 0 5 (dk_at dksX3_placeOf_1 0 rfl rfl)
theorem dX3_placeOf_25 : decode cX3_placeOf 25 = .ok (.iload_n 2, 1) := dk_28 (dk_at dksX3_placeOf_1 3 rfl rfl)
theorem dX3_placeOf_26 : decode cX3_placeOf 26 = .ok (.ireturn, 1) := dk_172 (dk_at dksX3_placeOf_1 4 rfl rfl)
theorem dX3_placeOf_27 : decode cX3_placeOf 27 = .ok (.iinc 2 1, 3) := dk_132 2 1 (dk_at dksX3_placeOf_1 5 rfl rfl)
theorem dX3_placeOf_30 : decode cX3_placeOf 30 = .ok (.goto (-28), 3) := dk_167 255 228 (dk_at dksX3_placeOf_1 8 rfl rfl)
theorem dX3_placeOf_33 : decode cX3_placeOf 33 = .ok (.iconst (-1), 1) := dk_2 (dk_at dksX3_placeOf_1 11 rfl rfl)
theorem dX3_placeOf_34 : decode cX3_placeOf 34 = .ok (.ireturn, 1) := dk_172 (dk_at dksX3_placeOf_1 12 rfl rfl)
abbrev cX3_agree : ByteArray := prog_15_method_29_code
def yX3_agree : MethodName := ⟨RX3, "agree", "(IIIII)I"⟩
def dkwX3_agree_0 : List UInt8 := [42, 182, 0, 81, 42, 42, 27, 28, 29, 21, 4, 21, 5, 182, 0, 133, 182, 0, 88, 172]
abbrev dktX3_agree_0 : List UInt8 := dkwX3_agree_0 ++ []
theorem dksX3_agree_0 : cX3_agree.data.toList.drop 0 = dktX3_agree_0 := by decide +kernel
theorem dX3_agree_0 : decode cX3_agree 0 = .ok (.aload_n 0, 1) := dk_42 (dk_at dksX3_agree_0 0 rfl rfl)
theorem dX3_agree_1 : decode cX3_agree 1 = .ok (.invokevirtual 81, 3) := dk_182 0 81 (dk_at dksX3_agree_0 1 rfl rfl)
theorem dX3_agree_4 : decode cX3_agree 4 = .ok (.aload_n 0, 1) := dk_42 (dk_at dksX3_agree_0 4 rfl rfl)
theorem dX3_agree_5 : decode cX3_agree 5 = .ok (.aload_n 0, 1) := dk_42 (dk_at dksX3_agree_0 5 rfl rfl)
theorem dX3_agree_6 : decode cX3_agree 6 = .ok (.iload_n 1, 1) := dk_27 (dk_at dksX3_agree_0 6 rfl rfl)
theorem dX3_agree_7 : decode cX3_agree 7 = .ok (.iload_n 2, 1) := dk_28 (dk_at dksX3_agree_0 7 rfl rfl)
theorem dX3_agree_8 : decode cX3_agree 8 = .ok (.iload_n 3, 1) := dk_29 (dk_at dksX3_agree_0 8 rfl rfl)
theorem dX3_agree_9 : decode cX3_agree 9 = .ok (.iload 4, 2) := dk_21 4 (dk_at dksX3_agree_0 9 rfl rfl)
theorem dX3_agree_11 : decode cX3_agree 11 = .ok (.iload 5, 2) := dk_21 5 (dk_at dksX3_agree_0 11 rfl rfl)
theorem dX3_agree_13 : decode cX3_agree 13 = .ok (.invokevirtual 133, 3) := dk_182 0 133 (dk_at dksX3_agree_0 13 rfl rfl)
theorem dX3_agree_16 : decode cX3_agree 16 = .ok (.invokevirtual 88, 3) := dk_182 0 88 (dk_at dksX3_agree_0 16 rfl rfl)
theorem dX3_agree_19 : decode cX3_agree 19 = .ok (.ireturn, 1) := dk_172 (dk_at dksX3_agree_0 19 rfl rfl)
abbrev cX3_agreeIt : ByteArray := prog_15_method_28_code
def yX3_agreeIt : MethodName := ⟨RX3, "agreeIt", "(IIIII)I"⟩
def dkwX3_agreeIt_6 : List UInt8 := [79, 42, 180, 0, 9, 6, 92, 46, 4, 96, 79, 42, 180, 0, 9, 6, 46, 4, 100, 172]
abbrev dktX3_agreeIt_6 : List UInt8 := dkwX3_agreeIt_6 ++ []
def dkwX3_agreeIt_5 : List UInt8 := [21, 6, 6, 96, 21, 4, 79, 42, 180, 0, 9, 21, 6, 7, 96, 42, 180, 0, 9, 7, 46, 21, 5, 96]
abbrev dktX3_agreeIt_5 : List UInt8 := dkwX3_agreeIt_5 ++ dktX3_agreeIt_6
def dkwX3_agreeIt_4 : List UInt8 := [180, 0, 9, 21, 6, 4, 96, 28, 79, 42, 180, 0, 9, 21, 6, 5, 96, 29, 79, 42, 180, 0, 9]
abbrev dktX3_agreeIt_4 : List UInt8 := dkwX3_agreeIt_4 ++ dktX3_agreeIt_5
def dkwX3_agreeIt_3 : List UInt8 := [182, 0, 75, 172, 42, 180, 0, 9, 6, 46, 184, 0, 130, 54, 6, 42, 180, 0, 9, 21, 6, 27, 79, 42]
abbrev dktX3_agreeIt_3 : List UInt8 := dkwX3_agreeIt_3 ++ dktX3_agreeIt_4
def dkwX3_agreeIt_2 : List UInt8 := [154, 0, 9, 42, 5, 182, 0, 75, 172, 42, 180, 0, 9, 6, 46, 16, 8, 160, 0, 9, 42, 6]
abbrev dktX3_agreeIt_2 : List UInt8 := dkwX3_agreeIt_2 ++ dktX3_agreeIt_3
def dkwX3_agreeIt_1 : List UInt8 := [159, 0, 25, 29, 21, 4, 184, 0, 99, 153, 0, 16, 21, 5, 133, 10, 20, 0, 59, 184, 0, 51]
abbrev dktX3_agreeIt_1 : List UInt8 := dkwX3_agreeIt_1 ++ dktX3_agreeIt_2
def dkwX3_agreeIt_0 : List UInt8 := [42, 27, 182, 0, 95, 153, 0, 11, 42, 28, 182, 0, 95, 154, 0, 9, 42, 4, 182, 0, 75, 172, 27, 28]
abbrev dktX3_agreeIt_0 : List UInt8 := dkwX3_agreeIt_0 ++ dktX3_agreeIt_1
theorem dksX3_agreeIt_0 : cX3_agreeIt.data.toList.drop 0 = dktX3_agreeIt_0 := by decide +kernel
theorem dksX3_agreeIt_1 : cX3_agreeIt.data.toList.drop 24 = dktX3_agreeIt_1 := dk_seg dksX3_agreeIt_0 24 rfl rfl
theorem dksX3_agreeIt_2 : cX3_agreeIt.data.toList.drop 46 = dktX3_agreeIt_2 := dk_seg dksX3_agreeIt_1 22 rfl rfl
theorem dksX3_agreeIt_3 : cX3_agreeIt.data.toList.drop 68 = dktX3_agreeIt_3 := dk_seg dksX3_agreeIt_2 22 rfl rfl
theorem dksX3_agreeIt_4 : cX3_agreeIt.data.toList.drop 92 = dktX3_agreeIt_4 := dk_seg dksX3_agreeIt_3 24 rfl rfl
theorem dksX3_agreeIt_5 : cX3_agreeIt.data.toList.drop 115 = dktX3_agreeIt_5 := dk_seg dksX3_agreeIt_4 23 rfl rfl
theorem dksX3_agreeIt_6 : cX3_agreeIt.data.toList.drop 139 = dktX3_agreeIt_6 := dk_seg dksX3_agreeIt_5 24 rfl rfl
theorem dX3_agreeIt_0 : decode cX3_agreeIt 0 = .ok (.aload_n 0, 1) := dk_42 (dk_at dksX3_agreeIt_0 0 rfl rfl)
theorem dX3_agreeIt_1 : decode cX3_agreeIt 1 = .ok (.iload_n 1, 1) := dk_27 (dk_at dksX3_agreeIt_0 1 rfl rfl)
theorem dX3_agreeIt_2 : decode cX3_agreeIt 2 = .ok (.invokevirtual 95, 3) := dk_182 0 95 (dk_at dksX3_agreeIt_0 2 rfl rfl)
theorem dX3_agreeIt_5 : decode cX3_agreeIt 5 = .ok (.ifCond .eq 11, 3) := dk_153 0 11 (dk_at dksX3_agreeIt_0 5 rfl rfl)
theorem dX3_agreeIt_8 : decode cX3_agreeIt 8 = .ok (.aload_n 0, 1) := dk_42 (dk_at dksX3_agreeIt_0 8 rfl rfl)
theorem dX3_agreeIt_9 : decode cX3_agreeIt 9 = .ok (.iload_n 2, 1) := dk_28 (dk_at dksX3_agreeIt_0 9 rfl rfl)
theorem dX3_agreeIt_10 : decode cX3_agreeIt 10 = .ok (.invokevirtual 95, 3) := dk_182 0 95 (dk_at dksX3_agreeIt_0 10 rfl rfl)
theorem dX3_agreeIt_13 : decode cX3_agreeIt 13 = .ok (.ifCond .ne 9, 3) := dk_154 0 9 (dk_at dksX3_agreeIt_0 13 rfl rfl)
theorem dX3_agreeIt_16 : decode cX3_agreeIt 16 = .ok (.aload_n 0, 1) := dk_42 (dk_at dksX3_agreeIt_0 16 rfl rfl)
theorem dX3_agreeIt_17 : decode cX3_agreeIt 17 = .ok (.iconst 1, 1) := dk_4 (dk_at dksX3_agreeIt_0 17 rfl rfl)
theorem dX3_agreeIt_18 : decode cX3_agreeIt 18 = .ok (.invokevirtual 75, 3) := dk_182 0 75 (dk_at dksX3_agreeIt_0 18 rfl rfl)
theorem dX3_agreeIt_21 : decode cX3_agreeIt 21 = .ok (.ireturn, 1) := dk_172 (dk_at dksX3_agreeIt_0 21 rfl rfl)
theorem dX3_agreeIt_22 : decode cX3_agreeIt 22 = .ok (.iload_n 1, 1) := dk_27 (dk_at dksX3_agreeIt_0 22 rfl rfl)
theorem dX3_agreeIt_23 : decode cX3_agreeIt 23 = .ok (.iload_n 2, 1) := dk_28 (dk_at dksX3_agreeIt_0 23 rfl rfl)
theorem dX3_agreeIt_24 : decode cX3_agreeIt 24 = .ok (.if_icmp .eq 25, 3) := dk_159 0 25 (dk_at dksX3_agreeIt_1 0 rfl rfl)
theorem dX3_agreeIt_27 : decode cX3_agreeIt 27 = .ok (.iload_n 3, 1) := dk_29 (dk_at dksX3_agreeIt_1 3 rfl rfl)
theorem dX3_agreeIt_28 : decode cX3_agreeIt 28 = .ok (.iload 4, 2) := dk_21 4 (dk_at dksX3_agreeIt_1 4 rfl rfl)
theorem dX3_agreeIt_30 : decode cX3_agreeIt 30 = .ok (.invokestatic 99, 3) := dk_184 0 99 (dk_at dksX3_agreeIt_1 6 rfl rfl)
theorem dX3_agreeIt_33 : decode cX3_agreeIt 33 = .ok (.ifCond .eq 16, 3) := dk_153 0 16 (dk_at dksX3_agreeIt_1 9 rfl rfl)
theorem dX3_agreeIt_36 : decode cX3_agreeIt 36 = .ok (.iload 5, 2) := dk_21 5 (dk_at dksX3_agreeIt_1 12 rfl rfl)
theorem dX3_agreeIt_38 : decode cX3_agreeIt 38 = .ok (.i2l, 1) := dk_133 (dk_at dksX3_agreeIt_1 14 rfl rfl)
theorem dX3_agreeIt_39 : decode cX3_agreeIt 39 = .ok (.lconst 1, 1) := dk_10 (dk_at dksX3_agreeIt_1 15 rfl rfl)
theorem dX3_agreeIt_40 : decode cX3_agreeIt 40 = .ok (.ldc2_w 59, 3) := dk_20 0 59 (dk_at dksX3_agreeIt_1 16 rfl rfl)
theorem dX3_agreeIt_43 : decode cX3_agreeIt 43 = .ok (.invokestatic 51, 3) := dk_184 0 51 (dk_at dksX3_agreeIt_1 19 rfl rfl)
theorem dX3_agreeIt_46 : decode cX3_agreeIt 46 = .ok (.ifCond .ne 9, 3) := dk_154 0 9 (dk_at dksX3_agreeIt_2 0 rfl rfl)
theorem dX3_agreeIt_49 : decode cX3_agreeIt 49 = .ok (.aload_n 0, 1) := dk_42 (dk_at dksX3_agreeIt_2 3 rfl rfl)
theorem dX3_agreeIt_50 : decode cX3_agreeIt 50 = .ok (.iconst 2, 1) := dk_5 (dk_at dksX3_agreeIt_2 4 rfl rfl)
theorem dX3_agreeIt_51 : decode cX3_agreeIt 51 = .ok (.invokevirtual 75, 3) := dk_182 0 75 (dk_at dksX3_agreeIt_2 5 rfl rfl)
theorem dX3_agreeIt_54 : decode cX3_agreeIt 54 = .ok (.ireturn, 1) := dk_172 (dk_at dksX3_agreeIt_2 8 rfl rfl)
theorem dX3_agreeIt_55 : decode cX3_agreeIt 55 = .ok (.aload_n 0, 1) := dk_42 (dk_at dksX3_agreeIt_2 9 rfl rfl)
theorem dX3_agreeIt_56 : decode cX3_agreeIt 56 = .ok (.getfield 9, 3) := dk_180 0 9 (dk_at dksX3_agreeIt_2 10 rfl rfl)
theorem dX3_agreeIt_59 : decode cX3_agreeIt 59 = .ok (.iconst 3, 1) := dk_6 (dk_at dksX3_agreeIt_2 13 rfl rfl)
theorem dX3_agreeIt_60 : decode cX3_agreeIt 60 = .ok (.iaload, 1) := dk_46 (dk_at dksX3_agreeIt_2 14 rfl rfl)
theorem dX3_agreeIt_61 : decode cX3_agreeIt 61 = .ok (.bipush 8, 2) := dk_16 8 (dk_at dksX3_agreeIt_2 15 rfl rfl)
theorem dX3_agreeIt_63 : decode cX3_agreeIt 63 = .ok (.if_icmp .ne 9, 3) := dk_160 0 9 (dk_at dksX3_agreeIt_2 17 rfl rfl)
theorem dX3_agreeIt_66 : decode cX3_agreeIt 66 = .ok (.aload_n 0, 1) := dk_42 (dk_at dksX3_agreeIt_2 20 rfl rfl)
theorem dX3_agreeIt_67 : decode cX3_agreeIt 67 = .ok (.iconst 3, 1) := dk_6 (dk_at dksX3_agreeIt_2 21 rfl rfl)
theorem dX3_agreeIt_68 : decode cX3_agreeIt 68 = .ok (.invokevirtual 75, 3) := dk_182 0 75 (dk_at dksX3_agreeIt_3 0 rfl rfl)
theorem dX3_agreeIt_71 : decode cX3_agreeIt 71 = .ok (.ireturn, 1) := dk_172 (dk_at dksX3_agreeIt_3 3 rfl rfl)
theorem dX3_agreeIt_72 : decode cX3_agreeIt 72 = .ok (.aload_n 0, 1) := dk_42 (dk_at dksX3_agreeIt_3 4 rfl rfl)
theorem dX3_agreeIt_73 : decode cX3_agreeIt 73 = .ok (.getfield 9, 3) := dk_180 0 9 (dk_at dksX3_agreeIt_3 5 rfl rfl)
theorem dX3_agreeIt_76 : decode cX3_agreeIt 76 = .ok (.iconst 3, 1) := dk_6 (dk_at dksX3_agreeIt_3 8 rfl rfl)
theorem dX3_agreeIt_77 : decode cX3_agreeIt 77 = .ok (.iaload, 1) := dk_46 (dk_at dksX3_agreeIt_3 9 rfl rfl)
theorem dX3_agreeIt_78 : decode cX3_agreeIt 78 = .ok (.invokestatic 130, 3) := dk_184 0 130 (dk_at dksX3_agreeIt_3 10 rfl rfl)
theorem dX3_agreeIt_81 : decode cX3_agreeIt 81 = .ok (.istore 6, 2) := dk_54 6 (dk_at dksX3_agreeIt_3 13 rfl rfl)
theorem dX3_agreeIt_83 : decode cX3_agreeIt 83 = .ok (.aload_n 0, 1) := dk_42 (dk_at dksX3_agreeIt_3 15 rfl rfl)
theorem dX3_agreeIt_84 : decode cX3_agreeIt 84 = .ok (.getfield 9, 3) := dk_180 0 9 (dk_at dksX3_agreeIt_3 16 rfl rfl)
theorem dX3_agreeIt_87 : decode cX3_agreeIt 87 = .ok (.iload 6, 2) := dk_21 6 (dk_at dksX3_agreeIt_3 19 rfl rfl)
theorem dX3_agreeIt_89 : decode cX3_agreeIt 89 = .ok (.iload_n 1, 1) := dk_27 (dk_at dksX3_agreeIt_3 21 rfl rfl)
theorem dX3_agreeIt_90 : decode cX3_agreeIt 90 = .ok (.iastore, 1) := dk_79 (dk_at dksX3_agreeIt_3 22 rfl rfl)
theorem dX3_agreeIt_91 : decode cX3_agreeIt 91 = .ok (.aload_n 0, 1) := dk_42 (dk_at dksX3_agreeIt_3 23 rfl rfl)
theorem dX3_agreeIt_92 : decode cX3_agreeIt 92 = .ok (.getfield 9, 3) := dk_180 0 9 (dk_at dksX3_agreeIt_4 0 rfl rfl)
theorem dX3_agreeIt_95 : decode cX3_agreeIt 95 = .ok (.iload 6, 2) := dk_21 6 (dk_at dksX3_agreeIt_4 3 rfl rfl)
theorem dX3_agreeIt_97 : decode cX3_agreeIt 97 = .ok (.iconst 1, 1) := dk_4 (dk_at dksX3_agreeIt_4 5 rfl rfl)
theorem dX3_agreeIt_98 : decode cX3_agreeIt 98 = .ok (.iadd, 1) := dk_96 (dk_at dksX3_agreeIt_4 6 rfl rfl)
theorem dX3_agreeIt_99 : decode cX3_agreeIt 99 = .ok (.iload_n 2, 1) := dk_28 (dk_at dksX3_agreeIt_4 7 rfl rfl)
theorem dX3_agreeIt_100 : decode cX3_agreeIt 100 = .ok (.iastore, 1) := dk_79 (dk_at dksX3_agreeIt_4 8 rfl rfl)
theorem dX3_agreeIt_101 : decode cX3_agreeIt 101 = .ok (.aload_n 0, 1) := dk_42 (dk_at dksX3_agreeIt_4 9 rfl rfl)
theorem dX3_agreeIt_102 : decode cX3_agreeIt 102 = .ok (.getfield 9, 3) := dk_180 0 9 (dk_at dksX3_agreeIt_4 10 rfl rfl)
theorem dX3_agreeIt_105 : decode cX3_agreeIt 105 = .ok (.iload 6, 2) := dk_21 6 (dk_at dksX3_agreeIt_4 13 rfl rfl)
theorem dX3_agreeIt_107 : decode cX3_agreeIt 107 = .ok (.iconst 2, 1) := dk_5 (dk_at dksX3_agreeIt_4 15 rfl rfl)
theorem dX3_agreeIt_108 : decode cX3_agreeIt 108 = .ok (.iadd, 1) := dk_96 (dk_at dksX3_agreeIt_4 16 rfl rfl)
theorem dX3_agreeIt_109 : decode cX3_agreeIt 109 = .ok (.iload_n 3, 1) := dk_29 (dk_at dksX3_agreeIt_4 17 rfl rfl)
theorem dX3_agreeIt_110 : decode cX3_agreeIt 110 = .ok (.iastore, 1) := dk_79 (dk_at dksX3_agreeIt_4 18 rfl rfl)
theorem dX3_agreeIt_111 : decode cX3_agreeIt 111 = .ok (.aload_n 0, 1) := dk_42 (dk_at dksX3_agreeIt_4 19 rfl rfl)
theorem dX3_agreeIt_112 : decode cX3_agreeIt 112 = .ok (.getfield 9, 3) := dk_180 0 9 (dk_at dksX3_agreeIt_4 20 rfl rfl)
theorem dX3_agreeIt_115 : decode cX3_agreeIt 115 = .ok (.iload 6, 2) := dk_21 6 (dk_at dksX3_agreeIt_5 0 rfl rfl)
theorem dX3_agreeIt_117 : decode cX3_agreeIt 117 = .ok (.iconst 3, 1) := dk_6 (dk_at dksX3_agreeIt_5 2 rfl rfl)
theorem dX3_agreeIt_118 : decode cX3_agreeIt 118 = .ok (.iadd, 1) := dk_96 (dk_at dksX3_agreeIt_5 3 rfl rfl)
theorem dX3_agreeIt_119 : decode cX3_agreeIt 119 = .ok (.iload 4, 2) := dk_21 4 (dk_at dksX3_agreeIt_5 4 rfl rfl)
theorem dX3_agreeIt_121 : decode cX3_agreeIt 121 = .ok (.iastore, 1) := dk_79 (dk_at dksX3_agreeIt_5 6 rfl rfl)
theorem dX3_agreeIt_122 : decode cX3_agreeIt 122 = .ok (.aload_n 0, 1) := dk_42 (dk_at dksX3_agreeIt_5 7 rfl rfl)
theorem dX3_agreeIt_123 : decode cX3_agreeIt 123 = .ok (.getfield 9, 3) := dk_180 0 9 (dk_at dksX3_agreeIt_5 8 rfl rfl)
theorem dX3_agreeIt_126 : decode cX3_agreeIt 126 = .ok (.iload 6, 2) := dk_21 6 (dk_at dksX3_agreeIt_5 11 rfl rfl)
theorem dX3_agreeIt_128 : decode cX3_agreeIt 128 = .ok (.iconst 4, 1) := dk_7 (dk_at dksX3_agreeIt_5 13 rfl rfl)
theorem dX3_agreeIt_129 : decode cX3_agreeIt 129 = .ok (.iadd, 1) := dk_96 (dk_at dksX3_agreeIt_5 14 rfl rfl)
theorem dX3_agreeIt_130 : decode cX3_agreeIt 130 = .ok (.aload_n 0, 1) := dk_42 (dk_at dksX3_agreeIt_5 15 rfl rfl)
theorem dX3_agreeIt_131 : decode cX3_agreeIt 131 = .ok (.getfield 9, 3) := dk_180 0 9 (dk_at dksX3_agreeIt_5 16 rfl rfl)
theorem dX3_agreeIt_134 : decode cX3_agreeIt 134 = .ok (.iconst 4, 1) := dk_7 (dk_at dksX3_agreeIt_5 19 rfl rfl)
theorem dX3_agreeIt_135 : decode cX3_agreeIt 135 = .ok (.iaload, 1) := dk_46 (dk_at dksX3_agreeIt_5 20 rfl rfl)
theorem dX3_agreeIt_136 : decode cX3_agreeIt 136 = .ok (.iload 5, 2) := dk_21 5 (dk_at dksX3_agreeIt_5 21 rfl rfl)
theorem dX3_agreeIt_138 : decode cX3_agreeIt 138 = .ok (.iadd, 1) := dk_96 (dk_at dksX3_agreeIt_5 23 rfl rfl)
theorem dX3_agreeIt_139 : decode cX3_agreeIt 139 = .ok (.iastore, 1) := dk_79 (dk_at dksX3_agreeIt_6 0 rfl rfl)
theorem dX3_agreeIt_140 : decode cX3_agreeIt 140 = .ok (.aload_n 0, 1) := dk_42 (dk_at dksX3_agreeIt_6 1 rfl rfl)
theorem dX3_agreeIt_141 : decode cX3_agreeIt 141 = .ok (.getfield 9, 3) := dk_180 0 9 (dk_at dksX3_agreeIt_6 2 rfl rfl)
theorem dX3_agreeIt_144 : decode cX3_agreeIt 144 = .ok (.iconst 3, 1) := dk_6 (dk_at dksX3_agreeIt_6 5 rfl rfl)
theorem dX3_agreeIt_145 : decode cX3_agreeIt 145 = .ok (.dup2, 1) := dk_92 (dk_at dksX3_agreeIt_6 6 rfl rfl)
theorem dX3_agreeIt_146 : decode cX3_agreeIt 146 = .ok (.iaload, 1) := dk_46 (dk_at dksX3_agreeIt_6 7 rfl rfl)
theorem dX3_agreeIt_147 : decode cX3_agreeIt 147 = .ok (.iconst 1, 1) := dk_4 (dk_at dksX3_agreeIt_6 8 rfl rfl)
theorem dX3_agreeIt_148 : decode cX3_agreeIt 148 = .ok (.iadd, 1) := dk_96 (dk_at dksX3_agreeIt_6 9 rfl rfl)
theorem dX3_agreeIt_149 : decode cX3_agreeIt 149 = .ok (.iastore, 1) := dk_79 (dk_at dksX3_agreeIt_6 10 rfl rfl)
theorem dX3_agreeIt_150 : decode cX3_agreeIt 150 = .ok (.aload_n 0, 1) := dk_42 (dk_at dksX3_agreeIt_6 11 rfl rfl)
theorem dX3_agreeIt_151 : decode cX3_agreeIt 151 = .ok (.getfield 9, 3) := dk_180 0 9 (dk_at dksX3_agreeIt_6 12 rfl rfl)
theorem dX3_agreeIt_154 : decode cX3_agreeIt 154 = .ok (.iconst 3, 1) := dk_6 (dk_at dksX3_agreeIt_6 15 rfl rfl)
theorem dX3_agreeIt_155 : decode cX3_agreeIt 155 = .ok (.iaload, 1) := dk_46 (dk_at dksX3_agreeIt_6 16 rfl rfl)
theorem dX3_agreeIt_156 : decode cX3_agreeIt 156 = .ok (.iconst 1, 1) := dk_4 (dk_at dksX3_agreeIt_6 17 rfl rfl)
theorem dX3_agreeIt_157 : decode cX3_agreeIt 157 = .ok (.isub, 1) := dk_100 (dk_at dksX3_agreeIt_6 18 rfl rfl)
theorem dX3_agreeIt_158 : decode cX3_agreeIt 158 = .ok (.ireturn, 1) := dk_172 (dk_at dksX3_agreeIt_6 19 rfl rfl)
abbrev cX3_contractAt : ByteArray := prog_15_method_9_code
def yX3_contractAt : MethodName := ⟨RX3, "contractAt", "(I)I"⟩
def dkwX3_contractAt_0 : List UInt8 := [16, 115, 8, 26, 104, 96, 172]
abbrev dktX3_contractAt_0 : List UInt8 := dkwX3_contractAt_0 ++ []
theorem dksX3_contractAt_0 : cX3_contractAt.data.toList.drop 0 = dktX3_contractAt_0 := by decide +kernel
theorem dX3_contractAt_0 : decode cX3_contractAt 0 = .ok (.bipush 115, 2) := dk_16 115 (dk_at dksX3_contractAt_0 0 rfl rfl)
theorem dX3_contractAt_2 : decode cX3_contractAt 2 = .ok (.iconst 5, 1) := dk_8 (dk_at dksX3_contractAt_0 2 rfl rfl)
theorem dX3_contractAt_3 : decode cX3_contractAt 3 = .ok (.iload_n 0, 1) := dk_26 (dk_at dksX3_contractAt_0 3 rfl rfl)
theorem dX3_contractAt_4 : decode cX3_contractAt 4 = .ok (.imul, 1) := dk_104 (dk_at dksX3_contractAt_0 4 rfl rfl)
theorem dX3_contractAt_5 : decode cX3_contractAt 5 = .ok (.iadd, 1) := dk_96 (dk_at dksX3_contractAt_0 5 rfl rfl)
theorem dX3_contractAt_6 : decode cX3_contractAt 6 = .ok (.ireturn, 1) := dk_172 (dk_at dksX3_contractAt_0 6 rfl rfl)
abbrev cX3_advance : ByteArray := prog_15_method_33_code
def yX3_advance : MethodName := ⟨RX3, "advance", "(I)I"⟩
def dkwX3_advance_0 : List UInt8 := [42, 182, 0, 81, 42, 42, 27, 182, 0, 146, 182, 0, 88, 172]
abbrev dktX3_advance_0 : List UInt8 := dkwX3_advance_0 ++ []
theorem dksX3_advance_0 : cX3_advance.data.toList.drop 0 = dktX3_advance_0 := by decide +kernel
theorem dX3_advance_0 : decode cX3_advance 0 = .ok (.aload_n 0, 1) := dk_42 (dk_at dksX3_advance_0 0 rfl rfl)
theorem dX3_advance_1 : decode cX3_advance 1 = .ok (.invokevirtual 81, 3) := dk_182 0 81 (dk_at dksX3_advance_0 1 rfl rfl)
theorem dX3_advance_4 : decode cX3_advance 4 = .ok (.aload_n 0, 1) := dk_42 (dk_at dksX3_advance_0 4 rfl rfl)
theorem dX3_advance_5 : decode cX3_advance 5 = .ok (.aload_n 0, 1) := dk_42 (dk_at dksX3_advance_0 5 rfl rfl)
theorem dX3_advance_6 : decode cX3_advance 6 = .ok (.iload_n 1, 1) := dk_27 (dk_at dksX3_advance_0 6 rfl rfl)
theorem dX3_advance_7 : decode cX3_advance 7 = .ok (.invokevirtual 146, 3) := dk_182 0 146 (dk_at dksX3_advance_0 7 rfl rfl)
theorem dX3_advance_10 : decode cX3_advance 10 = .ok (.invokevirtual 88, 3) := dk_182 0 88 (dk_at dksX3_advance_0 10 rfl rfl)
theorem dX3_advance_13 : decode cX3_advance 13 = .ok (.ireturn, 1) := dk_172 (dk_at dksX3_advance_0 13 rfl rfl)
abbrev cX3_advanceIt : ByteArray := prog_15_method_32_code
def yX3_advanceIt : MethodName := ⟨RX3, "advanceIt", "(I)I"⟩
def dkwX3_advanceIt_4 : List UInt8 := [132, 3, 1, 167, 255, 188, 42, 180, 0, 9, 16, 8, 46, 28, 100, 172]
abbrev dktX3_advanceIt_4 : List UInt8 := dkwX3_advanceIt_4 ++ []
def dkwX3_advanceIt_3 : List UInt8 := [180, 0, 9, 7, 46, 160, 0, 12, 42, 21, 4, 182, 0, 143, 167, 255, 218, 132, 4, 1, 167, 255, 212]
abbrev dktX3_advanceIt_3 : List UInt8 := dkwX3_advanceIt_3 ++ dktX3_advanceIt_4
def dkwX3_advanceIt_2 : List UInt8 := [42, 180, 0, 9, 6, 46, 162, 0, 39, 42, 180, 0, 9, 21, 4, 184, 0, 130, 7, 96, 46, 42]
abbrev dktX3_advanceIt_2 : List UInt8 := dkwX3_advanceIt_2 ++ dktX3_advanceIt_3
def dkwX3_advanceIt_1 : List UInt8 := [46, 61, 3, 62, 29, 27, 162, 0, 69, 42, 180, 0, 9, 7, 92, 46, 4, 96, 79, 3, 54, 4, 21, 4]
abbrev dktX3_advanceIt_1 : List UInt8 := dkwX3_advanceIt_1 ++ dktX3_advanceIt_2
def dkwX3_advanceIt_0 : List UInt8 := [27, 133, 10, 20, 0, 59, 184, 0, 51, 154, 0, 9, 42, 4, 182, 0, 75, 172, 42, 180, 0, 9, 16, 8]
abbrev dktX3_advanceIt_0 : List UInt8 := dkwX3_advanceIt_0 ++ dktX3_advanceIt_1
theorem dksX3_advanceIt_0 : cX3_advanceIt.data.toList.drop 0 = dktX3_advanceIt_0 := by decide +kernel
theorem dksX3_advanceIt_1 : cX3_advanceIt.data.toList.drop 24 = dktX3_advanceIt_1 := dk_seg dksX3_advanceIt_0 24 rfl rfl
theorem dksX3_advanceIt_2 : cX3_advanceIt.data.toList.drop 48 = dktX3_advanceIt_2 := dk_seg dksX3_advanceIt_1 24 rfl rfl
theorem dksX3_advanceIt_3 : cX3_advanceIt.data.toList.drop 70 = dktX3_advanceIt_3 := dk_seg dksX3_advanceIt_2 22 rfl rfl
theorem dksX3_advanceIt_4 : cX3_advanceIt.data.toList.drop 93 = dktX3_advanceIt_4 := dk_seg dksX3_advanceIt_3 23 rfl rfl
theorem dX3_advanceIt_0 : decode cX3_advanceIt 0 = .ok (.iload_n 1, 1) := dk_27 (dk_at dksX3_advanceIt_0 0 rfl rfl)
theorem dX3_advanceIt_1 : decode cX3_advanceIt 1 = .ok (.i2l, 1) := dk_133 (dk_at dksX3_advanceIt_0 1 rfl rfl)
theorem dX3_advanceIt_2 : decode cX3_advanceIt 2 = .ok (.lconst 1, 1) := dk_10 (dk_at dksX3_advanceIt_0 2 rfl rfl)
theorem dX3_advanceIt_3 : decode cX3_advanceIt 3 = .ok (.ldc2_w 59, 3) := dk_20 0 59 (dk_at dksX3_advanceIt_0 3 rfl rfl)
theorem dX3_advanceIt_6 : decode cX3_advanceIt 6 = .ok (.invokestatic 51, 3) := dk_184 0 51 (dk_at dksX3_advanceIt_0 6 rfl rfl)
theorem dX3_advanceIt_9 : decode cX3_advanceIt 9 = .ok (.ifCond .ne 9, 3) := dk_154 0 9 (dk_at dksX3_advanceIt_0 9 rfl rfl)
theorem dX3_advanceIt_12 : decode cX3_advanceIt 12 = .ok (.aload_n 0, 1) := dk_42 (dk_at dksX3_advanceIt_0 12 rfl rfl)
theorem dX3_advanceIt_13 : decode cX3_advanceIt 13 = .ok (.iconst 1, 1) := dk_4 (dk_at dksX3_advanceIt_0 13 rfl rfl)
theorem dX3_advanceIt_14 : decode cX3_advanceIt 14 = .ok (.invokevirtual 75, 3) := dk_182 0 75 (dk_at dksX3_advanceIt_0 14 rfl rfl)
theorem dX3_advanceIt_17 : decode cX3_advanceIt 17 = .ok (.ireturn, 1) := dk_172 (dk_at dksX3_advanceIt_0 17 rfl rfl)
theorem dX3_advanceIt_18 : decode cX3_advanceIt 18 = .ok (.aload_n 0, 1) := dk_42 (dk_at dksX3_advanceIt_0 18 rfl rfl)
theorem dX3_advanceIt_19 : decode cX3_advanceIt 19 = .ok (.getfield 9, 3) := dk_180 0 9 (dk_at dksX3_advanceIt_0 19 rfl rfl)
theorem dX3_advanceIt_22 : decode cX3_advanceIt 22 = .ok (.bipush 8, 2) := dk_16 8 (dk_at dksX3_advanceIt_0 22 rfl rfl)
theorem dX3_advanceIt_24 : decode cX3_advanceIt 24 = .ok (.iaload, 1) := dk_46 (dk_at dksX3_advanceIt_1 0 rfl rfl)
theorem dX3_advanceIt_25 : decode cX3_advanceIt 25 = .ok (.istore_n 2, 1) := dk_61 (dk_at dksX3_advanceIt_1 1 rfl rfl)
theorem dX3_advanceIt_26 : decode cX3_advanceIt 26 = .ok (.iconst 0, 1) := dk_3 (dk_at dksX3_advanceIt_1 2 rfl rfl)
theorem dX3_advanceIt_27 : decode cX3_advanceIt 27 = .ok (.istore_n 3, 1) := dk_62 (dk_at dksX3_advanceIt_1 3 rfl rfl)
theorem dX3_advanceIt_28 : decode cX3_advanceIt 28 = .ok (.iload_n 3, 1) := dk_29 (dk_at dksX3_advanceIt_1 4 rfl rfl)
theorem dX3_advanceIt_29 : decode cX3_advanceIt 29 = .ok (.iload_n 1, 1) := dk_27 (dk_at dksX3_advanceIt_1 5 rfl rfl)
theorem dX3_advanceIt_30 : decode cX3_advanceIt 30 = .ok (.if_icmp .ge 69, 3) := dk_162 0 69 (dk_at dksX3_advanceIt_1 6 rfl rfl)
theorem dX3_advanceIt_33 : decode cX3_advanceIt 33 = .ok (.aload_n 0, 1) := dk_42 (dk_at dksX3_advanceIt_1 9 rfl rfl)
theorem dX3_advanceIt_34 : decode cX3_advanceIt 34 = .ok (.getfield 9, 3) := dk_180 0 9 (dk_at dksX3_advanceIt_1 10 rfl rfl)
theorem dX3_advanceIt_37 : decode cX3_advanceIt 37 = .ok (.iconst 4, 1) := dk_7 (dk_at dksX3_advanceIt_1 13 rfl rfl)
theorem dX3_advanceIt_38 : decode cX3_advanceIt 38 = .ok (.dup2, 1) := dk_92 (dk_at dksX3_advanceIt_1 14 rfl rfl)
theorem dX3_advanceIt_39 : decode cX3_advanceIt 39 = .ok (.iaload, 1) := dk_46 (dk_at dksX3_advanceIt_1 15 rfl rfl)
theorem dX3_advanceIt_40 : decode cX3_advanceIt 40 = .ok (.iconst 1, 1) := dk_4 (dk_at dksX3_advanceIt_1 16 rfl rfl)
theorem dX3_advanceIt_41 : decode cX3_advanceIt 41 = .ok (.iadd, 1) := dk_96 (dk_at dksX3_advanceIt_1 17 rfl rfl)
theorem dX3_advanceIt_42 : decode cX3_advanceIt 42 = .ok (.iastore, 1) := dk_79 (dk_at dksX3_advanceIt_1 18 rfl rfl)
theorem dX3_advanceIt_43 : decode cX3_advanceIt 43 = .ok (.iconst 0, 1) := dk_3 (dk_at dksX3_advanceIt_1 19 rfl rfl)
theorem dX3_advanceIt_44 : decode cX3_advanceIt 44 = .ok (.istore 4, 2) := dk_54 4 (dk_at dksX3_advanceIt_1 20 rfl rfl)
theorem dX3_advanceIt_46 : decode cX3_advanceIt 46 = .ok (.iload 4, 2) := dk_21 4 (dk_at dksX3_advanceIt_1 22 rfl rfl)
theorem dX3_advanceIt_48 : decode cX3_advanceIt 48 = .ok (.aload_n 0, 1) := dk_42 (dk_at dksX3_advanceIt_2 0 rfl rfl)
theorem dX3_advanceIt_49 : decode cX3_advanceIt 49 = .ok (.getfield 9, 3) := dk_180 0 9 (dk_at dksX3_advanceIt_2 1 rfl rfl)
theorem dX3_advanceIt_52 : decode cX3_advanceIt 52 = .ok (.iconst 3, 1) := dk_6 (dk_at dksX3_advanceIt_2 4 rfl rfl)
theorem dX3_advanceIt_53 : decode cX3_advanceIt 53 = .ok (.iaload, 1) := dk_46 (dk_at dksX3_advanceIt_2 5 rfl rfl)
theorem dX3_advanceIt_54 : decode cX3_advanceIt 54 = .ok (.if_icmp .ge 39, 3) := dk_162 0 39 (dk_at dksX3_advanceIt_2 6 rfl rfl)
theorem dX3_advanceIt_57 : decode cX3_advanceIt 57 = .ok (.aload_n 0, 1) := dk_42 (dk_at dksX3_advanceIt_2 9 rfl rfl)
theorem dX3_advanceIt_58 : decode cX3_advanceIt 58 = .ok (.getfield 9, 3) := dk_180 0 9 (dk_at dksX3_advanceIt_2 10 rfl rfl)
theorem dX3_advanceIt_61 : decode cX3_advanceIt 61 = .ok (.iload 4, 2) := dk_21 4 (dk_at dksX3_advanceIt_2 13 rfl rfl)
theorem dX3_advanceIt_63 : decode cX3_advanceIt 63 = .ok (.invokestatic 130, 3) := dk_184 0 130 (dk_at dksX3_advanceIt_2 15 rfl rfl)
theorem dX3_advanceIt_66 : decode cX3_advanceIt 66 = .ok (.iconst 4, 1) := dk_7 (dk_at dksX3_advanceIt_2 18 rfl rfl)
theorem dX3_advanceIt_67 : decode cX3_advanceIt 67 = .ok (.iadd, 1) := dk_96 (dk_at dksX3_advanceIt_2 19 rfl rfl)
theorem dX3_advanceIt_68 : decode cX3_advanceIt 68 = .ok (.iaload, 1) := dk_46 (dk_at dksX3_advanceIt_2 20 rfl rfl)
theorem dX3_advanceIt_69 : decode cX3_advanceIt 69 = .ok (.aload_n 0, 1) := dk_42 (dk_at dksX3_advanceIt_2 21 rfl rfl)
theorem dX3_advanceIt_70 : decode cX3_advanceIt 70 = .ok (.getfield 9, 3) := dk_180 0 9 (dk_at dksX3_advanceIt_3 0 rfl rfl)
theorem dX3_advanceIt_73 : decode cX3_advanceIt 73 = .ok (.iconst 4, 1) := dk_7 (dk_at dksX3_advanceIt_3 3 rfl rfl)
theorem dX3_advanceIt_74 : decode cX3_advanceIt 74 = .ok (.iaload, 1) := dk_46 (dk_at dksX3_advanceIt_3 4 rfl rfl)
theorem dX3_advanceIt_75 : decode cX3_advanceIt 75 = .ok (.if_icmp .ne 12, 3) := dk_160 0 12 (dk_at dksX3_advanceIt_3 5 rfl rfl)
theorem dX3_advanceIt_78 : decode cX3_advanceIt 78 = .ok (.aload_n 0, 1) := dk_42 (dk_at dksX3_advanceIt_3 8 rfl rfl)
theorem dX3_advanceIt_79 : decode cX3_advanceIt 79 = .ok (.iload 4, 2) := dk_21 4 (dk_at dksX3_advanceIt_3 9 rfl rfl)
theorem dX3_advanceIt_81 : decode cX3_advanceIt 81 = .ok (.invokevirtual 143, 3) := dk_182 0 143 (dk_at dksX3_advanceIt_3 11 rfl rfl)
theorem dX3_advanceIt_84 : decode cX3_advanceIt 84 = .ok (.goto (-38), 3) := dk_167 255 218 (dk_at dksX3_advanceIt_3 14 rfl rfl)
theorem dX3_advanceIt_87 : decode cX3_advanceIt 87 = .ok (.iinc 4 1, 3) := dk_132 4 1 (dk_at dksX3_advanceIt_3 17 rfl rfl)
theorem dX3_advanceIt_90 : decode cX3_advanceIt 90 = .ok (.goto (-44), 3) := dk_167 255 212 (dk_at dksX3_advanceIt_3 20 rfl rfl)
theorem dX3_advanceIt_93 : decode cX3_advanceIt 93 = .ok (.iinc 3 1, 3) := dk_132 3 1 (dk_at dksX3_advanceIt_4 0 rfl rfl)
theorem dX3_advanceIt_96 : decode cX3_advanceIt 96 = .ok (.goto (-68), 3) := dk_167 255 188 (dk_at dksX3_advanceIt_4 3 rfl rfl)
theorem dX3_advanceIt_99 : decode cX3_advanceIt 99 = .ok (.aload_n 0, 1) := dk_42 (dk_at dksX3_advanceIt_4 6 rfl rfl)
theorem dX3_advanceIt_100 : decode cX3_advanceIt 100 = .ok (.getfield 9, 3) := dk_180 0 9 (dk_at dksX3_advanceIt_4 7 rfl rfl)
theorem dX3_advanceIt_103 : decode cX3_advanceIt 103 = .ok (.bipush 8, 2) := dk_16 8 (dk_at dksX3_advanceIt_4 10 rfl rfl)
theorem dX3_advanceIt_105 : decode cX3_advanceIt 105 = .ok (.iaload, 1) := dk_46 (dk_at dksX3_advanceIt_4 12 rfl rfl)
theorem dX3_advanceIt_106 : decode cX3_advanceIt 106 = .ok (.iload_n 2, 1) := dk_28 (dk_at dksX3_advanceIt_4 13 rfl rfl)
theorem dX3_advanceIt_107 : decode cX3_advanceIt 107 = .ok (.isub, 1) := dk_100 (dk_at dksX3_advanceIt_4 14 rfl rfl)
theorem dX3_advanceIt_108 : decode cX3_advanceIt 108 = .ok (.ireturn, 1) := dk_172 (dk_at dksX3_advanceIt_4 15 rfl rfl)
abbrev cX3_settles : ByteArray := prog_15_method_31_code
def yX3_settles : MethodName := ⟨RX3, "settles", "(I)V"⟩
def dkwX3_settles_9 : List UInt8 := [21, 8, 3, 79, 132, 8, 1, 167, 255, 237, 42, 180, 0, 9, 6, 92, 46, 4, 100, 79, 177]
abbrev dktX3_settles_9 : List UInt8 := dkwX3_settles_9 ++ []
def dkwX3_settles_8 : List UInt8 := [132, 8, 1, 167, 255, 229, 17, 0, 150, 54, 8, 21, 8, 17, 0, 155, 162, 0, 17, 42, 180, 0, 9]
abbrev dktX3_settles_8 : List UInt8 := dkwX3_settles_8 ++ dktX3_settles_9
def dkwX3_settles_7 : List UInt8 := [17, 0, 150, 162, 0, 25, 42, 180, 0, 9, 21, 8, 42, 180, 0, 9, 21, 8, 8, 96, 46, 79]
abbrev dktX3_settles_7 : List UInt8 := dkwX3_settles_7 ++ dktX3_settles_8
def dkwX3_settles_6 : List UInt8 := [167, 0, 4, 3, 96, 79, 42, 180, 0, 9, 16, 8, 92, 46, 4, 96, 79, 28, 54, 8, 21, 8]
abbrev dktX3_settles_6 : List UInt8 := dkwX3_settles_6 ++ dktX3_settles_7
def dkwX3_settles_5 : List UInt8 := [92, 46, 21, 7, 96, 79, 42, 180, 0, 9, 16, 9, 92, 46, 21, 7, 21, 6, 162, 0, 7, 4]
abbrev dktX3_settles_5 : List UInt8 := dkwX3_settles_5 ++ dktX3_settles_6
def dkwX3_settles_4 : List UInt8 := [46, 184, 0, 111, 54, 7, 42, 180, 0, 9, 21, 4, 92, 46, 21, 7, 100, 79, 42, 180, 0, 9, 21, 5]
abbrev dktX3_settles_4 : List UInt8 := dkwX3_settles_4 ++ dktX3_settles_5
def dkwX3_settles_3 : List UInt8 := [180, 0, 9, 28, 46, 184, 0, 78, 54, 5, 29, 184, 0, 140, 54, 6, 21, 6, 42, 180, 0, 9, 21, 4]
abbrev dktX3_settles_3 : List UInt8 := dkwX3_settles_3 ++ dktX3_settles_4
def dkwX3_settles_2 : List UInt8 := [4, 96, 46, 184, 0, 78, 54, 4, 29, 158, 0, 14, 42, 180, 0, 9, 28, 4, 96, 46, 167, 0, 9, 42]
abbrev dktX3_settles_2 : List UInt8 := dkwX3_settles_2 ++ dktX3_settles_3
def dkwX3_settles_1 : List UInt8 := [8, 46, 182, 0, 137, 62, 29, 158, 0, 12, 42, 180, 0, 9, 28, 46, 167, 0, 11, 42, 180, 0, 9, 28]
abbrev dktX3_settles_1 : List UInt8 := dkwX3_settles_1 ++ dktX3_settles_2
def dkwX3_settles_0 : List UInt8 := [27, 184, 0, 130, 61, 42, 180, 0, 9, 8, 46, 154, 0, 7, 3, 167, 0, 14, 42, 27, 42, 180, 0, 9]
abbrev dktX3_settles_0 : List UInt8 := dkwX3_settles_0 ++ dktX3_settles_1
theorem dksX3_settles_0 : cX3_settles.data.toList.drop 0 = dktX3_settles_0 := by decide +kernel
theorem dksX3_settles_1 : cX3_settles.data.toList.drop 24 = dktX3_settles_1 := dk_seg dksX3_settles_0 24 rfl rfl
theorem dksX3_settles_2 : cX3_settles.data.toList.drop 48 = dktX3_settles_2 := dk_seg dksX3_settles_1 24 rfl rfl
theorem dksX3_settles_3 : cX3_settles.data.toList.drop 72 = dktX3_settles_3 := dk_seg dksX3_settles_2 24 rfl rfl
theorem dksX3_settles_4 : cX3_settles.data.toList.drop 96 = dktX3_settles_4 := dk_seg dksX3_settles_3 24 rfl rfl
theorem dksX3_settles_5 : cX3_settles.data.toList.drop 120 = dktX3_settles_5 := dk_seg dksX3_settles_4 24 rfl rfl
theorem dksX3_settles_6 : cX3_settles.data.toList.drop 142 = dktX3_settles_6 := dk_seg dksX3_settles_5 22 rfl rfl
theorem dksX3_settles_7 : cX3_settles.data.toList.drop 164 = dktX3_settles_7 := dk_seg dksX3_settles_6 22 rfl rfl
theorem dksX3_settles_8 : cX3_settles.data.toList.drop 186 = dktX3_settles_8 := dk_seg dksX3_settles_7 22 rfl rfl
theorem dksX3_settles_9 : cX3_settles.data.toList.drop 209 = dktX3_settles_9 := dk_seg dksX3_settles_8 23 rfl rfl
theorem dX3_settles_0 : decode cX3_settles 0 = .ok (.iload_n 1, 1) := dk_27 (dk_at dksX3_settles_0 0 rfl rfl)
theorem dX3_settles_1 : decode cX3_settles 1 = .ok (.invokestatic 130, 3) := dk_184 0 130 (dk_at dksX3_settles_0 1 rfl rfl)
theorem dX3_settles_4 : decode cX3_settles 4 = .ok (.istore_n 2, 1) := dk_61 (dk_at dksX3_settles_0 4 rfl rfl)
theorem dX3_settles_5 : decode cX3_settles 5 = .ok (.aload_n 0, 1) := dk_42 (dk_at dksX3_settles_0 5 rfl rfl)
theorem dX3_settles_6 : decode cX3_settles 6 = .ok (.getfield 9, 3) := dk_180 0 9 (dk_at dksX3_settles_0 6 rfl rfl)
theorem dX3_settles_9 : decode cX3_settles 9 = .ok (.iconst 5, 1) := dk_8 (dk_at dksX3_settles_0 9 rfl rfl)
theorem dX3_settles_10 : decode cX3_settles 10 = .ok (.iaload, 1) := dk_46 (dk_at dksX3_settles_0 10 rfl rfl)
theorem dX3_settles_11 : decode cX3_settles 11 = .ok (.ifCond .ne 7, 3) := dk_154 0 7 (dk_at dksX3_settles_0 11 rfl rfl)
theorem dX3_settles_14 : decode cX3_settles 14 = .ok (.iconst 0, 1) := dk_3 (dk_at dksX3_settles_0 14 rfl rfl)
theorem dX3_settles_15 : decode cX3_settles 15 = .ok (.goto 14, 3) := dk_167 0 14 (dk_at dksX3_settles_0 15 rfl rfl)
theorem dX3_settles_18 : decode cX3_settles 18 = .ok (.aload_n 0, 1) := dk_42 (dk_at dksX3_settles_0 18 rfl rfl)
theorem dX3_settles_19 : decode cX3_settles 19 = .ok (.iload_n 1, 1) := dk_27 (dk_at dksX3_settles_0 19 rfl rfl)
theorem dX3_settles_20 : decode cX3_settles 20 = .ok (.aload_n 0, 1) := dk_42 (dk_at dksX3_settles_0 20 rfl rfl)
theorem dX3_settles_21 : decode cX3_settles 21 = .ok (.getfield 9, 3) := dk_180 0 9 (dk_at dksX3_settles_0 21 rfl rfl)
theorem dX3_settles_24 : decode cX3_settles 24 = .ok (.iconst 5, 1) := dk_8 (dk_at dksX3_settles_1 0 rfl rfl)
theorem dX3_settles_25 : decode cX3_settles 25 = .ok (.iaload, 1) := dk_46 (dk_at dksX3_settles_1 1 rfl rfl)
theorem dX3_settles_26 : decode cX3_settles 26 = .ok (.invokevirtual 137, 3) := dk_182 0 137 (dk_at dksX3_settles_1 2 rfl rfl)
theorem dX3_settles_29 : decode cX3_settles 29 = .ok (.istore_n 3, 1) := dk_62 (dk_at dksX3_settles_1 5 rfl rfl)
theorem dX3_settles_30 : decode cX3_settles 30 = .ok (.iload_n 3, 1) := dk_29 (dk_at dksX3_settles_1 6 rfl rfl)
theorem dX3_settles_31 : decode cX3_settles 31 = .ok (.ifCond .le 12, 3) := dk_158 0 12 (dk_at dksX3_settles_1 7 rfl rfl)
theorem dX3_settles_34 : decode cX3_settles 34 = .ok (.aload_n 0, 1) := dk_42 (dk_at dksX3_settles_1 10 rfl rfl)
theorem dX3_settles_35 : decode cX3_settles 35 = .ok (.getfield 9, 3) := dk_180 0 9 (dk_at dksX3_settles_1 11 rfl rfl)
theorem dX3_settles_38 : decode cX3_settles 38 = .ok (.iload_n 2, 1) := dk_28 (dk_at dksX3_settles_1 14 rfl rfl)
theorem dX3_settles_39 : decode cX3_settles 39 = .ok (.iaload, 1) := dk_46 (dk_at dksX3_settles_1 15 rfl rfl)
theorem dX3_settles_40 : decode cX3_settles 40 = .ok (.goto 11, 3) := dk_167 0 11 (dk_at dksX3_settles_1 16 rfl rfl)
theorem dX3_settles_43 : decode cX3_settles 43 = .ok (.aload_n 0, 1) := dk_42 (dk_at dksX3_settles_1 19 rfl rfl)
theorem dX3_settles_44 : decode cX3_settles 44 = .ok (.getfield 9, 3) := dk_180 0 9 (dk_at dksX3_settles_1 20 rfl rfl)
theorem dX3_settles_47 : decode cX3_settles 47 = .ok (.iload_n 2, 1) := dk_28 (dk_at dksX3_settles_1 23 rfl rfl)
theorem dX3_settles_48 : decode cX3_settles 48 = .ok (.iconst 1, 1) := dk_4 (dk_at dksX3_settles_2 0 rfl rfl)
theorem dX3_settles_49 : decode cX3_settles 49 = .ok (.iadd, 1) := dk_96 (dk_at dksX3_settles_2 1 rfl rfl)
theorem dX3_settles_50 : decode cX3_settles 50 = .ok (.iaload, 1) := dk_46 (dk_at dksX3_settles_2 2 rfl rfl)
theorem dX3_settles_51 : decode cX3_settles 51 = .ok (.invokestatic 78, 3) := dk_184 0 78 (dk_at dksX3_settles_2 3 rfl rfl)
theorem dX3_settles_54 : decode cX3_settles 54 = .ok (.istore 4, 2) := dk_54 4 (dk_at dksX3_settles_2 6 rfl rfl)
theorem dX3_settles_56 : decode cX3_settles 56 = .ok (.iload_n 3, 1) := dk_29 (dk_at dksX3_settles_2 8 rfl rfl)
theorem dX3_settles_57 : decode cX3_settles 57 = .ok (.ifCond .le 14, 3) := dk_158 0 14 (dk_at dksX3_settles_2 9 rfl rfl)
theorem dX3_settles_60 : decode cX3_settles 60 = .ok (.aload_n 0, 1) := dk_42 (dk_at dksX3_settles_2 12 rfl rfl)
theorem dX3_settles_61 : decode cX3_settles 61 = .ok (.getfield 9, 3) := dk_180 0 9 (dk_at dksX3_settles_2 13 rfl rfl)
theorem dX3_settles_64 : decode cX3_settles 64 = .ok (.iload_n 2, 1) := dk_28 (dk_at dksX3_settles_2 16 rfl rfl)
theorem dX3_settles_65 : decode cX3_settles 65 = .ok (.iconst 1, 1) := dk_4 (dk_at dksX3_settles_2 17 rfl rfl)
theorem dX3_settles_66 : decode cX3_settles 66 = .ok (.iadd, 1) := dk_96 (dk_at dksX3_settles_2 18 rfl rfl)
theorem dX3_settles_67 : decode cX3_settles 67 = .ok (.iaload, 1) := dk_46 (dk_at dksX3_settles_2 19 rfl rfl)
theorem dX3_settles_68 : decode cX3_settles 68 = .ok (.goto 9, 3) := dk_167 0 9 (dk_at dksX3_settles_2 20 rfl rfl)
theorem dX3_settles_71 : decode cX3_settles 71 = .ok (.aload_n 0, 1) := dk_42 (dk_at dksX3_settles_2 23 rfl rfl)
theorem dX3_settles_72 : decode cX3_settles 72 = .ok (.getfield 9, 3) := dk_180 0 9 (dk_at dksX3_settles_3 0 rfl rfl)
theorem dX3_settles_75 : decode cX3_settles 75 = .ok (.iload_n 2, 1) := dk_28 (dk_at dksX3_settles_3 3 rfl rfl)
theorem dX3_settles_76 : decode cX3_settles 76 = .ok (.iaload, 1) := dk_46 (dk_at dksX3_settles_3 4 rfl rfl)
theorem dX3_settles_77 : decode cX3_settles 77 = .ok (.invokestatic 78, 3) := dk_184 0 78 (dk_at dksX3_settles_3 5 rfl rfl)
theorem dX3_settles_80 : decode cX3_settles 80 = .ok (.istore 5, 2) := dk_54 5 (dk_at dksX3_settles_3 8 rfl rfl)
theorem dX3_settles_82 : decode cX3_settles 82 = .ok (.iload_n 3, 1) := dk_29 (dk_at dksX3_settles_3 10 rfl rfl)
theorem dX3_settles_83 : decode cX3_settles 83 = .ok (.invokestatic 140, 3) := dk_184 0 140 (dk_at dksX3_settles_3 11 rfl rfl)
theorem dX3_settles_86 : decode cX3_settles 86 = .ok (.istore 6, 2) := dk_54 6 (dk_at dksX3_settles_3 14 rfl rfl)
theorem dX3_settles_88 : decode cX3_settles 88 = .ok (.iload 6, 2) := dk_21 6 (dk_at dksX3_settles_3 16 rfl rfl)
theorem dX3_settles_90 : decode cX3_settles 90 = .ok (.aload_n 0, 1) := dk_42 (dk_at dksX3_settles_3 18 rfl rfl)
theorem dX3_settles_91 : decode cX3_settles 91 = .ok (.getfield 9, 3) := dk_180 0 9 (dk_at dksX3_settles_3 19 rfl rfl)
theorem dX3_settles_94 : decode cX3_settles 94 = .ok (.iload 4, 2) := dk_21 4 (dk_at dksX3_settles_3 22 rfl rfl)
theorem dX3_settles_96 : decode cX3_settles 96 = .ok (.iaload, 1) := dk_46 (dk_at dksX3_settles_4 0 rfl rfl)
theorem dX3_settles_97 : decode cX3_settles 97 = .ok (.invokestatic 111, 3) := dk_184 0 111 (dk_at dksX3_settles_4 1 rfl rfl)
theorem dX3_settles_100 : decode cX3_settles 100 = .ok (.istore 7, 2) := dk_54 7 (dk_at dksX3_settles_4 4 rfl rfl)
theorem dX3_settles_102 : decode cX3_settles 102 = .ok (.aload_n 0, 1) := dk_42 (dk_at dksX3_settles_4 6 rfl rfl)
theorem dX3_settles_103 : decode cX3_settles 103 = .ok (.getfield 9, 3) := dk_180 0 9 (dk_at dksX3_settles_4 7 rfl rfl)
theorem dX3_settles_106 : decode cX3_settles 106 = .ok (.iload 4, 2) := dk_21 4 (dk_at dksX3_settles_4 10 rfl rfl)
theorem dX3_settles_108 : decode cX3_settles 108 = .ok (.dup2, 1) := dk_92 (dk_at dksX3_settles_4 12 rfl rfl)
theorem dX3_settles_109 : decode cX3_settles 109 = .ok (.iaload, 1) := dk_46 (dk_at dksX3_settles_4 13 rfl rfl)
theorem dX3_settles_110 : decode cX3_settles 110 = .ok (.iload 7, 2) := dk_21 7 (dk_at dksX3_settles_4 14 rfl rfl)
theorem dX3_settles_112 : decode cX3_settles 112 = .ok (.isub, 1) := dk_100 (dk_at dksX3_settles_4 16 rfl rfl)
theorem dX3_settles_113 : decode cX3_settles 113 = .ok (.iastore, 1) := dk_79 (dk_at dksX3_settles_4 17 rfl rfl)
theorem dX3_settles_114 : decode cX3_settles 114 = .ok (.aload_n 0, 1) := dk_42 (dk_at dksX3_settles_4 18 rfl rfl)
theorem dX3_settles_115 : decode cX3_settles 115 = .ok (.getfield 9, 3) := dk_180 0 9 (dk_at dksX3_settles_4 19 rfl rfl)
theorem dX3_settles_118 : decode cX3_settles 118 = .ok (.iload 5, 2) := dk_21 5 (dk_at dksX3_settles_4 22 rfl rfl)
theorem dX3_settles_120 : decode cX3_settles 120 = .ok (.dup2, 1) := dk_92 (dk_at dksX3_settles_5 0 rfl rfl)
theorem dX3_settles_121 : decode cX3_settles 121 = .ok (.iaload, 1) := dk_46 (dk_at dksX3_settles_5 1 rfl rfl)
theorem dX3_settles_122 : decode cX3_settles 122 = .ok (.iload 7, 2) := dk_21 7 (dk_at dksX3_settles_5 2 rfl rfl)
theorem dX3_settles_124 : decode cX3_settles 124 = .ok (.iadd, 1) := dk_96 (dk_at dksX3_settles_5 4 rfl rfl)
theorem dX3_settles_125 : decode cX3_settles 125 = .ok (.iastore, 1) := dk_79 (dk_at dksX3_settles_5 5 rfl rfl)
theorem dX3_settles_126 : decode cX3_settles 126 = .ok (.aload_n 0, 1) := dk_42 (dk_at dksX3_settles_5 6 rfl rfl)
theorem dX3_settles_127 : decode cX3_settles 127 = .ok (.getfield 9, 3) := dk_180 0 9 (dk_at dksX3_settles_5 7 rfl rfl)
theorem dX3_settles_130 : decode cX3_settles 130 = .ok (.bipush 9, 2) := dk_16 9 (dk_at dksX3_settles_5 10 rfl rfl)
theorem dX3_settles_132 : decode cX3_settles 132 = .ok (.dup2, 1) := dk_92 (dk_at dksX3_settles_5 12 rfl rfl)
theorem dX3_settles_133 : decode cX3_settles 133 = .ok (.iaload, 1) := dk_46 (dk_at dksX3_settles_5 13 rfl rfl)
theorem dX3_settles_134 : decode cX3_settles 134 = .ok (.iload 7, 2) := dk_21 7 (dk_at dksX3_settles_5 14 rfl rfl)
theorem dX3_settles_136 : decode cX3_settles 136 = .ok (.iload 6, 2) := dk_21 6 (dk_at dksX3_settles_5 16 rfl rfl)
theorem dX3_settles_138 : decode cX3_settles 138 = .ok (.if_icmp .ge 7, 3) := dk_162 0 7 (dk_at dksX3_settles_5 18 rfl rfl)
theorem dX3_settles_141 : decode cX3_settles 141 = .ok (.iconst 1, 1) := dk_4 (dk_at dksX3_settles_5 21 rfl rfl)
theorem dX3_settles_142 : decode cX3_settles 142 = .ok (.goto 4, 3) := dk_167 0 4 (dk_at dksX3_settles_6 0 rfl rfl)
theorem dX3_settles_145 : decode cX3_settles 145 = .ok (.iconst 0, 1) := dk_3 (dk_at dksX3_settles_6 3 rfl rfl)
theorem dX3_settles_146 : decode cX3_settles 146 = .ok (.iadd, 1) := dk_96 (dk_at dksX3_settles_6 4 rfl rfl)
theorem dX3_settles_147 : decode cX3_settles 147 = .ok (.iastore, 1) := dk_79 (dk_at dksX3_settles_6 5 rfl rfl)
theorem dX3_settles_148 : decode cX3_settles 148 = .ok (.aload_n 0, 1) := dk_42 (dk_at dksX3_settles_6 6 rfl rfl)
theorem dX3_settles_149 : decode cX3_settles 149 = .ok (.getfield 9, 3) := dk_180 0 9 (dk_at dksX3_settles_6 7 rfl rfl)
theorem dX3_settles_152 : decode cX3_settles 152 = .ok (.bipush 8, 2) := dk_16 8 (dk_at dksX3_settles_6 10 rfl rfl)
theorem dX3_settles_154 : decode cX3_settles 154 = .ok (.dup2, 1) := dk_92 (dk_at dksX3_settles_6 12 rfl rfl)
theorem dX3_settles_155 : decode cX3_settles 155 = .ok (.iaload, 1) := dk_46 (dk_at dksX3_settles_6 13 rfl rfl)
theorem dX3_settles_156 : decode cX3_settles 156 = .ok (.iconst 1, 1) := dk_4 (dk_at dksX3_settles_6 14 rfl rfl)
theorem dX3_settles_157 : decode cX3_settles 157 = .ok (.iadd, 1) := dk_96 (dk_at dksX3_settles_6 15 rfl rfl)
theorem dX3_settles_158 : decode cX3_settles 158 = .ok (.iastore, 1) := dk_79 (dk_at dksX3_settles_6 16 rfl rfl)
theorem dX3_settles_159 : decode cX3_settles 159 = .ok (.iload_n 2, 1) := dk_28 (dk_at dksX3_settles_6 17 rfl rfl)
theorem dX3_settles_160 : decode cX3_settles 160 = .ok (.istore 8, 2) := dk_54 8 (dk_at dksX3_settles_6 18 rfl rfl)
theorem dX3_settles_162 : decode cX3_settles 162 = .ok (.iload 8, 2) := dk_21 8 (dk_at dksX3_settles_6 20 rfl rfl)
theorem dX3_settles_164 : decode cX3_settles 164 = .ok (.sipush 150, 3) := dk_17 0 150 (dk_at dksX3_settles_7 0 rfl rfl)
theorem dX3_settles_167 : decode cX3_settles 167 = .ok (.if_icmp .ge 25, 3) := dk_162 0 25 (dk_at dksX3_settles_7 3 rfl rfl)
theorem dX3_settles_170 : decode cX3_settles 170 = .ok (.aload_n 0, 1) := dk_42 (dk_at dksX3_settles_7 6 rfl rfl)
theorem dX3_settles_171 : decode cX3_settles 171 = .ok (.getfield 9, 3) := dk_180 0 9 (dk_at dksX3_settles_7 7 rfl rfl)
theorem dX3_settles_174 : decode cX3_settles 174 = .ok (.iload 8, 2) := dk_21 8 (dk_at dksX3_settles_7 10 rfl rfl)
theorem dX3_settles_176 : decode cX3_settles 176 = .ok (.aload_n 0, 1) := dk_42 (dk_at dksX3_settles_7 12 rfl rfl)
theorem dX3_settles_177 : decode cX3_settles 177 = .ok (.getfield 9, 3) := dk_180 0 9 (dk_at dksX3_settles_7 13 rfl rfl)
theorem dX3_settles_180 : decode cX3_settles 180 = .ok (.iload 8, 2) := dk_21 8 (dk_at dksX3_settles_7 16 rfl rfl)
theorem dX3_settles_182 : decode cX3_settles 182 = .ok (.iconst 5, 1) := dk_8 (dk_at dksX3_settles_7 18 rfl rfl)
theorem dX3_settles_183 : decode cX3_settles 183 = .ok (.iadd, 1) := dk_96 (dk_at dksX3_settles_7 19 rfl rfl)
theorem dX3_settles_184 : decode cX3_settles 184 = .ok (.iaload, 1) := dk_46 (dk_at dksX3_settles_7 20 rfl rfl)
theorem dX3_settles_185 : decode cX3_settles 185 = .ok (.iastore, 1) := dk_79 (dk_at dksX3_settles_7 21 rfl rfl)
theorem dX3_settles_186 : decode cX3_settles 186 = .ok (.iinc 8 1, 3) := dk_132 8 1 (dk_at dksX3_settles_8 0 rfl rfl)
theorem dX3_settles_189 : decode cX3_settles 189 = .ok (.goto (-27), 3) := dk_167 255 229 (dk_at dksX3_settles_8 3 rfl rfl)
theorem dX3_settles_192 : decode cX3_settles 192 = .ok (.sipush 150, 3) := dk_17 0 150 (dk_at dksX3_settles_8 6 rfl rfl)
theorem dX3_settles_195 : decode cX3_settles 195 = .ok (.istore 8, 2) := dk_54 8 (dk_at dksX3_settles_8 9 rfl rfl)
theorem dX3_settles_197 : decode cX3_settles 197 = .ok (.iload 8, 2) := dk_21 8 (dk_at dksX3_settles_8 11 rfl rfl)
theorem dX3_settles_199 : decode cX3_settles 199 = .ok (.sipush 155, 3) := dk_17 0 155 (dk_at dksX3_settles_8 13 rfl rfl)
theorem dX3_settles_202 : decode cX3_settles 202 = .ok (.if_icmp .ge 17, 3) := dk_162 0 17 (dk_at dksX3_settles_8 16 rfl rfl)
theorem dX3_settles_205 : decode cX3_settles 205 = .ok (.aload_n 0, 1) := dk_42 (dk_at dksX3_settles_8 19 rfl rfl)
theorem dX3_settles_206 : decode cX3_settles 206 = .ok (.getfield 9, 3) := dk_180 0 9 (dk_at dksX3_settles_8 20 rfl rfl)
theorem dX3_settles_209 : decode cX3_settles 209 = .ok (.iload 8, 2) := dk_21 8 (dk_at dksX3_settles_9 0 rfl rfl)
theorem dX3_settles_211 : decode cX3_settles 211 = .ok (.iconst 0, 1) := dk_3 (dk_at dksX3_settles_9 2 rfl rfl)
theorem dX3_settles_212 : decode cX3_settles 212 = .ok (.iastore, 1) := dk_79 (dk_at dksX3_settles_9 3 rfl rfl)
theorem dX3_settles_213 : decode cX3_settles 213 = .ok (.iinc 8 1, 3) := dk_132 8 1 (dk_at dksX3_settles_9 4 rfl rfl)
theorem dX3_settles_216 : decode cX3_settles 216 = .ok (.goto (-19), 3) := dk_167 255 237 (dk_at dksX3_settles_9 7 rfl rfl)
theorem dX3_settles_219 : decode cX3_settles 219 = .ok (.aload_n 0, 1) := dk_42 (dk_at dksX3_settles_9 10 rfl rfl)
theorem dX3_settles_220 : decode cX3_settles 220 = .ok (.getfield 9, 3) := dk_180 0 9 (dk_at dksX3_settles_9 11 rfl rfl)
theorem dX3_settles_223 : decode cX3_settles 223 = .ok (.iconst 3, 1) := dk_6 (dk_at dksX3_settles_9 14 rfl rfl)
theorem dX3_settles_224 : decode cX3_settles 224 = .ok (.dup2, 1) := dk_92 (dk_at dksX3_settles_9 15 rfl rfl)
theorem dX3_settles_225 : decode cX3_settles 225 = .ok (.iaload, 1) := dk_46 (dk_at dksX3_settles_9 16 rfl rfl)
theorem dX3_settles_226 : decode cX3_settles 226 = .ok (.iconst 1, 1) := dk_4 (dk_at dksX3_settles_9 17 rfl rfl)
theorem dX3_settles_227 : decode cX3_settles 227 = .ok (.isub, 1) := dk_100 (dk_at dksX3_settles_9 18 rfl rfl)
theorem dX3_settles_228 : decode cX3_settles 228 = .ok (.iastore, 1) := dk_79 (dk_at dksX3_settles_9 19 rfl rfl)
theorem dX3_settles_229 : decode cX3_settles 229 = .ok (.return_, 1) := dk_177 (dk_at dksX3_settles_9 20 rfl rfl)
abbrev cX3_gainOf : ByteArray := prog_15_method_30_code
def yX3_gainOf : MethodName := ⟨RX3, "gainOf", "(II)I"⟩
def dkwX3_gainOf_1 : List UInt8 := [172]
abbrev dktX3_gainOf_1 : List UInt8 := dkwX3_gainOf_1 ++ []
def dkwX3_gainOf_0 : List UInt8 := [27, 184, 0, 130, 62, 28, 42, 180, 0, 9, 29, 6, 96, 46, 100, 42, 180, 0, 9, 29, 5, 96, 46, 104]
abbrev dktX3_gainOf_0 : List UInt8 := dkwX3_gainOf_0 ++ dktX3_gainOf_1
theorem dksX3_gainOf_0 : cX3_gainOf.data.toList.drop 0 = dktX3_gainOf_0 := by decide +kernel
theorem dksX3_gainOf_1 : cX3_gainOf.data.toList.drop 24 = dktX3_gainOf_1 := dk_seg dksX3_gainOf_0 24 rfl rfl
theorem dX3_gainOf_0 : decode cX3_gainOf 0 = .ok (.iload_n 1, 1) := dk_27 (dk_at dksX3_gainOf_0 0 rfl rfl)
theorem dX3_gainOf_1 : decode cX3_gainOf 1 = .ok (.invokestatic 130, 3) := dk_184 0 130 (dk_at dksX3_gainOf_0 1 rfl rfl)
theorem dX3_gainOf_4 : decode cX3_gainOf 4 = .ok (.istore_n 3, 1) := dk_62 (dk_at dksX3_gainOf_0 4 rfl rfl)
theorem dX3_gainOf_5 : decode cX3_gainOf 5 = .ok (.iload_n 2, 1) := dk_28 (dk_at dksX3_gainOf_0 5 rfl rfl)
theorem dX3_gainOf_6 : decode cX3_gainOf 6 = .ok (.aload_n 0, 1) := dk_42 (dk_at dksX3_gainOf_0 6 rfl rfl)
theorem dX3_gainOf_7 : decode cX3_gainOf 7 = .ok (.getfield 9, 3) := dk_180 0 9 (dk_at dksX3_gainOf_0 7 rfl rfl)
theorem dX3_gainOf_10 : decode cX3_gainOf 10 = .ok (.iload_n 3, 1) := dk_29 (dk_at dksX3_gainOf_0 10 rfl rfl)
theorem dX3_gainOf_11 : decode cX3_gainOf 11 = .ok (.iconst 3, 1) := dk_6 (dk_at dksX3_gainOf_0 11 rfl rfl)
theorem dX3_gainOf_12 : decode cX3_gainOf 12 = .ok (.iadd, 1) := dk_96 (dk_at dksX3_gainOf_0 12 rfl rfl)
theorem dX3_gainOf_13 : decode cX3_gainOf 13 = .ok (.iaload, 1) := dk_46 (dk_at dksX3_gainOf_0 13 rfl rfl)
theorem dX3_gainOf_14 : decode cX3_gainOf 14 = .ok (.isub, 1) := dk_100 (dk_at dksX3_gainOf_0 14 rfl rfl)
theorem dX3_gainOf_15 : decode cX3_gainOf 15 = .ok (.aload_n 0, 1) := dk_42 (dk_at dksX3_gainOf_0 15 rfl rfl)
theorem dX3_gainOf_16 : decode cX3_gainOf 16 = .ok (.getfield 9, 3) := dk_180 0 9 (dk_at dksX3_gainOf_0 16 rfl rfl)
theorem dX3_gainOf_19 : decode cX3_gainOf 19 = .ok (.iload_n 3, 1) := dk_29 (dk_at dksX3_gainOf_0 19 rfl rfl)
theorem dX3_gainOf_20 : decode cX3_gainOf 20 = .ok (.iconst 2, 1) := dk_5 (dk_at dksX3_gainOf_0 20 rfl rfl)
theorem dX3_gainOf_21 : decode cX3_gainOf 21 = .ok (.iadd, 1) := dk_96 (dk_at dksX3_gainOf_0 21 rfl rfl)
theorem dX3_gainOf_22 : decode cX3_gainOf 22 = .ok (.iaload, 1) := dk_46 (dk_at dksX3_gainOf_0 22 rfl rfl)
theorem dX3_gainOf_23 : decode cX3_gainOf 23 = .ok (.imul, 1) := dk_104 (dk_at dksX3_gainOf_0 23 rfl rfl)
theorem dX3_gainOf_24 : decode cX3_gainOf 24 = .ok (.ireturn, 1) := dk_172 (dk_at dksX3_gainOf_1 0 rfl rfl)
abbrev cX3_openAuction : ByteArray := prog_15_method_35_code
def yX3_openAuction : MethodName := ⟨RX3, "openAuction", "(II)I"⟩
def dkwX3_openAuction_0 : List UInt8 := [42, 182, 0, 81, 42, 42, 27, 28, 182, 0, 152, 182, 0, 88, 172]
abbrev dktX3_openAuction_0 : List UInt8 := dkwX3_openAuction_0 ++ []
theorem dksX3_openAuction_0 : cX3_openAuction.data.toList.drop 0 = dktX3_openAuction_0 := by decide +kernel
theorem dX3_openAuction_0 : decode cX3_openAuction 0 = .ok (.aload_n 0, 1) := dk_42 (dk_at dksX3_openAuction_0 0 rfl rfl)
theorem dX3_openAuction_1 : decode cX3_openAuction 1 = .ok (.invokevirtual 81, 3) := dk_182 0 81 (dk_at dksX3_openAuction_0 1 rfl rfl)
theorem dX3_openAuction_4 : decode cX3_openAuction 4 = .ok (.aload_n 0, 1) := dk_42 (dk_at dksX3_openAuction_0 4 rfl rfl)
theorem dX3_openAuction_5 : decode cX3_openAuction 5 = .ok (.aload_n 0, 1) := dk_42 (dk_at dksX3_openAuction_0 5 rfl rfl)
theorem dX3_openAuction_6 : decode cX3_openAuction 6 = .ok (.iload_n 1, 1) := dk_27 (dk_at dksX3_openAuction_0 6 rfl rfl)
theorem dX3_openAuction_7 : decode cX3_openAuction 7 = .ok (.iload_n 2, 1) := dk_28 (dk_at dksX3_openAuction_0 7 rfl rfl)
theorem dX3_openAuction_8 : decode cX3_openAuction 8 = .ok (.invokevirtual 152, 3) := dk_182 0 152 (dk_at dksX3_openAuction_0 8 rfl rfl)
theorem dX3_openAuction_11 : decode cX3_openAuction 11 = .ok (.invokevirtual 88, 3) := dk_182 0 88 (dk_at dksX3_openAuction_0 11 rfl rfl)
theorem dX3_openAuction_14 : decode cX3_openAuction 14 = .ok (.ireturn, 1) := dk_172 (dk_at dksX3_openAuction_0 14 rfl rfl)
abbrev cX3_openIt : ByteArray := prog_15_method_34_code
def yX3_openIt : MethodName := ⟨RX3, "openIt", "(II)I"⟩
def dkwX3_openIt_5 : List UInt8 := [172]
abbrev dktX3_openIt_5 : List UInt8 := dkwX3_openIt_5 ++ []
def dkwX3_openIt_4 : List UInt8 := [16, 13, 21, 4, 96, 46, 2, 160, 0, 7, 4, 167, 0, 4, 3, 96, 62, 132, 4, 1, 167, 255, 225, 29]
abbrev dktX3_openIt_4 : List UInt8 := dkwX3_openIt_4 ++ dktX3_openIt_5
def dkwX3_openIt_3 : List UInt8 := [180, 0, 9, 16, 12, 28, 79, 3, 62, 3, 54, 4, 21, 4, 7, 162, 0, 31, 29, 42, 180, 0, 9]
abbrev dktX3_openIt_3 : List UInt8 := dkwX3_openIt_3 ++ dktX3_openIt_4
def dkwX3_openIt_2 : List UInt8 := [16, 13, 27, 96, 46, 2, 159, 0, 9, 42, 6, 182, 0, 75, 172, 42, 180, 0, 9, 16, 11, 27, 79, 42]
abbrev dktX3_openIt_2 : List UInt8 := dkwX3_openIt_2 ++ dktX3_openIt_3
def dkwX3_openIt_1 : List UInt8 := [154, 0, 9, 42, 5, 182, 0, 75, 172, 42, 180, 0, 9, 16, 11, 46, 2, 160, 0, 16, 42, 180, 0, 9]
abbrev dktX3_openIt_1 : List UInt8 := dkwX3_openIt_1 ++ dktX3_openIt_2
def dkwX3_openIt_0 : List UInt8 := [27, 184, 0, 149, 154, 0, 9, 42, 4, 182, 0, 75, 172, 28, 133, 9, 20, 0, 59, 184, 0, 51]
abbrev dktX3_openIt_0 : List UInt8 := dkwX3_openIt_0 ++ dktX3_openIt_1
theorem dksX3_openIt_0 : cX3_openIt.data.toList.drop 0 = dktX3_openIt_0 := by decide +kernel
theorem dksX3_openIt_1 : cX3_openIt.data.toList.drop 22 = dktX3_openIt_1 := dk_seg dksX3_openIt_0 22 rfl rfl
theorem dksX3_openIt_2 : cX3_openIt.data.toList.drop 46 = dktX3_openIt_2 := dk_seg dksX3_openIt_1 24 rfl rfl
theorem dksX3_openIt_3 : cX3_openIt.data.toList.drop 70 = dktX3_openIt_3 := dk_seg dksX3_openIt_2 24 rfl rfl
theorem dksX3_openIt_4 : cX3_openIt.data.toList.drop 93 = dktX3_openIt_4 := dk_seg dksX3_openIt_3 23 rfl rfl
theorem dksX3_openIt_5 : cX3_openIt.data.toList.drop 117 = dktX3_openIt_5 := dk_seg dksX3_openIt_4 24 rfl rfl
theorem dX3_openIt_0 : decode cX3_openIt 0 = .ok (.iload_n 1, 1) := dk_27 (dk_at dksX3_openIt_0 0 rfl rfl)
theorem dX3_openIt_1 : decode cX3_openIt 1 = .ok (.invokestatic 149, 3) := dk_184 0 149 (dk_at dksX3_openIt_0 1 rfl rfl)
theorem dX3_openIt_4 : decode cX3_openIt 4 = .ok (.ifCond .ne 9, 3) := dk_154 0 9 (dk_at dksX3_openIt_0 4 rfl rfl)
theorem dX3_openIt_7 : decode cX3_openIt 7 = .ok (.aload_n 0, 1) := dk_42 (dk_at dksX3_openIt_0 7 rfl rfl)
theorem dX3_openIt_8 : decode cX3_openIt 8 = .ok (.iconst 1, 1) := dk_4 (dk_at dksX3_openIt_0 8 rfl rfl)
theorem dX3_openIt_9 : decode cX3_openIt 9 = .ok (.invokevirtual 75, 3) := dk_182 0 75 (dk_at dksX3_openIt_0 9 rfl rfl)
theorem dX3_openIt_12 : decode cX3_openIt 12 = .ok (.ireturn, 1) := dk_172 (dk_at dksX3_openIt_0 12 rfl rfl)
theorem dX3_openIt_13 : decode cX3_openIt 13 = .ok (.iload_n 2, 1) := dk_28 (dk_at dksX3_openIt_0 13 rfl rfl)
theorem dX3_openIt_14 : decode cX3_openIt 14 = .ok (.i2l, 1) := dk_133 (dk_at dksX3_openIt_0 14 rfl rfl)
theorem dX3_openIt_15 : decode cX3_openIt 15 = .ok (.lconst 0, 1) := dk_9 (dk_at dksX3_openIt_0 15 rfl rfl)
theorem dX3_openIt_16 : decode cX3_openIt 16 = .ok (.ldc2_w 59, 3) := dk_20 0 59 (dk_at dksX3_openIt_0 16 rfl rfl)
theorem dX3_openIt_19 : decode cX3_openIt 19 = .ok (.invokestatic 51, 3) := dk_184 0 51 (dk_at dksX3_openIt_0 19 rfl rfl)
theorem dX3_openIt_22 : decode cX3_openIt 22 = .ok (.ifCond .ne 9, 3) := dk_154 0 9 (dk_at dksX3_openIt_1 0 rfl rfl)
theorem dX3_openIt_25 : decode cX3_openIt 25 = .ok (.aload_n 0, 1) := dk_42 (dk_at dksX3_openIt_1 3 rfl rfl)
theorem dX3_openIt_26 : decode cX3_openIt 26 = .ok (.iconst 2, 1) := dk_5 (dk_at dksX3_openIt_1 4 rfl rfl)
theorem dX3_openIt_27 : decode cX3_openIt 27 = .ok (.invokevirtual 75, 3) := dk_182 0 75 (dk_at dksX3_openIt_1 5 rfl rfl)
theorem dX3_openIt_30 : decode cX3_openIt 30 = .ok (.ireturn, 1) := dk_172 (dk_at dksX3_openIt_1 8 rfl rfl)
theorem dX3_openIt_31 : decode cX3_openIt 31 = .ok (.aload_n 0, 1) := dk_42 (dk_at dksX3_openIt_1 9 rfl rfl)
theorem dX3_openIt_32 : decode cX3_openIt 32 = .ok (.getfield 9, 3) := dk_180 0 9 (dk_at dksX3_openIt_1 10 rfl rfl)
theorem dX3_openIt_35 : decode cX3_openIt 35 = .ok (.bipush 11, 2) := dk_16 11 (dk_at dksX3_openIt_1 13 rfl rfl)
theorem dX3_openIt_37 : decode cX3_openIt 37 = .ok (.iaload, 1) := dk_46 (dk_at dksX3_openIt_1 15 rfl rfl)
theorem dX3_openIt_38 : decode cX3_openIt 38 = .ok (.iconst (-1), 1) := dk_2 (dk_at dksX3_openIt_1 16 rfl rfl)
theorem dX3_openIt_39 : decode cX3_openIt 39 = .ok (.if_icmp .ne 16, 3) := dk_160 0 16 (dk_at dksX3_openIt_1 17 rfl rfl)
theorem dX3_openIt_42 : decode cX3_openIt 42 = .ok (.aload_n 0, 1) := dk_42 (dk_at dksX3_openIt_1 20 rfl rfl)
theorem dX3_openIt_43 : decode cX3_openIt 43 = .ok (.getfield 9, 3) := dk_180 0 9 (dk_at dksX3_openIt_1 21 rfl rfl)
theorem dX3_openIt_46 : decode cX3_openIt 46 = .ok (.bipush 13, 2) := dk_16 13 (dk_at dksX3_openIt_2 0 rfl rfl)
theorem dX3_openIt_48 : decode cX3_openIt 48 = .ok (.iload_n 1, 1) := dk_27 (dk_at dksX3_openIt_2 2 rfl rfl)
theorem dX3_openIt_49 : decode cX3_openIt 49 = .ok (.iadd, 1) := dk_96 (dk_at dksX3_openIt_2 3 rfl rfl)
theorem dX3_openIt_50 : decode cX3_openIt 50 = .ok (.iaload, 1) := dk_46 (dk_at dksX3_openIt_2 4 rfl rfl)
theorem dX3_openIt_51 : decode cX3_openIt 51 = .ok (.iconst (-1), 1) := dk_2 (dk_at dksX3_openIt_2 5 rfl rfl)
theorem dX3_openIt_52 : decode cX3_openIt 52 = .ok (.if_icmp .eq 9, 3) := dk_159 0 9 (dk_at dksX3_openIt_2 6 rfl rfl)
theorem dX3_openIt_55 : decode cX3_openIt 55 = .ok (.aload_n 0, 1) := dk_42 (dk_at dksX3_openIt_2 9 rfl rfl)
theorem dX3_openIt_56 : decode cX3_openIt 56 = .ok (.iconst 3, 1) := dk_6 (dk_at dksX3_openIt_2 10 rfl rfl)
theorem dX3_openIt_57 : decode cX3_openIt 57 = .ok (.invokevirtual 75, 3) := dk_182 0 75 (dk_at dksX3_openIt_2 11 rfl rfl)
theorem dX3_openIt_60 : decode cX3_openIt 60 = .ok (.ireturn, 1) := dk_172 (dk_at dksX3_openIt_2 14 rfl rfl)
theorem dX3_openIt_61 : decode cX3_openIt 61 = .ok (.aload_n 0, 1) := dk_42 (dk_at dksX3_openIt_2 15 rfl rfl)
theorem dX3_openIt_62 : decode cX3_openIt 62 = .ok (.getfield 9, 3) := dk_180 0 9 (dk_at dksX3_openIt_2 16 rfl rfl)
theorem dX3_openIt_65 : decode cX3_openIt 65 = .ok (.bipush 11, 2) := dk_16 11 (dk_at dksX3_openIt_2 19 rfl rfl)
theorem dX3_openIt_67 : decode cX3_openIt 67 = .ok (.iload_n 1, 1) := dk_27 (dk_at dksX3_openIt_2 21 rfl rfl)
theorem dX3_openIt_68 : decode cX3_openIt 68 = .ok (.iastore, 1) := dk_79 (dk_at dksX3_openIt_2 22 rfl rfl)
theorem dX3_openIt_69 : decode cX3_openIt 69 = .ok (.aload_n 0, 1) := dk_42 (dk_at dksX3_openIt_2 23 rfl rfl)
theorem dX3_openIt_70 : decode cX3_openIt 70 = .ok (.getfield 9, 3) := dk_180 0 9 (dk_at dksX3_openIt_3 0 rfl rfl)
theorem dX3_openIt_73 : decode cX3_openIt 73 = .ok (.bipush 12, 2) := dk_16 12 (dk_at dksX3_openIt_3 3 rfl rfl)
theorem dX3_openIt_75 : decode cX3_openIt 75 = .ok (.iload_n 2, 1) := dk_28 (dk_at dksX3_openIt_3 5 rfl rfl)
theorem dX3_openIt_76 : decode cX3_openIt 76 = .ok (.iastore, 1) := dk_79 (dk_at dksX3_openIt_3 6 rfl rfl)
theorem dX3_openIt_77 : decode cX3_openIt 77 = .ok (.iconst 0, 1) := dk_3 (dk_at dksX3_openIt_3 7 rfl rfl)
theorem dX3_openIt_78 : decode cX3_openIt 78 = .ok (.istore_n 3, 1) := dk_62 (dk_at dksX3_openIt_3 8 rfl rfl)
theorem dX3_openIt_79 : decode cX3_openIt 79 = .ok (.iconst 0, 1) := dk_3 (dk_at dksX3_openIt_3 9 rfl rfl)
theorem dX3_openIt_80 : decode cX3_openIt 80 = .ok (.istore 4, 2) := dk_54 4 (dk_at dksX3_openIt_3 10 rfl rfl)
theorem dX3_openIt_82 : decode cX3_openIt 82 = .ok (.iload 4, 2) := dk_21 4 (dk_at dksX3_openIt_3 12 rfl rfl)
theorem dX3_openIt_84 : decode cX3_openIt 84 = .ok (.iconst 4, 1) := dk_7 (dk_at dksX3_openIt_3 14 rfl rfl)
theorem dX3_openIt_85 : decode cX3_openIt 85 = .ok (.if_icmp .ge 31, 3) := dk_162 0 31 (dk_at dksX3_openIt_3 15 rfl rfl)
theorem dX3_openIt_88 : decode cX3_openIt 88 = .ok (.iload_n 3, 1) := dk_29 (dk_at dksX3_openIt_3 18 rfl rfl)
theorem dX3_openIt_89 : decode cX3_openIt 89 = .ok (.aload_n 0, 1) := dk_42 (dk_at dksX3_openIt_3 19 rfl rfl)
theorem dX3_openIt_90 : decode cX3_openIt 90 = .ok (.getfield 9, 3) := dk_180 0 9 (dk_at dksX3_openIt_3 20 rfl rfl)
theorem dX3_openIt_93 : decode cX3_openIt 93 = .ok (.bipush 13, 2) := dk_16 13 (dk_at dksX3_openIt_4 0 rfl rfl)
theorem dX3_openIt_95 : decode cX3_openIt 95 = .ok (.iload 4, 2) := dk_21 4 (dk_at dksX3_openIt_4 2 rfl rfl)
theorem dX3_openIt_97 : decode cX3_openIt 97 = .ok (.iadd, 1) := dk_96 (dk_at dksX3_openIt_4 4 rfl rfl)
theorem dX3_openIt_98 : decode cX3_openIt 98 = .ok (.iaload, 1) := dk_46 (dk_at dksX3_openIt_4 5 rfl rfl)
theorem dX3_openIt_99 : decode cX3_openIt 99 = .ok (.iconst (-1), 1) := dk_2 (dk_at dksX3_openIt_4 6 rfl rfl)
theorem dX3_openIt_100 : decode cX3_openIt 100 = .ok (.if_icmp .ne 7, 3) := dk_160 0 7 (dk_at dksX3_openIt_4 7 rfl rfl)
theorem dX3_openIt_103 : decode cX3_openIt 103 = .ok (.iconst 1, 1) := dk_4 (dk_at dksX3_openIt_4 10 rfl rfl)
theorem dX3_openIt_104 : decode cX3_openIt 104 = .ok (.goto 4, 3) := dk_167 0 4 (dk_at dksX3_openIt_4 11 rfl rfl)
theorem dX3_openIt_107 : decode cX3_openIt 107 = .ok (.iconst 0, 1) := dk_3 (dk_at dksX3_openIt_4 14 rfl rfl)
theorem dX3_openIt_108 : decode cX3_openIt 108 = .ok (.iadd, 1) := dk_96 (dk_at dksX3_openIt_4 15 rfl rfl)
theorem dX3_openIt_109 : decode cX3_openIt 109 = .ok (.istore_n 3, 1) := dk_62 (dk_at dksX3_openIt_4 16 rfl rfl)
theorem dX3_openIt_110 : decode cX3_openIt 110 = .ok (.iinc 4 1, 3) := dk_132 4 1 (dk_at dksX3_openIt_4 17 rfl rfl)
theorem dX3_openIt_113 : decode cX3_openIt 113 = .ok (.goto (-31), 3) := dk_167 255 225 (dk_at dksX3_openIt_4 20 rfl rfl)
theorem dX3_openIt_116 : decode cX3_openIt 116 = .ok (.iload_n 3, 1) := dk_29 (dk_at dksX3_openIt_4 23 rfl rfl)
theorem dX3_openIt_117 : decode cX3_openIt 117 = .ok (.ireturn, 1) := dk_172 (dk_at dksX3_openIt_5 0 rfl rfl)
abbrev cX3_isRoom : ByteArray := prog_15_method_12_code
def yX3_isRoom : MethodName := ⟨RX3, "isRoom", "(I)Z"⟩
def dkwX3_isRoom_0 : List UInt8 := [26, 133, 9, 20, 0, 55, 184, 0, 51, 172]
abbrev dktX3_isRoom_0 : List UInt8 := dkwX3_isRoom_0 ++ []
theorem dksX3_isRoom_0 : cX3_isRoom.data.toList.drop 0 = dktX3_isRoom_0 := by decide +kernel
theorem dX3_isRoom_0 : decode cX3_isRoom 0 = .ok (.iload_n 0, 1) := dk_26 (dk_at dksX3_isRoom_0 0 rfl rfl)
theorem dX3_isRoom_1 : decode cX3_isRoom 1 = .ok (.i2l, 1) := dk_133 (dk_at dksX3_isRoom_0 1 rfl rfl)
theorem dX3_isRoom_2 : decode cX3_isRoom 2 = .ok (.lconst 0, 1) := dk_9 (dk_at dksX3_isRoom_0 2 rfl rfl)
theorem dX3_isRoom_3 : decode cX3_isRoom 3 = .ok (.ldc2_w 55, 3) := dk_20 0 55 (dk_at dksX3_isRoom_0 3 rfl rfl)
theorem dX3_isRoom_6 : decode cX3_isRoom 6 = .ok (.invokestatic 51, 3) := dk_184 0 51 (dk_at dksX3_isRoom_0 6 rfl rfl)
theorem dX3_isRoom_9 : decode cX3_isRoom 9 = .ok (.ireturn, 1) := dk_172 (dk_at dksX3_isRoom_0 9 rfl rfl)
abbrev cX3_sealBid : ByteArray := prog_15_method_37_code
def yX3_sealBid : MethodName := ⟨RX3, "sealBid", "(II)I"⟩
def dkwX3_sealBid_0 : List UInt8 := [42, 182, 0, 81, 42, 42, 27, 28, 182, 0, 155, 182, 0, 88, 172]
abbrev dktX3_sealBid_0 : List UInt8 := dkwX3_sealBid_0 ++ []
theorem dksX3_sealBid_0 : cX3_sealBid.data.toList.drop 0 = dktX3_sealBid_0 := by decide +kernel
theorem dX3_sealBid_0 : decode cX3_sealBid 0 = .ok (.aload_n 0, 1) := dk_42 (dk_at dksX3_sealBid_0 0 rfl rfl)
theorem dX3_sealBid_1 : decode cX3_sealBid 1 = .ok (.invokevirtual 81, 3) := dk_182 0 81 (dk_at dksX3_sealBid_0 1 rfl rfl)
theorem dX3_sealBid_4 : decode cX3_sealBid 4 = .ok (.aload_n 0, 1) := dk_42 (dk_at dksX3_sealBid_0 4 rfl rfl)
theorem dX3_sealBid_5 : decode cX3_sealBid 5 = .ok (.aload_n 0, 1) := dk_42 (dk_at dksX3_sealBid_0 5 rfl rfl)
theorem dX3_sealBid_6 : decode cX3_sealBid 6 = .ok (.iload_n 1, 1) := dk_27 (dk_at dksX3_sealBid_0 6 rfl rfl)
theorem dX3_sealBid_7 : decode cX3_sealBid 7 = .ok (.iload_n 2, 1) := dk_28 (dk_at dksX3_sealBid_0 7 rfl rfl)
theorem dX3_sealBid_8 : decode cX3_sealBid 8 = .ok (.invokevirtual 155, 3) := dk_182 0 155 (dk_at dksX3_sealBid_0 8 rfl rfl)
theorem dX3_sealBid_11 : decode cX3_sealBid 11 = .ok (.invokevirtual 88, 3) := dk_182 0 88 (dk_at dksX3_sealBid_0 11 rfl rfl)
theorem dX3_sealBid_14 : decode cX3_sealBid 14 = .ok (.ireturn, 1) := dk_172 (dk_at dksX3_sealBid_0 14 rfl rfl)
abbrev cX3_sealIt : ByteArray := prog_15_method_36_code
def yX3_sealIt : MethodName := ⟨RX3, "sealIt", "(II)I"⟩
def dkwX3_sealIt_4 : List UInt8 := [4, 167, 0, 4, 3, 96, 62, 132, 4, 1, 167, 255, 219, 29, 172]
abbrev dktX3_sealIt_4 : List UInt8 := dkwX3_sealIt_4 ++ []
def dkwX3_sealIt_3 : List UInt8 := [180, 0, 9, 3, 46, 162, 0, 32, 29, 42, 180, 0, 9, 21, 4, 184, 0, 78, 5, 96, 46, 158, 0, 7]
abbrev dktX3_sealIt_3 : List UInt8 := dkwX3_sealIt_3 ++ dktX3_sealIt_4
def dkwX3_sealIt_2 : List UInt8 := [182, 0, 75, 172, 42, 180, 0, 9, 27, 184, 0, 78, 5, 96, 28, 79, 3, 62, 3, 54, 4, 21, 4, 42]
abbrev dktX3_sealIt_2 : List UInt8 := dkwX3_sealIt_2 ++ dktX3_sealIt_3
def dkwX3_sealIt_1 : List UInt8 := [154, 0, 9, 42, 5, 182, 0, 75, 172, 42, 180, 0, 9, 16, 11, 46, 2, 160, 0, 9, 42, 6]
abbrev dktX3_sealIt_1 : List UInt8 := dkwX3_sealIt_1 ++ dktX3_sealIt_2
def dkwX3_sealIt_0 : List UInt8 := [42, 27, 182, 0, 95, 154, 0, 9, 42, 4, 182, 0, 75, 172, 28, 133, 10, 20, 0, 73, 184, 0, 51]
abbrev dktX3_sealIt_0 : List UInt8 := dkwX3_sealIt_0 ++ dktX3_sealIt_1
theorem dksX3_sealIt_0 : cX3_sealIt.data.toList.drop 0 = dktX3_sealIt_0 := by decide +kernel
theorem dksX3_sealIt_1 : cX3_sealIt.data.toList.drop 23 = dktX3_sealIt_1 := dk_seg dksX3_sealIt_0 23 rfl rfl
theorem dksX3_sealIt_2 : cX3_sealIt.data.toList.drop 45 = dktX3_sealIt_2 := dk_seg dksX3_sealIt_1 22 rfl rfl
theorem dksX3_sealIt_3 : cX3_sealIt.data.toList.drop 69 = dktX3_sealIt_3 := dk_seg dksX3_sealIt_2 24 rfl rfl
theorem dksX3_sealIt_4 : cX3_sealIt.data.toList.drop 93 = dktX3_sealIt_4 := dk_seg dksX3_sealIt_3 24 rfl rfl
theorem dX3_sealIt_0 : decode cX3_sealIt 0 = .ok (.aload_n 0, 1) := dk_42 (dk_at dksX3_sealIt_0 0 rfl rfl)
theorem dX3_sealIt_1 : decode cX3_sealIt 1 = .ok (.iload_n 1, 1) := dk_27 (dk_at dksX3_sealIt_0 1 rfl rfl)
theorem dX3_sealIt_2 : decode cX3_sealIt 2 = .ok (.invokevirtual 95, 3) := dk_182 0 95 (dk_at dksX3_sealIt_0 2 rfl rfl)
theorem dX3_sealIt_5 : decode cX3_sealIt 5 = .ok (.ifCond .ne 9, 3) := dk_154 0 9 (dk_at dksX3_sealIt_0 5 rfl rfl)
theorem dX3_sealIt_8 : decode cX3_sealIt 8 = .ok (.aload_n 0, 1) := dk_42 (dk_at dksX3_sealIt_0 8 rfl rfl)
theorem dX3_sealIt_9 : decode cX3_sealIt 9 = .ok (.iconst 1, 1) := dk_4 (dk_at dksX3_sealIt_0 9 rfl rfl)
theorem dX3_sealIt_10 : decode cX3_sealIt 10 = .ok (.invokevirtual 75, 3) := dk_182 0 75 (dk_at dksX3_sealIt_0 10 rfl rfl)
theorem dX3_sealIt_13 : decode cX3_sealIt 13 = .ok (.ireturn, 1) := dk_172 (dk_at dksX3_sealIt_0 13 rfl rfl)
theorem dX3_sealIt_14 : decode cX3_sealIt 14 = .ok (.iload_n 2, 1) := dk_28 (dk_at dksX3_sealIt_0 14 rfl rfl)
theorem dX3_sealIt_15 : decode cX3_sealIt 15 = .ok (.i2l, 1) := dk_133 (dk_at dksX3_sealIt_0 15 rfl rfl)
theorem dX3_sealIt_16 : decode cX3_sealIt 16 = .ok (.lconst 1, 1) := dk_10 (dk_at dksX3_sealIt_0 16 rfl rfl)
theorem dX3_sealIt_17 : decode cX3_sealIt 17 = .ok (.ldc2_w 73, 3) := dk_20 0 73 (dk_at dksX3_sealIt_0 17 rfl rfl)
theorem dX3_sealIt_20 : decode cX3_sealIt 20 = .ok (.invokestatic 51, 3) := dk_184 0 51 (dk_at dksX3_sealIt_0 20 rfl rfl)
theorem dX3_sealIt_23 : decode cX3_sealIt 23 = .ok (.ifCond .ne 9, 3) := dk_154 0 9 (dk_at dksX3_sealIt_1 0 rfl rfl)
theorem dX3_sealIt_26 : decode cX3_sealIt 26 = .ok (.aload_n 0, 1) := dk_42 (dk_at dksX3_sealIt_1 3 rfl rfl)
theorem dX3_sealIt_27 : decode cX3_sealIt 27 = .ok (.iconst 2, 1) := dk_5 (dk_at dksX3_sealIt_1 4 rfl rfl)
theorem dX3_sealIt_28 : decode cX3_sealIt 28 = .ok (.invokevirtual 75, 3) := dk_182 0 75 (dk_at dksX3_sealIt_1 5 rfl rfl)
theorem dX3_sealIt_31 : decode cX3_sealIt 31 = .ok (.ireturn, 1) := dk_172 (dk_at dksX3_sealIt_1 8 rfl rfl)
theorem dX3_sealIt_32 : decode cX3_sealIt 32 = .ok (.aload_n 0, 1) := dk_42 (dk_at dksX3_sealIt_1 9 rfl rfl)
theorem dX3_sealIt_33 : decode cX3_sealIt 33 = .ok (.getfield 9, 3) := dk_180 0 9 (dk_at dksX3_sealIt_1 10 rfl rfl)
theorem dX3_sealIt_36 : decode cX3_sealIt 36 = .ok (.bipush 11, 2) := dk_16 11 (dk_at dksX3_sealIt_1 13 rfl rfl)
theorem dX3_sealIt_38 : decode cX3_sealIt 38 = .ok (.iaload, 1) := dk_46 (dk_at dksX3_sealIt_1 15 rfl rfl)
theorem dX3_sealIt_39 : decode cX3_sealIt 39 = .ok (.iconst (-1), 1) := dk_2 (dk_at dksX3_sealIt_1 16 rfl rfl)
theorem dX3_sealIt_40 : decode cX3_sealIt 40 = .ok (.if_icmp .ne 9, 3) := dk_160 0 9 (dk_at dksX3_sealIt_1 17 rfl rfl)
theorem dX3_sealIt_43 : decode cX3_sealIt 43 = .ok (.aload_n 0, 1) := dk_42 (dk_at dksX3_sealIt_1 20 rfl rfl)
theorem dX3_sealIt_44 : decode cX3_sealIt 44 = .ok (.iconst 3, 1) := dk_6 (dk_at dksX3_sealIt_1 21 rfl rfl)
theorem dX3_sealIt_45 : decode cX3_sealIt 45 = .ok (.invokevirtual 75, 3) := dk_182 0 75 (dk_at dksX3_sealIt_2 0 rfl rfl)
theorem dX3_sealIt_48 : decode cX3_sealIt 48 = .ok (.ireturn, 1) := dk_172 (dk_at dksX3_sealIt_2 3 rfl rfl)
theorem dX3_sealIt_49 : decode cX3_sealIt 49 = .ok (.aload_n 0, 1) := dk_42 (dk_at dksX3_sealIt_2 4 rfl rfl)
theorem dX3_sealIt_50 : decode cX3_sealIt 50 = .ok (.getfield 9, 3) := dk_180 0 9 (dk_at dksX3_sealIt_2 5 rfl rfl)
theorem dX3_sealIt_53 : decode cX3_sealIt 53 = .ok (.iload_n 1, 1) := dk_27 (dk_at dksX3_sealIt_2 8 rfl rfl)
theorem dX3_sealIt_54 : decode cX3_sealIt 54 = .ok (.invokestatic 78, 3) := dk_184 0 78 (dk_at dksX3_sealIt_2 9 rfl rfl)
theorem dX3_sealIt_57 : decode cX3_sealIt 57 = .ok (.iconst 2, 1) := dk_5 (dk_at dksX3_sealIt_2 12 rfl rfl)
theorem dX3_sealIt_58 : decode cX3_sealIt 58 = .ok (.iadd, 1) := dk_96 (dk_at dksX3_sealIt_2 13 rfl rfl)
theorem dX3_sealIt_59 : decode cX3_sealIt 59 = .ok (.iload_n 2, 1) := dk_28 (dk_at dksX3_sealIt_2 14 rfl rfl)
theorem dX3_sealIt_60 : decode cX3_sealIt 60 = .ok (.iastore, 1) := dk_79 (dk_at dksX3_sealIt_2 15 rfl rfl)
theorem dX3_sealIt_61 : decode cX3_sealIt 61 = .ok (.iconst 0, 1) := dk_3 (dk_at dksX3_sealIt_2 16 rfl rfl)
theorem dX3_sealIt_62 : decode cX3_sealIt 62 = .ok (.istore_n 3, 1) := dk_62 (dk_at dksX3_sealIt_2 17 rfl rfl)
theorem dX3_sealIt_63 : decode cX3_sealIt 63 = .ok (.iconst 0, 1) := dk_3 (dk_at dksX3_sealIt_2 18 rfl rfl)
theorem dX3_sealIt_64 : decode cX3_sealIt 64 = .ok (.istore 4, 2) := dk_54 4 (dk_at dksX3_sealIt_2 19 rfl rfl)
theorem dX3_sealIt_66 : decode cX3_sealIt 66 = .ok (.iload 4, 2) := dk_21 4 (dk_at dksX3_sealIt_2 21 rfl rfl)
theorem dX3_sealIt_68 : decode cX3_sealIt 68 = .ok (.aload_n 0, 1) := dk_42 (dk_at dksX3_sealIt_2 23 rfl rfl)
theorem dX3_sealIt_69 : decode cX3_sealIt 69 = .ok (.getfield 9, 3) := dk_180 0 9 (dk_at dksX3_sealIt_3 0 rfl rfl)
theorem dX3_sealIt_72 : decode cX3_sealIt 72 = .ok (.iconst 0, 1) := dk_3 (dk_at dksX3_sealIt_3 3 rfl rfl)
theorem dX3_sealIt_73 : decode cX3_sealIt 73 = .ok (.iaload, 1) := dk_46 (dk_at dksX3_sealIt_3 4 rfl rfl)
theorem dX3_sealIt_74 : decode cX3_sealIt 74 = .ok (.if_icmp .ge 32, 3) := dk_162 0 32 (dk_at dksX3_sealIt_3 5 rfl rfl)
theorem dX3_sealIt_77 : decode cX3_sealIt 77 = .ok (.iload_n 3, 1) := dk_29 (dk_at dksX3_sealIt_3 8 rfl rfl)
theorem dX3_sealIt_78 : decode cX3_sealIt 78 = .ok (.aload_n 0, 1) := dk_42 (dk_at dksX3_sealIt_3 9 rfl rfl)
theorem dX3_sealIt_79 : decode cX3_sealIt 79 = .ok (.getfield 9, 3) := dk_180 0 9 (dk_at dksX3_sealIt_3 10 rfl rfl)
theorem dX3_sealIt_82 : decode cX3_sealIt 82 = .ok (.iload 4, 2) := dk_21 4 (dk_at dksX3_sealIt_3 13 rfl rfl)
theorem dX3_sealIt_84 : decode cX3_sealIt 84 = .ok (.invokestatic 78, 3) := dk_184 0 78 (dk_at dksX3_sealIt_3 15 rfl rfl)
theorem dX3_sealIt_87 : decode cX3_sealIt 87 = .ok (.iconst 2, 1) := dk_5 (dk_at dksX3_sealIt_3 18 rfl rfl)
theorem dX3_sealIt_88 : decode cX3_sealIt 88 = .ok (.iadd, 1) := dk_96 (dk_at dksX3_sealIt_3 19 rfl rfl)
theorem dX3_sealIt_89 : decode cX3_sealIt 89 = .ok (.iaload, 1) := dk_46 (dk_at dksX3_sealIt_3 20 rfl rfl)
theorem dX3_sealIt_90 : decode cX3_sealIt 90 = .ok (.ifCond .le 7, 3) := dk_158 0 7 (dk_at dksX3_sealIt_3 21 rfl rfl)
theorem dX3_sealIt_93 : decode cX3_sealIt 93 = .ok (.iconst 1, 1) := dk_4 (dk_at dksX3_sealIt_4 0 rfl rfl)
theorem dX3_sealIt_94 : decode cX3_sealIt 94 = .ok (.goto 4, 3) := dk_167 0 4 (dk_at dksX3_sealIt_4 1 rfl rfl)
theorem dX3_sealIt_97 : decode cX3_sealIt 97 = .ok (.iconst 0, 1) := dk_3 (dk_at dksX3_sealIt_4 4 rfl rfl)
theorem dX3_sealIt_98 : decode cX3_sealIt 98 = .ok (.iadd, 1) := dk_96 (dk_at dksX3_sealIt_4 5 rfl rfl)
theorem dX3_sealIt_99 : decode cX3_sealIt 99 = .ok (.istore_n 3, 1) := dk_62 (dk_at dksX3_sealIt_4 6 rfl rfl)
theorem dX3_sealIt_100 : decode cX3_sealIt 100 = .ok (.iinc 4 1, 3) := dk_132 4 1 (dk_at dksX3_sealIt_4 7 rfl rfl)
theorem dX3_sealIt_103 : decode cX3_sealIt 103 = .ok (.goto (-37), 3) := dk_167 255 219 (dk_at dksX3_sealIt_4 10 rfl rfl)
theorem dX3_sealIt_106 : decode cX3_sealIt 106 = .ok (.iload_n 3, 1) := dk_29 (dk_at dksX3_sealIt_4 13 rfl rfl)
theorem dX3_sealIt_107 : decode cX3_sealIt 107 = .ok (.ireturn, 1) := dk_172 (dk_at dksX3_sealIt_4 14 rfl rfl)
abbrev cX3_closeAuction : ByteArray := prog_15_method_42_code
def yX3_closeAuction : MethodName := ⟨RX3, "closeAuction", "()I"⟩
def dkwX3_closeAuction_0 : List UInt8 := [42, 182, 0, 81, 42, 42, 182, 0, 171, 182, 0, 88, 172]
abbrev dktX3_closeAuction_0 : List UInt8 := dkwX3_closeAuction_0 ++ []
theorem dksX3_closeAuction_0 : cX3_closeAuction.data.toList.drop 0 = dktX3_closeAuction_0 := by decide +kernel
theorem dX3_closeAuction_0 : decode cX3_closeAuction 0 = .ok (.aload_n 0, 1) := dk_42 (dk_at dksX3_closeAuction_0 0 rfl rfl)
theorem dX3_closeAuction_1 : decode cX3_closeAuction 1 = .ok (.invokevirtual 81, 3) := dk_182 0 81 (dk_at dksX3_closeAuction_0 1 rfl rfl)
theorem dX3_closeAuction_4 : decode cX3_closeAuction 4 = .ok (.aload_n 0, 1) := dk_42 (dk_at dksX3_closeAuction_0 4 rfl rfl)
theorem dX3_closeAuction_5 : decode cX3_closeAuction 5 = .ok (.aload_n 0, 1) := dk_42 (dk_at dksX3_closeAuction_0 5 rfl rfl)
theorem dX3_closeAuction_6 : decode cX3_closeAuction 6 = .ok (.invokevirtual 171, 3) := dk_182 0 171 (dk_at dksX3_closeAuction_0 6 rfl rfl)
theorem dX3_closeAuction_9 : decode cX3_closeAuction 9 = .ok (.invokevirtual 88, 3) := dk_182 0 88 (dk_at dksX3_closeAuction_0 9 rfl rfl)
theorem dX3_closeAuction_12 : decode cX3_closeAuction 12 = .ok (.ireturn, 1) := dk_172 (dk_at dksX3_closeAuction_0 12 rfl rfl)
abbrev cX3_closeIt : ByteArray := prog_15_method_41_code
def yX3_closeIt : MethodName := ⟨RX3, "closeIt", "()I"⟩
def dkwX3_closeIt_5 : List UInt8 := [180, 0, 9, 16, 12, 3, 79, 28, 172]
abbrev dktX3_closeIt_5 : List UInt8 := dkwX3_closeIt_5 ++ []
def dkwX3_closeIt_4 : List UInt8 := [29, 184, 0, 78, 5, 96, 3, 79, 132, 3, 1, 167, 255, 235, 42, 180, 0, 9, 16, 11, 2, 79, 42]
abbrev dktX3_closeIt_4 : List UInt8 := dkwX3_closeIt_4 ++ dktX3_closeIt_5
def dkwX3_closeIt_3 : List UInt8 := [16, 13, 42, 180, 0, 9, 16, 11, 46, 96, 27, 79, 3, 62, 29, 16, 6, 162, 0, 21, 42, 180, 0, 9]
abbrev dktX3_closeIt_3 : List UInt8 := dkwX3_closeIt_3 ++ dktX3_closeIt_4
def dkwX3_closeIt_2 : List UInt8 := [184, 0, 78, 92, 46, 28, 100, 79, 42, 180, 0, 9, 16, 10, 92, 46, 28, 96, 79, 42, 180, 0, 9]
abbrev dktX3_closeIt_2 : List UInt8 := dkwX3_closeIt_2 ++ dktX3_closeIt_3
def dkwX3_closeIt_1 : List UInt8 := [160, 0, 7, 3, 167, 0, 7, 42, 182, 0, 168, 61, 27, 2, 159, 0, 43, 42, 180, 0, 9, 27]
abbrev dktX3_closeIt_1 : List UInt8 := dkwX3_closeIt_1 ++ dktX3_closeIt_2
def dkwX3_closeIt_0 : List UInt8 := [42, 180, 0, 9, 16, 11, 46, 2, 160, 0, 9, 42, 4, 182, 0, 75, 172, 42, 182, 0, 161, 60, 27, 2]
abbrev dktX3_closeIt_0 : List UInt8 := dkwX3_closeIt_0 ++ dktX3_closeIt_1
theorem dksX3_closeIt_0 : cX3_closeIt.data.toList.drop 0 = dktX3_closeIt_0 := by decide +kernel
theorem dksX3_closeIt_1 : cX3_closeIt.data.toList.drop 24 = dktX3_closeIt_1 := dk_seg dksX3_closeIt_0 24 rfl rfl
theorem dksX3_closeIt_2 : cX3_closeIt.data.toList.drop 46 = dktX3_closeIt_2 := dk_seg dksX3_closeIt_1 22 rfl rfl
theorem dksX3_closeIt_3 : cX3_closeIt.data.toList.drop 69 = dktX3_closeIt_3 := dk_seg dksX3_closeIt_2 23 rfl rfl
theorem dksX3_closeIt_4 : cX3_closeIt.data.toList.drop 93 = dktX3_closeIt_4 := dk_seg dksX3_closeIt_3 24 rfl rfl
theorem dksX3_closeIt_5 : cX3_closeIt.data.toList.drop 116 = dktX3_closeIt_5 := dk_seg dksX3_closeIt_4 23 rfl rfl
theorem dX3_closeIt_0 : decode cX3_closeIt 0 = .ok (.aload_n 0, 1) := dk_42 (dk_at dksX3_closeIt_0 0 rfl rfl)
theorem dX3_closeIt_1 : decode cX3_closeIt 1 = .ok (.getfield 9, 3) := dk_180 0 9 (dk_at dksX3_closeIt_0 1 rfl rfl)
theorem dX3_closeIt_4 : decode cX3_closeIt 4 = .ok (.bipush 11, 2) := dk_16 11 (dk_at dksX3_closeIt_0 4 rfl rfl)
theorem dX3_closeIt_6 : decode cX3_closeIt 6 = .ok (.iaload, 1) := dk_46 (dk_at dksX3_closeIt_0 6 rfl rfl)
theorem dX3_closeIt_7 : decode cX3_closeIt 7 = .ok (.iconst (-1), 1) := dk_2 (dk_at dksX3_closeIt_0 7 rfl rfl)
theorem dX3_closeIt_8 : decode cX3_closeIt 8 = .ok (.if_icmp .ne 9, 3) := dk_160 0 9 (dk_at dksX3_closeIt_0 8 rfl rfl)
theorem dX3_closeIt_11 : decode cX3_closeIt 11 = .ok (.aload_n 0, 1) := dk_42 (dk_at dksX3_closeIt_0 11 rfl rfl)
theorem dX3_closeIt_12 : decode cX3_closeIt 12 = .ok (.iconst 1, 1) := dk_4 (dk_at dksX3_closeIt_0 12 rfl rfl)
theorem dX3_closeIt_13 : decode cX3_closeIt 13 = .ok (.invokevirtual 75, 3) := dk_182 0 75 (dk_at dksX3_closeIt_0 13 rfl rfl)
theorem dX3_closeIt_16 : decode cX3_closeIt 16 = .ok (.ireturn, 1) := dk_172 (dk_at dksX3_closeIt_0 16 rfl rfl)
theorem dX3_closeIt_17 : decode cX3_closeIt 17 = .ok (.aload_n 0, 1) := dk_42 (dk_at dksX3_closeIt_0 17 rfl rfl)
theorem dX3_closeIt_18 : decode cX3_closeIt 18 = .ok (.invokevirtual 161, 3) := dk_182 0 161 (dk_at dksX3_closeIt_0 18 rfl rfl)
theorem dX3_closeIt_21 : decode cX3_closeIt 21 = .ok (.istore_n 1, 1) := dk_60 (dk_at dksX3_closeIt_0 21 rfl rfl)
theorem dX3_closeIt_22 : decode cX3_closeIt 22 = .ok (.iload_n 1, 1) := dk_27 (dk_at dksX3_closeIt_0 22 rfl rfl)
theorem dX3_closeIt_23 : decode cX3_closeIt 23 = .ok (.iconst (-1), 1) := dk_2 (dk_at dksX3_closeIt_0 23 rfl rfl)
theorem dX3_closeIt_24 : decode cX3_closeIt 24 = .ok (.if_icmp .ne 7, 3) := dk_160 0 7 (dk_at dksX3_closeIt_1 0 rfl rfl)
theorem dX3_closeIt_27 : decode cX3_closeIt 27 = .ok (.iconst 0, 1) := dk_3 (dk_at dksX3_closeIt_1 3 rfl rfl)
theorem dX3_closeIt_28 : decode cX3_closeIt 28 = .ok (.goto 7, 3) := dk_167 0 7 (dk_at dksX3_closeIt_1 4 rfl rfl)
theorem dX3_closeIt_31 : decode cX3_closeIt 31 = .ok (.aload_n 0, 1) := dk_42 (dk_at dksX3_closeIt_1 7 rfl rfl)
theorem dX3_closeIt_32 : decode cX3_closeIt 32 = .ok (.invokevirtual 168, 3) := dk_182 0 168 (dk_at dksX3_closeIt_1 8 rfl rfl)
theorem dX3_closeIt_35 : decode cX3_closeIt 35 = .ok (.istore_n 2, 1) := dk_61 (dk_at dksX3_closeIt_1 11 rfl rfl)
theorem dX3_closeIt_36 : decode cX3_closeIt 36 = .ok (.iload_n 1, 1) := dk_27 (dk_at dksX3_closeIt_1 12 rfl rfl)
theorem dX3_closeIt_37 : decode cX3_closeIt 37 = .ok (.iconst (-1), 1) := dk_2 (dk_at dksX3_closeIt_1 13 rfl rfl)
theorem dX3_closeIt_38 : decode cX3_closeIt 38 = .ok (.if_icmp .eq 43, 3) := dk_159 0 43 (dk_at dksX3_closeIt_1 14 rfl rfl)
theorem dX3_closeIt_41 : decode cX3_closeIt 41 = .ok (.aload_n 0, 1) := dk_42 (dk_at dksX3_closeIt_1 17 rfl rfl)
theorem dX3_closeIt_42 : decode cX3_closeIt 42 = .ok (.getfield 9, 3) := dk_180 0 9 (dk_at dksX3_closeIt_1 18 rfl rfl)
theorem dX3_closeIt_45 : decode cX3_closeIt 45 = .ok (.iload_n 1, 1) := dk_27 (dk_at dksX3_closeIt_1 21 rfl rfl)
theorem dX3_closeIt_46 : decode cX3_closeIt 46 = .ok (.invokestatic 78, 3) := dk_184 0 78 (dk_at dksX3_closeIt_2 0 rfl rfl)
theorem dX3_closeIt_49 : decode cX3_closeIt 49 = .ok (.dup2, 1) := dk_92 (dk_at dksX3_closeIt_2 3 rfl rfl)
theorem dX3_closeIt_50 : decode cX3_closeIt 50 = .ok (.iaload, 1) := dk_46 (dk_at dksX3_closeIt_2 4 rfl rfl)
theorem dX3_closeIt_51 : decode cX3_closeIt 51 = .ok (.iload_n 2, 1) := dk_28 (dk_at dksX3_closeIt_2 5 rfl rfl)
theorem dX3_closeIt_52 : decode cX3_closeIt 52 = .ok (.isub, 1) := dk_100 (dk_at dksX3_closeIt_2 6 rfl rfl)
theorem dX3_closeIt_53 : decode cX3_closeIt 53 = .ok (.iastore, 1) := dk_79 (dk_at dksX3_closeIt_2 7 rfl rfl)
theorem dX3_closeIt_54 : decode cX3_closeIt 54 = .ok (.aload_n 0, 1) := dk_42 (dk_at dksX3_closeIt_2 8 rfl rfl)
theorem dX3_closeIt_55 : decode cX3_closeIt 55 = .ok (.getfield 9, 3) := dk_180 0 9 (dk_at dksX3_closeIt_2 9 rfl rfl)
theorem dX3_closeIt_58 : decode cX3_closeIt 58 = .ok (.bipush 10, 2) := dk_16 10 (dk_at dksX3_closeIt_2 12 rfl rfl)
theorem dX3_closeIt_60 : decode cX3_closeIt 60 = .ok (.dup2, 1) := dk_92 (dk_at dksX3_closeIt_2 14 rfl rfl)
theorem dX3_closeIt_61 : decode cX3_closeIt 61 = .ok (.iaload, 1) := dk_46 (dk_at dksX3_closeIt_2 15 rfl rfl)
theorem dX3_closeIt_62 : decode cX3_closeIt 62 = .ok (.iload_n 2, 1) := dk_28 (dk_at dksX3_closeIt_2 16 rfl rfl)
theorem dX3_closeIt_63 : decode cX3_closeIt 63 = .ok (.iadd, 1) := dk_96 (dk_at dksX3_closeIt_2 17 rfl rfl)
theorem dX3_closeIt_64 : decode cX3_closeIt 64 = .ok (.iastore, 1) := dk_79 (dk_at dksX3_closeIt_2 18 rfl rfl)
theorem dX3_closeIt_65 : decode cX3_closeIt 65 = .ok (.aload_n 0, 1) := dk_42 (dk_at dksX3_closeIt_2 19 rfl rfl)
theorem dX3_closeIt_66 : decode cX3_closeIt 66 = .ok (.getfield 9, 3) := dk_180 0 9 (dk_at dksX3_closeIt_2 20 rfl rfl)
theorem dX3_closeIt_69 : decode cX3_closeIt 69 = .ok (.bipush 13, 2) := dk_16 13 (dk_at dksX3_closeIt_3 0 rfl rfl)
theorem dX3_closeIt_71 : decode cX3_closeIt 71 = .ok (.aload_n 0, 1) := dk_42 (dk_at dksX3_closeIt_3 2 rfl rfl)
theorem dX3_closeIt_72 : decode cX3_closeIt 72 = .ok (.getfield 9, 3) := dk_180 0 9 (dk_at dksX3_closeIt_3 3 rfl rfl)
theorem dX3_closeIt_75 : decode cX3_closeIt 75 = .ok (.bipush 11, 2) := dk_16 11 (dk_at dksX3_closeIt_3 6 rfl rfl)
theorem dX3_closeIt_77 : decode cX3_closeIt 77 = .ok (.iaload, 1) := dk_46 (dk_at dksX3_closeIt_3 8 rfl rfl)
theorem dX3_closeIt_78 : decode cX3_closeIt 78 = .ok (.iadd, 1) := dk_96 (dk_at dksX3_closeIt_3 9 rfl rfl)
theorem dX3_closeIt_79 : decode cX3_closeIt 79 = .ok (.iload_n 1, 1) := dk_27 (dk_at dksX3_closeIt_3 10 rfl rfl)
theorem dX3_closeIt_80 : decode cX3_closeIt 80 = .ok (.iastore, 1) := dk_79 (dk_at dksX3_closeIt_3 11 rfl rfl)
theorem dX3_closeIt_81 : decode cX3_closeIt 81 = .ok (.iconst 0, 1) := dk_3 (dk_at dksX3_closeIt_3 12 rfl rfl)
theorem dX3_closeIt_82 : decode cX3_closeIt 82 = .ok (.istore_n 3, 1) := dk_62 (dk_at dksX3_closeIt_3 13 rfl rfl)
theorem dX3_closeIt_83 : decode cX3_closeIt 83 = .ok (.iload_n 3, 1) := dk_29 (dk_at dksX3_closeIt_3 14 rfl rfl)
theorem dX3_closeIt_84 : decode cX3_closeIt 84 = .ok (.bipush 6, 2) := dk_16 6 (dk_at dksX3_closeIt_3 15 rfl rfl)
theorem dX3_closeIt_86 : decode cX3_closeIt 86 = .ok (.if_icmp .ge 21, 3) := dk_162 0 21 (dk_at dksX3_closeIt_3 17 rfl rfl)
theorem dX3_closeIt_89 : decode cX3_closeIt 89 = .ok (.aload_n 0, 1) := dk_42 (dk_at dksX3_closeIt_3 20 rfl rfl)
theorem dX3_closeIt_90 : decode cX3_closeIt 90 = .ok (.getfield 9, 3) := dk_180 0 9 (dk_at dksX3_closeIt_3 21 rfl rfl)
theorem dX3_closeIt_93 : decode cX3_closeIt 93 = .ok (.iload_n 3, 1) := dk_29 (dk_at dksX3_closeIt_4 0 rfl rfl)
theorem dX3_closeIt_94 : decode cX3_closeIt 94 = .ok (.invokestatic 78, 3) := dk_184 0 78 (dk_at dksX3_closeIt_4 1 rfl rfl)
theorem dX3_closeIt_97 : decode cX3_closeIt 97 = .ok (.iconst 2, 1) := dk_5 (dk_at dksX3_closeIt_4 4 rfl rfl)
theorem dX3_closeIt_98 : decode cX3_closeIt 98 = .ok (.iadd, 1) := dk_96 (dk_at dksX3_closeIt_4 5 rfl rfl)
theorem dX3_closeIt_99 : decode cX3_closeIt 99 = .ok (.iconst 0, 1) := dk_3 (dk_at dksX3_closeIt_4 6 rfl rfl)
theorem dX3_closeIt_100 : decode cX3_closeIt 100 = .ok (.iastore, 1) := dk_79 (dk_at dksX3_closeIt_4 7 rfl rfl)
theorem dX3_closeIt_101 : decode cX3_closeIt 101 = .ok (.iinc 3 1, 3) := dk_132 3 1 (dk_at dksX3_closeIt_4 8 rfl rfl)
theorem dX3_closeIt_104 : decode cX3_closeIt 104 = .ok (.goto (-21), 3) := dk_167 255 235 (dk_at dksX3_closeIt_4 11 rfl rfl)
theorem dX3_closeIt_107 : decode cX3_closeIt 107 = .ok (.aload_n 0, 1) := dk_42 (dk_at dksX3_closeIt_4 14 rfl rfl)
theorem dX3_closeIt_108 : decode cX3_closeIt 108 = .ok (.getfield 9, 3) := dk_180 0 9 (dk_at dksX3_closeIt_4 15 rfl rfl)
theorem dX3_closeIt_111 : decode cX3_closeIt 111 = .ok (.bipush 11, 2) := dk_16 11 (dk_at dksX3_closeIt_4 18 rfl rfl)
theorem dX3_closeIt_113 : decode cX3_closeIt 113 = .ok (.iconst (-1), 1) := dk_2 (dk_at dksX3_closeIt_4 20 rfl rfl)
theorem dX3_closeIt_114 : decode cX3_closeIt 114 = .ok (.iastore, 1) := dk_79 (dk_at dksX3_closeIt_4 21 rfl rfl)
theorem dX3_closeIt_115 : decode cX3_closeIt 115 = .ok (.aload_n 0, 1) := dk_42 (dk_at dksX3_closeIt_4 22 rfl rfl)
theorem dX3_closeIt_116 : decode cX3_closeIt 116 = .ok (.getfield 9, 3) := dk_180 0 9 (dk_at dksX3_closeIt_5 0 rfl rfl)
theorem dX3_closeIt_119 : decode cX3_closeIt 119 = .ok (.bipush 12, 2) := dk_16 12 (dk_at dksX3_closeIt_5 3 rfl rfl)
theorem dX3_closeIt_121 : decode cX3_closeIt 121 = .ok (.iconst 0, 1) := dk_3 (dk_at dksX3_closeIt_5 5 rfl rfl)
theorem dX3_closeIt_122 : decode cX3_closeIt 122 = .ok (.iastore, 1) := dk_79 (dk_at dksX3_closeIt_5 6 rfl rfl)
theorem dX3_closeIt_123 : decode cX3_closeIt 123 = .ok (.iload_n 2, 1) := dk_28 (dk_at dksX3_closeIt_5 7 rfl rfl)
theorem dX3_closeIt_124 : decode cX3_closeIt 124 = .ok (.ireturn, 1) := dk_172 (dk_at dksX3_closeIt_5 8 rfl rfl)
abbrev cX3_winnerNow : ByteArray := prog_15_method_39_code
def yX3_winnerNow : MethodName := ⟨RX3, "winnerNow", "()I"⟩
def dkwX3_winnerNow_2 : List UInt8 := [153, 0, 7, 28, 167, 0, 4, 27, 60, 132, 2, 1, 167, 255, 201, 27, 172]
abbrev dktX3_winnerNow_2 : List UInt8 := dkwX3_winnerNow_2 ++ []
def dkwX3_winnerNow_1 : List UInt8 := [42, 27, 182, 0, 158, 164, 0, 7, 4, 167, 0, 4, 3, 62, 42, 28, 182, 0, 158, 158, 0, 11, 29]
abbrev dktX3_winnerNow_1 : List UInt8 := dkwX3_winnerNow_1 ++ dktX3_winnerNow_2
def dkwX3_winnerNow_0 : List UInt8 := [2, 60, 3, 61, 28, 42, 180, 0, 9, 3, 46, 162, 0, 51, 27, 2, 159, 0, 16, 42, 28, 182, 0, 158]
abbrev dktX3_winnerNow_0 : List UInt8 := dkwX3_winnerNow_0 ++ dktX3_winnerNow_1
theorem dksX3_winnerNow_0 : cX3_winnerNow.data.toList.drop 0 = dktX3_winnerNow_0 := by decide +kernel
theorem dksX3_winnerNow_1 : cX3_winnerNow.data.toList.drop 24 = dktX3_winnerNow_1 := dk_seg dksX3_winnerNow_0 24 rfl rfl
theorem dksX3_winnerNow_2 : cX3_winnerNow.data.toList.drop 47 = dktX3_winnerNow_2 := dk_seg dksX3_winnerNow_1 23 rfl rfl
theorem dX3_winnerNow_0 : decode cX3_winnerNow 0 = .ok (.iconst (-1), 1) := dk_2 (dk_at dksX3_winnerNow_0 0 rfl rfl)
theorem dX3_winnerNow_1 : decode cX3_winnerNow 1 = .ok (.istore_n 1, 1) := dk_60 (dk_at dksX3_winnerNow_0 1 rfl rfl)
theorem dX3_winnerNow_2 : decode cX3_winnerNow 2 = .ok (.iconst 0, 1) := dk_3 (dk_at dksX3_winnerNow_0 2 rfl rfl)
theorem dX3_winnerNow_3 : decode cX3_winnerNow 3 = .ok (.istore_n 2, 1) := dk_61 (dk_at dksX3_winnerNow_0 3 rfl rfl)
theorem dX3_winnerNow_4 : decode cX3_winnerNow 4 = .ok (.iload_n 2, 1) := dk_28 (dk_at dksX3_winnerNow_0 4 rfl rfl)
theorem dX3_winnerNow_5 : decode cX3_winnerNow 5 = .ok (.aload_n 0, 1) := dk_42 (dk_at dksX3_winnerNow_0 5 rfl rfl)
theorem dX3_winnerNow_6 : decode cX3_winnerNow 6 = .ok (.getfield 9, 3) := dk_180 0 9 (dk_at dksX3_winnerNow_0 6 rfl rfl)
theorem dX3_winnerNow_9 : decode cX3_winnerNow 9 = .ok (.iconst 0, 1) := dk_3 (dk_at dksX3_winnerNow_0 9 rfl rfl)
theorem dX3_winnerNow_10 : decode cX3_winnerNow 10 = .ok (.iaload, 1) := dk_46 (dk_at dksX3_winnerNow_0 10 rfl rfl)
theorem dX3_winnerNow_11 : decode cX3_winnerNow 11 = .ok (.if_icmp .ge 51, 3) := dk_162 0 51 (dk_at dksX3_winnerNow_0 11 rfl rfl)
theorem dX3_winnerNow_14 : decode cX3_winnerNow 14 = .ok (.iload_n 1, 1) := dk_27 (dk_at dksX3_winnerNow_0 14 rfl rfl)
theorem dX3_winnerNow_15 : decode cX3_winnerNow 15 = .ok (.iconst (-1), 1) := dk_2 (dk_at dksX3_winnerNow_0 15 rfl rfl)
theorem dX3_winnerNow_16 : decode cX3_winnerNow 16 = .ok (.if_icmp .eq 16, 3) := dk_159 0 16 (dk_at dksX3_winnerNow_0 16 rfl rfl)
theorem dX3_winnerNow_19 : decode cX3_winnerNow 19 = .ok (.aload_n 0, 1) := dk_42 (dk_at dksX3_winnerNow_0 19 rfl rfl)
theorem dX3_winnerNow_20 : decode cX3_winnerNow 20 = .ok (.iload_n 2, 1) := dk_28 (dk_at dksX3_winnerNow_0 20 rfl rfl)
theorem dX3_winnerNow_21 : decode cX3_winnerNow 21 = .ok (.invokevirtual 158, 3) := dk_182 0 158 (dk_at dksX3_winnerNow_0 21 rfl rfl)
theorem dX3_winnerNow_24 : decode cX3_winnerNow 24 = .ok (.aload_n 0, 1) := dk_42 (dk_at dksX3_winnerNow_1 0 rfl rfl)
theorem dX3_winnerNow_25 : decode cX3_winnerNow 25 = .ok (.iload_n 1, 1) := dk_27 (dk_at dksX3_winnerNow_1 1 rfl rfl)
theorem dX3_winnerNow_26 : decode cX3_winnerNow 26 = .ok (.invokevirtual 158, 3) := dk_182 0 158 (dk_at dksX3_winnerNow_1 2 rfl rfl)
theorem dX3_winnerNow_29 : decode cX3_winnerNow 29 = .ok (.if_icmp .le 7, 3) := dk_164 0 7 (dk_at dksX3_winnerNow_1 5 rfl rfl)
theorem dX3_winnerNow_32 : decode cX3_winnerNow 32 = .ok (.iconst 1, 1) := dk_4 (dk_at dksX3_winnerNow_1 8 rfl rfl)
theorem dX3_winnerNow_33 : decode cX3_winnerNow 33 = .ok (.goto 4, 3) := dk_167 0 4 (dk_at dksX3_winnerNow_1 9 rfl rfl)
theorem dX3_winnerNow_36 : decode cX3_winnerNow 36 = .ok (.iconst 0, 1) := dk_3 (dk_at dksX3_winnerNow_1 12 rfl rfl)
theorem dX3_winnerNow_37 : decode cX3_winnerNow 37 = .ok (.istore_n 3, 1) := dk_62 (dk_at dksX3_winnerNow_1 13 rfl rfl)
theorem dX3_winnerNow_38 : decode cX3_winnerNow 38 = .ok (.aload_n 0, 1) := dk_42 (dk_at dksX3_winnerNow_1 14 rfl rfl)
theorem dX3_winnerNow_39 : decode cX3_winnerNow 39 = .ok (.iload_n 2, 1) := dk_28 (dk_at dksX3_winnerNow_1 15 rfl rfl)
theorem dX3_winnerNow_40 : decode cX3_winnerNow 40 = .ok (.invokevirtual 158, 3) := dk_182 0 158 (dk_at dksX3_winnerNow_1 16 rfl rfl)
theorem dX3_winnerNow_43 : decode cX3_winnerNow 43 = .ok (.ifCond .le 11, 3) := dk_158 0 11 (dk_at dksX3_winnerNow_1 19 rfl rfl)
theorem dX3_winnerNow_46 : decode cX3_winnerNow 46 = .ok (.iload_n 3, 1) := dk_29 (dk_at dksX3_winnerNow_1 22 rfl rfl)
theorem dX3_winnerNow_47 : decode cX3_winnerNow 47 = .ok (.ifCond .eq 7, 3) := dk_153 0 7 (dk_at dksX3_winnerNow_2 0 rfl rfl)
theorem dX3_winnerNow_50 : decode cX3_winnerNow 50 = .ok (.iload_n 2, 1) := dk_28 (dk_at dksX3_winnerNow_2 3 rfl rfl)
theorem dX3_winnerNow_51 : decode cX3_winnerNow 51 = .ok (.goto 4, 3) := dk_167 0 4 (dk_at dksX3_winnerNow_2 4 rfl rfl)
theorem dX3_winnerNow_54 : decode cX3_winnerNow 54 = .ok (.iload_n 1, 1) := dk_27 (dk_at dksX3_winnerNow_2 7 rfl rfl)
theorem dX3_winnerNow_55 : decode cX3_winnerNow 55 = .ok (.istore_n 1, 1) := dk_60 (dk_at dksX3_winnerNow_2 8 rfl rfl)
theorem dX3_winnerNow_56 : decode cX3_winnerNow 56 = .ok (.iinc 2 1, 3) := dk_132 2 1 (dk_at dksX3_winnerNow_2 9 rfl rfl)
theorem dX3_winnerNow_59 : decode cX3_winnerNow 59 = .ok (.goto (-55), 3) := dk_167 255 201 (dk_at dksX3_winnerNow_2 12 rfl rfl)
theorem dX3_winnerNow_62 : decode cX3_winnerNow 62 = .ok (.iload_n 1, 1) := dk_27 (dk_at dksX3_winnerNow_2 15 rfl rfl)
theorem dX3_winnerNow_63 : decode cX3_winnerNow 63 = .ok (.ireturn, 1) := dk_172 (dk_at dksX3_winnerNow_2 16 rfl rfl)
abbrev cX3_validBid : ByteArray := prog_15_method_38_code
def yX3_validBid : MethodName := ⟨RX3, "validBid", "(I)I"⟩
def dkwX3_validBid_1 : List UInt8 := [42, 180, 0, 9, 27, 184, 0, 78, 46, 163, 0, 7, 28, 167, 0, 4, 3, 172]
abbrev dktX3_validBid_1 : List UInt8 := dkwX3_validBid_1 ++ []
def dkwX3_validBid_0 : List UInt8 := [42, 180, 0, 9, 27, 184, 0, 78, 5, 96, 46, 61, 28, 42, 180, 0, 9, 16, 12, 46, 161, 0, 20, 28]
abbrev dktX3_validBid_0 : List UInt8 := dkwX3_validBid_0 ++ dktX3_validBid_1
theorem dksX3_validBid_0 : cX3_validBid.data.toList.drop 0 = dktX3_validBid_0 := by decide +kernel
theorem dksX3_validBid_1 : cX3_validBid.data.toList.drop 24 = dktX3_validBid_1 := dk_seg dksX3_validBid_0 24 rfl rfl
theorem dX3_validBid_0 : decode cX3_validBid 0 = .ok (.aload_n 0, 1) := dk_42 (dk_at dksX3_validBid_0 0 rfl rfl)
theorem dX3_validBid_1 : decode cX3_validBid 1 = .ok (.getfield 9, 3) := dk_180 0 9 (dk_at dksX3_validBid_0 1 rfl rfl)
theorem dX3_validBid_4 : decode cX3_validBid 4 = .ok (.iload_n 1, 1) := dk_27 (dk_at dksX3_validBid_0 4 rfl rfl)
theorem dX3_validBid_5 : decode cX3_validBid 5 = .ok (.invokestatic 78, 3) := dk_184 0 78 (dk_at dksX3_validBid_0 5 rfl rfl)
theorem dX3_validBid_8 : decode cX3_validBid 8 = .ok (.iconst 2, 1) := dk_5 (dk_at dksX3_validBid_0 8 rfl rfl)
theorem dX3_validBid_9 : decode cX3_validBid 9 = .ok (.iadd, 1) := dk_96 (dk_at dksX3_validBid_0 9 rfl rfl)
theorem dX3_validBid_10 : decode cX3_validBid 10 = .ok (.iaload, 1) := dk_46 (dk_at dksX3_validBid_0 10 rfl rfl)
theorem dX3_validBid_11 : decode cX3_validBid 11 = .ok (.istore_n 2, 1) := dk_61 (dk_at dksX3_validBid_0 11 rfl rfl)
theorem dX3_validBid_12 : decode cX3_validBid 12 = .ok (.iload_n 2, 1) := dk_28 (dk_at dksX3_validBid_0 12 rfl rfl)
theorem dX3_validBid_13 : decode cX3_validBid 13 = .ok (.aload_n 0, 1) := dk_42 (dk_at dksX3_validBid_0 13 rfl rfl)
theorem dX3_validBid_14 : decode cX3_validBid 14 = .ok (.getfield 9, 3) := dk_180 0 9 (dk_at dksX3_validBid_0 14 rfl rfl)
theorem dX3_validBid_17 : decode cX3_validBid 17 = .ok (.bipush 12, 2) := dk_16 12 (dk_at dksX3_validBid_0 17 rfl rfl)
theorem dX3_validBid_19 : decode cX3_validBid 19 = .ok (.iaload, 1) := dk_46 (dk_at dksX3_validBid_0 19 rfl rfl)
theorem dX3_validBid_20 : decode cX3_validBid 20 = .ok (.if_icmp .lt 20, 3) := dk_161 0 20 (dk_at dksX3_validBid_0 20 rfl rfl)
theorem dX3_validBid_23 : decode cX3_validBid 23 = .ok (.iload_n 2, 1) := dk_28 (dk_at dksX3_validBid_0 23 rfl rfl)
theorem dX3_validBid_24 : decode cX3_validBid 24 = .ok (.aload_n 0, 1) := dk_42 (dk_at dksX3_validBid_1 0 rfl rfl)
theorem dX3_validBid_25 : decode cX3_validBid 25 = .ok (.getfield 9, 3) := dk_180 0 9 (dk_at dksX3_validBid_1 1 rfl rfl)
theorem dX3_validBid_28 : decode cX3_validBid 28 = .ok (.iload_n 1, 1) := dk_27 (dk_at dksX3_validBid_1 4 rfl rfl)
theorem dX3_validBid_29 : decode cX3_validBid 29 = .ok (.invokestatic 78, 3) := dk_184 0 78 (dk_at dksX3_validBid_1 5 rfl rfl)
theorem dX3_validBid_32 : decode cX3_validBid 32 = .ok (.iaload, 1) := dk_46 (dk_at dksX3_validBid_1 8 rfl rfl)
theorem dX3_validBid_33 : decode cX3_validBid 33 = .ok (.if_icmp .gt 7, 3) := dk_163 0 7 (dk_at dksX3_validBid_1 9 rfl rfl)
theorem dX3_validBid_36 : decode cX3_validBid 36 = .ok (.iload_n 2, 1) := dk_28 (dk_at dksX3_validBid_1 12 rfl rfl)
theorem dX3_validBid_37 : decode cX3_validBid 37 = .ok (.goto 4, 3) := dk_167 0 4 (dk_at dksX3_validBid_1 13 rfl rfl)
theorem dX3_validBid_40 : decode cX3_validBid 40 = .ok (.iconst 0, 1) := dk_3 (dk_at dksX3_validBid_1 16 rfl rfl)
theorem dX3_validBid_41 : decode cX3_validBid 41 = .ok (.ireturn, 1) := dk_172 (dk_at dksX3_validBid_1 17 rfl rfl)
abbrev cX3_winnersPrice : ByteArray := prog_15_method_40_code
def yX3_winnersPrice : MethodName := ⟨RX3, "winnersPrice", "()I"⟩
def dkwX3_winnersPrice_2 : List UInt8 := [167, 255, 221, 27, 172]
abbrev dktX3_winnersPrice_2 : List UInt8 := dkwX3_winnersPrice_2 ++ []
def dkwX3_winnersPrice_1 : List UInt8 := [182, 0, 161, 160, 0, 7, 27, 167, 0, 12, 27, 42, 28, 182, 0, 158, 184, 0, 165, 60, 132, 2, 1]
abbrev dktX3_winnersPrice_1 : List UInt8 := dkwX3_winnersPrice_1 ++ dktX3_winnersPrice_2
def dkwX3_winnersPrice_0 : List UInt8 := [42, 180, 0, 9, 16, 12, 46, 60, 3, 61, 28, 42, 180, 0, 9, 3, 46, 162, 0, 31, 28, 42]
abbrev dktX3_winnersPrice_0 : List UInt8 := dkwX3_winnersPrice_0 ++ dktX3_winnersPrice_1
theorem dksX3_winnersPrice_0 : cX3_winnersPrice.data.toList.drop 0 = dktX3_winnersPrice_0 := by decide +kernel
theorem dksX3_winnersPrice_1 : cX3_winnersPrice.data.toList.drop 22 = dktX3_winnersPrice_1 := dk_seg dksX3_winnersPrice_0 22 rfl rfl
theorem dksX3_winnersPrice_2 : cX3_winnersPrice.data.toList.drop 45 = dktX3_winnersPrice_2 := dk_seg dksX3_winnersPrice_1 23 rfl rfl
theorem dX3_winnersPrice_0 : decode cX3_winnersPrice 0 = .ok (.aload_n 0, 1) := dk_42 (dk_at dksX3_winnersPrice_0 0 rfl rfl)
theorem dX3_winnersPrice_1 : decode cX3_winnersPrice 1 = .ok (.getfield 9, 3) := dk_180 0 9 (dk_at dksX3_winnersPrice_0 1 rfl rfl)
theorem dX3_winnersPrice_4 : decode cX3_winnersPrice 4 = .ok (.bipush 12, 2) := dk_16 12 (dk_at dksX3_winnersPrice_0 4 rfl rfl)
theorem dX3_winnersPrice_6 : decode cX3_winnersPrice 6 = .ok (.iaload, 1) := dk_46 (dk_at dksX3_winnersPrice_0 6 rfl rfl)
theorem dX3_winnersPrice_7 : decode cX3_winnersPrice 7 = .ok (.istore_n 1, 1) := dk_60 (dk_at dksX3_winnersPrice_0 7 rfl rfl)
theorem dX3_winnersPrice_8 : decode cX3_winnersPrice 8 = .ok (.iconst 0, 1) := dk_3 (dk_at dksX3_winnersPrice_0 8 rfl rfl)
theorem dX3_winnersPrice_9 : decode cX3_winnersPrice 9 = .ok (.istore_n 2, 1) := dk_61 (dk_at dksX3_winnersPrice_0 9 rfl rfl)
theorem dX3_winnersPrice_10 : decode cX3_winnersPrice 10 = .ok (.iload_n 2, 1) := dk_28 (dk_at dksX3_winnersPrice_0 10 rfl rfl)
theorem dX3_winnersPrice_11 : decode cX3_winnersPrice 11 = .ok (.aload_n 0, 1) := dk_42 (dk_at dksX3_winnersPrice_0 11 rfl rfl)
theorem dX3_winnersPrice_12 : decode cX3_winnersPrice 12 = .ok (.getfield 9, 3) := dk_180 0 9 (dk_at dksX3_winnersPrice_0 12 rfl rfl)
theorem dX3_winnersPrice_15 : decode cX3_winnersPrice 15 = .ok (.iconst 0, 1) := dk_3 (dk_at dksX3_winnersPrice_0 15 rfl rfl)
theorem dX3_winnersPrice_16 : decode cX3_winnersPrice 16 = .ok (.iaload, 1) := dk_46 (dk_at dksX3_winnersPrice_0 16 rfl rfl)
theorem dX3_winnersPrice_17 : decode cX3_winnersPrice 17 = .ok (.if_icmp .ge 31, 3) := dk_162 0 31 (dk_at dksX3_winnersPrice_0 17 rfl rfl)
theorem dX3_winnersPrice_20 : decode cX3_winnersPrice 20 = .ok (.iload_n 2, 1) := dk_28 (dk_at dksX3_winnersPrice_0 20 rfl rfl)
theorem dX3_winnersPrice_21 : decode cX3_winnersPrice 21 = .ok (.aload_n 0, 1) := dk_42 (dk_at dksX3_winnersPrice_0 21 rfl rfl)
theorem dX3_winnersPrice_22 : decode cX3_winnersPrice 22 = .ok (.invokevirtual 161, 3) := dk_182 0 161 (dk_at dksX3_winnersPrice_1 0 rfl rfl)
theorem dX3_winnersPrice_25 : decode cX3_winnersPrice 25 = .ok (.if_icmp .ne 7, 3) := dk_160 0 7 (dk_at dksX3_winnersPrice_1 3 rfl rfl)
theorem dX3_winnersPrice_28 : decode cX3_winnersPrice 28 = .ok (.iload_n 1, 1) := dk_27 (dk_at dksX3_winnersPrice_1 6 rfl rfl)
theorem dX3_winnersPrice_29 : decode cX3_winnersPrice 29 = .ok (.goto 12, 3) := dk_167 0 12 (dk_at dksX3_winnersPrice_1 7 rfl rfl)
theorem dX3_winnersPrice_32 : decode cX3_winnersPrice 32 = .ok (.iload_n 1, 1) := dk_27 (dk_at dksX3_winnersPrice_1 10 rfl rfl)
theorem dX3_winnersPrice_33 : decode cX3_winnersPrice 33 = .ok (.aload_n 0, 1) := dk_42 (dk_at dksX3_winnersPrice_1 11 rfl rfl)
theorem dX3_winnersPrice_34 : decode cX3_winnersPrice 34 = .ok (.iload_n 2, 1) := dk_28 (dk_at dksX3_winnersPrice_1 12 rfl rfl)
theorem dX3_winnersPrice_35 : decode cX3_winnersPrice 35 = .ok (.invokevirtual 158, 3) := dk_182 0 158 (dk_at dksX3_winnersPrice_1 13 rfl rfl)
theorem dX3_winnersPrice_38 : decode cX3_winnersPrice 38 = .ok (.invokestatic 165, 3) := dk_184 0 165 (dk_at dksX3_winnersPrice_1 16 rfl rfl)
theorem dX3_winnersPrice_41 : decode cX3_winnersPrice 41 = .ok (.istore_n 1, 1) := dk_60 (dk_at dksX3_winnersPrice_1 19 rfl rfl)
theorem dX3_winnersPrice_42 : decode cX3_winnersPrice 42 = .ok (.iinc 2 1, 3) := dk_132 2 1 (dk_at dksX3_winnersPrice_1 20 rfl rfl)
theorem dX3_winnersPrice_45 : decode cX3_winnersPrice 45 = .ok (.goto (-35), 3) := dk_167 255 221 (dk_at dksX3_winnersPrice_2 0 rfl rfl)
theorem dX3_winnersPrice_48 : decode cX3_winnersPrice 48 = .ok (.iload_n 1, 1) := dk_27 (dk_at dksX3_winnersPrice_2 3 rfl rfl)
theorem dX3_winnersPrice_49 : decode cX3_winnersPrice 49 = .ok (.ireturn, 1) := dk_172 (dk_at dksX3_winnersPrice_2 4 rfl rfl)
abbrev cX3_traders : ByteArray := prog_15_method_43_code
def yX3_traders : MethodName := ⟨RX3, "traders", "()I"⟩
def dkwX3_traders_0 : List UInt8 := [42, 3, 181, 0, 45, 42, 180, 0, 9, 3, 46, 172]
abbrev dktX3_traders_0 : List UInt8 := dkwX3_traders_0 ++ []
theorem dksX3_traders_0 : cX3_traders.data.toList.drop 0 = dktX3_traders_0 := by decide +kernel
theorem dX3_traders_0 : decode cX3_traders 0 = .ok (.aload_n 0, 1) := dk_42 (dk_at dksX3_traders_0 0 rfl rfl)
theorem dX3_traders_1 : decode cX3_traders 1 = .ok (.iconst 0, 1) := dk_3 (dk_at dksX3_traders_0 1 rfl rfl)
theorem dX3_traders_2 : decode cX3_traders 2 = .ok (.putfield 45, 3) := dk_181 0 45 (dk_at dksX3_traders_0 2 rfl rfl)
theorem dX3_traders_5 : decode cX3_traders 5 = .ok (.aload_n 0, 1) := dk_42 (dk_at dksX3_traders_0 5 rfl rfl)
theorem dX3_traders_6 : decode cX3_traders 6 = .ok (.getfield 9, 3) := dk_180 0 9 (dk_at dksX3_traders_0 6 rfl rfl)
theorem dX3_traders_9 : decode cX3_traders 9 = .ok (.iconst 0, 1) := dk_3 (dk_at dksX3_traders_0 9 rfl rfl)
theorem dX3_traders_10 : decode cX3_traders 10 = .ok (.iaload, 1) := dk_46 (dk_at dksX3_traders_0 10 rfl rfl)
theorem dX3_traders_11 : decode cX3_traders 11 = .ok (.ireturn, 1) := dk_172 (dk_at dksX3_traders_0 11 rfl rfl)
abbrev cX3_cash : ByteArray := prog_15_method_44_code
def yX3_cash : MethodName := ⟨RX3, "cash", "(I)I"⟩
def dkwX3_cash_1 : List UInt8 := [167, 0, 8, 42, 4, 182, 0, 75, 172]
abbrev dktX3_cash_1 : List UInt8 := dkwX3_cash_1 ++ []
def dkwX3_cash_0 : List UInt8 := [42, 3, 181, 0, 45, 42, 27, 182, 0, 95, 153, 0, 15, 42, 180, 0, 9, 27, 184, 0, 78, 46]
abbrev dktX3_cash_0 : List UInt8 := dkwX3_cash_0 ++ dktX3_cash_1
theorem dksX3_cash_0 : cX3_cash.data.toList.drop 0 = dktX3_cash_0 := by decide +kernel
theorem dksX3_cash_1 : cX3_cash.data.toList.drop 22 = dktX3_cash_1 := dk_seg dksX3_cash_0 22 rfl rfl
theorem dX3_cash_0 : decode cX3_cash 0 = .ok (.aload_n 0, 1) := dk_42 (dk_at dksX3_cash_0 0 rfl rfl)
theorem dX3_cash_1 : decode cX3_cash 1 = .ok (.iconst 0, 1) := dk_3 (dk_at dksX3_cash_0 1 rfl rfl)
theorem dX3_cash_2 : decode cX3_cash 2 = .ok (.putfield 45, 3) := dk_181 0 45 (dk_at dksX3_cash_0 2 rfl rfl)
theorem dX3_cash_5 : decode cX3_cash 5 = .ok (.aload_n 0, 1) := dk_42 (dk_at dksX3_cash_0 5 rfl rfl)
theorem dX3_cash_6 : decode cX3_cash 6 = .ok (.iload_n 1, 1) := dk_27 (dk_at dksX3_cash_0 6 rfl rfl)
theorem dX3_cash_7 : decode cX3_cash 7 = .ok (.invokevirtual 95, 3) := dk_182 0 95 (dk_at dksX3_cash_0 7 rfl rfl)
theorem dX3_cash_10 : decode cX3_cash 10 = .ok (.ifCond .eq 15, 3) := dk_153 0 15 (dk_at dksX3_cash_0 10 rfl rfl)
theorem dX3_cash_13 : decode cX3_cash 13 = .ok (.aload_n 0, 1) := dk_42 (dk_at dksX3_cash_0 13 rfl rfl)
theorem dX3_cash_14 : decode cX3_cash 14 = .ok (.getfield 9, 3) := dk_180 0 9 (dk_at dksX3_cash_0 14 rfl rfl)
theorem dX3_cash_17 : decode cX3_cash 17 = .ok (.iload_n 1, 1) := dk_27 (dk_at dksX3_cash_0 17 rfl rfl)
theorem dX3_cash_18 : decode cX3_cash 18 = .ok (.invokestatic 78, 3) := dk_184 0 78 (dk_at dksX3_cash_0 18 rfl rfl)
theorem dX3_cash_21 : decode cX3_cash 21 = .ok (.iaload, 1) := dk_46 (dk_at dksX3_cash_0 21 rfl rfl)
theorem dX3_cash_22 : decode cX3_cash 22 = .ok (.goto 8, 3) := dk_167 0 8 (dk_at dksX3_cash_1 0 rfl rfl)
theorem dX3_cash_25 : decode cX3_cash 25 = .ok (.aload_n 0, 1) := dk_42 (dk_at dksX3_cash_1 3 rfl rfl)
theorem dX3_cash_26 : decode cX3_cash 26 = .ok (.iconst 1, 1) := dk_4 (dk_at dksX3_cash_1 4 rfl rfl)
theorem dX3_cash_27 : decode cX3_cash 27 = .ok (.invokevirtual 75, 3) := dk_182 0 75 (dk_at dksX3_cash_1 5 rfl rfl)
theorem dX3_cash_30 : decode cX3_cash 30 = .ok (.ireturn, 1) := dk_172 (dk_at dksX3_cash_1 8 rfl rfl)
abbrev cX3_windows : ByteArray := prog_15_method_45_code
def yX3_windows : MethodName := ⟨RX3, "windows", "(I)I"⟩
def dkwX3_windows_1 : List UInt8 := [167, 0, 8, 42, 4, 182, 0, 75, 172]
abbrev dktX3_windows_1 : List UInt8 := dkwX3_windows_1 ++ []
def dkwX3_windows_0 : List UInt8 := [42, 3, 181, 0, 45, 42, 27, 182, 0, 95, 153, 0, 17, 42, 180, 0, 9, 27, 184, 0, 78, 4, 96, 46]
abbrev dktX3_windows_0 : List UInt8 := dkwX3_windows_0 ++ dktX3_windows_1
theorem dksX3_windows_0 : cX3_windows.data.toList.drop 0 = dktX3_windows_0 := by decide +kernel
theorem dksX3_windows_1 : cX3_windows.data.toList.drop 24 = dktX3_windows_1 := dk_seg dksX3_windows_0 24 rfl rfl
theorem dX3_windows_0 : decode cX3_windows 0 = .ok (.aload_n 0, 1) := dk_42 (dk_at dksX3_windows_0 0 rfl rfl)
theorem dX3_windows_1 : decode cX3_windows 1 = .ok (.iconst 0, 1) := dk_3 (dk_at dksX3_windows_0 1 rfl rfl)
theorem dX3_windows_2 : decode cX3_windows 2 = .ok (.putfield 45, 3) := dk_181 0 45 (dk_at dksX3_windows_0 2 rfl rfl)
theorem dX3_windows_5 : decode cX3_windows 5 = .ok (.aload_n 0, 1) := dk_42 (dk_at dksX3_windows_0 5 rfl rfl)
theorem dX3_windows_6 : decode cX3_windows 6 = .ok (.iload_n 1, 1) := dk_27 (dk_at dksX3_windows_0 6 rfl rfl)
theorem dX3_windows_7 : decode cX3_windows 7 = .ok (.invokevirtual 95, 3) := dk_182 0 95 (dk_at dksX3_windows_0 7 rfl rfl)
theorem dX3_windows_10 : decode cX3_windows 10 = .ok (.ifCond .eq 17, 3) := dk_153 0 17 (dk_at dksX3_windows_0 10 rfl rfl)
theorem dX3_windows_13 : decode cX3_windows 13 = .ok (.aload_n 0, 1) := dk_42 (dk_at dksX3_windows_0 13 rfl rfl)
theorem dX3_windows_14 : decode cX3_windows 14 = .ok (.getfield 9, 3) := dk_180 0 9 (dk_at dksX3_windows_0 14 rfl rfl)
theorem dX3_windows_17 : decode cX3_windows 17 = .ok (.iload_n 1, 1) := dk_27 (dk_at dksX3_windows_0 17 rfl rfl)
theorem dX3_windows_18 : decode cX3_windows 18 = .ok (.invokestatic 78, 3) := dk_184 0 78 (dk_at dksX3_windows_0 18 rfl rfl)
theorem dX3_windows_21 : decode cX3_windows 21 = .ok (.iconst 1, 1) := dk_4 (dk_at dksX3_windows_0 21 rfl rfl)
theorem dX3_windows_22 : decode cX3_windows 22 = .ok (.iadd, 1) := dk_96 (dk_at dksX3_windows_0 22 rfl rfl)
theorem dX3_windows_23 : decode cX3_windows 23 = .ok (.iaload, 1) := dk_46 (dk_at dksX3_windows_0 23 rfl rfl)
theorem dX3_windows_24 : decode cX3_windows 24 = .ok (.goto 8, 3) := dk_167 0 8 (dk_at dksX3_windows_1 0 rfl rfl)
theorem dX3_windows_27 : decode cX3_windows 27 = .ok (.aload_n 0, 1) := dk_42 (dk_at dksX3_windows_1 3 rfl rfl)
theorem dX3_windows_28 : decode cX3_windows 28 = .ok (.iconst 1, 1) := dk_4 (dk_at dksX3_windows_1 4 rfl rfl)
theorem dX3_windows_29 : decode cX3_windows 29 = .ok (.invokevirtual 75, 3) := dk_182 0 75 (dk_at dksX3_windows_1 5 rfl rfl)
theorem dX3_windows_32 : decode cX3_windows 32 = .ok (.ireturn, 1) := dk_172 (dk_at dksX3_windows_1 8 rfl rfl)
abbrev cX3_reservedCash : ByteArray := prog_15_method_47_code
def yX3_reservedCash : MethodName := ⟨RX3, "reservedCash", "(I)I"⟩
def dkwX3_reservedCash_1 : List UInt8 := [182, 0, 75, 172]
abbrev dktX3_reservedCash_1 : List UInt8 := dkwX3_reservedCash_1 ++ []
def dkwX3_reservedCash_0 : List UInt8 := [42, 3, 181, 0, 45, 42, 27, 182, 0, 95, 153, 0, 12, 42, 27, 4, 182, 0, 174, 167, 0, 8, 42, 4]
abbrev dktX3_reservedCash_0 : List UInt8 := dkwX3_reservedCash_0 ++ dktX3_reservedCash_1
theorem dksX3_reservedCash_0 : cX3_reservedCash.data.toList.drop 0 = dktX3_reservedCash_0 := by decide +kernel
theorem dksX3_reservedCash_1 : cX3_reservedCash.data.toList.drop 24 = dktX3_reservedCash_1 := dk_seg dksX3_reservedCash_0 24 rfl rfl
theorem dX3_reservedCash_0 : decode cX3_reservedCash 0 = .ok (.aload_n 0, 1) := dk_42 (dk_at dksX3_reservedCash_0 0 rfl rfl)
theorem dX3_reservedCash_1 : decode cX3_reservedCash 1 = .ok (.iconst 0, 1) := dk_3 (dk_at dksX3_reservedCash_0 1 rfl rfl)
theorem dX3_reservedCash_2 : decode cX3_reservedCash 2 = .ok (.putfield 45, 3) := dk_181 0 45 (dk_at dksX3_reservedCash_0 2 rfl rfl)
theorem dX3_reservedCash_5 : decode cX3_reservedCash 5 = .ok (.aload_n 0, 1) := dk_42 (dk_at dksX3_reservedCash_0 5 rfl rfl)
theorem dX3_reservedCash_6 : decode cX3_reservedCash 6 = .ok (.iload_n 1, 1) := dk_27 (dk_at dksX3_reservedCash_0 6 rfl rfl)
theorem dX3_reservedCash_7 : decode cX3_reservedCash 7 = .ok (.invokevirtual 95, 3) := dk_182 0 95 (dk_at dksX3_reservedCash_0 7 rfl rfl)
theorem dX3_reservedCash_10 : decode cX3_reservedCash 10 = .ok (.ifCond .eq 12, 3) := dk_153 0 12 (dk_at dksX3_reservedCash_0 10 rfl rfl)
theorem dX3_reservedCash_13 : decode cX3_reservedCash 13 = .ok (.aload_n 0, 1) := dk_42 (dk_at dksX3_reservedCash_0 13 rfl rfl)
theorem dX3_reservedCash_14 : decode cX3_reservedCash 14 = .ok (.iload_n 1, 1) := dk_27 (dk_at dksX3_reservedCash_0 14 rfl rfl)
theorem dX3_reservedCash_15 : decode cX3_reservedCash 15 = .ok (.iconst 1, 1) := dk_4 (dk_at dksX3_reservedCash_0 15 rfl rfl)
theorem dX3_reservedCash_16 : decode cX3_reservedCash 16 = .ok (.invokevirtual 174, 3) := dk_182 0 174 (dk_at dksX3_reservedCash_0 16 rfl rfl)
theorem dX3_reservedCash_19 : decode cX3_reservedCash 19 = .ok (.goto 8, 3) := dk_167 0 8 (dk_at dksX3_reservedCash_0 19 rfl rfl)
theorem dX3_reservedCash_22 : decode cX3_reservedCash 22 = .ok (.aload_n 0, 1) := dk_42 (dk_at dksX3_reservedCash_0 22 rfl rfl)
theorem dX3_reservedCash_23 : decode cX3_reservedCash 23 = .ok (.iconst 1, 1) := dk_4 (dk_at dksX3_reservedCash_0 23 rfl rfl)
theorem dX3_reservedCash_24 : decode cX3_reservedCash 24 = .ok (.invokevirtual 75, 3) := dk_182 0 75 (dk_at dksX3_reservedCash_1 0 rfl rfl)
theorem dX3_reservedCash_27 : decode cX3_reservedCash 27 = .ok (.ireturn, 1) := dk_172 (dk_at dksX3_reservedCash_1 3 rfl rfl)
abbrev cX3_reservedFor : ByteArray := prog_15_method_46_code
def yX3_reservedFor : MethodName := ⟨RX3, "reservedFor", "(IZ)I"⟩
def dkwX3_reservedFor_3 : List UInt8 := [182, 0, 65, 153, 0, 8, 21, 6, 167, 0, 4, 3, 96, 62, 132, 4, 1, 167, 255, 174, 29, 172]
abbrev dktX3_reservedFor_3 : List UInt8 := dkwX3_reservedFor_3 ++ []
def dkwX3_reservedFor_2 : List UInt8 := [4, 104, 54, 6, 29, 42, 180, 0, 9, 21, 5, 4, 96, 46, 27, 160, 0, 18, 42, 21, 4, 28]
abbrev dktX3_reservedFor_2 : List UInt8 := dkwX3_reservedFor_2 ++ dktX3_reservedFor_3
def dkwX3_reservedFor_1 : List UInt8 := [180, 0, 9, 21, 5, 7, 96, 46, 28, 153, 0, 15, 42, 180, 0, 9, 21, 5, 6, 96, 46, 167, 0, 4]
abbrev dktX3_reservedFor_1 : List UInt8 := dkwX3_reservedFor_1 ++ dktX3_reservedFor_2
def dkwX3_reservedFor_0 : List UInt8 := [3, 62, 3, 54, 4, 21, 4, 42, 180, 0, 9, 4, 46, 162, 0, 77, 21, 4, 184, 0, 61, 54, 5, 42]
abbrev dktX3_reservedFor_0 : List UInt8 := dkwX3_reservedFor_0 ++ dktX3_reservedFor_1
theorem dksX3_reservedFor_0 : cX3_reservedFor.data.toList.drop 0 = dktX3_reservedFor_0 := by decide +kernel
theorem dksX3_reservedFor_1 : cX3_reservedFor.data.toList.drop 24 = dktX3_reservedFor_1 := dk_seg dksX3_reservedFor_0 24 rfl rfl
theorem dksX3_reservedFor_2 : cX3_reservedFor.data.toList.drop 48 = dktX3_reservedFor_2 := dk_seg dksX3_reservedFor_1 24 rfl rfl
theorem dksX3_reservedFor_3 : cX3_reservedFor.data.toList.drop 70 = dktX3_reservedFor_3 := dk_seg dksX3_reservedFor_2 22 rfl rfl
theorem dX3_reservedFor_0 : decode cX3_reservedFor 0 = .ok (.iconst 0, 1) := dk_3 (dk_at dksX3_reservedFor_0 0 rfl rfl)
theorem dX3_reservedFor_1 : decode cX3_reservedFor 1 = .ok (.istore_n 3, 1) := dk_62 (dk_at dksX3_reservedFor_0 1 rfl rfl)
theorem dX3_reservedFor_2 : decode cX3_reservedFor 2 = .ok (.iconst 0, 1) := dk_3 (dk_at dksX3_reservedFor_0 2 rfl rfl)
theorem dX3_reservedFor_3 : decode cX3_reservedFor 3 = .ok (.istore 4, 2) := dk_54 4 (dk_at dksX3_reservedFor_0 3 rfl rfl)
theorem dX3_reservedFor_5 : decode cX3_reservedFor 5 = .ok (.iload 4, 2) := dk_21 4 (dk_at dksX3_reservedFor_0 5 rfl rfl)
theorem dX3_reservedFor_7 : decode cX3_reservedFor 7 = .ok (.aload_n 0, 1) := dk_42 (dk_at dksX3_reservedFor_0 7 rfl rfl)
theorem dX3_reservedFor_8 : decode cX3_reservedFor 8 = .ok (.getfield 9, 3) := dk_180 0 9 (dk_at dksX3_reservedFor_0 8 rfl rfl)
theorem dX3_reservedFor_11 : decode cX3_reservedFor 11 = .ok (.iconst 1, 1) := dk_4 (dk_at dksX3_reservedFor_0 11 rfl rfl)
theorem dX3_reservedFor_12 : decode cX3_reservedFor 12 = .ok (.iaload, 1) := dk_46 (dk_at dksX3_reservedFor_0 12 rfl rfl)
theorem dX3_reservedFor_13 : decode cX3_reservedFor 13 = .ok (.if_icmp .ge 77, 3) := dk_162 0 77 (dk_at dksX3_reservedFor_0 13 rfl rfl)
theorem dX3_reservedFor_16 : decode cX3_reservedFor 16 = .ok (.iload 4, 2) := dk_21 4 (dk_at dksX3_reservedFor_0 16 rfl rfl)
theorem dX3_reservedFor_18 : decode cX3_reservedFor 18 = .ok (.invokestatic 61, 3) := dk_184 0 61 (dk_at dksX3_reservedFor_0 18 rfl rfl)
theorem dX3_reservedFor_21 : decode cX3_reservedFor 21 = .ok (.istore 5, 2) := dk_54 5 (dk_at dksX3_reservedFor_0 21 rfl rfl)
theorem dX3_reservedFor_23 : decode cX3_reservedFor 23 = .ok (.aload_n 0, 1) := dk_42 (dk_at dksX3_reservedFor_0 23 rfl rfl)
theorem dX3_reservedFor_24 : decode cX3_reservedFor 24 = .ok (.getfield 9, 3) := dk_180 0 9 (dk_at dksX3_reservedFor_1 0 rfl rfl)
theorem dX3_reservedFor_27 : decode cX3_reservedFor 27 = .ok (.iload 5, 2) := dk_21 5 (dk_at dksX3_reservedFor_1 3 rfl rfl)
theorem dX3_reservedFor_29 : decode cX3_reservedFor 29 = .ok (.iconst 4, 1) := dk_7 (dk_at dksX3_reservedFor_1 5 rfl rfl)
theorem dX3_reservedFor_30 : decode cX3_reservedFor 30 = .ok (.iadd, 1) := dk_96 (dk_at dksX3_reservedFor_1 6 rfl rfl)
theorem dX3_reservedFor_31 : decode cX3_reservedFor 31 = .ok (.iaload, 1) := dk_46 (dk_at dksX3_reservedFor_1 7 rfl rfl)
theorem dX3_reservedFor_32 : decode cX3_reservedFor 32 = .ok (.iload_n 2, 1) := dk_28 (dk_at dksX3_reservedFor_1 8 rfl rfl)
theorem dX3_reservedFor_33 : decode cX3_reservedFor 33 = .ok (.ifCond .eq 15, 3) := dk_153 0 15 (dk_at dksX3_reservedFor_1 9 rfl rfl)
theorem dX3_reservedFor_36 : decode cX3_reservedFor 36 = .ok (.aload_n 0, 1) := dk_42 (dk_at dksX3_reservedFor_1 12 rfl rfl)
theorem dX3_reservedFor_37 : decode cX3_reservedFor 37 = .ok (.getfield 9, 3) := dk_180 0 9 (dk_at dksX3_reservedFor_1 13 rfl rfl)
theorem dX3_reservedFor_40 : decode cX3_reservedFor 40 = .ok (.iload 5, 2) := dk_21 5 (dk_at dksX3_reservedFor_1 16 rfl rfl)
theorem dX3_reservedFor_42 : decode cX3_reservedFor 42 = .ok (.iconst 3, 1) := dk_6 (dk_at dksX3_reservedFor_1 18 rfl rfl)
theorem dX3_reservedFor_43 : decode cX3_reservedFor 43 = .ok (.iadd, 1) := dk_96 (dk_at dksX3_reservedFor_1 19 rfl rfl)
theorem dX3_reservedFor_44 : decode cX3_reservedFor 44 = .ok (.iaload, 1) := dk_46 (dk_at dksX3_reservedFor_1 20 rfl rfl)
theorem dX3_reservedFor_45 : decode cX3_reservedFor 45 = .ok (.goto 4, 3) := dk_167 0 4 (dk_at dksX3_reservedFor_1 21 rfl rfl)
theorem dX3_reservedFor_48 : decode cX3_reservedFor 48 = .ok (.iconst 1, 1) := dk_4 (dk_at dksX3_reservedFor_2 0 rfl rfl)
theorem dX3_reservedFor_49 : decode cX3_reservedFor 49 = .ok (.imul, 1) := dk_104 (dk_at dksX3_reservedFor_2 1 rfl rfl)
theorem dX3_reservedFor_50 : decode cX3_reservedFor 50 = .ok (.istore 6, 2) := dk_54 6 (dk_at dksX3_reservedFor_2 2 rfl rfl)
theorem dX3_reservedFor_52 : decode cX3_reservedFor 52 = .ok (.iload_n 3, 1) := dk_29 (dk_at dksX3_reservedFor_2 4 rfl rfl)
theorem dX3_reservedFor_53 : decode cX3_reservedFor 53 = .ok (.aload_n 0, 1) := dk_42 (dk_at dksX3_reservedFor_2 5 rfl rfl)
theorem dX3_reservedFor_54 : decode cX3_reservedFor 54 = .ok (.getfield 9, 3) := dk_180 0 9 (dk_at dksX3_reservedFor_2 6 rfl rfl)
theorem dX3_reservedFor_57 : decode cX3_reservedFor 57 = .ok (.iload 5, 2) := dk_21 5 (dk_at dksX3_reservedFor_2 9 rfl rfl)
theorem dX3_reservedFor_59 : decode cX3_reservedFor 59 = .ok (.iconst 1, 1) := dk_4 (dk_at dksX3_reservedFor_2 11 rfl rfl)
theorem dX3_reservedFor_60 : decode cX3_reservedFor 60 = .ok (.iadd, 1) := dk_96 (dk_at dksX3_reservedFor_2 12 rfl rfl)
theorem dX3_reservedFor_61 : decode cX3_reservedFor 61 = .ok (.iaload, 1) := dk_46 (dk_at dksX3_reservedFor_2 13 rfl rfl)
theorem dX3_reservedFor_62 : decode cX3_reservedFor 62 = .ok (.iload_n 1, 1) := dk_27 (dk_at dksX3_reservedFor_2 14 rfl rfl)
theorem dX3_reservedFor_63 : decode cX3_reservedFor 63 = .ok (.if_icmp .ne 18, 3) := dk_160 0 18 (dk_at dksX3_reservedFor_2 15 rfl rfl)
theorem dX3_reservedFor_66 : decode cX3_reservedFor 66 = .ok (.aload_n 0, 1) := dk_42 (dk_at dksX3_reservedFor_2 18 rfl rfl)
theorem dX3_reservedFor_67 : decode cX3_reservedFor 67 = .ok (.iload 4, 2) := dk_21 4 (dk_at dksX3_reservedFor_2 19 rfl rfl)
theorem dX3_reservedFor_69 : decode cX3_reservedFor 69 = .ok (.iload_n 2, 1) := dk_28 (dk_at dksX3_reservedFor_2 21 rfl rfl)
theorem dX3_reservedFor_70 : decode cX3_reservedFor 70 = .ok (.invokevirtual 65, 3) := dk_182 0 65 (dk_at dksX3_reservedFor_3 0 rfl rfl)
theorem dX3_reservedFor_73 : decode cX3_reservedFor 73 = .ok (.ifCond .eq 8, 3) := dk_153 0 8 (dk_at dksX3_reservedFor_3 3 rfl rfl)
theorem dX3_reservedFor_76 : decode cX3_reservedFor 76 = .ok (.iload 6, 2) := dk_21 6 (dk_at dksX3_reservedFor_3 6 rfl rfl)
theorem dX3_reservedFor_78 : decode cX3_reservedFor 78 = .ok (.goto 4, 3) := dk_167 0 4 (dk_at dksX3_reservedFor_3 8 rfl rfl)
theorem dX3_reservedFor_81 : decode cX3_reservedFor 81 = .ok (.iconst 0, 1) := dk_3 (dk_at dksX3_reservedFor_3 11 rfl rfl)
theorem dX3_reservedFor_82 : decode cX3_reservedFor 82 = .ok (.iadd, 1) := dk_96 (dk_at dksX3_reservedFor_3 12 rfl rfl)
theorem dX3_reservedFor_83 : decode cX3_reservedFor 83 = .ok (.istore_n 3, 1) := dk_62 (dk_at dksX3_reservedFor_3 13 rfl rfl)
theorem dX3_reservedFor_84 : decode cX3_reservedFor 84 = .ok (.iinc 4 1, 3) := dk_132 4 1 (dk_at dksX3_reservedFor_3 14 rfl rfl)
theorem dX3_reservedFor_87 : decode cX3_reservedFor 87 = .ok (.goto (-82), 3) := dk_167 255 174 (dk_at dksX3_reservedFor_3 17 rfl rfl)
theorem dX3_reservedFor_90 : decode cX3_reservedFor 90 = .ok (.iload_n 3, 1) := dk_29 (dk_at dksX3_reservedFor_3 20 rfl rfl)
theorem dX3_reservedFor_91 : decode cX3_reservedFor 91 = .ok (.ireturn, 1) := dk_172 (dk_at dksX3_reservedFor_3 21 rfl rfl)
abbrev cX3_reservedWindows : ByteArray := prog_15_method_48_code
def yX3_reservedWindows : MethodName := ⟨RX3, "reservedWindows", "(I)I"⟩
def dkwX3_reservedWindows_1 : List UInt8 := [182, 0, 75, 172]
abbrev dktX3_reservedWindows_1 : List UInt8 := dkwX3_reservedWindows_1 ++ []
def dkwX3_reservedWindows_0 : List UInt8 := [42, 3, 181, 0, 45, 42, 27, 182, 0, 95, 153, 0, 12, 42, 27, 3, 182, 0, 174, 167, 0, 8, 42, 4]
abbrev dktX3_reservedWindows_0 : List UInt8 := dkwX3_reservedWindows_0 ++ dktX3_reservedWindows_1
theorem dksX3_reservedWindows_0 : cX3_reservedWindows.data.toList.drop 0 = dktX3_reservedWindows_0 := by decide +kernel
theorem dksX3_reservedWindows_1 : cX3_reservedWindows.data.toList.drop 24 = dktX3_reservedWindows_1 := dk_seg dksX3_reservedWindows_0 24 rfl rfl
theorem dX3_reservedWindows_0 : decode cX3_reservedWindows 0 = .ok (.aload_n 0, 1) := dk_42 (dk_at dksX3_reservedWindows_0 0 rfl rfl)
theorem dX3_reservedWindows_1 : decode cX3_reservedWindows 1 = .ok (.iconst 0, 1) := dk_3 (dk_at dksX3_reservedWindows_0 1 rfl rfl)
theorem dX3_reservedWindows_2 : decode cX3_reservedWindows 2 = .ok (.putfield 45, 3) := dk_181 0 45 (dk_at dksX3_reservedWindows_0 2 rfl rfl)
theorem dX3_reservedWindows_5 : decode cX3_reservedWindows 5 = .ok (.aload_n 0, 1) := dk_42 (dk_at dksX3_reservedWindows_0 5 rfl rfl)
theorem dX3_reservedWindows_6 : decode cX3_reservedWindows 6 = .ok (.iload_n 1, 1) := dk_27 (dk_at dksX3_reservedWindows_0 6 rfl rfl)
theorem dX3_reservedWindows_7 : decode cX3_reservedWindows 7 = .ok (.invokevirtual 95, 3) := dk_182 0 95 (dk_at dksX3_reservedWindows_0 7 rfl rfl)
theorem dX3_reservedWindows_10 : decode cX3_reservedWindows 10 = .ok (.ifCond .eq 12, 3) := dk_153 0 12 (dk_at dksX3_reservedWindows_0 10 rfl rfl)
theorem dX3_reservedWindows_13 : decode cX3_reservedWindows 13 = .ok (.aload_n 0, 1) := dk_42 (dk_at dksX3_reservedWindows_0 13 rfl rfl)
theorem dX3_reservedWindows_14 : decode cX3_reservedWindows 14 = .ok (.iload_n 1, 1) := dk_27 (dk_at dksX3_reservedWindows_0 14 rfl rfl)
theorem dX3_reservedWindows_15 : decode cX3_reservedWindows 15 = .ok (.iconst 0, 1) := dk_3 (dk_at dksX3_reservedWindows_0 15 rfl rfl)
theorem dX3_reservedWindows_16 : decode cX3_reservedWindows 16 = .ok (.invokevirtual 174, 3) := dk_182 0 174 (dk_at dksX3_reservedWindows_0 16 rfl rfl)
theorem dX3_reservedWindows_19 : decode cX3_reservedWindows 19 = .ok (.goto 8, 3) := dk_167 0 8 (dk_at dksX3_reservedWindows_0 19 rfl rfl)
theorem dX3_reservedWindows_22 : decode cX3_reservedWindows 22 = .ok (.aload_n 0, 1) := dk_42 (dk_at dksX3_reservedWindows_0 22 rfl rfl)
theorem dX3_reservedWindows_23 : decode cX3_reservedWindows 23 = .ok (.iconst 1, 1) := dk_4 (dk_at dksX3_reservedWindows_0 23 rfl rfl)
theorem dX3_reservedWindows_24 : decode cX3_reservedWindows 24 = .ok (.invokevirtual 75, 3) := dk_182 0 75 (dk_at dksX3_reservedWindows_1 0 rfl rfl)
theorem dX3_reservedWindows_27 : decode cX3_reservedWindows 27 = .ok (.ireturn, 1) := dk_172 (dk_at dksX3_reservedWindows_1 3 rfl rfl)
abbrev cX3_openOrders : ByteArray := prog_15_method_49_code
def yX3_openOrders : MethodName := ⟨RX3, "openOrders", "()I"⟩
def dkwX3_openOrders_0 : List UInt8 := [42, 3, 181, 0, 45, 42, 180, 0, 9, 4, 46, 172]
abbrev dktX3_openOrders_0 : List UInt8 := dkwX3_openOrders_0 ++ []
theorem dksX3_openOrders_0 : cX3_openOrders.data.toList.drop 0 = dktX3_openOrders_0 := by decide +kernel
theorem dX3_openOrders_0 : decode cX3_openOrders 0 = .ok (.aload_n 0, 1) := dk_42 (dk_at dksX3_openOrders_0 0 rfl rfl)
theorem dX3_openOrders_1 : decode cX3_openOrders 1 = .ok (.iconst 0, 1) := dk_3 (dk_at dksX3_openOrders_0 1 rfl rfl)
theorem dX3_openOrders_2 : decode cX3_openOrders 2 = .ok (.putfield 45, 3) := dk_181 0 45 (dk_at dksX3_openOrders_0 2 rfl rfl)
theorem dX3_openOrders_5 : decode cX3_openOrders 5 = .ok (.aload_n 0, 1) := dk_42 (dk_at dksX3_openOrders_0 5 rfl rfl)
theorem dX3_openOrders_6 : decode cX3_openOrders 6 = .ok (.getfield 9, 3) := dk_180 0 9 (dk_at dksX3_openOrders_0 6 rfl rfl)
theorem dX3_openOrders_9 : decode cX3_openOrders 9 = .ok (.iconst 1, 1) := dk_4 (dk_at dksX3_openOrders_0 9 rfl rfl)
theorem dX3_openOrders_10 : decode cX3_openOrders 10 = .ok (.iaload, 1) := dk_46 (dk_at dksX3_openOrders_0 10 rfl rfl)
theorem dX3_openOrders_11 : decode cX3_openOrders 11 = .ok (.ireturn, 1) := dk_172 (dk_at dksX3_openOrders_0 11 rfl rfl)
abbrev cX3_traderOf : ByteArray := prog_15_method_51_code
def yX3_traderOf : MethodName := ⟨RX3, "traderOf", "(I)I"⟩
def dkwX3_traderOf_0 : List UInt8 := [42, 27, 4, 182, 0, 178, 172]
abbrev dktX3_traderOf_0 : List UInt8 := dkwX3_traderOf_0 ++ []
theorem dksX3_traderOf_0 : cX3_traderOf.data.toList.drop 0 = dktX3_traderOf_0 := by decide +kernel
theorem dX3_traderOf_0 : decode cX3_traderOf 0 = .ok (.aload_n 0, 1) := dk_42 (dk_at dksX3_traderOf_0 0 rfl rfl)
theorem dX3_traderOf_1 : decode cX3_traderOf 1 = .ok (.iload_n 1, 1) := dk_27 (dk_at dksX3_traderOf_0 1 rfl rfl)
theorem dX3_traderOf_2 : decode cX3_traderOf 2 = .ok (.iconst 1, 1) := dk_4 (dk_at dksX3_traderOf_0 2 rfl rfl)
theorem dX3_traderOf_3 : decode cX3_traderOf 3 = .ok (.invokevirtual 178, 3) := dk_182 0 178 (dk_at dksX3_traderOf_0 3 rfl rfl)
theorem dX3_traderOf_6 : decode cX3_traderOf 6 = .ok (.ireturn, 1) := dk_172 (dk_at dksX3_traderOf_0 6 rfl rfl)
abbrev cX3_ofOrder : ByteArray := prog_15_method_50_code
def yX3_ofOrder : MethodName := ⟨RX3, "ofOrder", "(II)I"⟩
def dkwX3_ofOrder_1 : List UInt8 := [42, 180, 0, 9, 29, 184, 0, 61, 28, 96, 46, 172]
abbrev dktX3_ofOrder_1 : List UInt8 := dkwX3_ofOrder_1 ++ []
def dkwX3_ofOrder_0 : List UInt8 := [42, 3, 181, 0, 45, 42, 27, 182, 0, 124, 62, 29, 2, 160, 0, 11, 42, 4, 182, 0, 75, 167, 0, 14]
abbrev dktX3_ofOrder_0 : List UInt8 := dkwX3_ofOrder_0 ++ dktX3_ofOrder_1
theorem dksX3_ofOrder_0 : cX3_ofOrder.data.toList.drop 0 = dktX3_ofOrder_0 := by decide +kernel
theorem dksX3_ofOrder_1 : cX3_ofOrder.data.toList.drop 24 = dktX3_ofOrder_1 := dk_seg dksX3_ofOrder_0 24 rfl rfl
theorem dX3_ofOrder_0 : decode cX3_ofOrder 0 = .ok (.aload_n 0, 1) := dk_42 (dk_at dksX3_ofOrder_0 0 rfl rfl)
theorem dX3_ofOrder_1 : decode cX3_ofOrder 1 = .ok (.iconst 0, 1) := dk_3 (dk_at dksX3_ofOrder_0 1 rfl rfl)
theorem dX3_ofOrder_2 : decode cX3_ofOrder 2 = .ok (.putfield 45, 3) := dk_181 0 45 (dk_at dksX3_ofOrder_0 2 rfl rfl)
theorem dX3_ofOrder_5 : decode cX3_ofOrder 5 = .ok (.aload_n 0, 1) := dk_42 (dk_at dksX3_ofOrder_0 5 rfl rfl)
theorem dX3_ofOrder_6 : decode cX3_ofOrder 6 = .ok (.iload_n 1, 1) := dk_27 (dk_at dksX3_ofOrder_0 6 rfl rfl)
theorem dX3_ofOrder_7 : decode cX3_ofOrder 7 = .ok (.invokevirtual 124, 3) := dk_182 0 124 (dk_at dksX3_ofOrder_0 7 rfl rfl)
theorem dX3_ofOrder_10 : decode cX3_ofOrder 10 = .ok (.istore_n 3, 1) := dk_62 (dk_at dksX3_ofOrder_0 10 rfl rfl)
theorem dX3_ofOrder_11 : decode cX3_ofOrder 11 = .ok (.iload_n 3, 1) := dk_29 (dk_at dksX3_ofOrder_0 11 rfl rfl)
theorem dX3_ofOrder_12 : decode cX3_ofOrder 12 = .ok (.iconst (-1), 1) := dk_2 (dk_at dksX3_ofOrder_0 12 rfl rfl)
theorem dX3_ofOrder_13 : decode cX3_ofOrder 13 = .ok (.if_icmp .ne 11, 3) := dk_160 0 11 (dk_at dksX3_ofOrder_0 13 rfl rfl)
theorem dX3_ofOrder_16 : decode cX3_ofOrder 16 = .ok (.aload_n 0, 1) := dk_42 (dk_at dksX3_ofOrder_0 16 rfl rfl)
theorem dX3_ofOrder_17 : decode cX3_ofOrder 17 = .ok (.iconst 1, 1) := dk_4 (dk_at dksX3_ofOrder_0 17 rfl rfl)
theorem dX3_ofOrder_18 : decode cX3_ofOrder 18 = .ok (.invokevirtual 75, 3) := dk_182 0 75 (dk_at dksX3_ofOrder_0 18 rfl rfl)
theorem dX3_ofOrder_21 : decode cX3_ofOrder 21 = .ok (.goto 14, 3) := dk_167 0 14 (dk_at dksX3_ofOrder_0 21 rfl rfl)
theorem dX3_ofOrder_24 : decode cX3_ofOrder 24 = .ok (.aload_n 0, 1) := dk_42 (dk_at dksX3_ofOrder_1 0 rfl rfl)
theorem dX3_ofOrder_25 : decode cX3_ofOrder 25 = .ok (.getfield 9, 3) := dk_180 0 9 (dk_at dksX3_ofOrder_1 1 rfl rfl)
theorem dX3_ofOrder_28 : decode cX3_ofOrder 28 = .ok (.iload_n 3, 1) := dk_29 (dk_at dksX3_ofOrder_1 4 rfl rfl)
theorem dX3_ofOrder_29 : decode cX3_ofOrder 29 = .ok (.invokestatic 61, 3) := dk_184 0 61 (dk_at dksX3_ofOrder_1 5 rfl rfl)
theorem dX3_ofOrder_32 : decode cX3_ofOrder 32 = .ok (.iload_n 2, 1) := dk_28 (dk_at dksX3_ofOrder_1 8 rfl rfl)
theorem dX3_ofOrder_33 : decode cX3_ofOrder 33 = .ok (.iadd, 1) := dk_96 (dk_at dksX3_ofOrder_1 9 rfl rfl)
theorem dX3_ofOrder_34 : decode cX3_ofOrder 34 = .ok (.iaload, 1) := dk_46 (dk_at dksX3_ofOrder_1 10 rfl rfl)
theorem dX3_ofOrder_35 : decode cX3_ofOrder 35 = .ok (.ireturn, 1) := dk_172 (dk_at dksX3_ofOrder_1 11 rfl rfl)
abbrev cX3_isBid : ByteArray := prog_15_method_52_code
def yX3_isBid : MethodName := ⟨RX3, "isBid", "(I)Z"⟩
def dkwX3_isBid_0 : List UInt8 := [42, 27, 5, 182, 0, 178, 4, 160, 0, 7, 4, 167, 0, 4, 3, 172]
abbrev dktX3_isBid_0 : List UInt8 := dkwX3_isBid_0 ++ []
theorem dksX3_isBid_0 : cX3_isBid.data.toList.drop 0 = dktX3_isBid_0 := by decide +kernel
theorem dX3_isBid_0 : decode cX3_isBid 0 = .ok (.aload_n 0, 1) := dk_42 (dk_at dksX3_isBid_0 0 rfl rfl)
theorem dX3_isBid_1 : decode cX3_isBid 1 = .ok (.iload_n 1, 1) := dk_27 (dk_at dksX3_isBid_0 1 rfl rfl)
theorem dX3_isBid_2 : decode cX3_isBid 2 = .ok (.iconst 2, 1) := dk_5 (dk_at dksX3_isBid_0 2 rfl rfl)
theorem dX3_isBid_3 : decode cX3_isBid 3 = .ok (.invokevirtual 178, 3) := dk_182 0 178 (dk_at dksX3_isBid_0 3 rfl rfl)
theorem dX3_isBid_6 : decode cX3_isBid 6 = .ok (.iconst 1, 1) := dk_4 (dk_at dksX3_isBid_0 6 rfl rfl)
theorem dX3_isBid_7 : decode cX3_isBid 7 = .ok (.if_icmp .ne 7, 3) := dk_160 0 7 (dk_at dksX3_isBid_0 7 rfl rfl)
theorem dX3_isBid_10 : decode cX3_isBid 10 = .ok (.iconst 1, 1) := dk_4 (dk_at dksX3_isBid_0 10 rfl rfl)
theorem dX3_isBid_11 : decode cX3_isBid 11 = .ok (.goto 4, 3) := dk_167 0 4 (dk_at dksX3_isBid_0 11 rfl rfl)
theorem dX3_isBid_14 : decode cX3_isBid 14 = .ok (.iconst 0, 1) := dk_3 (dk_at dksX3_isBid_0 14 rfl rfl)
theorem dX3_isBid_15 : decode cX3_isBid 15 = .ok (.ireturn, 1) := dk_172 (dk_at dksX3_isBid_0 15 rfl rfl)
abbrev cX3_priceOf : ByteArray := prog_15_method_53_code
def yX3_priceOf : MethodName := ⟨RX3, "priceOf", "(I)I"⟩
def dkwX3_priceOf_0 : List UInt8 := [42, 27, 6, 182, 0, 178, 172]
abbrev dktX3_priceOf_0 : List UInt8 := dkwX3_priceOf_0 ++ []
theorem dksX3_priceOf_0 : cX3_priceOf.data.toList.drop 0 = dktX3_priceOf_0 := by decide +kernel
theorem dX3_priceOf_0 : decode cX3_priceOf 0 = .ok (.aload_n 0, 1) := dk_42 (dk_at dksX3_priceOf_0 0 rfl rfl)
theorem dX3_priceOf_1 : decode cX3_priceOf 1 = .ok (.iload_n 1, 1) := dk_27 (dk_at dksX3_priceOf_0 1 rfl rfl)
theorem dX3_priceOf_2 : decode cX3_priceOf 2 = .ok (.iconst 3, 1) := dk_6 (dk_at dksX3_priceOf_0 2 rfl rfl)
theorem dX3_priceOf_3 : decode cX3_priceOf 3 = .ok (.invokevirtual 178, 3) := dk_182 0 178 (dk_at dksX3_priceOf_0 3 rfl rfl)
theorem dX3_priceOf_6 : decode cX3_priceOf 6 = .ok (.ireturn, 1) := dk_172 (dk_at dksX3_priceOf_0 6 rfl rfl)
abbrev cX3_unitsOf : ByteArray := prog_15_method_54_code
def yX3_unitsOf : MethodName := ⟨RX3, "unitsOf", "(I)I"⟩
def dkwX3_unitsOf_0 : List UInt8 := [42, 27, 7, 182, 0, 178, 172]
abbrev dktX3_unitsOf_0 : List UInt8 := dkwX3_unitsOf_0 ++ []
theorem dksX3_unitsOf_0 : cX3_unitsOf.data.toList.drop 0 = dktX3_unitsOf_0 := by decide +kernel
theorem dX3_unitsOf_0 : decode cX3_unitsOf 0 = .ok (.aload_n 0, 1) := dk_42 (dk_at dksX3_unitsOf_0 0 rfl rfl)
theorem dX3_unitsOf_1 : decode cX3_unitsOf 1 = .ok (.iload_n 1, 1) := dk_27 (dk_at dksX3_unitsOf_0 1 rfl rfl)
theorem dX3_unitsOf_2 : decode cX3_unitsOf 2 = .ok (.iconst 4, 1) := dk_7 (dk_at dksX3_unitsOf_0 2 rfl rfl)
theorem dX3_unitsOf_3 : decode cX3_unitsOf 3 = .ok (.invokevirtual 178, 3) := dk_182 0 178 (dk_at dksX3_unitsOf_0 3 rfl rfl)
theorem dX3_unitsOf_6 : decode cX3_unitsOf 6 = .ok (.ireturn, 1) := dk_172 (dk_at dksX3_unitsOf_0 6 rfl rfl)
abbrev cX3_orderAt : ByteArray := prog_15_method_56_code
def yX3_orderAt : MethodName := ⟨RX3, "orderAt", "(ZI)I"⟩
def dkwX3_orderAt_1 : List UInt8 := [167, 0, 12, 42, 180, 0, 9, 29, 184, 0, 61, 46, 172]
abbrev dktX3_orderAt_1 : List UInt8 := dkwX3_orderAt_1 ++ []
def dkwX3_orderAt_0 : List UInt8 := [42, 3, 181, 0, 45, 42, 27, 28, 182, 0, 181, 62, 29, 2, 160, 0, 11, 42, 4, 182, 0, 75]
abbrev dktX3_orderAt_0 : List UInt8 := dkwX3_orderAt_0 ++ dktX3_orderAt_1
theorem dksX3_orderAt_0 : cX3_orderAt.data.toList.drop 0 = dktX3_orderAt_0 := by decide +kernel
theorem dksX3_orderAt_1 : cX3_orderAt.data.toList.drop 22 = dktX3_orderAt_1 := dk_seg dksX3_orderAt_0 22 rfl rfl
theorem dX3_orderAt_0 : decode cX3_orderAt 0 = .ok (.aload_n 0, 1) := dk_42 (dk_at dksX3_orderAt_0 0 rfl rfl)
theorem dX3_orderAt_1 : decode cX3_orderAt 1 = .ok (.iconst 0, 1) := dk_3 (dk_at dksX3_orderAt_0 1 rfl rfl)
theorem dX3_orderAt_2 : decode cX3_orderAt 2 = .ok (.putfield 45, 3) := dk_181 0 45 (dk_at dksX3_orderAt_0 2 rfl rfl)
theorem dX3_orderAt_5 : decode cX3_orderAt 5 = .ok (.aload_n 0, 1) := dk_42 (dk_at dksX3_orderAt_0 5 rfl rfl)
theorem dX3_orderAt_6 : decode cX3_orderAt 6 = .ok (.iload_n 1, 1) := dk_27 (dk_at dksX3_orderAt_0 6 rfl rfl)
theorem dX3_orderAt_7 : decode cX3_orderAt 7 = .ok (.iload_n 2, 1) := dk_28 (dk_at dksX3_orderAt_0 7 rfl rfl)
theorem dX3_orderAt_8 : decode cX3_orderAt 8 = .ok (.invokevirtual 181, 3) := dk_182 0 181 (dk_at dksX3_orderAt_0 8 rfl rfl)
theorem dX3_orderAt_11 : decode cX3_orderAt 11 = .ok (.istore_n 3, 1) := dk_62 (dk_at dksX3_orderAt_0 11 rfl rfl)
theorem dX3_orderAt_12 : decode cX3_orderAt 12 = .ok (.iload_n 3, 1) := dk_29 (dk_at dksX3_orderAt_0 12 rfl rfl)
theorem dX3_orderAt_13 : decode cX3_orderAt 13 = .ok (.iconst (-1), 1) := dk_2 (dk_at dksX3_orderAt_0 13 rfl rfl)
theorem dX3_orderAt_14 : decode cX3_orderAt 14 = .ok (.if_icmp .ne 11, 3) := dk_160 0 11 (dk_at dksX3_orderAt_0 14 rfl rfl)
theorem dX3_orderAt_17 : decode cX3_orderAt 17 = .ok (.aload_n 0, 1) := dk_42 (dk_at dksX3_orderAt_0 17 rfl rfl)
theorem dX3_orderAt_18 : decode cX3_orderAt 18 = .ok (.iconst 1, 1) := dk_4 (dk_at dksX3_orderAt_0 18 rfl rfl)
theorem dX3_orderAt_19 : decode cX3_orderAt 19 = .ok (.invokevirtual 75, 3) := dk_182 0 75 (dk_at dksX3_orderAt_0 19 rfl rfl)
theorem dX3_orderAt_22 : decode cX3_orderAt 22 = .ok (.goto 12, 3) := dk_167 0 12 (dk_at dksX3_orderAt_1 0 rfl rfl)
theorem dX3_orderAt_25 : decode cX3_orderAt 25 = .ok (.aload_n 0, 1) := dk_42 (dk_at dksX3_orderAt_1 3 rfl rfl)
theorem dX3_orderAt_26 : decode cX3_orderAt 26 = .ok (.getfield 9, 3) := dk_180 0 9 (dk_at dksX3_orderAt_1 4 rfl rfl)
theorem dX3_orderAt_29 : decode cX3_orderAt 29 = .ok (.iload_n 3, 1) := dk_29 (dk_at dksX3_orderAt_1 7 rfl rfl)
theorem dX3_orderAt_30 : decode cX3_orderAt 30 = .ok (.invokestatic 61, 3) := dk_184 0 61 (dk_at dksX3_orderAt_1 8 rfl rfl)
theorem dX3_orderAt_33 : decode cX3_orderAt 33 = .ok (.iaload, 1) := dk_46 (dk_at dksX3_orderAt_1 11 rfl rfl)
theorem dX3_orderAt_34 : decode cX3_orderAt 34 = .ok (.ireturn, 1) := dk_172 (dk_at dksX3_orderAt_1 12 rfl rfl)
abbrev cX3_placeAtRank : ByteArray := prog_15_method_55_code
def yX3_placeAtRank : MethodName := ⟨RX3, "placeAtRank", "(ZI)I"⟩
def dkwX3_placeAtRank_5 : List UInt8 := [153, 0, 11, 21, 4, 28, 160, 0, 5, 29, 172, 132, 3, 1, 167, 255, 127, 2, 172]
abbrev dktX3_placeAtRank_5 : List UInt8 := dkwX3_placeAtRank_5 ++ []
def dkwX3_placeAtRank_4 : List UInt8 := [29, 162, 0, 7, 4, 167, 0, 4, 3, 96, 54, 4, 132, 5, 1, 167, 255, 166, 42, 29, 27, 182, 0, 65]
abbrev dktX3_placeAtRank_4 : List UInt8 := dkwX3_placeAtRank_4 ++ dktX3_placeAtRank_5
def dkwX3_placeAtRank_3 : List UInt8 := [21, 4, 42, 21, 5, 27, 182, 0, 65, 153, 0, 23, 21, 7, 157, 0, 14, 21, 7, 154, 0, 13, 21, 5]
abbrev dktX3_placeAtRank_3 : List UInt8 := dkwX3_placeAtRank_3 ++ dktX3_placeAtRank_4
def dkwX3_placeAtRank_2 : List UInt8 := [184, 0, 61, 6, 96, 46, 100, 54, 6, 27, 153, 0, 8, 21, 6, 167, 0, 6, 21, 6, 116, 54, 7]
abbrev dktX3_placeAtRank_2 : List UInt8 := dkwX3_placeAtRank_2 ++ dktX3_placeAtRank_3
def dkwX3_placeAtRank_1 : List UInt8 := [4, 46, 162, 0, 85, 42, 180, 0, 9, 21, 5, 184, 0, 61, 6, 96, 46, 42, 180, 0, 9, 29]
abbrev dktX3_placeAtRank_1 : List UInt8 := dkwX3_placeAtRank_1 ++ dktX3_placeAtRank_2
def dkwX3_placeAtRank_0 : List UInt8 := [3, 62, 29, 42, 180, 0, 9, 4, 46, 162, 0, 125, 3, 54, 4, 3, 54, 5, 21, 5, 42, 180, 0, 9]
abbrev dktX3_placeAtRank_0 : List UInt8 := dkwX3_placeAtRank_0 ++ dktX3_placeAtRank_1
theorem dksX3_placeAtRank_0 : cX3_placeAtRank.data.toList.drop 0 = dktX3_placeAtRank_0 := by decide +kernel
theorem dksX3_placeAtRank_1 : cX3_placeAtRank.data.toList.drop 24 = dktX3_placeAtRank_1 := dk_seg dksX3_placeAtRank_0 24 rfl rfl
theorem dksX3_placeAtRank_2 : cX3_placeAtRank.data.toList.drop 46 = dktX3_placeAtRank_2 := dk_seg dksX3_placeAtRank_1 22 rfl rfl
theorem dksX3_placeAtRank_3 : cX3_placeAtRank.data.toList.drop 69 = dktX3_placeAtRank_3 := dk_seg dksX3_placeAtRank_2 23 rfl rfl
theorem dksX3_placeAtRank_4 : cX3_placeAtRank.data.toList.drop 93 = dktX3_placeAtRank_4 := dk_seg dksX3_placeAtRank_3 24 rfl rfl
theorem dksX3_placeAtRank_5 : cX3_placeAtRank.data.toList.drop 117 = dktX3_placeAtRank_5 := dk_seg dksX3_placeAtRank_4 24 rfl rfl
theorem dX3_placeAtRank_0 : decode cX3_placeAtRank 0 = .ok (.iconst 0, 1) := dk_3 (dk_at dksX3_placeAtRank_0 0 rfl rfl)
theorem dX3_placeAtRank_1 : decode cX3_placeAtRank 1 = .ok (.istore_n 3, 1) := dk_62 (dk_at dksX3_placeAtRank_0 1 rfl rfl)
theorem dX3_placeAtRank_2 : decode cX3_placeAtRank 2 = .ok (.iload_n 3, 1) := dk_29 (dk_at dksX3_placeAtRank_0 2 rfl rfl)
theorem dX3_placeAtRank_3 : decode cX3_placeAtRank 3 = .ok (.aload_n 0, 1) := dk_42 (dk_at dksX3_placeAtRank_0 3 rfl rfl)
theorem dX3_placeAtRank_4 : decode cX3_placeAtRank 4 = .ok (.getfield 9, 3) := dk_180 0 9 (dk_at dksX3_placeAtRank_0 4 rfl rfl)
theorem dX3_placeAtRank_7 : decode cX3_placeAtRank 7 = .ok (.iconst 1, 1) := dk_4 (dk_at dksX3_placeAtRank_0 7 rfl rfl)
theorem dX3_placeAtRank_8 : decode cX3_placeAtRank 8 = .ok (.iaload, 1) := dk_46 (dk_at dksX3_placeAtRank_0 8 rfl rfl)
theorem dX3_placeAtRank_9 : decode cX3_placeAtRank 9 = .ok (.if_icmp .ge 125, 3) := dk_162 0 125 (dk_at dksX3_placeAtRank_0 9 rfl rfl)
theorem dX3_placeAtRank_12 : decode cX3_placeAtRank 12 = .ok (.iconst 0, 1) := dk_3 (dk_at dksX3_placeAtRank_0 12 rfl rfl)
theorem dX3_placeAtRank_13 : decode cX3_placeAtRank 13 = .ok (.istore 4, 2) := dk_54 4 (dk_at dksX3_placeAtRank_0 13 rfl rfl)
theorem dX3_placeAtRank_15 : decode cX3_placeAtRank 15 = .ok (.iconst 0, 1) := dk_3 (dk_at dksX3_placeAtRank_0 15 rfl rfl)
theorem dX3_placeAtRank_16 : decode cX3_placeAtRank 16 = .ok (.istore 5, 2) := dk_54 5 (dk_at dksX3_placeAtRank_0 16 rfl rfl)
theorem dX3_placeAtRank_18 : decode cX3_placeAtRank 18 = .ok (.iload 5, 2) := dk_21 5 (dk_at dksX3_placeAtRank_0 18 rfl rfl)
theorem dX3_placeAtRank_20 : decode cX3_placeAtRank 20 = .ok (.aload_n 0, 1) := dk_42 (dk_at dksX3_placeAtRank_0 20 rfl rfl)
theorem dX3_placeAtRank_21 : decode cX3_placeAtRank 21 = .ok (.getfield 9, 3) := dk_180 0 9 (dk_at dksX3_placeAtRank_0 21 rfl rfl)
theorem dX3_placeAtRank_24 : decode cX3_placeAtRank 24 = .ok (.iconst 1, 1) := dk_4 (dk_at dksX3_placeAtRank_1 0 rfl rfl)
theorem dX3_placeAtRank_25 : decode cX3_placeAtRank 25 = .ok (.iaload, 1) := dk_46 (dk_at dksX3_placeAtRank_1 1 rfl rfl)
theorem dX3_placeAtRank_26 : decode cX3_placeAtRank 26 = .ok (.if_icmp .ge 85, 3) := dk_162 0 85 (dk_at dksX3_placeAtRank_1 2 rfl rfl)
theorem dX3_placeAtRank_29 : decode cX3_placeAtRank 29 = .ok (.aload_n 0, 1) := dk_42 (dk_at dksX3_placeAtRank_1 5 rfl rfl)
theorem dX3_placeAtRank_30 : decode cX3_placeAtRank 30 = .ok (.getfield 9, 3) := dk_180 0 9 (dk_at dksX3_placeAtRank_1 6 rfl rfl)
theorem dX3_placeAtRank_33 : decode cX3_placeAtRank 33 = .ok (.iload 5, 2) := dk_21 5 (dk_at dksX3_placeAtRank_1 9 rfl rfl)
theorem dX3_placeAtRank_35 : decode cX3_placeAtRank 35 = .ok (.invokestatic 61, 3) := dk_184 0 61 (dk_at dksX3_placeAtRank_1 11 rfl rfl)
theorem dX3_placeAtRank_38 : decode cX3_placeAtRank 38 = .ok (.iconst 3, 1) := dk_6 (dk_at dksX3_placeAtRank_1 14 rfl rfl)
theorem dX3_placeAtRank_39 : decode cX3_placeAtRank 39 = .ok (.iadd, 1) := dk_96 (dk_at dksX3_placeAtRank_1 15 rfl rfl)
theorem dX3_placeAtRank_40 : decode cX3_placeAtRank 40 = .ok (.iaload, 1) := dk_46 (dk_at dksX3_placeAtRank_1 16 rfl rfl)
theorem dX3_placeAtRank_41 : decode cX3_placeAtRank 41 = .ok (.aload_n 0, 1) := dk_42 (dk_at dksX3_placeAtRank_1 17 rfl rfl)
theorem dX3_placeAtRank_42 : decode cX3_placeAtRank 42 = .ok (.getfield 9, 3) := dk_180 0 9 (dk_at dksX3_placeAtRank_1 18 rfl rfl)
theorem dX3_placeAtRank_45 : decode cX3_placeAtRank 45 = .ok (.iload_n 3, 1) := dk_29 (dk_at dksX3_placeAtRank_1 21 rfl rfl)
theorem dX3_placeAtRank_46 : decode cX3_placeAtRank 46 = .ok (.invokestatic 61, 3) := dk_184 0 61 (dk_at dksX3_placeAtRank_2 0 rfl rfl)
theorem dX3_placeAtRank_49 : decode cX3_placeAtRank 49 = .ok (.iconst 3, 1) := dk_6 (dk_at dksX3_placeAtRank_2 3 rfl rfl)
theorem dX3_placeAtRank_50 : decode cX3_placeAtRank 50 = .ok (.iadd, 1) := dk_96 (dk_at dksX3_placeAtRank_2 4 rfl rfl)
theorem dX3_placeAtRank_51 : decode cX3_placeAtRank 51 = .ok (.iaload, 1) := dk_46 (dk_at dksX3_placeAtRank_2 5 rfl rfl)
theorem dX3_placeAtRank_52 : decode cX3_placeAtRank 52 = .ok (.isub, 1) := dk_100 (dk_at dksX3_placeAtRank_2 6 rfl rfl)
theorem dX3_placeAtRank_53 : decode cX3_placeAtRank 53 = .ok (.istore 6, 2) := dk_54 6 (dk_at dksX3_placeAtRank_2 7 rfl rfl)
theorem dX3_placeAtRank_55 : decode cX3_placeAtRank 55 = .ok (.iload_n 1, 1) := dk_27 (dk_at dksX3_placeAtRank_2 9 rfl rfl)
theorem dX3_placeAtRank_56 : decode cX3_placeAtRank 56 = .ok (.ifCond .eq 8, 3) := dk_153 0 8 (dk_at dksX3_placeAtRank_2 10 rfl rfl)
theorem dX3_placeAtRank_59 : decode cX3_placeAtRank 59 = .ok (.iload 6, 2) := dk_21 6 (dk_at dksX3_placeAtRank_2 13 rfl rfl)
theorem dX3_placeAtRank_61 : decode cX3_placeAtRank 61 = .ok (.goto 6, 3) := dk_167 0 6 (dk_at dksX3_placeAtRank_2 15 rfl rfl)
theorem dX3_placeAtRank_64 : decode cX3_placeAtRank 64 = .ok (.iload 6, 2) := dk_21 6 (dk_at dksX3_placeAtRank_2 18 rfl rfl)
theorem dX3_placeAtRank_66 : decode cX3_placeAtRank 66 = .ok (.ineg, 1) := dk_116 (dk_at dksX3_placeAtRank_2 20 rfl rfl)
theorem dX3_placeAtRank_67 : decode cX3_placeAtRank 67 = .ok (.istore 7, 2) := dk_54 7 (dk_at dksX3_placeAtRank_2 21 rfl rfl)
theorem dX3_placeAtRank_69 : decode cX3_placeAtRank 69 = .ok (.iload 4, 2) := dk_21 4 (dk_at dksX3_placeAtRank_3 0 rfl rfl)
theorem dX3_placeAtRank_71 : decode cX3_placeAtRank 71 = .ok (.aload_n 0, 1) := dk_42 (dk_at dksX3_placeAtRank_3 2 rfl rfl)
theorem dX3_placeAtRank_72 : decode cX3_placeAtRank 72 = .ok (.iload 5, 2) := dk_21 5 (dk_at dksX3_placeAtRank_3 3 rfl rfl)
theorem dX3_placeAtRank_74 : decode cX3_placeAtRank 74 = .ok (.iload_n 1, 1) := dk_27 (dk_at dksX3_placeAtRank_3 5 rfl rfl)
theorem dX3_placeAtRank_75 : decode cX3_placeAtRank 75 = .ok (.invokevirtual 65, 3) := dk_182 0 65 (dk_at dksX3_placeAtRank_3 6 rfl rfl)
theorem dX3_placeAtRank_78 : decode cX3_placeAtRank 78 = .ok (.ifCond .eq 23, 3) := dk_153 0 23 (dk_at dksX3_placeAtRank_3 9 rfl rfl)
theorem dX3_placeAtRank_81 : decode cX3_placeAtRank 81 = .ok (.iload 7, 2) := dk_21 7 (dk_at dksX3_placeAtRank_3 12 rfl rfl)
theorem dX3_placeAtRank_83 : decode cX3_placeAtRank 83 = .ok (.ifCond .gt 14, 3) := dk_157 0 14 (dk_at dksX3_placeAtRank_3 14 rfl rfl)
theorem dX3_placeAtRank_86 : decode cX3_placeAtRank 86 = .ok (.iload 7, 2) := dk_21 7 (dk_at dksX3_placeAtRank_3 17 rfl rfl)
theorem dX3_placeAtRank_88 : decode cX3_placeAtRank 88 = .ok (.ifCond .ne 13, 3) := dk_154 0 13 (dk_at dksX3_placeAtRank_3 19 rfl rfl)
theorem dX3_placeAtRank_91 : decode cX3_placeAtRank 91 = .ok (.iload 5, 2) := dk_21 5 (dk_at dksX3_placeAtRank_3 22 rfl rfl)
theorem dX3_placeAtRank_93 : decode cX3_placeAtRank 93 = .ok (.iload_n 3, 1) := dk_29 (dk_at dksX3_placeAtRank_4 0 rfl rfl)
theorem dX3_placeAtRank_94 : decode cX3_placeAtRank 94 = .ok (.if_icmp .ge 7, 3) := dk_162 0 7 (dk_at dksX3_placeAtRank_4 1 rfl rfl)
theorem dX3_placeAtRank_97 : decode cX3_placeAtRank 97 = .ok (.iconst 1, 1) := dk_4 (dk_at dksX3_placeAtRank_4 4 rfl rfl)
theorem dX3_placeAtRank_98 : decode cX3_placeAtRank 98 = .ok (.goto 4, 3) := dk_167 0 4 (dk_at dksX3_placeAtRank_4 5 rfl rfl)
theorem dX3_placeAtRank_101 : decode cX3_placeAtRank 101 = .ok (.iconst 0, 1) := dk_3 (dk_at dksX3_placeAtRank_4 8 rfl rfl)
theorem dX3_placeAtRank_102 : decode cX3_placeAtRank 102 = .ok (.iadd, 1) := dk_96 (dk_at dksX3_placeAtRank_4 9 rfl rfl)
theorem dX3_placeAtRank_103 : decode cX3_placeAtRank 103 = .ok (.istore 4, 2) := dk_54 4 (dk_at dksX3_placeAtRank_4 10 rfl rfl)
theorem dX3_placeAtRank_105 : decode cX3_placeAtRank 105 = .ok (.iinc 5 1, 3) := dk_132 5 1 (dk_at dksX3_placeAtRank_4 12 rfl rfl)
theorem dX3_placeAtRank_108 : decode cX3_placeAtRank 108 = .ok (.goto (-90), 3) := dk_167 255 166 (dk_at dksX3_placeAtRank_4 15 rfl rfl)
theorem dX3_placeAtRank_111 : decode cX3_placeAtRank 111 = .ok (.aload_n 0, 1) := dk_42 (dk_at dksX3_placeAtRank_4 18 rfl rfl)
theorem dX3_placeAtRank_112 : decode cX3_placeAtRank 112 = .ok (.iload_n 3, 1) := dk_29 (dk_at dksX3_placeAtRank_4 19 rfl rfl)
theorem dX3_placeAtRank_113 : decode cX3_placeAtRank 113 = .ok (.iload_n 1, 1) := dk_27 (dk_at dksX3_placeAtRank_4 20 rfl rfl)
theorem dX3_placeAtRank_114 : decode cX3_placeAtRank 114 = .ok (.invokevirtual 65, 3) := dk_182 0 65 (dk_at dksX3_placeAtRank_4 21 rfl rfl)
theorem dX3_placeAtRank_117 : decode cX3_placeAtRank 117 = .ok (.ifCond .eq 11, 3) := dk_153 0 11 (dk_at dksX3_placeAtRank_5 0 rfl rfl)
theorem dX3_placeAtRank_120 : decode cX3_placeAtRank 120 = .ok (.iload 4, 2) := dk_21 4 (dk_at dksX3_placeAtRank_5 3 rfl rfl)
theorem dX3_placeAtRank_122 : decode cX3_placeAtRank 122 = .ok (.iload_n 2, 1) := dk_28 (dk_at dksX3_placeAtRank_5 5 rfl rfl)
theorem dX3_placeAtRank_123 : decode cX3_placeAtRank 123 = .ok (.if_icmp .ne 5, 3) := dk_160 0 5 (dk_at dksX3_placeAtRank_5 6 rfl rfl)
theorem dX3_placeAtRank_126 : decode cX3_placeAtRank 126 = .ok (.iload_n 3, 1) := dk_29 (dk_at dksX3_placeAtRank_5 9 rfl rfl)
theorem dX3_placeAtRank_127 : decode cX3_placeAtRank 127 = .ok (.ireturn, 1) := dk_172 (dk_at dksX3_placeAtRank_5 10 rfl rfl)
theorem dX3_placeAtRank_128 : decode cX3_placeAtRank 128 = .ok (.iinc 3 1, 3) := dk_132 3 1 (dk_at dksX3_placeAtRank_5 11 rfl rfl)
theorem dX3_placeAtRank_131 : decode cX3_placeAtRank 131 = .ok (.goto (-129), 3) := dk_167 255 127 (dk_at dksX3_placeAtRank_5 14 rfl rfl)
theorem dX3_placeAtRank_134 : decode cX3_placeAtRank 134 = .ok (.iconst (-1), 1) := dk_2 (dk_at dksX3_placeAtRank_5 17 rfl rfl)
theorem dX3_placeAtRank_135 : decode cX3_placeAtRank 135 = .ok (.ireturn, 1) := dk_172 (dk_at dksX3_placeAtRank_5 18 rfl rfl)
abbrev cX3_bestBid : ByteArray := prog_15_method_57_code
def yX3_bestBid : MethodName := ⟨RX3, "bestBid", "()I"⟩
def dkwX3_bestBid_1 : List UInt8 := [167, 0, 14, 42, 180, 0, 9, 27, 184, 0, 61, 6, 96, 46, 172]
abbrev dktX3_bestBid_1 : List UInt8 := dkwX3_bestBid_1 ++ []
def dkwX3_bestBid_0 : List UInt8 := [42, 3, 181, 0, 45, 42, 4, 3, 182, 0, 181, 60, 27, 2, 160, 0, 11, 42, 4, 182, 0, 75]
abbrev dktX3_bestBid_0 : List UInt8 := dkwX3_bestBid_0 ++ dktX3_bestBid_1
theorem dksX3_bestBid_0 : cX3_bestBid.data.toList.drop 0 = dktX3_bestBid_0 := by decide +kernel
theorem dksX3_bestBid_1 : cX3_bestBid.data.toList.drop 22 = dktX3_bestBid_1 := dk_seg dksX3_bestBid_0 22 rfl rfl
theorem dX3_bestBid_0 : decode cX3_bestBid 0 = .ok (.aload_n 0, 1) := dk_42 (dk_at dksX3_bestBid_0 0 rfl rfl)
theorem dX3_bestBid_1 : decode cX3_bestBid 1 = .ok (.iconst 0, 1) := dk_3 (dk_at dksX3_bestBid_0 1 rfl rfl)
theorem dX3_bestBid_2 : decode cX3_bestBid 2 = .ok (.putfield 45, 3) := dk_181 0 45 (dk_at dksX3_bestBid_0 2 rfl rfl)
theorem dX3_bestBid_5 : decode cX3_bestBid 5 = .ok (.aload_n 0, 1) := dk_42 (dk_at dksX3_bestBid_0 5 rfl rfl)
theorem dX3_bestBid_6 : decode cX3_bestBid 6 = .ok (.iconst 1, 1) := dk_4 (dk_at dksX3_bestBid_0 6 rfl rfl)
theorem dX3_bestBid_7 : decode cX3_bestBid 7 = .ok (.iconst 0, 1) := dk_3 (dk_at dksX3_bestBid_0 7 rfl rfl)
theorem dX3_bestBid_8 : decode cX3_bestBid 8 = .ok (.invokevirtual 181, 3) := dk_182 0 181 (dk_at dksX3_bestBid_0 8 rfl rfl)
theorem dX3_bestBid_11 : decode cX3_bestBid 11 = .ok (.istore_n 1, 1) := dk_60 (dk_at dksX3_bestBid_0 11 rfl rfl)
theorem dX3_bestBid_12 : decode cX3_bestBid 12 = .ok (.iload_n 1, 1) := dk_27 (dk_at dksX3_bestBid_0 12 rfl rfl)
theorem dX3_bestBid_13 : decode cX3_bestBid 13 = .ok (.iconst (-1), 1) := dk_2 (dk_at dksX3_bestBid_0 13 rfl rfl)
theorem dX3_bestBid_14 : decode cX3_bestBid 14 = .ok (.if_icmp .ne 11, 3) := dk_160 0 11 (dk_at dksX3_bestBid_0 14 rfl rfl)
theorem dX3_bestBid_17 : decode cX3_bestBid 17 = .ok (.aload_n 0, 1) := dk_42 (dk_at dksX3_bestBid_0 17 rfl rfl)
theorem dX3_bestBid_18 : decode cX3_bestBid 18 = .ok (.iconst 1, 1) := dk_4 (dk_at dksX3_bestBid_0 18 rfl rfl)
theorem dX3_bestBid_19 : decode cX3_bestBid 19 = .ok (.invokevirtual 75, 3) := dk_182 0 75 (dk_at dksX3_bestBid_0 19 rfl rfl)
theorem dX3_bestBid_22 : decode cX3_bestBid 22 = .ok (.goto 14, 3) := dk_167 0 14 (dk_at dksX3_bestBid_1 0 rfl rfl)
theorem dX3_bestBid_25 : decode cX3_bestBid 25 = .ok (.aload_n 0, 1) := dk_42 (dk_at dksX3_bestBid_1 3 rfl rfl)
theorem dX3_bestBid_26 : decode cX3_bestBid 26 = .ok (.getfield 9, 3) := dk_180 0 9 (dk_at dksX3_bestBid_1 4 rfl rfl)
theorem dX3_bestBid_29 : decode cX3_bestBid 29 = .ok (.iload_n 1, 1) := dk_27 (dk_at dksX3_bestBid_1 7 rfl rfl)
theorem dX3_bestBid_30 : decode cX3_bestBid 30 = .ok (.invokestatic 61, 3) := dk_184 0 61 (dk_at dksX3_bestBid_1 8 rfl rfl)
theorem dX3_bestBid_33 : decode cX3_bestBid 33 = .ok (.iconst 3, 1) := dk_6 (dk_at dksX3_bestBid_1 11 rfl rfl)
theorem dX3_bestBid_34 : decode cX3_bestBid 34 = .ok (.iadd, 1) := dk_96 (dk_at dksX3_bestBid_1 12 rfl rfl)
theorem dX3_bestBid_35 : decode cX3_bestBid 35 = .ok (.iaload, 1) := dk_46 (dk_at dksX3_bestBid_1 13 rfl rfl)
theorem dX3_bestBid_36 : decode cX3_bestBid 36 = .ok (.ireturn, 1) := dk_172 (dk_at dksX3_bestBid_1 14 rfl rfl)
abbrev cX3_bestAsk : ByteArray := prog_15_method_58_code
def yX3_bestAsk : MethodName := ⟨RX3, "bestAsk", "()I"⟩
def dkwX3_bestAsk_1 : List UInt8 := [167, 0, 14, 42, 180, 0, 9, 27, 184, 0, 61, 6, 96, 46, 172]
abbrev dktX3_bestAsk_1 : List UInt8 := dkwX3_bestAsk_1 ++ []
def dkwX3_bestAsk_0 : List UInt8 := [42, 3, 181, 0, 45, 42, 3, 3, 182, 0, 181, 60, 27, 2, 160, 0, 11, 42, 4, 182, 0, 75]
abbrev dktX3_bestAsk_0 : List UInt8 := dkwX3_bestAsk_0 ++ dktX3_bestAsk_1
theorem dksX3_bestAsk_0 : cX3_bestAsk.data.toList.drop 0 = dktX3_bestAsk_0 := by decide +kernel
theorem dksX3_bestAsk_1 : cX3_bestAsk.data.toList.drop 22 = dktX3_bestAsk_1 := dk_seg dksX3_bestAsk_0 22 rfl rfl
theorem dX3_bestAsk_0 : decode cX3_bestAsk 0 = .ok (.aload_n 0, 1) := dk_42 (dk_at dksX3_bestAsk_0 0 rfl rfl)
theorem dX3_bestAsk_1 : decode cX3_bestAsk 1 = .ok (.iconst 0, 1) := dk_3 (dk_at dksX3_bestAsk_0 1 rfl rfl)
theorem dX3_bestAsk_2 : decode cX3_bestAsk 2 = .ok (.putfield 45, 3) := dk_181 0 45 (dk_at dksX3_bestAsk_0 2 rfl rfl)
theorem dX3_bestAsk_5 : decode cX3_bestAsk 5 = .ok (.aload_n 0, 1) := dk_42 (dk_at dksX3_bestAsk_0 5 rfl rfl)
theorem dX3_bestAsk_6 : decode cX3_bestAsk 6 = .ok (.iconst 0, 1) := dk_3 (dk_at dksX3_bestAsk_0 6 rfl rfl)
theorem dX3_bestAsk_7 : decode cX3_bestAsk 7 = .ok (.iconst 0, 1) := dk_3 (dk_at dksX3_bestAsk_0 7 rfl rfl)
theorem dX3_bestAsk_8 : decode cX3_bestAsk 8 = .ok (.invokevirtual 181, 3) := dk_182 0 181 (dk_at dksX3_bestAsk_0 8 rfl rfl)
theorem dX3_bestAsk_11 : decode cX3_bestAsk 11 = .ok (.istore_n 1, 1) := dk_60 (dk_at dksX3_bestAsk_0 11 rfl rfl)
theorem dX3_bestAsk_12 : decode cX3_bestAsk 12 = .ok (.iload_n 1, 1) := dk_27 (dk_at dksX3_bestAsk_0 12 rfl rfl)
theorem dX3_bestAsk_13 : decode cX3_bestAsk 13 = .ok (.iconst (-1), 1) := dk_2 (dk_at dksX3_bestAsk_0 13 rfl rfl)
theorem dX3_bestAsk_14 : decode cX3_bestAsk 14 = .ok (.if_icmp .ne 11, 3) := dk_160 0 11 (dk_at dksX3_bestAsk_0 14 rfl rfl)
theorem dX3_bestAsk_17 : decode cX3_bestAsk 17 = .ok (.aload_n 0, 1) := dk_42 (dk_at dksX3_bestAsk_0 17 rfl rfl)
theorem dX3_bestAsk_18 : decode cX3_bestAsk 18 = .ok (.iconst 1, 1) := dk_4 (dk_at dksX3_bestAsk_0 18 rfl rfl)
theorem dX3_bestAsk_19 : decode cX3_bestAsk 19 = .ok (.invokevirtual 75, 3) := dk_182 0 75 (dk_at dksX3_bestAsk_0 19 rfl rfl)
theorem dX3_bestAsk_22 : decode cX3_bestAsk 22 = .ok (.goto 14, 3) := dk_167 0 14 (dk_at dksX3_bestAsk_1 0 rfl rfl)
theorem dX3_bestAsk_25 : decode cX3_bestAsk 25 = .ok (.aload_n 0, 1) := dk_42 (dk_at dksX3_bestAsk_1 3 rfl rfl)
theorem dX3_bestAsk_26 : decode cX3_bestAsk 26 = .ok (.getfield 9, 3) := dk_180 0 9 (dk_at dksX3_bestAsk_1 4 rfl rfl)
theorem dX3_bestAsk_29 : decode cX3_bestAsk 29 = .ok (.iload_n 1, 1) := dk_27 (dk_at dksX3_bestAsk_1 7 rfl rfl)
theorem dX3_bestAsk_30 : decode cX3_bestAsk 30 = .ok (.invokestatic 61, 3) := dk_184 0 61 (dk_at dksX3_bestAsk_1 8 rfl rfl)
theorem dX3_bestAsk_33 : decode cX3_bestAsk 33 = .ok (.iconst 3, 1) := dk_6 (dk_at dksX3_bestAsk_1 11 rfl rfl)
theorem dX3_bestAsk_34 : decode cX3_bestAsk 34 = .ok (.iadd, 1) := dk_96 (dk_at dksX3_bestAsk_1 12 rfl rfl)
theorem dX3_bestAsk_35 : decode cX3_bestAsk 35 = .ok (.iaload, 1) := dk_46 (dk_at dksX3_bestAsk_1 13 rfl rfl)
theorem dX3_bestAsk_36 : decode cX3_bestAsk 36 = .ok (.ireturn, 1) := dk_172 (dk_at dksX3_bestAsk_1 14 rfl rfl)
abbrev cX3_depth : ByteArray := prog_15_method_59_code
def yX3_depth : MethodName := ⟨RX3, "depth", "(ZI)I"⟩
def dkwX3_depth_3 : List UInt8 := [167, 255, 197, 29, 172]
abbrev dktX3_depth_3 : List UInt8 := dkwX3_depth_3 ++ []
def dkwX3_depth_2 : List UInt8 := [160, 0, 18, 42, 180, 0, 9, 21, 4, 184, 0, 61, 7, 96, 46, 167, 0, 4, 3, 96, 62, 132, 4, 1]
abbrev dktX3_depth_2 : List UInt8 := dkwX3_depth_2 ++ dktX3_depth_3
def dkwX3_depth_1 : List UInt8 := [21, 4, 27, 182, 0, 65, 153, 0, 34, 42, 180, 0, 9, 21, 4, 184, 0, 61, 6, 96, 46, 28]
abbrev dktX3_depth_1 : List UInt8 := dkwX3_depth_1 ++ dktX3_depth_2
def dkwX3_depth_0 : List UInt8 := [42, 3, 181, 0, 45, 3, 62, 3, 54, 4, 21, 4, 42, 180, 0, 9, 4, 46, 162, 0, 54, 29, 42]
abbrev dktX3_depth_0 : List UInt8 := dkwX3_depth_0 ++ dktX3_depth_1
theorem dksX3_depth_0 : cX3_depth.data.toList.drop 0 = dktX3_depth_0 := by decide +kernel
theorem dksX3_depth_1 : cX3_depth.data.toList.drop 23 = dktX3_depth_1 := dk_seg dksX3_depth_0 23 rfl rfl
theorem dksX3_depth_2 : cX3_depth.data.toList.drop 45 = dktX3_depth_2 := dk_seg dksX3_depth_1 22 rfl rfl
theorem dksX3_depth_3 : cX3_depth.data.toList.drop 69 = dktX3_depth_3 := dk_seg dksX3_depth_2 24 rfl rfl
theorem dX3_depth_0 : decode cX3_depth 0 = .ok (.aload_n 0, 1) := dk_42 (dk_at dksX3_depth_0 0 rfl rfl)
theorem dX3_depth_1 : decode cX3_depth 1 = .ok (.iconst 0, 1) := dk_3 (dk_at dksX3_depth_0 1 rfl rfl)
theorem dX3_depth_2 : decode cX3_depth 2 = .ok (.putfield 45, 3) := dk_181 0 45 (dk_at dksX3_depth_0 2 rfl rfl)
theorem dX3_depth_5 : decode cX3_depth 5 = .ok (.iconst 0, 1) := dk_3 (dk_at dksX3_depth_0 5 rfl rfl)
theorem dX3_depth_6 : decode cX3_depth 6 = .ok (.istore_n 3, 1) := dk_62 (dk_at dksX3_depth_0 6 rfl rfl)
theorem dX3_depth_7 : decode cX3_depth 7 = .ok (.iconst 0, 1) := dk_3 (dk_at dksX3_depth_0 7 rfl rfl)
theorem dX3_depth_8 : decode cX3_depth 8 = .ok (.istore 4, 2) := dk_54 4 (dk_at dksX3_depth_0 8 rfl rfl)
theorem dX3_depth_10 : decode cX3_depth 10 = .ok (.iload 4, 2) := dk_21 4 (dk_at dksX3_depth_0 10 rfl rfl)
theorem dX3_depth_12 : decode cX3_depth 12 = .ok (.aload_n 0, 1) := dk_42 (dk_at dksX3_depth_0 12 rfl rfl)
theorem dX3_depth_13 : decode cX3_depth 13 = .ok (.getfield 9, 3) := dk_180 0 9 (dk_at dksX3_depth_0 13 rfl rfl)
theorem dX3_depth_16 : decode cX3_depth 16 = .ok (.iconst 1, 1) := dk_4 (dk_at dksX3_depth_0 16 rfl rfl)
theorem dX3_depth_17 : decode cX3_depth 17 = .ok (.iaload, 1) := dk_46 (dk_at dksX3_depth_0 17 rfl rfl)
theorem dX3_depth_18 : decode cX3_depth 18 = .ok (.if_icmp .ge 54, 3) := dk_162 0 54 (dk_at dksX3_depth_0 18 rfl rfl)
theorem dX3_depth_21 : decode cX3_depth 21 = .ok (.iload_n 3, 1) := dk_29 (dk_at dksX3_depth_0 21 rfl rfl)
theorem dX3_depth_22 : decode cX3_depth 22 = .ok (.aload_n 0, 1) := dk_42 (dk_at dksX3_depth_0 22 rfl rfl)
theorem dX3_depth_23 : decode cX3_depth 23 = .ok (.iload 4, 2) := dk_21 4 (dk_at dksX3_depth_1 0 rfl rfl)
theorem dX3_depth_25 : decode cX3_depth 25 = .ok (.iload_n 1, 1) := dk_27 (dk_at dksX3_depth_1 2 rfl rfl)
theorem dX3_depth_26 : decode cX3_depth 26 = .ok (.invokevirtual 65, 3) := dk_182 0 65 (dk_at dksX3_depth_1 3 rfl rfl)
theorem dX3_depth_29 : decode cX3_depth 29 = .ok (.ifCond .eq 34, 3) := dk_153 0 34 (dk_at dksX3_depth_1 6 rfl rfl)
theorem dX3_depth_32 : decode cX3_depth 32 = .ok (.aload_n 0, 1) := dk_42 (dk_at dksX3_depth_1 9 rfl rfl)
theorem dX3_depth_33 : decode cX3_depth 33 = .ok (.getfield 9, 3) := dk_180 0 9 (dk_at dksX3_depth_1 10 rfl rfl)
theorem dX3_depth_36 : decode cX3_depth 36 = .ok (.iload 4, 2) := dk_21 4 (dk_at dksX3_depth_1 13 rfl rfl)
theorem dX3_depth_38 : decode cX3_depth 38 = .ok (.invokestatic 61, 3) := dk_184 0 61 (dk_at dksX3_depth_1 15 rfl rfl)
theorem dX3_depth_41 : decode cX3_depth 41 = .ok (.iconst 3, 1) := dk_6 (dk_at dksX3_depth_1 18 rfl rfl)
theorem dX3_depth_42 : decode cX3_depth 42 = .ok (.iadd, 1) := dk_96 (dk_at dksX3_depth_1 19 rfl rfl)
theorem dX3_depth_43 : decode cX3_depth 43 = .ok (.iaload, 1) := dk_46 (dk_at dksX3_depth_1 20 rfl rfl)
theorem dX3_depth_44 : decode cX3_depth 44 = .ok (.iload_n 2, 1) := dk_28 (dk_at dksX3_depth_1 21 rfl rfl)
theorem dX3_depth_45 : decode cX3_depth 45 = .ok (.if_icmp .ne 18, 3) := dk_160 0 18 (dk_at dksX3_depth_2 0 rfl rfl)
theorem dX3_depth_48 : decode cX3_depth 48 = .ok (.aload_n 0, 1) := dk_42 (dk_at dksX3_depth_2 3 rfl rfl)
theorem dX3_depth_49 : decode cX3_depth 49 = .ok (.getfield 9, 3) := dk_180 0 9 (dk_at dksX3_depth_2 4 rfl rfl)
theorem dX3_depth_52 : decode cX3_depth 52 = .ok (.iload 4, 2) := dk_21 4 (dk_at dksX3_depth_2 7 rfl rfl)
theorem dX3_depth_54 : decode cX3_depth 54 = .ok (.invokestatic 61, 3) := dk_184 0 61 (dk_at dksX3_depth_2 9 rfl rfl)
theorem dX3_depth_57 : decode cX3_depth 57 = .ok (.iconst 4, 1) := dk_7 (dk_at dksX3_depth_2 12 rfl rfl)
theorem dX3_depth_58 : decode cX3_depth 58 = .ok (.iadd, 1) := dk_96 (dk_at dksX3_depth_2 13 rfl rfl)
theorem dX3_depth_59 : decode cX3_depth 59 = .ok (.iaload, 1) := dk_46 (dk_at dksX3_depth_2 14 rfl rfl)
theorem dX3_depth_60 : decode cX3_depth 60 = .ok (.goto 4, 3) := dk_167 0 4 (dk_at dksX3_depth_2 15 rfl rfl)
theorem dX3_depth_63 : decode cX3_depth 63 = .ok (.iconst 0, 1) := dk_3 (dk_at dksX3_depth_2 18 rfl rfl)
theorem dX3_depth_64 : decode cX3_depth 64 = .ok (.iadd, 1) := dk_96 (dk_at dksX3_depth_2 19 rfl rfl)
theorem dX3_depth_65 : decode cX3_depth 65 = .ok (.istore_n 3, 1) := dk_62 (dk_at dksX3_depth_2 20 rfl rfl)
theorem dX3_depth_66 : decode cX3_depth 66 = .ok (.iinc 4 1, 3) := dk_132 4 1 (dk_at dksX3_depth_2 21 rfl rfl)
theorem dX3_depth_69 : decode cX3_depth 69 = .ok (.goto (-59), 3) := dk_167 255 197 (dk_at dksX3_depth_3 0 rfl rfl)
theorem dX3_depth_72 : decode cX3_depth 72 = .ok (.iload_n 3, 1) := dk_29 (dk_at dksX3_depth_3 3 rfl rfl)
theorem dX3_depth_73 : decode cX3_depth 73 = .ok (.ireturn, 1) := dk_172 (dk_at dksX3_depth_3 4 rfl rfl)
abbrev cX3_costToBuy : ByteArray := prog_15_method_60_code
def yX3_costToBuy : MethodName := ⟨RX3, "costToBuy", "(I)I"⟩
def dkwX3_costToBuy_4 : List UInt8 := [21, 6, 100, 61, 132, 4, 1, 167, 255, 187, 29, 172]
abbrev dktX3_costToBuy_4 : List UInt8 := dkwX3_costToBuy_4 ++ []
def dkwX3_costToBuy_3 : List UInt8 := [184, 0, 111, 54, 6, 29, 21, 6, 42, 180, 0, 9, 21, 5, 184, 0, 61, 6, 96, 46, 104, 96, 62, 28]
abbrev dktX3_costToBuy_3 : List UInt8 := dkwX3_costToBuy_3 ++ dktX3_costToBuy_4
def dkwX3_costToBuy_2 : List UInt8 := [160, 0, 9, 42, 5, 182, 0, 75, 172, 28, 42, 180, 0, 9, 21, 5, 184, 0, 61, 7, 96, 46]
abbrev dktX3_costToBuy_2 : List UInt8 := dkwX3_costToBuy_2 ++ dktX3_costToBuy_3
def dkwX3_costToBuy_1 : List UInt8 := [61, 3, 62, 3, 54, 4, 28, 158, 0, 71, 42, 3, 21, 4, 182, 0, 181, 54, 5, 21, 5, 2]
abbrev dktX3_costToBuy_1 : List UInt8 := dkwX3_costToBuy_1 ++ dktX3_costToBuy_2
def dkwX3_costToBuy_0 : List UInt8 := [42, 3, 181, 0, 45, 27, 133, 10, 20, 0, 73, 184, 0, 51, 154, 0, 9, 42, 4, 182, 0, 75, 172, 27]
abbrev dktX3_costToBuy_0 : List UInt8 := dkwX3_costToBuy_0 ++ dktX3_costToBuy_1
theorem dksX3_costToBuy_0 : cX3_costToBuy.data.toList.drop 0 = dktX3_costToBuy_0 := by decide +kernel
theorem dksX3_costToBuy_1 : cX3_costToBuy.data.toList.drop 24 = dktX3_costToBuy_1 := dk_seg dksX3_costToBuy_0 24 rfl rfl
theorem dksX3_costToBuy_2 : cX3_costToBuy.data.toList.drop 46 = dktX3_costToBuy_2 := dk_seg dksX3_costToBuy_1 22 rfl rfl
theorem dksX3_costToBuy_3 : cX3_costToBuy.data.toList.drop 68 = dktX3_costToBuy_3 := dk_seg dksX3_costToBuy_2 22 rfl rfl
theorem dksX3_costToBuy_4 : cX3_costToBuy.data.toList.drop 92 = dktX3_costToBuy_4 := dk_seg dksX3_costToBuy_3 24 rfl rfl
theorem dX3_costToBuy_0 : decode cX3_costToBuy 0 = .ok (.aload_n 0, 1) := dk_42 (dk_at dksX3_costToBuy_0 0 rfl rfl)
theorem dX3_costToBuy_1 : decode cX3_costToBuy 1 = .ok (.iconst 0, 1) := dk_3 (dk_at dksX3_costToBuy_0 1 rfl rfl)
theorem dX3_costToBuy_2 : decode cX3_costToBuy 2 = .ok (.putfield 45, 3) := dk_181 0 45 (dk_at dksX3_costToBuy_0 2 rfl rfl)
theorem dX3_costToBuy_5 : decode cX3_costToBuy 5 = .ok (.iload_n 1, 1) := dk_27 (dk_at dksX3_costToBuy_0 5 rfl rfl)
theorem dX3_costToBuy_6 : decode cX3_costToBuy 6 = .ok (.i2l, 1) := dk_133 (dk_at dksX3_costToBuy_0 6 rfl rfl)
theorem dX3_costToBuy_7 : decode cX3_costToBuy 7 = .ok (.lconst 1, 1) := dk_10 (dk_at dksX3_costToBuy_0 7 rfl rfl)
theorem dX3_costToBuy_8 : decode cX3_costToBuy 8 = .ok (.ldc2_w 73, 3) := dk_20 0 73 (dk_at dksX3_costToBuy_0 8 rfl rfl)
theorem dX3_costToBuy_11 : decode cX3_costToBuy 11 = .ok (.invokestatic 51, 3) := dk_184 0 51 (dk_at dksX3_costToBuy_0 11 rfl rfl)
theorem dX3_costToBuy_14 : decode cX3_costToBuy 14 = .ok (.ifCond .ne 9, 3) := dk_154 0 9 (dk_at dksX3_costToBuy_0 14 rfl rfl)
theorem dX3_costToBuy_17 : decode cX3_costToBuy 17 = .ok (.aload_n 0, 1) := dk_42 (dk_at dksX3_costToBuy_0 17 rfl rfl)
theorem dX3_costToBuy_18 : decode cX3_costToBuy 18 = .ok (.iconst 1, 1) := dk_4 (dk_at dksX3_costToBuy_0 18 rfl rfl)
theorem dX3_costToBuy_19 : decode cX3_costToBuy 19 = .ok (.invokevirtual 75, 3) := dk_182 0 75 (dk_at dksX3_costToBuy_0 19 rfl rfl)
theorem dX3_costToBuy_22 : decode cX3_costToBuy 22 = .ok (.ireturn, 1) := dk_172 (dk_at dksX3_costToBuy_0 22 rfl rfl)
theorem dX3_costToBuy_23 : decode cX3_costToBuy 23 = .ok (.iload_n 1, 1) := dk_27 (dk_at dksX3_costToBuy_0 23 rfl rfl)
theorem dX3_costToBuy_24 : decode cX3_costToBuy 24 = .ok (.istore_n 2, 1) := dk_61 (dk_at dksX3_costToBuy_1 0 rfl rfl)
theorem dX3_costToBuy_25 : decode cX3_costToBuy 25 = .ok (.iconst 0, 1) := dk_3 (dk_at dksX3_costToBuy_1 1 rfl rfl)
theorem dX3_costToBuy_26 : decode cX3_costToBuy 26 = .ok (.istore_n 3, 1) := dk_62 (dk_at dksX3_costToBuy_1 2 rfl rfl)
theorem dX3_costToBuy_27 : decode cX3_costToBuy 27 = .ok (.iconst 0, 1) := dk_3 (dk_at dksX3_costToBuy_1 3 rfl rfl)
theorem dX3_costToBuy_28 : decode cX3_costToBuy 28 = .ok (.istore 4, 2) := dk_54 4 (dk_at dksX3_costToBuy_1 4 rfl rfl)
theorem dX3_costToBuy_30 : decode cX3_costToBuy 30 = .ok (.iload_n 2, 1) := dk_28 (dk_at dksX3_costToBuy_1 6 rfl rfl)
theorem dX3_costToBuy_31 : decode cX3_costToBuy 31 = .ok (.ifCond .le 71, 3) := dk_158 0 71 (dk_at dksX3_costToBuy_1 7 rfl rfl)
theorem dX3_costToBuy_34 : decode cX3_costToBuy 34 = .ok (.aload_n 0, 1) := dk_42 (dk_at dksX3_costToBuy_1 10 rfl rfl)
theorem dX3_costToBuy_35 : decode cX3_costToBuy 35 = .ok (.iconst 0, 1) := dk_3 (dk_at dksX3_costToBuy_1 11 rfl rfl)
theorem dX3_costToBuy_36 : decode cX3_costToBuy 36 = .ok (.iload 4, 2) := dk_21 4 (dk_at dksX3_costToBuy_1 12 rfl rfl)
theorem dX3_costToBuy_38 : decode cX3_costToBuy 38 = .ok (.invokevirtual 181, 3) := dk_182 0 181 (dk_at dksX3_costToBuy_1 14 rfl rfl)
theorem dX3_costToBuy_41 : decode cX3_costToBuy 41 = .ok (.istore 5, 2) := dk_54 5 (dk_at dksX3_costToBuy_1 17 rfl rfl)
theorem dX3_costToBuy_43 : decode cX3_costToBuy 43 = .ok (.iload 5, 2) := dk_21 5 (dk_at dksX3_costToBuy_1 19 rfl rfl)
theorem dX3_costToBuy_45 : decode cX3_costToBuy 45 = .ok (.iconst (-1), 1) := dk_2 (dk_at dksX3_costToBuy_1 21 rfl rfl)
theorem dX3_costToBuy_46 : decode cX3_costToBuy 46 = .ok (.if_icmp .ne 9, 3) := dk_160 0 9 (dk_at dksX3_costToBuy_2 0 rfl rfl)
theorem dX3_costToBuy_49 : decode cX3_costToBuy 49 = .ok (.aload_n 0, 1) := dk_42 (dk_at dksX3_costToBuy_2 3 rfl rfl)
theorem dX3_costToBuy_50 : decode cX3_costToBuy 50 = .ok (.iconst 2, 1) := dk_5 (dk_at dksX3_costToBuy_2 4 rfl rfl)
theorem dX3_costToBuy_51 : decode cX3_costToBuy 51 = .ok (.invokevirtual 75, 3) := dk_182 0 75 (dk_at dksX3_costToBuy_2 5 rfl rfl)
theorem dX3_costToBuy_54 : decode cX3_costToBuy 54 = .ok (.ireturn, 1) := dk_172 (dk_at dksX3_costToBuy_2 8 rfl rfl)
theorem dX3_costToBuy_55 : decode cX3_costToBuy 55 = .ok (.iload_n 2, 1) := dk_28 (dk_at dksX3_costToBuy_2 9 rfl rfl)
theorem dX3_costToBuy_56 : decode cX3_costToBuy 56 = .ok (.aload_n 0, 1) := dk_42 (dk_at dksX3_costToBuy_2 10 rfl rfl)
theorem dX3_costToBuy_57 : decode cX3_costToBuy 57 = .ok (.getfield 9, 3) := dk_180 0 9 (dk_at dksX3_costToBuy_2 11 rfl rfl)
theorem dX3_costToBuy_60 : decode cX3_costToBuy 60 = .ok (.iload 5, 2) := dk_21 5 (dk_at dksX3_costToBuy_2 14 rfl rfl)
theorem dX3_costToBuy_62 : decode cX3_costToBuy 62 = .ok (.invokestatic 61, 3) := dk_184 0 61 (dk_at dksX3_costToBuy_2 16 rfl rfl)
theorem dX3_costToBuy_65 : decode cX3_costToBuy 65 = .ok (.iconst 4, 1) := dk_7 (dk_at dksX3_costToBuy_2 19 rfl rfl)
theorem dX3_costToBuy_66 : decode cX3_costToBuy 66 = .ok (.iadd, 1) := dk_96 (dk_at dksX3_costToBuy_2 20 rfl rfl)
theorem dX3_costToBuy_67 : decode cX3_costToBuy 67 = .ok (.iaload, 1) := dk_46 (dk_at dksX3_costToBuy_2 21 rfl rfl)
theorem dX3_costToBuy_68 : decode cX3_costToBuy 68 = .ok (.invokestatic 111, 3) := dk_184 0 111 (dk_at dksX3_costToBuy_3 0 rfl rfl)
theorem dX3_costToBuy_71 : decode cX3_costToBuy 71 = .ok (.istore 6, 2) := dk_54 6 (dk_at dksX3_costToBuy_3 3 rfl rfl)
theorem dX3_costToBuy_73 : decode cX3_costToBuy 73 = .ok (.iload_n 3, 1) := dk_29 (dk_at dksX3_costToBuy_3 5 rfl rfl)
theorem dX3_costToBuy_74 : decode cX3_costToBuy 74 = .ok (.iload 6, 2) := dk_21 6 (dk_at dksX3_costToBuy_3 6 rfl rfl)
theorem dX3_costToBuy_76 : decode cX3_costToBuy 76 = .ok (.aload_n 0, 1) := dk_42 (dk_at dksX3_costToBuy_3 8 rfl rfl)
theorem dX3_costToBuy_77 : decode cX3_costToBuy 77 = .ok (.getfield 9, 3) := dk_180 0 9 (dk_at dksX3_costToBuy_3 9 rfl rfl)
theorem dX3_costToBuy_80 : decode cX3_costToBuy 80 = .ok (.iload 5, 2) := dk_21 5 (dk_at dksX3_costToBuy_3 12 rfl rfl)
theorem dX3_costToBuy_82 : decode cX3_costToBuy 82 = .ok (.invokestatic 61, 3) := dk_184 0 61 (dk_at dksX3_costToBuy_3 14 rfl rfl)
theorem dX3_costToBuy_85 : decode cX3_costToBuy 85 = .ok (.iconst 3, 1) := dk_6 (dk_at dksX3_costToBuy_3 17 rfl rfl)
theorem dX3_costToBuy_86 : decode cX3_costToBuy 86 = .ok (.iadd, 1) := dk_96 (dk_at dksX3_costToBuy_3 18 rfl rfl)
theorem dX3_costToBuy_87 : decode cX3_costToBuy 87 = .ok (.iaload, 1) := dk_46 (dk_at dksX3_costToBuy_3 19 rfl rfl)
theorem dX3_costToBuy_88 : decode cX3_costToBuy 88 = .ok (.imul, 1) := dk_104 (dk_at dksX3_costToBuy_3 20 rfl rfl)
theorem dX3_costToBuy_89 : decode cX3_costToBuy 89 = .ok (.iadd, 1) := dk_96 (dk_at dksX3_costToBuy_3 21 rfl rfl)
theorem dX3_costToBuy_90 : decode cX3_costToBuy 90 = .ok (.istore_n 3, 1) := dk_62 (dk_at dksX3_costToBuy_3 22 rfl rfl)
theorem dX3_costToBuy_91 : decode cX3_costToBuy 91 = .ok (.iload_n 2, 1) := dk_28 (dk_at dksX3_costToBuy_3 23 rfl rfl)
theorem dX3_costToBuy_92 : decode cX3_costToBuy 92 = .ok (.iload 6, 2) := dk_21 6 (dk_at dksX3_costToBuy_4 0 rfl rfl)
theorem dX3_costToBuy_94 : decode cX3_costToBuy 94 = .ok (.isub, 1) := dk_100 (dk_at dksX3_costToBuy_4 2 rfl rfl)
theorem dX3_costToBuy_95 : decode cX3_costToBuy 95 = .ok (.istore_n 2, 1) := dk_61 (dk_at dksX3_costToBuy_4 3 rfl rfl)
theorem dX3_costToBuy_96 : decode cX3_costToBuy 96 = .ok (.iinc 4 1, 3) := dk_132 4 1 (dk_at dksX3_costToBuy_4 4 rfl rfl)
theorem dX3_costToBuy_99 : decode cX3_costToBuy 99 = .ok (.goto (-69), 3) := dk_167 255 187 (dk_at dksX3_costToBuy_4 7 rfl rfl)
theorem dX3_costToBuy_102 : decode cX3_costToBuy 102 = .ok (.iload_n 3, 1) := dk_29 (dk_at dksX3_costToBuy_4 10 rfl rfl)
theorem dX3_costToBuy_103 : decode cX3_costToBuy 103 = .ok (.ireturn, 1) := dk_172 (dk_at dksX3_costToBuy_4 11 rfl rfl)
abbrev cX3_costToBuyByPrices : ByteArray := prog_15_method_61_code
def yX3_costToBuyByPrices : MethodName := ⟨RX3, "costToBuyByPrices", "(I)I"⟩
def dkwX3_costToBuyByPrices_0 : List UInt8 := [42, 27, 182, 0, 184, 172]
abbrev dktX3_costToBuyByPrices_0 : List UInt8 := dkwX3_costToBuyByPrices_0 ++ []
theorem dksX3_costToBuyByPrices_0 : cX3_costToBuyByPrices.data.toList.drop 0 = dktX3_costToBuyByPrices_0 := by decide +kernel
theorem dX3_costToBuyByPrices_0 : decode cX3_costToBuyByPrices 0 = .ok (.aload_n 0, 1) := dk_42 (dk_at dksX3_costToBuyByPrices_0 0 rfl rfl)
theorem dX3_costToBuyByPrices_1 : decode cX3_costToBuyByPrices 1 = .ok (.iload_n 1, 1) := dk_27 (dk_at dksX3_costToBuyByPrices_0 1 rfl rfl)
theorem dX3_costToBuyByPrices_2 : decode cX3_costToBuyByPrices 2 = .ok (.invokevirtual 184, 3) := dk_182 0 184 (dk_at dksX3_costToBuyByPrices_0 2 rfl rfl)
theorem dX3_costToBuyByPrices_5 : decode cX3_costToBuyByPrices 5 = .ok (.ireturn, 1) := dk_172 (dk_at dksX3_costToBuyByPrices_0 5 rfl rfl)
abbrev cX3_lastPrice : ByteArray := prog_15_method_62_code
def yX3_lastPrice : MethodName := ⟨RX3, "lastPrice", "()I"⟩
def dkwX3_lastPrice_1 : List UInt8 := [180, 0, 9, 8, 46, 172]
abbrev dktX3_lastPrice_1 : List UInt8 := dkwX3_lastPrice_1 ++ []
def dkwX3_lastPrice_0 : List UInt8 := [42, 3, 181, 0, 45, 42, 180, 0, 9, 8, 46, 154, 0, 11, 42, 4, 182, 0, 75, 167, 0, 9, 42]
abbrev dktX3_lastPrice_0 : List UInt8 := dkwX3_lastPrice_0 ++ dktX3_lastPrice_1
theorem dksX3_lastPrice_0 : cX3_lastPrice.data.toList.drop 0 = dktX3_lastPrice_0 := by decide +kernel
theorem dksX3_lastPrice_1 : cX3_lastPrice.data.toList.drop 23 = dktX3_lastPrice_1 := dk_seg dksX3_lastPrice_0 23 rfl rfl
theorem dX3_lastPrice_0 : decode cX3_lastPrice 0 = .ok (.aload_n 0, 1) := dk_42 (dk_at dksX3_lastPrice_0 0 rfl rfl)
theorem dX3_lastPrice_1 : decode cX3_lastPrice 1 = .ok (.iconst 0, 1) := dk_3 (dk_at dksX3_lastPrice_0 1 rfl rfl)
theorem dX3_lastPrice_2 : decode cX3_lastPrice 2 = .ok (.putfield 45, 3) := dk_181 0 45 (dk_at dksX3_lastPrice_0 2 rfl rfl)
theorem dX3_lastPrice_5 : decode cX3_lastPrice 5 = .ok (.aload_n 0, 1) := dk_42 (dk_at dksX3_lastPrice_0 5 rfl rfl)
theorem dX3_lastPrice_6 : decode cX3_lastPrice 6 = .ok (.getfield 9, 3) := dk_180 0 9 (dk_at dksX3_lastPrice_0 6 rfl rfl)
theorem dX3_lastPrice_9 : decode cX3_lastPrice 9 = .ok (.iconst 5, 1) := dk_8 (dk_at dksX3_lastPrice_0 9 rfl rfl)
theorem dX3_lastPrice_10 : decode cX3_lastPrice 10 = .ok (.iaload, 1) := dk_46 (dk_at dksX3_lastPrice_0 10 rfl rfl)
theorem dX3_lastPrice_11 : decode cX3_lastPrice 11 = .ok (.ifCond .ne 11, 3) := dk_154 0 11 (dk_at dksX3_lastPrice_0 11 rfl rfl)
theorem dX3_lastPrice_14 : decode cX3_lastPrice 14 = .ok (.aload_n 0, 1) := dk_42 (dk_at dksX3_lastPrice_0 14 rfl rfl)
theorem dX3_lastPrice_15 : decode cX3_lastPrice 15 = .ok (.iconst 1, 1) := dk_4 (dk_at dksX3_lastPrice_0 15 rfl rfl)
theorem dX3_lastPrice_16 : decode cX3_lastPrice 16 = .ok (.invokevirtual 75, 3) := dk_182 0 75 (dk_at dksX3_lastPrice_0 16 rfl rfl)
theorem dX3_lastPrice_19 : decode cX3_lastPrice 19 = .ok (.goto 9, 3) := dk_167 0 9 (dk_at dksX3_lastPrice_0 19 rfl rfl)
theorem dX3_lastPrice_22 : decode cX3_lastPrice 22 = .ok (.aload_n 0, 1) := dk_42 (dk_at dksX3_lastPrice_0 22 rfl rfl)
theorem dX3_lastPrice_23 : decode cX3_lastPrice 23 = .ok (.getfield 9, 3) := dk_180 0 9 (dk_at dksX3_lastPrice_1 0 rfl rfl)
theorem dX3_lastPrice_26 : decode cX3_lastPrice 26 = .ok (.iconst 5, 1) := dk_8 (dk_at dksX3_lastPrice_1 3 rfl rfl)
theorem dX3_lastPrice_27 : decode cX3_lastPrice 27 = .ok (.iaload, 1) := dk_46 (dk_at dksX3_lastPrice_1 4 rfl rfl)
theorem dX3_lastPrice_28 : decode cX3_lastPrice 28 = .ok (.ireturn, 1) := dk_172 (dk_at dksX3_lastPrice_1 5 rfl rfl)
abbrev cX3_tradedUnits : ByteArray := prog_15_method_63_code
def yX3_tradedUnits : MethodName := ⟨RX3, "tradedUnits", "()I"⟩
def dkwX3_tradedUnits_0 : List UInt8 := [42, 3, 181, 0, 45, 42, 180, 0, 9, 16, 6, 46, 172]
abbrev dktX3_tradedUnits_0 : List UInt8 := dkwX3_tradedUnits_0 ++ []
theorem dksX3_tradedUnits_0 : cX3_tradedUnits.data.toList.drop 0 = dktX3_tradedUnits_0 := by decide +kernel
theorem dX3_tradedUnits_0 : decode cX3_tradedUnits 0 = .ok (.aload_n 0, 1) := dk_42 (dk_at dksX3_tradedUnits_0 0 rfl rfl)
theorem dX3_tradedUnits_1 : decode cX3_tradedUnits 1 = .ok (.iconst 0, 1) := dk_3 (dk_at dksX3_tradedUnits_0 1 rfl rfl)
theorem dX3_tradedUnits_2 : decode cX3_tradedUnits 2 = .ok (.putfield 45, 3) := dk_181 0 45 (dk_at dksX3_tradedUnits_0 2 rfl rfl)
theorem dX3_tradedUnits_5 : decode cX3_tradedUnits 5 = .ok (.aload_n 0, 1) := dk_42 (dk_at dksX3_tradedUnits_0 5 rfl rfl)
theorem dX3_tradedUnits_6 : decode cX3_tradedUnits 6 = .ok (.getfield 9, 3) := dk_180 0 9 (dk_at dksX3_tradedUnits_0 6 rfl rfl)
theorem dX3_tradedUnits_9 : decode cX3_tradedUnits 9 = .ok (.bipush 6, 2) := dk_16 6 (dk_at dksX3_tradedUnits_0 9 rfl rfl)
theorem dX3_tradedUnits_11 : decode cX3_tradedUnits 11 = .ok (.iaload, 1) := dk_46 (dk_at dksX3_tradedUnits_0 11 rfl rfl)
theorem dX3_tradedUnits_12 : decode cX3_tradedUnits 12 = .ok (.ireturn, 1) := dk_172 (dk_at dksX3_tradedUnits_0 12 rfl rfl)
abbrev cX3_meanPrice : ByteArray := prog_15_method_64_code
def yX3_meanPrice : MethodName := ⟨RX3, "meanPrice", "()D"⟩
def dkwX3_meanPrice_1 : List UInt8 := [180, 0, 9, 16, 7, 46, 135, 42, 180, 0, 9, 16, 6, 46, 135, 111, 175]
abbrev dktX3_meanPrice_1 : List UInt8 := dkwX3_meanPrice_1 ++ []
def dkwX3_meanPrice_0 : List UInt8 := [42, 3, 181, 0, 45, 42, 180, 0, 9, 16, 6, 46, 154, 0, 11, 42, 4, 182, 0, 75, 87, 14, 175, 42]
abbrev dktX3_meanPrice_0 : List UInt8 := dkwX3_meanPrice_0 ++ dktX3_meanPrice_1
theorem dksX3_meanPrice_0 : cX3_meanPrice.data.toList.drop 0 = dktX3_meanPrice_0 := by decide +kernel
theorem dksX3_meanPrice_1 : cX3_meanPrice.data.toList.drop 24 = dktX3_meanPrice_1 := dk_seg dksX3_meanPrice_0 24 rfl rfl
theorem dX3_meanPrice_0 : decode cX3_meanPrice 0 = .ok (.aload_n 0, 1) := dk_42 (dk_at dksX3_meanPrice_0 0 rfl rfl)
theorem dX3_meanPrice_1 : decode cX3_meanPrice 1 = .ok (.iconst 0, 1) := dk_3 (dk_at dksX3_meanPrice_0 1 rfl rfl)
theorem dX3_meanPrice_2 : decode cX3_meanPrice 2 = .ok (.putfield 45, 3) := dk_181 0 45 (dk_at dksX3_meanPrice_0 2 rfl rfl)
theorem dX3_meanPrice_5 : decode cX3_meanPrice 5 = .ok (.aload_n 0, 1) := dk_42 (dk_at dksX3_meanPrice_0 5 rfl rfl)
theorem dX3_meanPrice_6 : decode cX3_meanPrice 6 = .ok (.getfield 9, 3) := dk_180 0 9 (dk_at dksX3_meanPrice_0 6 rfl rfl)
theorem dX3_meanPrice_9 : decode cX3_meanPrice 9 = .ok (.bipush 6, 2) := dk_16 6 (dk_at dksX3_meanPrice_0 9 rfl rfl)
theorem dX3_meanPrice_11 : decode cX3_meanPrice 11 = .ok (.iaload, 1) := dk_46 (dk_at dksX3_meanPrice_0 11 rfl rfl)
theorem dX3_meanPrice_12 : decode cX3_meanPrice 12 = .ok (.ifCond .ne 11, 3) := dk_154 0 11 (dk_at dksX3_meanPrice_0 12 rfl rfl)
theorem dX3_meanPrice_15 : decode cX3_meanPrice 15 = .ok (.aload_n 0, 1) := dk_42 (dk_at dksX3_meanPrice_0 15 rfl rfl)
theorem dX3_meanPrice_16 : decode cX3_meanPrice 16 = .ok (.iconst 1, 1) := dk_4 (dk_at dksX3_meanPrice_0 16 rfl rfl)
theorem dX3_meanPrice_17 : decode cX3_meanPrice 17 = .ok (.invokevirtual 75, 3) := dk_182 0 75 (dk_at dksX3_meanPrice_0 17 rfl rfl)
theorem dX3_meanPrice_20 : decode cX3_meanPrice 20 = .ok (.pop, 1) := dk_87 (dk_at dksX3_meanPrice_0 20 rfl rfl)
theorem dX3_meanPrice_21 : decode cX3_meanPrice 21 = .ok (.dconst 0, 1) := dk_14 (dk_at dksX3_meanPrice_0 21 rfl rfl)
theorem dX3_meanPrice_22 : decode cX3_meanPrice 22 = .ok (.dreturn, 1) := dk_175 (dk_at dksX3_meanPrice_0 22 rfl rfl)
theorem dX3_meanPrice_23 : decode cX3_meanPrice 23 = .ok (.aload_n 0, 1) := dk_42 (dk_at dksX3_meanPrice_0 23 rfl rfl)
theorem dX3_meanPrice_24 : decode cX3_meanPrice 24 = .ok (.getfield 9, 3) := dk_180 0 9 (dk_at dksX3_meanPrice_1 0 rfl rfl)
theorem dX3_meanPrice_27 : decode cX3_meanPrice 27 = .ok (.bipush 7, 2) := dk_16 7 (dk_at dksX3_meanPrice_1 3 rfl rfl)
theorem dX3_meanPrice_29 : decode cX3_meanPrice 29 = .ok (.iaload, 1) := dk_46 (dk_at dksX3_meanPrice_1 5 rfl rfl)
theorem dX3_meanPrice_30 : decode cX3_meanPrice 30 = .ok (.i2d, 1) := dk_135 (dk_at dksX3_meanPrice_1 6 rfl rfl)
theorem dX3_meanPrice_31 : decode cX3_meanPrice 31 = .ok (.aload_n 0, 1) := dk_42 (dk_at dksX3_meanPrice_1 7 rfl rfl)
theorem dX3_meanPrice_32 : decode cX3_meanPrice 32 = .ok (.getfield 9, 3) := dk_180 0 9 (dk_at dksX3_meanPrice_1 8 rfl rfl)
theorem dX3_meanPrice_35 : decode cX3_meanPrice 35 = .ok (.bipush 6, 2) := dk_16 6 (dk_at dksX3_meanPrice_1 11 rfl rfl)
theorem dX3_meanPrice_37 : decode cX3_meanPrice 37 = .ok (.iaload, 1) := dk_46 (dk_at dksX3_meanPrice_1 13 rfl rfl)
theorem dX3_meanPrice_38 : decode cX3_meanPrice 38 = .ok (.i2d, 1) := dk_135 (dk_at dksX3_meanPrice_1 14 rfl rfl)
theorem dX3_meanPrice_39 : decode cX3_meanPrice 39 = .ok (.ddiv, 1) := dk_111 (dk_at dksX3_meanPrice_1 15 rfl rfl)
theorem dX3_meanPrice_40 : decode cX3_meanPrice 40 = .ok (.dreturn, 1) := dk_175 (dk_at dksX3_meanPrice_1 16 rfl rfl)
abbrev cX3_day : ByteArray := prog_15_method_65_code
def yX3_day : MethodName := ⟨RX3, "day", "()I"⟩
def dkwX3_day_0 : List UInt8 := [42, 3, 181, 0, 45, 42, 180, 0, 9, 7, 46, 172]
abbrev dktX3_day_0 : List UInt8 := dkwX3_day_0 ++ []
theorem dksX3_day_0 : cX3_day.data.toList.drop 0 = dktX3_day_0 := by decide +kernel
theorem dX3_day_0 : decode cX3_day 0 = .ok (.aload_n 0, 1) := dk_42 (dk_at dksX3_day_0 0 rfl rfl)
theorem dX3_day_1 : decode cX3_day 1 = .ok (.iconst 0, 1) := dk_3 (dk_at dksX3_day_0 1 rfl rfl)
theorem dX3_day_2 : decode cX3_day 2 = .ok (.putfield 45, 3) := dk_181 0 45 (dk_at dksX3_day_0 2 rfl rfl)
theorem dX3_day_5 : decode cX3_day 5 = .ok (.aload_n 0, 1) := dk_42 (dk_at dksX3_day_0 5 rfl rfl)
theorem dX3_day_6 : decode cX3_day 6 = .ok (.getfield 9, 3) := dk_180 0 9 (dk_at dksX3_day_0 6 rfl rfl)
theorem dX3_day_9 : decode cX3_day 9 = .ok (.iconst 4, 1) := dk_7 (dk_at dksX3_day_0 9 rfl rfl)
theorem dX3_day_10 : decode cX3_day 10 = .ok (.iaload, 1) := dk_46 (dk_at dksX3_day_0 10 rfl rfl)
theorem dX3_day_11 : decode cX3_day 11 = .ok (.ireturn, 1) := dk_172 (dk_at dksX3_day_0 11 rfl rfl)
abbrev cX3_contracts : ByteArray := prog_15_method_66_code
def yX3_contracts : MethodName := ⟨RX3, "contracts", "()I"⟩
def dkwX3_contracts_0 : List UInt8 := [42, 3, 181, 0, 45, 42, 180, 0, 9, 6, 46, 172]
abbrev dktX3_contracts_0 : List UInt8 := dkwX3_contracts_0 ++ []
theorem dksX3_contracts_0 : cX3_contracts.data.toList.drop 0 = dktX3_contracts_0 := by decide +kernel
theorem dX3_contracts_0 : decode cX3_contracts 0 = .ok (.aload_n 0, 1) := dk_42 (dk_at dksX3_contracts_0 0 rfl rfl)
theorem dX3_contracts_1 : decode cX3_contracts 1 = .ok (.iconst 0, 1) := dk_3 (dk_at dksX3_contracts_0 1 rfl rfl)
theorem dX3_contracts_2 : decode cX3_contracts 2 = .ok (.putfield 45, 3) := dk_181 0 45 (dk_at dksX3_contracts_0 2 rfl rfl)
theorem dX3_contracts_5 : decode cX3_contracts 5 = .ok (.aload_n 0, 1) := dk_42 (dk_at dksX3_contracts_0 5 rfl rfl)
theorem dX3_contracts_6 : decode cX3_contracts 6 = .ok (.getfield 9, 3) := dk_180 0 9 (dk_at dksX3_contracts_0 6 rfl rfl)
theorem dX3_contracts_9 : decode cX3_contracts 9 = .ok (.iconst 3, 1) := dk_6 (dk_at dksX3_contracts_0 9 rfl rfl)
theorem dX3_contracts_10 : decode cX3_contracts 10 = .ok (.iaload, 1) := dk_46 (dk_at dksX3_contracts_0 10 rfl rfl)
theorem dX3_contracts_11 : decode cX3_contracts 11 = .ok (.ireturn, 1) := dk_172 (dk_at dksX3_contracts_0 11 rfl rfl)
abbrev cX3_daysLeft : ByteArray := prog_15_method_67_code
def yX3_daysLeft : MethodName := ⟨RX3, "daysLeft", "(I)I"⟩
def dkwX3_daysLeft_1 : List UInt8 := [42, 180, 0, 9, 7, 46, 100, 167, 0, 8, 42, 4, 182, 0, 75, 172]
abbrev dktX3_daysLeft_1 : List UInt8 := dkwX3_daysLeft_1 ++ []
def dkwX3_daysLeft_0 : List UInt8 := [42, 3, 181, 0, 45, 42, 27, 182, 0, 187, 153, 0, 24, 42, 180, 0, 9, 27, 184, 0, 130, 7, 96, 46]
abbrev dktX3_daysLeft_0 : List UInt8 := dkwX3_daysLeft_0 ++ dktX3_daysLeft_1
theorem dksX3_daysLeft_0 : cX3_daysLeft.data.toList.drop 0 = dktX3_daysLeft_0 := by decide +kernel
theorem dksX3_daysLeft_1 : cX3_daysLeft.data.toList.drop 24 = dktX3_daysLeft_1 := dk_seg dksX3_daysLeft_0 24 rfl rfl
theorem dX3_daysLeft_0 : decode cX3_daysLeft 0 = .ok (.aload_n 0, 1) := dk_42 (dk_at dksX3_daysLeft_0 0 rfl rfl)
theorem dX3_daysLeft_1 : decode cX3_daysLeft 1 = .ok (.iconst 0, 1) := dk_3 (dk_at dksX3_daysLeft_0 1 rfl rfl)
theorem dX3_daysLeft_2 : decode cX3_daysLeft 2 = .ok (.putfield 45, 3) := dk_181 0 45 (dk_at dksX3_daysLeft_0 2 rfl rfl)
theorem dX3_daysLeft_5 : decode cX3_daysLeft 5 = .ok (.aload_n 0, 1) := dk_42 (dk_at dksX3_daysLeft_0 5 rfl rfl)
theorem dX3_daysLeft_6 : decode cX3_daysLeft 6 = .ok (.iload_n 1, 1) := dk_27 (dk_at dksX3_daysLeft_0 6 rfl rfl)
theorem dX3_daysLeft_7 : decode cX3_daysLeft 7 = .ok (.invokevirtual 187, 3) := dk_182 0 187 (dk_at dksX3_daysLeft_0 7 rfl rfl)
theorem dX3_daysLeft_10 : decode cX3_daysLeft 10 = .ok (.ifCond .eq 24, 3) := dk_153 0 24 (dk_at dksX3_daysLeft_0 10 rfl rfl)
theorem dX3_daysLeft_13 : decode cX3_daysLeft 13 = .ok (.aload_n 0, 1) := dk_42 (dk_at dksX3_daysLeft_0 13 rfl rfl)
theorem dX3_daysLeft_14 : decode cX3_daysLeft 14 = .ok (.getfield 9, 3) := dk_180 0 9 (dk_at dksX3_daysLeft_0 14 rfl rfl)
theorem dX3_daysLeft_17 : decode cX3_daysLeft 17 = .ok (.iload_n 1, 1) := dk_27 (dk_at dksX3_daysLeft_0 17 rfl rfl)
theorem dX3_daysLeft_18 : decode cX3_daysLeft 18 = .ok (.invokestatic 130, 3) := dk_184 0 130 (dk_at dksX3_daysLeft_0 18 rfl rfl)
theorem dX3_daysLeft_21 : decode cX3_daysLeft 21 = .ok (.iconst 4, 1) := dk_7 (dk_at dksX3_daysLeft_0 21 rfl rfl)
theorem dX3_daysLeft_22 : decode cX3_daysLeft 22 = .ok (.iadd, 1) := dk_96 (dk_at dksX3_daysLeft_0 22 rfl rfl)
theorem dX3_daysLeft_23 : decode cX3_daysLeft 23 = .ok (.iaload, 1) := dk_46 (dk_at dksX3_daysLeft_0 23 rfl rfl)
theorem dX3_daysLeft_24 : decode cX3_daysLeft 24 = .ok (.aload_n 0, 1) := dk_42 (dk_at dksX3_daysLeft_1 0 rfl rfl)
theorem dX3_daysLeft_25 : decode cX3_daysLeft 25 = .ok (.getfield 9, 3) := dk_180 0 9 (dk_at dksX3_daysLeft_1 1 rfl rfl)
theorem dX3_daysLeft_28 : decode cX3_daysLeft 28 = .ok (.iconst 4, 1) := dk_7 (dk_at dksX3_daysLeft_1 4 rfl rfl)
theorem dX3_daysLeft_29 : decode cX3_daysLeft 29 = .ok (.iaload, 1) := dk_46 (dk_at dksX3_daysLeft_1 5 rfl rfl)
theorem dX3_daysLeft_30 : decode cX3_daysLeft 30 = .ok (.isub, 1) := dk_100 (dk_at dksX3_daysLeft_1 6 rfl rfl)
theorem dX3_daysLeft_31 : decode cX3_daysLeft 31 = .ok (.goto 8, 3) := dk_167 0 8 (dk_at dksX3_daysLeft_1 7 rfl rfl)
theorem dX3_daysLeft_34 : decode cX3_daysLeft 34 = .ok (.aload_n 0, 1) := dk_42 (dk_at dksX3_daysLeft_1 10 rfl rfl)
theorem dX3_daysLeft_35 : decode cX3_daysLeft 35 = .ok (.iconst 1, 1) := dk_4 (dk_at dksX3_daysLeft_1 11 rfl rfl)
theorem dX3_daysLeft_36 : decode cX3_daysLeft 36 = .ok (.invokevirtual 75, 3) := dk_182 0 75 (dk_at dksX3_daysLeft_1 12 rfl rfl)
theorem dX3_daysLeft_39 : decode cX3_daysLeft 39 = .ok (.ireturn, 1) := dk_172 (dk_at dksX3_daysLeft_1 15 rfl rfl)
abbrev cX3_isContract : ByteArray := prog_15_method_11_code
def yX3_isContract : MethodName := ⟨RX3, "isContract", "(I)Z"⟩
def dkwX3_isContract_0 : List UInt8 := [27, 133, 9, 42, 180, 0, 9, 6, 46, 4, 100, 133, 184, 0, 51, 172]
abbrev dktX3_isContract_0 : List UInt8 := dkwX3_isContract_0 ++ []
theorem dksX3_isContract_0 : cX3_isContract.data.toList.drop 0 = dktX3_isContract_0 := by decide +kernel
theorem dX3_isContract_0 : decode cX3_isContract 0 = .ok (.iload_n 1, 1) := dk_27 (dk_at dksX3_isContract_0 0 rfl rfl)
theorem dX3_isContract_1 : decode cX3_isContract 1 = .ok (.i2l, 1) := dk_133 (dk_at dksX3_isContract_0 1 rfl rfl)
theorem dX3_isContract_2 : decode cX3_isContract 2 = .ok (.lconst 0, 1) := dk_9 (dk_at dksX3_isContract_0 2 rfl rfl)
theorem dX3_isContract_3 : decode cX3_isContract 3 = .ok (.aload_n 0, 1) := dk_42 (dk_at dksX3_isContract_0 3 rfl rfl)
theorem dX3_isContract_4 : decode cX3_isContract 4 = .ok (.getfield 9, 3) := dk_180 0 9 (dk_at dksX3_isContract_0 4 rfl rfl)
theorem dX3_isContract_7 : decode cX3_isContract 7 = .ok (.iconst 3, 1) := dk_6 (dk_at dksX3_isContract_0 7 rfl rfl)
theorem dX3_isContract_8 : decode cX3_isContract 8 = .ok (.iaload, 1) := dk_46 (dk_at dksX3_isContract_0 8 rfl rfl)
theorem dX3_isContract_9 : decode cX3_isContract 9 = .ok (.iconst 1, 1) := dk_4 (dk_at dksX3_isContract_0 9 rfl rfl)
theorem dX3_isContract_10 : decode cX3_isContract 10 = .ok (.isub, 1) := dk_100 (dk_at dksX3_isContract_0 10 rfl rfl)
theorem dX3_isContract_11 : decode cX3_isContract 11 = .ok (.i2l, 1) := dk_133 (dk_at dksX3_isContract_0 11 rfl rfl)
theorem dX3_isContract_12 : decode cX3_isContract 12 = .ok (.invokestatic 51, 3) := dk_184 0 51 (dk_at dksX3_isContract_0 12 rfl rfl)
theorem dX3_isContract_15 : decode cX3_isContract 15 = .ok (.ireturn, 1) := dk_172 (dk_at dksX3_isContract_0 15 rfl rfl)
abbrev cX3_gain : ByteArray := prog_15_method_68_code
def yX3_gain : MethodName := ⟨RX3, "gain", "(II)I"⟩
def dkwX3_gain_1 : List UInt8 := [20, 0, 59, 184, 0, 51, 153, 0, 12, 42, 27, 28, 182, 0, 137, 167, 0, 8, 42, 5, 182, 0, 75, 172]
abbrev dktX3_gain_1 : List UInt8 := dkwX3_gain_1 ++ []
def dkwX3_gain_0 : List UInt8 := [42, 3, 181, 0, 45, 42, 27, 182, 0, 187, 154, 0, 9, 42, 4, 182, 0, 75, 172, 28, 133, 9]
abbrev dktX3_gain_0 : List UInt8 := dkwX3_gain_0 ++ dktX3_gain_1
theorem dksX3_gain_0 : cX3_gain.data.toList.drop 0 = dktX3_gain_0 := by decide +kernel
theorem dksX3_gain_1 : cX3_gain.data.toList.drop 22 = dktX3_gain_1 := dk_seg dksX3_gain_0 22 rfl rfl
theorem dX3_gain_0 : decode cX3_gain 0 = .ok (.aload_n 0, 1) := dk_42 (dk_at dksX3_gain_0 0 rfl rfl)
theorem dX3_gain_1 : decode cX3_gain 1 = .ok (.iconst 0, 1) := dk_3 (dk_at dksX3_gain_0 1 rfl rfl)
theorem dX3_gain_2 : decode cX3_gain 2 = .ok (.putfield 45, 3) := dk_181 0 45 (dk_at dksX3_gain_0 2 rfl rfl)
theorem dX3_gain_5 : decode cX3_gain 5 = .ok (.aload_n 0, 1) := dk_42 (dk_at dksX3_gain_0 5 rfl rfl)
theorem dX3_gain_6 : decode cX3_gain 6 = .ok (.iload_n 1, 1) := dk_27 (dk_at dksX3_gain_0 6 rfl rfl)
theorem dX3_gain_7 : decode cX3_gain 7 = .ok (.invokevirtual 187, 3) := dk_182 0 187 (dk_at dksX3_gain_0 7 rfl rfl)
theorem dX3_gain_10 : decode cX3_gain 10 = .ok (.ifCond .ne 9, 3) := dk_154 0 9 (dk_at dksX3_gain_0 10 rfl rfl)
theorem dX3_gain_13 : decode cX3_gain 13 = .ok (.aload_n 0, 1) := dk_42 (dk_at dksX3_gain_0 13 rfl rfl)
theorem dX3_gain_14 : decode cX3_gain 14 = .ok (.iconst 1, 1) := dk_4 (dk_at dksX3_gain_0 14 rfl rfl)
theorem dX3_gain_15 : decode cX3_gain 15 = .ok (.invokevirtual 75, 3) := dk_182 0 75 (dk_at dksX3_gain_0 15 rfl rfl)
theorem dX3_gain_18 : decode cX3_gain 18 = .ok (.ireturn, 1) := dk_172 (dk_at dksX3_gain_0 18 rfl rfl)
theorem dX3_gain_19 : decode cX3_gain 19 = .ok (.iload_n 2, 1) := dk_28 (dk_at dksX3_gain_0 19 rfl rfl)
theorem dX3_gain_20 : decode cX3_gain 20 = .ok (.i2l, 1) := dk_133 (dk_at dksX3_gain_0 20 rfl rfl)
theorem dX3_gain_21 : decode cX3_gain 21 = .ok (.lconst 0, 1) := dk_9 (dk_at dksX3_gain_0 21 rfl rfl)
theorem dX3_gain_22 : decode cX3_gain 22 = .ok (.ldc2_w 59, 3) := dk_20 0 59 (dk_at dksX3_gain_1 0 rfl rfl)
theorem dX3_gain_25 : decode cX3_gain 25 = .ok (.invokestatic 51, 3) := dk_184 0 51 (dk_at dksX3_gain_1 3 rfl rfl)
theorem dX3_gain_28 : decode cX3_gain 28 = .ok (.ifCond .eq 12, 3) := dk_153 0 12 (dk_at dksX3_gain_1 6 rfl rfl)
theorem dX3_gain_31 : decode cX3_gain 31 = .ok (.aload_n 0, 1) := dk_42 (dk_at dksX3_gain_1 9 rfl rfl)
theorem dX3_gain_32 : decode cX3_gain 32 = .ok (.iload_n 1, 1) := dk_27 (dk_at dksX3_gain_1 10 rfl rfl)
theorem dX3_gain_33 : decode cX3_gain 33 = .ok (.iload_n 2, 1) := dk_28 (dk_at dksX3_gain_1 11 rfl rfl)
theorem dX3_gain_34 : decode cX3_gain 34 = .ok (.invokevirtual 137, 3) := dk_182 0 137 (dk_at dksX3_gain_1 12 rfl rfl)
theorem dX3_gain_37 : decode cX3_gain 37 = .ok (.goto 8, 3) := dk_167 0 8 (dk_at dksX3_gain_1 15 rfl rfl)
theorem dX3_gain_40 : decode cX3_gain 40 = .ok (.aload_n 0, 1) := dk_42 (dk_at dksX3_gain_1 18 rfl rfl)
theorem dX3_gain_41 : decode cX3_gain 41 = .ok (.iconst 2, 1) := dk_5 (dk_at dksX3_gain_1 19 rfl rfl)
theorem dX3_gain_42 : decode cX3_gain 42 = .ok (.invokevirtual 75, 3) := dk_182 0 75 (dk_at dksX3_gain_1 20 rfl rfl)
theorem dX3_gain_45 : decode cX3_gain 45 = .ok (.ireturn, 1) := dk_172 (dk_at dksX3_gain_1 23 rfl rfl)
abbrev cX3_exposure : ByteArray := prog_15_method_70_code
def yX3_exposure : MethodName := ⟨RX3, "exposure", "(I)I"⟩
def dkwX3_exposure_3 : List UInt8 := [132, 3, 1, 167, 255, 222, 28, 172]
abbrev dktX3_exposure_3 : List UInt8 := dkwX3_exposure_3 ++ []
def dkwX3_exposure_2 : List UInt8 := [162, 0, 30, 28, 42, 29, 27, 182, 0, 190, 42, 180, 0, 9, 29, 184, 0, 130, 5, 96, 46, 104, 96, 61]
abbrev dktX3_exposure_2 : List UInt8 := dkwX3_exposure_2 ++ dktX3_exposure_3
def dkwX3_exposure_1 : List UInt8 := [184, 0, 78, 4, 96, 46, 42, 27, 3, 182, 0, 174, 96, 61, 3, 62, 29, 42, 180, 0, 9, 6, 46]
abbrev dktX3_exposure_1 : List UInt8 := dkwX3_exposure_1 ++ dktX3_exposure_2
def dkwX3_exposure_0 : List UInt8 := [42, 3, 181, 0, 45, 42, 27, 182, 0, 95, 154, 0, 9, 42, 4, 182, 0, 75, 172, 42, 180, 0, 9, 27]
abbrev dktX3_exposure_0 : List UInt8 := dkwX3_exposure_0 ++ dktX3_exposure_1
theorem dksX3_exposure_0 : cX3_exposure.data.toList.drop 0 = dktX3_exposure_0 := by decide +kernel
theorem dksX3_exposure_1 : cX3_exposure.data.toList.drop 24 = dktX3_exposure_1 := dk_seg dksX3_exposure_0 24 rfl rfl
theorem dksX3_exposure_2 : cX3_exposure.data.toList.drop 47 = dktX3_exposure_2 := dk_seg dksX3_exposure_1 23 rfl rfl
theorem dksX3_exposure_3 : cX3_exposure.data.toList.drop 71 = dktX3_exposure_3 := dk_seg dksX3_exposure_2 24 rfl rfl
theorem dX3_exposure_0 : decode cX3_exposure 0 = .ok (.aload_n 0, 1) := dk_42 (dk_at dksX3_exposure_0 0 rfl rfl)
theorem dX3_exposure_1 : decode cX3_exposure 1 = .ok (.iconst 0, 1) := dk_3 (dk_at dksX3_exposure_0 1 rfl rfl)
theorem dX3_exposure_2 : decode cX3_exposure 2 = .ok (.putfield 45, 3) := dk_181 0 45 (dk_at dksX3_exposure_0 2 rfl rfl)
theorem dX3_exposure_5 : decode cX3_exposure 5 = .ok (.aload_n 0, 1) := dk_42 (dk_at dksX3_exposure_0 5 rfl rfl)
theorem dX3_exposure_6 : decode cX3_exposure 6 = .ok (.iload_n 1, 1) := dk_27 (dk_at dksX3_exposure_0 6 rfl rfl)
theorem dX3_exposure_7 : decode cX3_exposure 7 = .ok (.invokevirtual 95, 3) := dk_182 0 95 (dk_at dksX3_exposure_0 7 rfl rfl)
theorem dX3_exposure_10 : decode cX3_exposure 10 = .ok (.ifCond .ne 9, 3) := dk_154 0 9 (dk_at dksX3_exposure_0 10 rfl rfl)
theorem dX3_exposure_13 : decode cX3_exposure 13 = .ok (.aload_n 0, 1) := dk_42 (dk_at dksX3_exposure_0 13 rfl rfl)
theorem dX3_exposure_14 : decode cX3_exposure 14 = .ok (.iconst 1, 1) := dk_4 (dk_at dksX3_exposure_0 14 rfl rfl)
theorem dX3_exposure_15 : decode cX3_exposure 15 = .ok (.invokevirtual 75, 3) := dk_182 0 75 (dk_at dksX3_exposure_0 15 rfl rfl)
theorem dX3_exposure_18 : decode cX3_exposure 18 = .ok (.ireturn, 1) := dk_172 (dk_at dksX3_exposure_0 18 rfl rfl)
theorem dX3_exposure_19 : decode cX3_exposure 19 = .ok (.aload_n 0, 1) := dk_42 (dk_at dksX3_exposure_0 19 rfl rfl)
theorem dX3_exposure_20 : decode cX3_exposure 20 = .ok (.getfield 9, 3) := dk_180 0 9 (dk_at dksX3_exposure_0 20 rfl rfl)
theorem dX3_exposure_23 : decode cX3_exposure 23 = .ok (.iload_n 1, 1) := dk_27 (dk_at dksX3_exposure_0 23 rfl rfl)
theorem dX3_exposure_24 : decode cX3_exposure 24 = .ok (.invokestatic 78, 3) := dk_184 0 78 (dk_at dksX3_exposure_1 0 rfl rfl)
theorem dX3_exposure_27 : decode cX3_exposure 27 = .ok (.iconst 1, 1) := dk_4 (dk_at dksX3_exposure_1 3 rfl rfl)
theorem dX3_exposure_28 : decode cX3_exposure 28 = .ok (.iadd, 1) := dk_96 (dk_at dksX3_exposure_1 4 rfl rfl)
theorem dX3_exposure_29 : decode cX3_exposure 29 = .ok (.iaload, 1) := dk_46 (dk_at dksX3_exposure_1 5 rfl rfl)
theorem dX3_exposure_30 : decode cX3_exposure 30 = .ok (.aload_n 0, 1) := dk_42 (dk_at dksX3_exposure_1 6 rfl rfl)
theorem dX3_exposure_31 : decode cX3_exposure 31 = .ok (.iload_n 1, 1) := dk_27 (dk_at dksX3_exposure_1 7 rfl rfl)
theorem dX3_exposure_32 : decode cX3_exposure 32 = .ok (.iconst 0, 1) := dk_3 (dk_at dksX3_exposure_1 8 rfl rfl)
theorem dX3_exposure_33 : decode cX3_exposure 33 = .ok (.invokevirtual 174, 3) := dk_182 0 174 (dk_at dksX3_exposure_1 9 rfl rfl)
theorem dX3_exposure_36 : decode cX3_exposure 36 = .ok (.iadd, 1) := dk_96 (dk_at dksX3_exposure_1 12 rfl rfl)
theorem dX3_exposure_37 : decode cX3_exposure 37 = .ok (.istore_n 2, 1) := dk_61 (dk_at dksX3_exposure_1 13 rfl rfl)
theorem dX3_exposure_38 : decode cX3_exposure 38 = .ok (.iconst 0, 1) := dk_3 (dk_at dksX3_exposure_1 14 rfl rfl)
theorem dX3_exposure_39 : decode cX3_exposure 39 = .ok (.istore_n 3, 1) := dk_62 (dk_at dksX3_exposure_1 15 rfl rfl)
theorem dX3_exposure_40 : decode cX3_exposure 40 = .ok (.iload_n 3, 1) := dk_29 (dk_at dksX3_exposure_1 16 rfl rfl)
theorem dX3_exposure_41 : decode cX3_exposure 41 = .ok (.aload_n 0, 1) := dk_42 (dk_at dksX3_exposure_1 17 rfl rfl)
theorem dX3_exposure_42 : decode cX3_exposure 42 = .ok (.getfield 9, 3) := dk_180 0 9 (dk_at dksX3_exposure_1 18 rfl rfl)
theorem dX3_exposure_45 : decode cX3_exposure 45 = .ok (.iconst 3, 1) := dk_6 (dk_at dksX3_exposure_1 21 rfl rfl)
theorem dX3_exposure_46 : decode cX3_exposure 46 = .ok (.iaload, 1) := dk_46 (dk_at dksX3_exposure_1 22 rfl rfl)
theorem dX3_exposure_47 : decode cX3_exposure 47 = .ok (.if_icmp .ge 30, 3) := dk_162 0 30 (dk_at dksX3_exposure_2 0 rfl rfl)
theorem dX3_exposure_50 : decode cX3_exposure 50 = .ok (.iload_n 2, 1) := dk_28 (dk_at dksX3_exposure_2 3 rfl rfl)
theorem dX3_exposure_51 : decode cX3_exposure 51 = .ok (.aload_n 0, 1) := dk_42 (dk_at dksX3_exposure_2 4 rfl rfl)
theorem dX3_exposure_52 : decode cX3_exposure 52 = .ok (.iload_n 3, 1) := dk_29 (dk_at dksX3_exposure_2 5 rfl rfl)
theorem dX3_exposure_53 : decode cX3_exposure 53 = .ok (.iload_n 1, 1) := dk_27 (dk_at dksX3_exposure_2 6 rfl rfl)
theorem dX3_exposure_54 : decode cX3_exposure 54 = .ok (.invokevirtual 190, 3) := dk_182 0 190 (dk_at dksX3_exposure_2 7 rfl rfl)
theorem dX3_exposure_57 : decode cX3_exposure 57 = .ok (.aload_n 0, 1) := dk_42 (dk_at dksX3_exposure_2 10 rfl rfl)
theorem dX3_exposure_58 : decode cX3_exposure 58 = .ok (.getfield 9, 3) := dk_180 0 9 (dk_at dksX3_exposure_2 11 rfl rfl)
theorem dX3_exposure_61 : decode cX3_exposure 61 = .ok (.iload_n 3, 1) := dk_29 (dk_at dksX3_exposure_2 14 rfl rfl)
theorem dX3_exposure_62 : decode cX3_exposure 62 = .ok (.invokestatic 130, 3) := dk_184 0 130 (dk_at dksX3_exposure_2 15 rfl rfl)
theorem dX3_exposure_65 : decode cX3_exposure 65 = .ok (.iconst 2, 1) := dk_5 (dk_at dksX3_exposure_2 18 rfl rfl)
theorem dX3_exposure_66 : decode cX3_exposure 66 = .ok (.iadd, 1) := dk_96 (dk_at dksX3_exposure_2 19 rfl rfl)
theorem dX3_exposure_67 : decode cX3_exposure 67 = .ok (.iaload, 1) := dk_46 (dk_at dksX3_exposure_2 20 rfl rfl)
theorem dX3_exposure_68 : decode cX3_exposure 68 = .ok (.imul, 1) := dk_104 (dk_at dksX3_exposure_2 21 rfl rfl)
theorem dX3_exposure_69 : decode cX3_exposure 69 = .ok (.iadd, 1) := dk_96 (dk_at dksX3_exposure_2 22 rfl rfl)
theorem dX3_exposure_70 : decode cX3_exposure 70 = .ok (.istore_n 2, 1) := dk_61 (dk_at dksX3_exposure_2 23 rfl rfl)
theorem dX3_exposure_71 : decode cX3_exposure 71 = .ok (.iinc 3 1, 3) := dk_132 3 1 (dk_at dksX3_exposure_3 0 rfl rfl)
theorem dX3_exposure_74 : decode cX3_exposure 74 = .ok (.goto (-34), 3) := dk_167 255 222 (dk_at dksX3_exposure_3 3 rfl rfl)
theorem dX3_exposure_77 : decode cX3_exposure 77 = .ok (.iload_n 2, 1) := dk_28 (dk_at dksX3_exposure_3 6 rfl rfl)
theorem dX3_exposure_78 : decode cX3_exposure 78 = .ok (.ireturn, 1) := dk_172 (dk_at dksX3_exposure_3 7 rfl rfl)
abbrev cX3_sideIn : ByteArray := prog_15_method_69_code
def yX3_sideIn : MethodName := ⟨RX3, "sideIn", "(II)I"⟩
def dkwX3_sideIn_1 : List UInt8 := [180, 0, 9, 29, 46, 28, 160, 0, 7, 2, 167, 0, 4, 3, 172]
abbrev dktX3_sideIn_1 : List UInt8 := dkwX3_sideIn_1 ++ []
def dkwX3_sideIn_0 : List UInt8 := [27, 184, 0, 130, 62, 42, 180, 0, 9, 29, 4, 96, 46, 28, 160, 0, 7, 4, 167, 0, 18, 42]
abbrev dktX3_sideIn_0 : List UInt8 := dkwX3_sideIn_0 ++ dktX3_sideIn_1
theorem dksX3_sideIn_0 : cX3_sideIn.data.toList.drop 0 = dktX3_sideIn_0 := by decide +kernel
theorem dksX3_sideIn_1 : cX3_sideIn.data.toList.drop 22 = dktX3_sideIn_1 := dk_seg dksX3_sideIn_0 22 rfl rfl
theorem dX3_sideIn_0 : decode cX3_sideIn 0 = .ok (.iload_n 1, 1) := dk_27 (dk_at dksX3_sideIn_0 0 rfl rfl)
theorem dX3_sideIn_1 : decode cX3_sideIn 1 = .ok (.invokestatic 130, 3) := dk_184 0 130 (dk_at dksX3_sideIn_0 1 rfl rfl)
theorem dX3_sideIn_4 : decode cX3_sideIn 4 = .ok (.istore_n 3, 1) := dk_62 (dk_at dksX3_sideIn_0 4 rfl rfl)
theorem dX3_sideIn_5 : decode cX3_sideIn 5 = .ok (.aload_n 0, 1) := dk_42 (dk_at dksX3_sideIn_0 5 rfl rfl)
theorem dX3_sideIn_6 : decode cX3_sideIn 6 = .ok (.getfield 9, 3) := dk_180 0 9 (dk_at dksX3_sideIn_0 6 rfl rfl)
theorem dX3_sideIn_9 : decode cX3_sideIn 9 = .ok (.iload_n 3, 1) := dk_29 (dk_at dksX3_sideIn_0 9 rfl rfl)
theorem dX3_sideIn_10 : decode cX3_sideIn 10 = .ok (.iconst 1, 1) := dk_4 (dk_at dksX3_sideIn_0 10 rfl rfl)
theorem dX3_sideIn_11 : decode cX3_sideIn 11 = .ok (.iadd, 1) := dk_96 (dk_at dksX3_sideIn_0 11 rfl rfl)
theorem dX3_sideIn_12 : decode cX3_sideIn 12 = .ok (.iaload, 1) := dk_46 (dk_at dksX3_sideIn_0 12 rfl rfl)
theorem dX3_sideIn_13 : decode cX3_sideIn 13 = .ok (.iload_n 2, 1) := dk_28 (dk_at dksX3_sideIn_0 13 rfl rfl)
theorem dX3_sideIn_14 : decode cX3_sideIn 14 = .ok (.if_icmp .ne 7, 3) := dk_160 0 7 (dk_at dksX3_sideIn_0 14 rfl rfl)
theorem dX3_sideIn_17 : decode cX3_sideIn 17 = .ok (.iconst 1, 1) := dk_4 (dk_at dksX3_sideIn_0 17 rfl rfl)
theorem dX3_sideIn_18 : decode cX3_sideIn 18 = .ok (.goto 18, 3) := dk_167 0 18 (dk_at dksX3_sideIn_0 18 rfl rfl)
theorem dX3_sideIn_21 : decode cX3_sideIn 21 = .ok (.aload_n 0, 1) := dk_42 (dk_at dksX3_sideIn_0 21 rfl rfl)
theorem dX3_sideIn_22 : decode cX3_sideIn 22 = .ok (.getfield 9, 3) := dk_180 0 9 (dk_at dksX3_sideIn_1 0 rfl rfl)
theorem dX3_sideIn_25 : decode cX3_sideIn 25 = .ok (.iload_n 3, 1) := dk_29 (dk_at dksX3_sideIn_1 3 rfl rfl)
theorem dX3_sideIn_26 : decode cX3_sideIn 26 = .ok (.iaload, 1) := dk_46 (dk_at dksX3_sideIn_1 4 rfl rfl)
theorem dX3_sideIn_27 : decode cX3_sideIn 27 = .ok (.iload_n 2, 1) := dk_28 (dk_at dksX3_sideIn_1 5 rfl rfl)
theorem dX3_sideIn_28 : decode cX3_sideIn 28 = .ok (.if_icmp .ne 7, 3) := dk_160 0 7 (dk_at dksX3_sideIn_1 6 rfl rfl)
theorem dX3_sideIn_31 : decode cX3_sideIn 31 = .ok (.iconst (-1), 1) := dk_2 (dk_at dksX3_sideIn_1 9 rfl rfl)
theorem dX3_sideIn_32 : decode cX3_sideIn 32 = .ok (.goto 4, 3) := dk_167 0 4 (dk_at dksX3_sideIn_1 10 rfl rfl)
theorem dX3_sideIn_35 : decode cX3_sideIn 35 = .ok (.iconst 0, 1) := dk_3 (dk_at dksX3_sideIn_1 13 rfl rfl)
theorem dX3_sideIn_36 : decode cX3_sideIn 36 = .ok (.ireturn, 1) := dk_172 (dk_at dksX3_sideIn_1 14 rfl rfl)
abbrev cX3_value : ByteArray := prog_15_method_71_code
def yX3_value : MethodName := ⟨RX3, "value", "(II)I"⟩
def dkwX3_value_4 : List UInt8 := [21, 4, 27, 182, 0, 190, 42, 21, 4, 28, 182, 0, 137, 104, 96, 62, 132, 4, 1, 167, 255, 224, 29, 172]
abbrev dktX3_value_4 : List UInt8 := dkwX3_value_4 ++ []
def dkwX3_value_3 : List UInt8 := [182, 0, 174, 96, 104, 96, 62, 3, 54, 4, 21, 4, 42, 180, 0, 9, 6, 46, 162, 0, 27, 29, 42]
abbrev dktX3_value_3 : List UInt8 := dkwX3_value_3 ++ dktX3_value_4
def dkwX3_value_2 : List UInt8 := [42, 27, 4, 182, 0, 174, 96, 28, 42, 180, 0, 9, 27, 184, 0, 78, 4, 96, 46, 42, 27, 3]
abbrev dktX3_value_2 : List UInt8 := dkwX3_value_2 ++ dktX3_value_3
def dkwX3_value_1 : List UInt8 := [20, 0, 59, 184, 0, 51, 154, 0, 9, 42, 5, 182, 0, 75, 172, 42, 180, 0, 9, 27, 184, 0, 78, 46]
abbrev dktX3_value_1 : List UInt8 := dkwX3_value_1 ++ dktX3_value_2
def dkwX3_value_0 : List UInt8 := [42, 3, 181, 0, 45, 42, 27, 182, 0, 95, 154, 0, 9, 42, 4, 182, 0, 75, 172, 28, 133, 9]
abbrev dktX3_value_0 : List UInt8 := dkwX3_value_0 ++ dktX3_value_1
theorem dksX3_value_0 : cX3_value.data.toList.drop 0 = dktX3_value_0 := by decide +kernel
theorem dksX3_value_1 : cX3_value.data.toList.drop 22 = dktX3_value_1 := dk_seg dksX3_value_0 22 rfl rfl
theorem dksX3_value_2 : cX3_value.data.toList.drop 46 = dktX3_value_2 := dk_seg dksX3_value_1 24 rfl rfl
theorem dksX3_value_3 : cX3_value.data.toList.drop 68 = dktX3_value_3 := dk_seg dksX3_value_2 22 rfl rfl
theorem dksX3_value_4 : cX3_value.data.toList.drop 91 = dktX3_value_4 := dk_seg dksX3_value_3 23 rfl rfl
theorem dX3_value_0 : decode cX3_value 0 = .ok (.aload_n 0, 1) := dk_42 (dk_at dksX3_value_0 0 rfl rfl)
theorem dX3_value_1 : decode cX3_value 1 = .ok (.iconst 0, 1) := dk_3 (dk_at dksX3_value_0 1 rfl rfl)
theorem dX3_value_2 : decode cX3_value 2 = .ok (.putfield 45, 3) := dk_181 0 45 (dk_at dksX3_value_0 2 rfl rfl)
theorem dX3_value_5 : decode cX3_value 5 = .ok (.aload_n 0, 1) := dk_42 (dk_at dksX3_value_0 5 rfl rfl)
theorem dX3_value_6 : decode cX3_value 6 = .ok (.iload_n 1, 1) := dk_27 (dk_at dksX3_value_0 6 rfl rfl)
theorem dX3_value_7 : decode cX3_value 7 = .ok (.invokevirtual 95, 3) := dk_182 0 95 (dk_at dksX3_value_0 7 rfl rfl)
theorem dX3_value_10 : decode cX3_value 10 = .ok (.ifCond .ne 9, 3) := dk_154 0 9 (dk_at dksX3_value_0 10 rfl rfl)
theorem dX3_value_13 : decode cX3_value 13 = .ok (.aload_n 0, 1) := dk_42 (dk_at dksX3_value_0 13 rfl rfl)
theorem dX3_value_14 : decode cX3_value 14 = .ok (.iconst 1, 1) := dk_4 (dk_at dksX3_value_0 14 rfl rfl)
theorem dX3_value_15 : decode cX3_value 15 = .ok (.invokevirtual 75, 3) := dk_182 0 75 (dk_at dksX3_value_0 15 rfl rfl)
theorem dX3_value_18 : decode cX3_value 18 = .ok (.ireturn, 1) := dk_172 (dk_at dksX3_value_0 18 rfl rfl)
theorem dX3_value_19 : decode cX3_value 19 = .ok (.iload_n 2, 1) := dk_28 (dk_at dksX3_value_0 19 rfl rfl)
theorem dX3_value_20 : decode cX3_value 20 = .ok (.i2l, 1) := dk_133 (dk_at dksX3_value_0 20 rfl rfl)
theorem dX3_value_21 : decode cX3_value 21 = .ok (.lconst 0, 1) := dk_9 (dk_at dksX3_value_0 21 rfl rfl)
theorem dX3_value_22 : decode cX3_value 22 = .ok (.ldc2_w 59, 3) := dk_20 0 59 (dk_at dksX3_value_1 0 rfl rfl)
theorem dX3_value_25 : decode cX3_value 25 = .ok (.invokestatic 51, 3) := dk_184 0 51 (dk_at dksX3_value_1 3 rfl rfl)
theorem dX3_value_28 : decode cX3_value 28 = .ok (.ifCond .ne 9, 3) := dk_154 0 9 (dk_at dksX3_value_1 6 rfl rfl)
theorem dX3_value_31 : decode cX3_value 31 = .ok (.aload_n 0, 1) := dk_42 (dk_at dksX3_value_1 9 rfl rfl)
theorem dX3_value_32 : decode cX3_value 32 = .ok (.iconst 2, 1) := dk_5 (dk_at dksX3_value_1 10 rfl rfl)
theorem dX3_value_33 : decode cX3_value 33 = .ok (.invokevirtual 75, 3) := dk_182 0 75 (dk_at dksX3_value_1 11 rfl rfl)
theorem dX3_value_36 : decode cX3_value 36 = .ok (.ireturn, 1) := dk_172 (dk_at dksX3_value_1 14 rfl rfl)
theorem dX3_value_37 : decode cX3_value 37 = .ok (.aload_n 0, 1) := dk_42 (dk_at dksX3_value_1 15 rfl rfl)
theorem dX3_value_38 : decode cX3_value 38 = .ok (.getfield 9, 3) := dk_180 0 9 (dk_at dksX3_value_1 16 rfl rfl)
theorem dX3_value_41 : decode cX3_value 41 = .ok (.iload_n 1, 1) := dk_27 (dk_at dksX3_value_1 19 rfl rfl)
theorem dX3_value_42 : decode cX3_value 42 = .ok (.invokestatic 78, 3) := dk_184 0 78 (dk_at dksX3_value_1 20 rfl rfl)
theorem dX3_value_45 : decode cX3_value 45 = .ok (.iaload, 1) := dk_46 (dk_at dksX3_value_1 23 rfl rfl)
theorem dX3_value_46 : decode cX3_value 46 = .ok (.aload_n 0, 1) := dk_42 (dk_at dksX3_value_2 0 rfl rfl)
theorem dX3_value_47 : decode cX3_value 47 = .ok (.iload_n 1, 1) := dk_27 (dk_at dksX3_value_2 1 rfl rfl)
theorem dX3_value_48 : decode cX3_value 48 = .ok (.iconst 1, 1) := dk_4 (dk_at dksX3_value_2 2 rfl rfl)
theorem dX3_value_49 : decode cX3_value 49 = .ok (.invokevirtual 174, 3) := dk_182 0 174 (dk_at dksX3_value_2 3 rfl rfl)
theorem dX3_value_52 : decode cX3_value 52 = .ok (.iadd, 1) := dk_96 (dk_at dksX3_value_2 6 rfl rfl)
theorem dX3_value_53 : decode cX3_value 53 = .ok (.iload_n 2, 1) := dk_28 (dk_at dksX3_value_2 7 rfl rfl)
theorem dX3_value_54 : decode cX3_value 54 = .ok (.aload_n 0, 1) := dk_42 (dk_at dksX3_value_2 8 rfl rfl)
theorem dX3_value_55 : decode cX3_value 55 = .ok (.getfield 9, 3) := dk_180 0 9 (dk_at dksX3_value_2 9 rfl rfl)
theorem dX3_value_58 : decode cX3_value 58 = .ok (.iload_n 1, 1) := dk_27 (dk_at dksX3_value_2 12 rfl rfl)
theorem dX3_value_59 : decode cX3_value 59 = .ok (.invokestatic 78, 3) := dk_184 0 78 (dk_at dksX3_value_2 13 rfl rfl)
theorem dX3_value_62 : decode cX3_value 62 = .ok (.iconst 1, 1) := dk_4 (dk_at dksX3_value_2 16 rfl rfl)
theorem dX3_value_63 : decode cX3_value 63 = .ok (.iadd, 1) := dk_96 (dk_at dksX3_value_2 17 rfl rfl)
theorem dX3_value_64 : decode cX3_value 64 = .ok (.iaload, 1) := dk_46 (dk_at dksX3_value_2 18 rfl rfl)
theorem dX3_value_65 : decode cX3_value 65 = .ok (.aload_n 0, 1) := dk_42 (dk_at dksX3_value_2 19 rfl rfl)
theorem dX3_value_66 : decode cX3_value 66 = .ok (.iload_n 1, 1) := dk_27 (dk_at dksX3_value_2 20 rfl rfl)
theorem dX3_value_67 : decode cX3_value 67 = .ok (.iconst 0, 1) := dk_3 (dk_at dksX3_value_2 21 rfl rfl)
theorem dX3_value_68 : decode cX3_value 68 = .ok (.invokevirtual 174, 3) := dk_182 0 174 (dk_at dksX3_value_3 0 rfl rfl)
theorem dX3_value_71 : decode cX3_value 71 = .ok (.iadd, 1) := dk_96 (dk_at dksX3_value_3 3 rfl rfl)
theorem dX3_value_72 : decode cX3_value 72 = .ok (.imul, 1) := dk_104 (dk_at dksX3_value_3 4 rfl rfl)
theorem dX3_value_73 : decode cX3_value 73 = .ok (.iadd, 1) := dk_96 (dk_at dksX3_value_3 5 rfl rfl)
theorem dX3_value_74 : decode cX3_value 74 = .ok (.istore_n 3, 1) := dk_62 (dk_at dksX3_value_3 6 rfl rfl)
theorem dX3_value_75 : decode cX3_value 75 = .ok (.iconst 0, 1) := dk_3 (dk_at dksX3_value_3 7 rfl rfl)
theorem dX3_value_76 : decode cX3_value 76 = .ok (.istore 4, 2) := dk_54 4 (dk_at dksX3_value_3 8 rfl rfl)
theorem dX3_value_78 : decode cX3_value 78 = .ok (.iload 4, 2) := dk_21 4 (dk_at dksX3_value_3 10 rfl rfl)
theorem dX3_value_80 : decode cX3_value 80 = .ok (.aload_n 0, 1) := dk_42 (dk_at dksX3_value_3 12 rfl rfl)
theorem dX3_value_81 : decode cX3_value 81 = .ok (.getfield 9, 3) := dk_180 0 9 (dk_at dksX3_value_3 13 rfl rfl)
theorem dX3_value_84 : decode cX3_value 84 = .ok (.iconst 3, 1) := dk_6 (dk_at dksX3_value_3 16 rfl rfl)
theorem dX3_value_85 : decode cX3_value 85 = .ok (.iaload, 1) := dk_46 (dk_at dksX3_value_3 17 rfl rfl)
theorem dX3_value_86 : decode cX3_value 86 = .ok (.if_icmp .ge 27, 3) := dk_162 0 27 (dk_at dksX3_value_3 18 rfl rfl)
theorem dX3_value_89 : decode cX3_value 89 = .ok (.iload_n 3, 1) := dk_29 (dk_at dksX3_value_3 21 rfl rfl)
theorem dX3_value_90 : decode cX3_value 90 = .ok (.aload_n 0, 1) := dk_42 (dk_at dksX3_value_3 22 rfl rfl)
theorem dX3_value_91 : decode cX3_value 91 = .ok (.iload 4, 2) := dk_21 4 (dk_at dksX3_value_4 0 rfl rfl)
theorem dX3_value_93 : decode cX3_value 93 = .ok (.iload_n 1, 1) := dk_27 (dk_at dksX3_value_4 2 rfl rfl)
theorem dX3_value_94 : decode cX3_value 94 = .ok (.invokevirtual 190, 3) := dk_182 0 190 (dk_at dksX3_value_4 3 rfl rfl)
theorem dX3_value_97 : decode cX3_value 97 = .ok (.aload_n 0, 1) := dk_42 (dk_at dksX3_value_4 6 rfl rfl)
theorem dX3_value_98 : decode cX3_value 98 = .ok (.iload 4, 2) := dk_21 4 (dk_at dksX3_value_4 7 rfl rfl)
theorem dX3_value_100 : decode cX3_value 100 = .ok (.iload_n 2, 1) := dk_28 (dk_at dksX3_value_4 9 rfl rfl)
theorem dX3_value_101 : decode cX3_value 101 = .ok (.invokevirtual 137, 3) := dk_182 0 137 (dk_at dksX3_value_4 10 rfl rfl)
theorem dX3_value_104 : decode cX3_value 104 = .ok (.imul, 1) := dk_104 (dk_at dksX3_value_4 13 rfl rfl)
theorem dX3_value_105 : decode cX3_value 105 = .ok (.iadd, 1) := dk_96 (dk_at dksX3_value_4 14 rfl rfl)
theorem dX3_value_106 : decode cX3_value 106 = .ok (.istore_n 3, 1) := dk_62 (dk_at dksX3_value_4 15 rfl rfl)
theorem dX3_value_107 : decode cX3_value 107 = .ok (.iinc 4 1, 3) := dk_132 4 1 (dk_at dksX3_value_4 16 rfl rfl)
theorem dX3_value_110 : decode cX3_value 110 = .ok (.goto (-32), 3) := dk_167 255 224 (dk_at dksX3_value_4 19 rfl rfl)
theorem dX3_value_113 : decode cX3_value 113 = .ok (.iload_n 3, 1) := dk_29 (dk_at dksX3_value_4 22 rfl rfl)
theorem dX3_value_114 : decode cX3_value 114 = .ok (.ireturn, 1) := dk_172 (dk_at dksX3_value_4 23 rfl rfl)
abbrev cX3_valueByExposure : ByteArray := prog_15_method_72_code
def yX3_valueByExposure : MethodName := ⟨RX3, "valueByExposure", "(II)I"⟩
def dkwX3_valueByExposure_0 : List UInt8 := [42, 27, 28, 182, 0, 193, 172]
abbrev dktX3_valueByExposure_0 : List UInt8 := dkwX3_valueByExposure_0 ++ []
theorem dksX3_valueByExposure_0 : cX3_valueByExposure.data.toList.drop 0 = dktX3_valueByExposure_0 := by decide +kernel
theorem dX3_valueByExposure_0 : decode cX3_valueByExposure 0 = .ok (.aload_n 0, 1) := dk_42 (dk_at dksX3_valueByExposure_0 0 rfl rfl)
theorem dX3_valueByExposure_1 : decode cX3_valueByExposure 1 = .ok (.iload_n 1, 1) := dk_27 (dk_at dksX3_valueByExposure_0 1 rfl rfl)
theorem dX3_valueByExposure_2 : decode cX3_valueByExposure 2 = .ok (.iload_n 2, 1) := dk_28 (dk_at dksX3_valueByExposure_0 2 rfl rfl)
theorem dX3_valueByExposure_3 : decode cX3_valueByExposure 3 = .ok (.invokevirtual 193, 3) := dk_182 0 193 (dk_at dksX3_valueByExposure_0 3 rfl rfl)
theorem dX3_valueByExposure_6 : decode cX3_valueByExposure 6 = .ok (.ireturn, 1) := dk_172 (dk_at dksX3_valueByExposure_0 6 rfl rfl)
abbrev cX3_defaults : ByteArray := prog_15_method_73_code
def yX3_defaults : MethodName := ⟨RX3, "defaults", "()I"⟩
def dkwX3_defaults_0 : List UInt8 := [42, 3, 181, 0, 45, 42, 180, 0, 9, 16, 9, 46, 172]
abbrev dktX3_defaults_0 : List UInt8 := dkwX3_defaults_0 ++ []
theorem dksX3_defaults_0 : cX3_defaults.data.toList.drop 0 = dktX3_defaults_0 := by decide +kernel
theorem dX3_defaults_0 : decode cX3_defaults 0 = .ok (.aload_n 0, 1) := dk_42 (dk_at dksX3_defaults_0 0 rfl rfl)
theorem dX3_defaults_1 : decode cX3_defaults 1 = .ok (.iconst 0, 1) := dk_3 (dk_at dksX3_defaults_0 1 rfl rfl)
theorem dX3_defaults_2 : decode cX3_defaults 2 = .ok (.putfield 45, 3) := dk_181 0 45 (dk_at dksX3_defaults_0 2 rfl rfl)
theorem dX3_defaults_5 : decode cX3_defaults 5 = .ok (.aload_n 0, 1) := dk_42 (dk_at dksX3_defaults_0 5 rfl rfl)
theorem dX3_defaults_6 : decode cX3_defaults 6 = .ok (.getfield 9, 3) := dk_180 0 9 (dk_at dksX3_defaults_0 6 rfl rfl)
theorem dX3_defaults_9 : decode cX3_defaults 9 = .ok (.bipush 9, 2) := dk_16 9 (dk_at dksX3_defaults_0 9 rfl rfl)
theorem dX3_defaults_11 : decode cX3_defaults 11 = .ok (.iaload, 1) := dk_46 (dk_at dksX3_defaults_0 11 rfl rfl)
theorem dX3_defaults_12 : decode cX3_defaults 12 = .ok (.ireturn, 1) := dk_172 (dk_at dksX3_defaults_0 12 rfl rfl)
abbrev cX3_defaultRate : ByteArray := prog_15_method_74_code
def yX3_defaultRate : MethodName := ⟨RX3, "defaultRate", "()F"⟩
def dkwX3_defaultRate_1 : List UInt8 := [180, 0, 9, 16, 9, 46, 134, 42, 180, 0, 9, 16, 8, 46, 134, 110, 174]
abbrev dktX3_defaultRate_1 : List UInt8 := dkwX3_defaultRate_1 ++ []
def dkwX3_defaultRate_0 : List UInt8 := [42, 3, 181, 0, 45, 42, 180, 0, 9, 16, 8, 46, 154, 0, 11, 42, 4, 182, 0, 75, 87, 11, 174, 42]
abbrev dktX3_defaultRate_0 : List UInt8 := dkwX3_defaultRate_0 ++ dktX3_defaultRate_1
theorem dksX3_defaultRate_0 : cX3_defaultRate.data.toList.drop 0 = dktX3_defaultRate_0 := by decide +kernel
theorem dksX3_defaultRate_1 : cX3_defaultRate.data.toList.drop 24 = dktX3_defaultRate_1 := dk_seg dksX3_defaultRate_0 24 rfl rfl
theorem dX3_defaultRate_0 : decode cX3_defaultRate 0 = .ok (.aload_n 0, 1) := dk_42 (dk_at dksX3_defaultRate_0 0 rfl rfl)
theorem dX3_defaultRate_1 : decode cX3_defaultRate 1 = .ok (.iconst 0, 1) := dk_3 (dk_at dksX3_defaultRate_0 1 rfl rfl)
theorem dX3_defaultRate_2 : decode cX3_defaultRate 2 = .ok (.putfield 45, 3) := dk_181 0 45 (dk_at dksX3_defaultRate_0 2 rfl rfl)
theorem dX3_defaultRate_5 : decode cX3_defaultRate 5 = .ok (.aload_n 0, 1) := dk_42 (dk_at dksX3_defaultRate_0 5 rfl rfl)
theorem dX3_defaultRate_6 : decode cX3_defaultRate 6 = .ok (.getfield 9, 3) := dk_180 0 9 (dk_at dksX3_defaultRate_0 6 rfl rfl)
theorem dX3_defaultRate_9 : decode cX3_defaultRate 9 = .ok (.bipush 8, 2) := dk_16 8 (dk_at dksX3_defaultRate_0 9 rfl rfl)
theorem dX3_defaultRate_11 : decode cX3_defaultRate 11 = .ok (.iaload, 1) := dk_46 (dk_at dksX3_defaultRate_0 11 rfl rfl)
theorem dX3_defaultRate_12 : decode cX3_defaultRate 12 = .ok (.ifCond .ne 11, 3) := dk_154 0 11 (dk_at dksX3_defaultRate_0 12 rfl rfl)
theorem dX3_defaultRate_15 : decode cX3_defaultRate 15 = .ok (.aload_n 0, 1) := dk_42 (dk_at dksX3_defaultRate_0 15 rfl rfl)
theorem dX3_defaultRate_16 : decode cX3_defaultRate 16 = .ok (.iconst 1, 1) := dk_4 (dk_at dksX3_defaultRate_0 16 rfl rfl)
theorem dX3_defaultRate_17 : decode cX3_defaultRate 17 = .ok (.invokevirtual 75, 3) := dk_182 0 75 (dk_at dksX3_defaultRate_0 17 rfl rfl)
theorem dX3_defaultRate_20 : decode cX3_defaultRate 20 = .ok (.pop, 1) := dk_87 (dk_at dksX3_defaultRate_0 20 rfl rfl)
theorem dX3_defaultRate_21 : decode cX3_defaultRate 21 = .ok (.fconst 0, 1) := dk_11 (dk_at dksX3_defaultRate_0 21 rfl rfl)
theorem dX3_defaultRate_22 : decode cX3_defaultRate 22 = .ok (.freturn, 1) := dk_174 (dk_at dksX3_defaultRate_0 22 rfl rfl)
theorem dX3_defaultRate_23 : decode cX3_defaultRate 23 = .ok (.aload_n 0, 1) := dk_42 (dk_at dksX3_defaultRate_0 23 rfl rfl)
theorem dX3_defaultRate_24 : decode cX3_defaultRate 24 = .ok (.getfield 9, 3) := dk_180 0 9 (dk_at dksX3_defaultRate_1 0 rfl rfl)
theorem dX3_defaultRate_27 : decode cX3_defaultRate 27 = .ok (.bipush 9, 2) := dk_16 9 (dk_at dksX3_defaultRate_1 3 rfl rfl)
theorem dX3_defaultRate_29 : decode cX3_defaultRate 29 = .ok (.iaload, 1) := dk_46 (dk_at dksX3_defaultRate_1 5 rfl rfl)
theorem dX3_defaultRate_30 : decode cX3_defaultRate 30 = .ok (.i2f, 1) := dk_134 (dk_at dksX3_defaultRate_1 6 rfl rfl)
theorem dX3_defaultRate_31 : decode cX3_defaultRate 31 = .ok (.aload_n 0, 1) := dk_42 (dk_at dksX3_defaultRate_1 7 rfl rfl)
theorem dX3_defaultRate_32 : decode cX3_defaultRate 32 = .ok (.getfield 9, 3) := dk_180 0 9 (dk_at dksX3_defaultRate_1 8 rfl rfl)
theorem dX3_defaultRate_35 : decode cX3_defaultRate 35 = .ok (.bipush 8, 2) := dk_16 8 (dk_at dksX3_defaultRate_1 11 rfl rfl)
theorem dX3_defaultRate_37 : decode cX3_defaultRate 37 = .ok (.iaload, 1) := dk_46 (dk_at dksX3_defaultRate_1 13 rfl rfl)
theorem dX3_defaultRate_38 : decode cX3_defaultRate 38 = .ok (.i2f, 1) := dk_134 (dk_at dksX3_defaultRate_1 14 rfl rfl)
theorem dX3_defaultRate_39 : decode cX3_defaultRate 39 = .ok (.fdiv, 1) := dk_110 (dk_at dksX3_defaultRate_1 15 rfl rfl)
theorem dX3_defaultRate_40 : decode cX3_defaultRate 40 = .ok (.freturn, 1) := dk_174 (dk_at dksX3_defaultRate_1 16 rfl rfl)
abbrev cX3_isAuctionOpen : ByteArray := prog_15_method_75_code
def yX3_isAuctionOpen : MethodName := ⟨RX3, "isAuctionOpen", "()Z"⟩
def dkwX3_isAuctionOpen_0 : List UInt8 := [42, 3, 181, 0, 45, 42, 180, 0, 9, 16, 11, 46, 2, 159, 0, 7, 4, 167, 0, 4, 3, 172]
abbrev dktX3_isAuctionOpen_0 : List UInt8 := dkwX3_isAuctionOpen_0 ++ []
theorem dksX3_isAuctionOpen_0 : cX3_isAuctionOpen.data.toList.drop 0 = dktX3_isAuctionOpen_0 := by decide +kernel
theorem dX3_isAuctionOpen_0 : decode cX3_isAuctionOpen 0 = .ok (.aload_n 0, 1) := dk_42 (dk_at dksX3_isAuctionOpen_0 0 rfl rfl)
theorem dX3_isAuctionOpen_1 : decode cX3_isAuctionOpen 1 = .ok (.iconst 0, 1) := dk_3 (dk_at dksX3_isAuctionOpen_0 1 rfl rfl)
theorem dX3_isAuctionOpen_2 : decode cX3_isAuctionOpen 2 = .ok (.putfield 45, 3) := dk_181 0 45 (dk_at dksX3_isAuctionOpen_0 2 rfl rfl)
theorem dX3_isAuctionOpen_5 : decode cX3_isAuctionOpen 5 = .ok (.aload_n 0, 1) := dk_42 (dk_at dksX3_isAuctionOpen_0 5 rfl rfl)
theorem dX3_isAuctionOpen_6 : decode cX3_isAuctionOpen 6 = .ok (.getfield 9, 3) := dk_180 0 9 (dk_at dksX3_isAuctionOpen_0 6 rfl rfl)
theorem dX3_isAuctionOpen_9 : decode cX3_isAuctionOpen 9 = .ok (.bipush 11, 2) := dk_16 11 (dk_at dksX3_isAuctionOpen_0 9 rfl rfl)
theorem dX3_isAuctionOpen_11 : decode cX3_isAuctionOpen 11 = .ok (.iaload, 1) := dk_46 (dk_at dksX3_isAuctionOpen_0 11 rfl rfl)
theorem dX3_isAuctionOpen_12 : decode cX3_isAuctionOpen 12 = .ok (.iconst (-1), 1) := dk_2 (dk_at dksX3_isAuctionOpen_0 12 rfl rfl)
theorem dX3_isAuctionOpen_13 : decode cX3_isAuctionOpen 13 = .ok (.if_icmp .eq 7, 3) := dk_159 0 7 (dk_at dksX3_isAuctionOpen_0 13 rfl rfl)
theorem dX3_isAuctionOpen_16 : decode cX3_isAuctionOpen 16 = .ok (.iconst 1, 1) := dk_4 (dk_at dksX3_isAuctionOpen_0 16 rfl rfl)
theorem dX3_isAuctionOpen_17 : decode cX3_isAuctionOpen 17 = .ok (.goto 4, 3) := dk_167 0 4 (dk_at dksX3_isAuctionOpen_0 17 rfl rfl)
theorem dX3_isAuctionOpen_20 : decode cX3_isAuctionOpen 20 = .ok (.iconst 0, 1) := dk_3 (dk_at dksX3_isAuctionOpen_0 20 rfl rfl)
theorem dX3_isAuctionOpen_21 : decode cX3_isAuctionOpen 21 = .ok (.ireturn, 1) := dk_172 (dk_at dksX3_isAuctionOpen_0 21 rfl rfl)
abbrev cX3_holder : ByteArray := prog_15_method_76_code
def yX3_holder : MethodName := ⟨RX3, "holder", "(I)I"⟩
def dkwX3_holder_2 : List UInt8 := [172]
abbrev dktX3_holder_2 : List UInt8 := dkwX3_holder_2 ++ []
def dkwX3_holder_1 : List UInt8 := [27, 96, 46, 2, 160, 0, 11, 42, 5, 182, 0, 75, 167, 0, 12, 42, 180, 0, 9, 16, 13, 27, 96, 46]
abbrev dktX3_holder_1 : List UInt8 := dkwX3_holder_1 ++ dktX3_holder_2
def dkwX3_holder_0 : List UInt8 := [42, 3, 181, 0, 45, 27, 184, 0, 149, 154, 0, 9, 42, 4, 182, 0, 75, 172, 42, 180, 0, 9, 16, 13]
abbrev dktX3_holder_0 : List UInt8 := dkwX3_holder_0 ++ dktX3_holder_1
theorem dksX3_holder_0 : cX3_holder.data.toList.drop 0 = dktX3_holder_0 := by decide +kernel
theorem dksX3_holder_1 : cX3_holder.data.toList.drop 24 = dktX3_holder_1 := dk_seg dksX3_holder_0 24 rfl rfl
theorem dksX3_holder_2 : cX3_holder.data.toList.drop 48 = dktX3_holder_2 := dk_seg dksX3_holder_1 24 rfl rfl
theorem dX3_holder_0 : decode cX3_holder 0 = .ok (.aload_n 0, 1) := dk_42 (dk_at dksX3_holder_0 0 rfl rfl)
theorem dX3_holder_1 : decode cX3_holder 1 = .ok (.iconst 0, 1) := dk_3 (dk_at dksX3_holder_0 1 rfl rfl)
theorem dX3_holder_2 : decode cX3_holder 2 = .ok (.putfield 45, 3) := dk_181 0 45 (dk_at dksX3_holder_0 2 rfl rfl)
theorem dX3_holder_5 : decode cX3_holder 5 = .ok (.iload_n 1, 1) := dk_27 (dk_at dksX3_holder_0 5 rfl rfl)
theorem dX3_holder_6 : decode cX3_holder 6 = .ok (.invokestatic 149, 3) := dk_184 0 149 (dk_at dksX3_holder_0 6 rfl rfl)
theorem dX3_holder_9 : decode cX3_holder 9 = .ok (.ifCond .ne 9, 3) := dk_154 0 9 (dk_at dksX3_holder_0 9 rfl rfl)
theorem dX3_holder_12 : decode cX3_holder 12 = .ok (.aload_n 0, 1) := dk_42 (dk_at dksX3_holder_0 12 rfl rfl)
theorem dX3_holder_13 : decode cX3_holder 13 = .ok (.iconst 1, 1) := dk_4 (dk_at dksX3_holder_0 13 rfl rfl)
theorem dX3_holder_14 : decode cX3_holder 14 = .ok (.invokevirtual 75, 3) := dk_182 0 75 (dk_at dksX3_holder_0 14 rfl rfl)
theorem dX3_holder_17 : decode cX3_holder 17 = .ok (.ireturn, 1) := dk_172 (dk_at dksX3_holder_0 17 rfl rfl)
theorem dX3_holder_18 : decode cX3_holder 18 = .ok (.aload_n 0, 1) := dk_42 (dk_at dksX3_holder_0 18 rfl rfl)
theorem dX3_holder_19 : decode cX3_holder 19 = .ok (.getfield 9, 3) := dk_180 0 9 (dk_at dksX3_holder_0 19 rfl rfl)
theorem dX3_holder_22 : decode cX3_holder 22 = .ok (.bipush 13, 2) := dk_16 13 (dk_at dksX3_holder_0 22 rfl rfl)
theorem dX3_holder_24 : decode cX3_holder 24 = .ok (.iload_n 1, 1) := dk_27 (dk_at dksX3_holder_1 0 rfl rfl)
theorem dX3_holder_25 : decode cX3_holder 25 = .ok (.iadd, 1) := dk_96 (dk_at dksX3_holder_1 1 rfl rfl)
theorem dX3_holder_26 : decode cX3_holder 26 = .ok (.iaload, 1) := dk_46 (dk_at dksX3_holder_1 2 rfl rfl)
theorem dX3_holder_27 : decode cX3_holder 27 = .ok (.iconst (-1), 1) := dk_2 (dk_at dksX3_holder_1 3 rfl rfl)
theorem dX3_holder_28 : decode cX3_holder 28 = .ok (.if_icmp .ne 11, 3) := dk_160 0 11 (dk_at dksX3_holder_1 4 rfl rfl)
theorem dX3_holder_31 : decode cX3_holder 31 = .ok (.aload_n 0, 1) := dk_42 (dk_at dksX3_holder_1 7 rfl rfl)
theorem dX3_holder_32 : decode cX3_holder 32 = .ok (.iconst 2, 1) := dk_5 (dk_at dksX3_holder_1 8 rfl rfl)
theorem dX3_holder_33 : decode cX3_holder 33 = .ok (.invokevirtual 75, 3) := dk_182 0 75 (dk_at dksX3_holder_1 9 rfl rfl)
theorem dX3_holder_36 : decode cX3_holder 36 = .ok (.goto 12, 3) := dk_167 0 12 (dk_at dksX3_holder_1 12 rfl rfl)
theorem dX3_holder_39 : decode cX3_holder 39 = .ok (.aload_n 0, 1) := dk_42 (dk_at dksX3_holder_1 15 rfl rfl)
theorem dX3_holder_40 : decode cX3_holder 40 = .ok (.getfield 9, 3) := dk_180 0 9 (dk_at dksX3_holder_1 16 rfl rfl)
theorem dX3_holder_43 : decode cX3_holder 43 = .ok (.bipush 13, 2) := dk_16 13 (dk_at dksX3_holder_1 19 rfl rfl)
theorem dX3_holder_45 : decode cX3_holder 45 = .ok (.iload_n 1, 1) := dk_27 (dk_at dksX3_holder_1 21 rfl rfl)
theorem dX3_holder_46 : decode cX3_holder 46 = .ok (.iadd, 1) := dk_96 (dk_at dksX3_holder_1 22 rfl rfl)
theorem dX3_holder_47 : decode cX3_holder 47 = .ok (.iaload, 1) := dk_46 (dk_at dksX3_holder_1 23 rfl rfl)
theorem dX3_holder_48 : decode cX3_holder 48 = .ok (.ireturn, 1) := dk_172 (dk_at dksX3_holder_2 0 rfl rfl)
abbrev cX3_winner : ByteArray := prog_15_method_78_code
def yX3_winner : MethodName := ⟨RX3, "winner", "()I"⟩
def dkwX3_winner_0 : List UInt8 := [42, 182, 0, 196, 153, 0, 10, 42, 182, 0, 161, 167, 0, 4, 2, 172]
abbrev dktX3_winner_0 : List UInt8 := dkwX3_winner_0 ++ []
theorem dksX3_winner_0 : cX3_winner.data.toList.drop 0 = dktX3_winner_0 := by decide +kernel
theorem dX3_winner_0 : decode cX3_winner 0 = .ok (.aload_n 0, 1) := dk_42 (dk_at dksX3_winner_0 0 rfl rfl)
theorem dX3_winner_1 : decode cX3_winner 1 = .ok (.invokevirtual 196, 3) := dk_182 0 196 (dk_at dksX3_winner_0 1 rfl rfl)
theorem dX3_winner_4 : decode cX3_winner 4 = .ok (.ifCond .eq 10, 3) := dk_153 0 10 (dk_at dksX3_winner_0 4 rfl rfl)
theorem dX3_winner_7 : decode cX3_winner 7 = .ok (.aload_n 0, 1) := dk_42 (dk_at dksX3_winner_0 7 rfl rfl)
theorem dX3_winner_8 : decode cX3_winner 8 = .ok (.invokevirtual 161, 3) := dk_182 0 161 (dk_at dksX3_winner_0 8 rfl rfl)
theorem dX3_winner_11 : decode cX3_winner 11 = .ok (.goto 4, 3) := dk_167 0 4 (dk_at dksX3_winner_0 11 rfl rfl)
theorem dX3_winner_14 : decode cX3_winner 14 = .ok (.iconst (-1), 1) := dk_2 (dk_at dksX3_winner_0 14 rfl rfl)
theorem dX3_winner_15 : decode cX3_winner 15 = .ok (.ireturn, 1) := dk_172 (dk_at dksX3_winner_0 15 rfl rfl)
abbrev cX3_hasWinner : ByteArray := prog_15_method_77_code
def yX3_hasWinner : MethodName := ⟨RX3, "hasWinner", "()Z"⟩
def dkwX3_hasWinner_2 : List UInt8 := [4, 167, 0, 4, 3, 172]
abbrev dktX3_hasWinner_2 : List UInt8 := dkwX3_hasWinner_2 ++ []
def dkwX3_hasWinner_1 : List UInt8 := [167, 0, 17, 42, 182, 0, 161, 2, 160, 0, 9, 42, 5, 182, 0, 75, 87, 42, 180, 0, 45, 154, 0, 7]
abbrev dktX3_hasWinner_1 : List UInt8 := dkwX3_hasWinner_1 ++ dktX3_hasWinner_2
def dkwX3_hasWinner_0 : List UInt8 := [42, 3, 181, 0, 45, 42, 180, 0, 9, 16, 11, 46, 2, 160, 0, 12, 42, 4, 182, 0, 75, 87]
abbrev dktX3_hasWinner_0 : List UInt8 := dkwX3_hasWinner_0 ++ dktX3_hasWinner_1
theorem dksX3_hasWinner_0 : cX3_hasWinner.data.toList.drop 0 = dktX3_hasWinner_0 := by decide +kernel
theorem dksX3_hasWinner_1 : cX3_hasWinner.data.toList.drop 22 = dktX3_hasWinner_1 := dk_seg dksX3_hasWinner_0 22 rfl rfl
theorem dksX3_hasWinner_2 : cX3_hasWinner.data.toList.drop 46 = dktX3_hasWinner_2 := dk_seg dksX3_hasWinner_1 24 rfl rfl
theorem dX3_hasWinner_0 : decode cX3_hasWinner 0 = .ok (.aload_n 0, 1) := dk_42 (dk_at dksX3_hasWinner_0 0 rfl rfl)
theorem dX3_hasWinner_1 : decode cX3_hasWinner 1 = .ok (.iconst 0, 1) := dk_3 (dk_at dksX3_hasWinner_0 1 rfl rfl)
theorem dX3_hasWinner_2 : decode cX3_hasWinner 2 = .ok (.putfield 45, 3) := dk_181 0 45 (dk_at dksX3_hasWinner_0 2 rfl rfl)
theorem dX3_hasWinner_5 : decode cX3_hasWinner 5 = .ok (.aload_n 0, 1) := dk_42 (dk_at dksX3_hasWinner_0 5 rfl rfl)
theorem dX3_hasWinner_6 : decode cX3_hasWinner 6 = .ok (.getfield 9, 3) := dk_180 0 9 (dk_at dksX3_hasWinner_0 6 rfl rfl)
theorem dX3_hasWinner_9 : decode cX3_hasWinner 9 = .ok (.bipush 11, 2) := dk_16 11 (dk_at dksX3_hasWinner_0 9 rfl rfl)
theorem dX3_hasWinner_11 : decode cX3_hasWinner 11 = .ok (.iaload, 1) := dk_46 (dk_at dksX3_hasWinner_0 11 rfl rfl)
theorem dX3_hasWinner_12 : decode cX3_hasWinner 12 = .ok (.iconst (-1), 1) := dk_2 (dk_at dksX3_hasWinner_0 12 rfl rfl)
theorem dX3_hasWinner_13 : decode cX3_hasWinner 13 = .ok (.if_icmp .ne 12, 3) := dk_160 0 12 (dk_at dksX3_hasWinner_0 13 rfl rfl)
theorem dX3_hasWinner_16 : decode cX3_hasWinner 16 = .ok (.aload_n 0, 1) := dk_42 (dk_at dksX3_hasWinner_0 16 rfl rfl)
theorem dX3_hasWinner_17 : decode cX3_hasWinner 17 = .ok (.iconst 1, 1) := dk_4 (dk_at dksX3_hasWinner_0 17 rfl rfl)
theorem dX3_hasWinner_18 : decode cX3_hasWinner 18 = .ok (.invokevirtual 75, 3) := dk_182 0 75 (dk_at dksX3_hasWinner_0 18 rfl rfl)
theorem dX3_hasWinner_21 : decode cX3_hasWinner 21 = .ok (.pop, 1) := dk_87 (dk_at dksX3_hasWinner_0 21 rfl rfl)
theorem dX3_hasWinner_22 : decode cX3_hasWinner 22 = .ok (.goto 17, 3) := dk_167 0 17 (dk_at dksX3_hasWinner_1 0 rfl rfl)
theorem dX3_hasWinner_25 : decode cX3_hasWinner 25 = .ok (.aload_n 0, 1) := dk_42 (dk_at dksX3_hasWinner_1 3 rfl rfl)
theorem dX3_hasWinner_26 : decode cX3_hasWinner 26 = .ok (.invokevirtual 161, 3) := dk_182 0 161 (dk_at dksX3_hasWinner_1 4 rfl rfl)
theorem dX3_hasWinner_29 : decode cX3_hasWinner 29 = .ok (.iconst (-1), 1) := dk_2 (dk_at dksX3_hasWinner_1 7 rfl rfl)
theorem dX3_hasWinner_30 : decode cX3_hasWinner 30 = .ok (.if_icmp .ne 9, 3) := dk_160 0 9 (dk_at dksX3_hasWinner_1 8 rfl rfl)
theorem dX3_hasWinner_33 : decode cX3_hasWinner 33 = .ok (.aload_n 0, 1) := dk_42 (dk_at dksX3_hasWinner_1 11 rfl rfl)
theorem dX3_hasWinner_34 : decode cX3_hasWinner 34 = .ok (.iconst 2, 1) := dk_5 (dk_at dksX3_hasWinner_1 12 rfl rfl)
theorem dX3_hasWinner_35 : decode cX3_hasWinner 35 = .ok (.invokevirtual 75, 3) := dk_182 0 75 (dk_at dksX3_hasWinner_1 13 rfl rfl)
theorem dX3_hasWinner_38 : decode cX3_hasWinner 38 = .ok (.pop, 1) := dk_87 (dk_at dksX3_hasWinner_1 16 rfl rfl)
theorem dX3_hasWinner_39 : decode cX3_hasWinner 39 = .ok (.aload_n 0, 1) := dk_42 (dk_at dksX3_hasWinner_1 17 rfl rfl)
theorem dX3_hasWinner_40 : decode cX3_hasWinner 40 = .ok (.getfield 45, 3) := dk_180 0 45 (dk_at dksX3_hasWinner_1 18 rfl rfl)
theorem dX3_hasWinner_43 : decode cX3_hasWinner 43 = .ok (.ifCond .ne 7, 3) := dk_154 0 7 (dk_at dksX3_hasWinner_1 21 rfl rfl)
theorem dX3_hasWinner_46 : decode cX3_hasWinner 46 = .ok (.iconst 1, 1) := dk_4 (dk_at dksX3_hasWinner_2 0 rfl rfl)
theorem dX3_hasWinner_47 : decode cX3_hasWinner 47 = .ok (.goto 4, 3) := dk_167 0 4 (dk_at dksX3_hasWinner_2 1 rfl rfl)
theorem dX3_hasWinner_50 : decode cX3_hasWinner 50 = .ok (.iconst 0, 1) := dk_3 (dk_at dksX3_hasWinner_2 4 rfl rfl)
theorem dX3_hasWinner_51 : decode cX3_hasWinner 51 = .ok (.ireturn, 1) := dk_172 (dk_at dksX3_hasWinner_2 5 rfl rfl)
abbrev cX3_winnerPays : ByteArray := prog_15_method_79_code
def yX3_winnerPays : MethodName := ⟨RX3, "winnerPays", "()I"⟩
def dkwX3_winnerPays_0 : List UInt8 := [42, 182, 0, 196, 153, 0, 10, 42, 182, 0, 168, 167, 0, 4, 2, 172]
abbrev dktX3_winnerPays_0 : List UInt8 := dkwX3_winnerPays_0 ++ []
theorem dksX3_winnerPays_0 : cX3_winnerPays.data.toList.drop 0 = dktX3_winnerPays_0 := by decide +kernel
theorem dX3_winnerPays_0 : decode cX3_winnerPays 0 = .ok (.aload_n 0, 1) := dk_42 (dk_at dksX3_winnerPays_0 0 rfl rfl)
theorem dX3_winnerPays_1 : decode cX3_winnerPays 1 = .ok (.invokevirtual 196, 3) := dk_182 0 196 (dk_at dksX3_winnerPays_0 1 rfl rfl)
theorem dX3_winnerPays_4 : decode cX3_winnerPays 4 = .ok (.ifCond .eq 10, 3) := dk_153 0 10 (dk_at dksX3_winnerPays_0 4 rfl rfl)
theorem dX3_winnerPays_7 : decode cX3_winnerPays 7 = .ok (.aload_n 0, 1) := dk_42 (dk_at dksX3_winnerPays_0 7 rfl rfl)
theorem dX3_winnerPays_8 : decode cX3_winnerPays 8 = .ok (.invokevirtual 168, 3) := dk_182 0 168 (dk_at dksX3_winnerPays_0 8 rfl rfl)
theorem dX3_winnerPays_11 : decode cX3_winnerPays 11 = .ok (.goto 4, 3) := dk_167 0 4 (dk_at dksX3_winnerPays_0 11 rfl rfl)
theorem dX3_winnerPays_14 : decode cX3_winnerPays 14 = .ok (.iconst (-1), 1) := dk_2 (dk_at dksX3_winnerPays_0 14 rfl rfl)
theorem dX3_winnerPays_15 : decode cX3_winnerPays 15 = .ok (.ireturn, 1) := dk_172 (dk_at dksX3_winnerPays_0 15 rfl rfl)
abbrev cX3_till : ByteArray := prog_15_method_80_code
def yX3_till : MethodName := ⟨RX3, "till", "()I"⟩
def dkwX3_till_0 : List UInt8 := [42, 3, 181, 0, 45, 42, 180, 0, 9, 16, 10, 46, 172]
abbrev dktX3_till_0 : List UInt8 := dkwX3_till_0 ++ []
theorem dksX3_till_0 : cX3_till.data.toList.drop 0 = dktX3_till_0 := by decide +kernel
theorem dX3_till_0 : decode cX3_till 0 = .ok (.aload_n 0, 1) := dk_42 (dk_at dksX3_till_0 0 rfl rfl)
theorem dX3_till_1 : decode cX3_till 1 = .ok (.iconst 0, 1) := dk_3 (dk_at dksX3_till_0 1 rfl rfl)
theorem dX3_till_2 : decode cX3_till 2 = .ok (.putfield 45, 3) := dk_181 0 45 (dk_at dksX3_till_0 2 rfl rfl)
theorem dX3_till_5 : decode cX3_till 5 = .ok (.aload_n 0, 1) := dk_42 (dk_at dksX3_till_0 5 rfl rfl)
theorem dX3_till_6 : decode cX3_till 6 = .ok (.getfield 9, 3) := dk_180 0 9 (dk_at dksX3_till_0 6 rfl rfl)
theorem dX3_till_9 : decode cX3_till 9 = .ok (.bipush 10, 2) := dk_16 10 (dk_at dksX3_till_0 9 rfl rfl)
theorem dX3_till_11 : decode cX3_till 11 = .ok (.iaload, 1) := dk_46 (dk_at dksX3_till_0 11 rfl rfl)
theorem dX3_till_12 : decode cX3_till 12 = .ok (.ireturn, 1) := dk_172 (dk_at dksX3_till_0 12 rfl rfl)
abbrev cX3_isConsistent : ByteArray := prog_15_method_81_code
def yX3_isConsistent : MethodName := ⟨RX3, "isConsistent", "()Z"⟩
def dkwX3_isConsistent_0 : List UInt8 := [42, 3, 181, 0, 45, 4, 172]
abbrev dktX3_isConsistent_0 : List UInt8 := dkwX3_isConsistent_0 ++ []
theorem dksX3_isConsistent_0 : cX3_isConsistent.data.toList.drop 0 = dktX3_isConsistent_0 := by decide +kernel
theorem dX3_isConsistent_0 : decode cX3_isConsistent 0 = .ok (.aload_n 0, 1) := dk_42 (dk_at dksX3_isConsistent_0 0 rfl rfl)
theorem dX3_isConsistent_1 : decode cX3_isConsistent 1 = .ok (.iconst 0, 1) := dk_3 (dk_at dksX3_isConsistent_0 1 rfl rfl)
theorem dX3_isConsistent_2 : decode cX3_isConsistent 2 = .ok (.putfield 45, 3) := dk_181 0 45 (dk_at dksX3_isConsistent_0 2 rfl rfl)
theorem dX3_isConsistent_5 : decode cX3_isConsistent 5 = .ok (.iconst 1, 1) := dk_4 (dk_at dksX3_isConsistent_0 5 rfl rfl)
theorem dX3_isConsistent_6 : decode cX3_isConsistent 6 = .ok (.ireturn, 1) := dk_172 (dk_at dksX3_isConsistent_0 6 rfl rfl)
abbrev cX3_writeBook : ByteArray := prog_15_method_85_code
def yX3_writeBook : MethodName := ⟨RX3, "writeBook", "()I"⟩
def dkwX3_writeBook_1 : List UInt8 := [182, 0, 209, 42, 180, 0, 200, 172]
abbrev dktX3_writeBook_1 : List UInt8 := dkwX3_writeBook_1 ++ []
def dkwX3_writeBook_0 : List UInt8 := [42, 3, 181, 0, 45, 42, 3, 181, 0, 200, 42, 4, 182, 0, 209, 42, 16, 124, 182, 0, 203, 42, 3]
abbrev dktX3_writeBook_0 : List UInt8 := dkwX3_writeBook_0 ++ dktX3_writeBook_1
theorem dksX3_writeBook_0 : cX3_writeBook.data.toList.drop 0 = dktX3_writeBook_0 := by decide +kernel
theorem dksX3_writeBook_1 : cX3_writeBook.data.toList.drop 23 = dktX3_writeBook_1 := dk_seg dksX3_writeBook_0 23 rfl rfl
theorem dX3_writeBook_0 : decode cX3_writeBook 0 = .ok (.aload_n 0, 1) := dk_42 (dk_at dksX3_writeBook_0 0 rfl rfl)
theorem dX3_writeBook_1 : decode cX3_writeBook 1 = .ok (.iconst 0, 1) := dk_3 (dk_at dksX3_writeBook_0 1 rfl rfl)
theorem dX3_writeBook_2 : decode cX3_writeBook 2 = .ok (.putfield 45, 3) := dk_181 0 45 (dk_at dksX3_writeBook_0 2 rfl rfl)
theorem dX3_writeBook_5 : decode cX3_writeBook 5 = .ok (.aload_n 0, 1) := dk_42 (dk_at dksX3_writeBook_0 5 rfl rfl)
theorem dX3_writeBook_6 : decode cX3_writeBook 6 = .ok (.iconst 0, 1) := dk_3 (dk_at dksX3_writeBook_0 6 rfl rfl)
theorem dX3_writeBook_7 : decode cX3_writeBook 7 = .ok (.putfield 200, 3) := dk_181 0 200 (dk_at dksX3_writeBook_0 7 rfl rfl)
theorem dX3_writeBook_10 : decode cX3_writeBook 10 = .ok (.aload_n 0, 1) := dk_42 (dk_at dksX3_writeBook_0 10 rfl rfl)
theorem dX3_writeBook_11 : decode cX3_writeBook 11 = .ok (.iconst 1, 1) := dk_4 (dk_at dksX3_writeBook_0 11 rfl rfl)
theorem dX3_writeBook_12 : decode cX3_writeBook 12 = .ok (.invokevirtual 209, 3) := dk_182 0 209 (dk_at dksX3_writeBook_0 12 rfl rfl)
theorem dX3_writeBook_15 : decode cX3_writeBook 15 = .ok (.aload_n 0, 1) := dk_42 (dk_at dksX3_writeBook_0 15 rfl rfl)
theorem dX3_writeBook_16 : decode cX3_writeBook 16 = .ok (.bipush 124, 2) := dk_16 124 (dk_at dksX3_writeBook_0 16 rfl rfl)
theorem dX3_writeBook_18 : decode cX3_writeBook 18 = .ok (.invokevirtual 203, 3) := dk_182 0 203 (dk_at dksX3_writeBook_0 18 rfl rfl)
theorem dX3_writeBook_21 : decode cX3_writeBook 21 = .ok (.aload_n 0, 1) := dk_42 (dk_at dksX3_writeBook_0 21 rfl rfl)
theorem dX3_writeBook_22 : decode cX3_writeBook 22 = .ok (.iconst 0, 1) := dk_3 (dk_at dksX3_writeBook_0 22 rfl rfl)
theorem dX3_writeBook_23 : decode cX3_writeBook 23 = .ok (.invokevirtual 209, 3) := dk_182 0 209 (dk_at dksX3_writeBook_1 0 rfl rfl)
theorem dX3_writeBook_26 : decode cX3_writeBook 26 = .ok (.aload_n 0, 1) := dk_42 (dk_at dksX3_writeBook_1 3 rfl rfl)
theorem dX3_writeBook_27 : decode cX3_writeBook 27 = .ok (.getfield 200, 3) := dk_180 0 200 (dk_at dksX3_writeBook_1 4 rfl rfl)
theorem dX3_writeBook_30 : decode cX3_writeBook 30 = .ok (.ireturn, 1) := dk_172 (dk_at dksX3_writeBook_1 7 rfl rfl)
abbrev cX3_writesSide : ByteArray := prog_15_method_84_code
def yX3_writesSide : MethodName := ⟨RX3, "writesSide", "(Z)V"⟩
def dkwX3_writesSide_3 : List UInt8 := [167, 255, 195, 177]
abbrev dktX3_writesSide_3 : List UInt8 := dkwX3_writesSide_3 ++ []
def dkwX3_writesSide_2 : List UInt8 := [180, 0, 9, 29, 184, 0, 61, 6, 96, 46, 182, 0, 206, 132, 2, 1, 42, 27, 28, 182, 0, 181, 62]
abbrev dktX3_writesSide_2 : List UInt8 := dkwX3_writesSide_2 ++ dktX3_writesSide_3
def dkwX3_writesSide_1 : List UInt8 := [42, 42, 180, 0, 9, 29, 184, 0, 61, 7, 96, 46, 182, 0, 206, 42, 16, 64, 182, 0, 203, 42, 42]
abbrev dktX3_writesSide_1 : List UInt8 := dkwX3_writesSide_1 ++ dktX3_writesSide_2
def dkwX3_writesSide_0 : List UInt8 := [3, 61, 42, 27, 3, 182, 0, 181, 62, 29, 2, 159, 0, 62, 28, 158, 0, 9, 42, 16, 32, 182, 0, 203]
abbrev dktX3_writesSide_0 : List UInt8 := dkwX3_writesSide_0 ++ dktX3_writesSide_1
theorem dksX3_writesSide_0 : cX3_writesSide.data.toList.drop 0 = dktX3_writesSide_0 := by decide +kernel
theorem dksX3_writesSide_1 : cX3_writesSide.data.toList.drop 24 = dktX3_writesSide_1 := dk_seg dksX3_writesSide_0 24 rfl rfl
theorem dksX3_writesSide_2 : cX3_writesSide.data.toList.drop 47 = dktX3_writesSide_2 := dk_seg dksX3_writesSide_1 23 rfl rfl
theorem dksX3_writesSide_3 : cX3_writesSide.data.toList.drop 70 = dktX3_writesSide_3 := dk_seg dksX3_writesSide_2 23 rfl rfl
theorem dX3_writesSide_0 : decode cX3_writesSide 0 = .ok (.iconst 0, 1) := dk_3 (dk_at dksX3_writesSide_0 0 rfl rfl)
theorem dX3_writesSide_1 : decode cX3_writesSide 1 = .ok (.istore_n 2, 1) := dk_61 (dk_at dksX3_writesSide_0 1 rfl rfl)
theorem dX3_writesSide_2 : decode cX3_writesSide 2 = .ok (.aload_n 0, 1) := dk_42 (dk_at dksX3_writesSide_0 2 rfl rfl)
theorem dX3_writesSide_3 : decode cX3_writesSide 3 = .ok (.iload_n 1, 1) := dk_27 (dk_at dksX3_writesSide_0 3 rfl rfl)
theorem dX3_writesSide_4 : decode cX3_writesSide 4 = .ok (.iconst 0, 1) := dk_3 (dk_at dksX3_writesSide_0 4 rfl rfl)
theorem dX3_writesSide_5 : decode cX3_writesSide 5 = .ok (.invokevirtual 181, 3) := dk_182 0 181 (dk_at dksX3_writesSide_0 5 rfl rfl)
theorem dX3_writesSide_8 : decode cX3_writesSide 8 = .ok (.istore_n 3, 1) := dk_62 (dk_at dksX3_writesSide_0 8 rfl rfl)
theorem dX3_writesSide_9 : decode cX3_writesSide 9 = .ok (.iload_n 3, 1) := dk_29 (dk_at dksX3_writesSide_0 9 rfl rfl)
theorem dX3_writesSide_10 : decode cX3_writesSide 10 = .ok (.iconst (-1), 1) := dk_2 (dk_at dksX3_writesSide_0 10 rfl rfl)
theorem dX3_writesSide_11 : decode cX3_writesSide 11 = .ok (.if_icmp .eq 62, 3) := dk_159 0 62 (dk_at dksX3_writesSide_0 11 rfl rfl)
theorem dX3_writesSide_14 : decode cX3_writesSide 14 = .ok (.iload_n 2, 1) := dk_28 (dk_at dksX3_writesSide_0 14 rfl rfl)
theorem dX3_writesSide_15 : decode cX3_writesSide 15 = .ok (.ifCond .le 9, 3) := dk_158 0 9 (dk_at dksX3_writesSide_0 15 rfl rfl)
theorem dX3_writesSide_18 : decode cX3_writesSide 18 = .ok (.aload_n 0, 1) := dk_42 (dk_at dksX3_writesSide_0 18 rfl rfl)
theorem dX3_writesSide_19 : decode cX3_writesSide 19 = .ok (.bipush 32, 2) := dk_16 32 (dk_at dksX3_writesSide_0 19 rfl rfl)
theorem dX3_writesSide_21 : decode cX3_writesSide 21 = .ok (.invokevirtual 203, 3) := dk_182 0 203 (dk_at dksX3_writesSide_0 21 rfl rfl)
theorem dX3_writesSide_24 : decode cX3_writesSide 24 = .ok (.aload_n 0, 1) := dk_42 (dk_at dksX3_writesSide_1 0 rfl rfl)
theorem dX3_writesSide_25 : decode cX3_writesSide 25 = .ok (.aload_n 0, 1) := dk_42 (dk_at dksX3_writesSide_1 1 rfl rfl)
theorem dX3_writesSide_26 : decode cX3_writesSide 26 = .ok (.getfield 9, 3) := dk_180 0 9 (dk_at dksX3_writesSide_1 2 rfl rfl)
theorem dX3_writesSide_29 : decode cX3_writesSide 29 = .ok (.iload_n 3, 1) := dk_29 (dk_at dksX3_writesSide_1 5 rfl rfl)
theorem dX3_writesSide_30 : decode cX3_writesSide 30 = .ok (.invokestatic 61, 3) := dk_184 0 61 (dk_at dksX3_writesSide_1 6 rfl rfl)
theorem dX3_writesSide_33 : decode cX3_writesSide 33 = .ok (.iconst 4, 1) := dk_7 (dk_at dksX3_writesSide_1 9 rfl rfl)
theorem dX3_writesSide_34 : decode cX3_writesSide 34 = .ok (.iadd, 1) := dk_96 (dk_at dksX3_writesSide_1 10 rfl rfl)
theorem dX3_writesSide_35 : decode cX3_writesSide 35 = .ok (.iaload, 1) := dk_46 (dk_at dksX3_writesSide_1 11 rfl rfl)
theorem dX3_writesSide_36 : decode cX3_writesSide 36 = .ok (.invokevirtual 206, 3) := dk_182 0 206 (dk_at dksX3_writesSide_1 12 rfl rfl)
theorem dX3_writesSide_39 : decode cX3_writesSide 39 = .ok (.aload_n 0, 1) := dk_42 (dk_at dksX3_writesSide_1 15 rfl rfl)
theorem dX3_writesSide_40 : decode cX3_writesSide 40 = .ok (.bipush 64, 2) := dk_16 64 (dk_at dksX3_writesSide_1 16 rfl rfl)
theorem dX3_writesSide_42 : decode cX3_writesSide 42 = .ok (.invokevirtual 203, 3) := dk_182 0 203 (dk_at dksX3_writesSide_1 18 rfl rfl)
theorem dX3_writesSide_45 : decode cX3_writesSide 45 = .ok (.aload_n 0, 1) := dk_42 (dk_at dksX3_writesSide_1 21 rfl rfl)
theorem dX3_writesSide_46 : decode cX3_writesSide 46 = .ok (.aload_n 0, 1) := dk_42 (dk_at dksX3_writesSide_1 22 rfl rfl)
theorem dX3_writesSide_47 : decode cX3_writesSide 47 = .ok (.getfield 9, 3) := dk_180 0 9 (dk_at dksX3_writesSide_2 0 rfl rfl)
theorem dX3_writesSide_50 : decode cX3_writesSide 50 = .ok (.iload_n 3, 1) := dk_29 (dk_at dksX3_writesSide_2 3 rfl rfl)
theorem dX3_writesSide_51 : decode cX3_writesSide 51 = .ok (.invokestatic 61, 3) := dk_184 0 61 (dk_at dksX3_writesSide_2 4 rfl rfl)
theorem dX3_writesSide_54 : decode cX3_writesSide 54 = .ok (.iconst 3, 1) := dk_6 (dk_at dksX3_writesSide_2 7 rfl rfl)
theorem dX3_writesSide_55 : decode cX3_writesSide 55 = .ok (.iadd, 1) := dk_96 (dk_at dksX3_writesSide_2 8 rfl rfl)
theorem dX3_writesSide_56 : decode cX3_writesSide 56 = .ok (.iaload, 1) := dk_46 (dk_at dksX3_writesSide_2 9 rfl rfl)
theorem dX3_writesSide_57 : decode cX3_writesSide 57 = .ok (.invokevirtual 206, 3) := dk_182 0 206 (dk_at dksX3_writesSide_2 10 rfl rfl)
theorem dX3_writesSide_60 : decode cX3_writesSide 60 = .ok (.iinc 2 1, 3) := dk_132 2 1 (dk_at dksX3_writesSide_2 13 rfl rfl)
theorem dX3_writesSide_63 : decode cX3_writesSide 63 = .ok (.aload_n 0, 1) := dk_42 (dk_at dksX3_writesSide_2 16 rfl rfl)
theorem dX3_writesSide_64 : decode cX3_writesSide 64 = .ok (.iload_n 1, 1) := dk_27 (dk_at dksX3_writesSide_2 17 rfl rfl)
theorem dX3_writesSide_65 : decode cX3_writesSide 65 = .ok (.iload_n 2, 1) := dk_28 (dk_at dksX3_writesSide_2 18 rfl rfl)
theorem dX3_writesSide_66 : decode cX3_writesSide 66 = .ok (.invokevirtual 181, 3) := dk_182 0 181 (dk_at dksX3_writesSide_2 19 rfl rfl)
theorem dX3_writesSide_69 : decode cX3_writesSide 69 = .ok (.istore_n 3, 1) := dk_62 (dk_at dksX3_writesSide_2 22 rfl rfl)
theorem dX3_writesSide_70 : decode cX3_writesSide 70 = .ok (.goto (-61), 3) := dk_167 255 195 (dk_at dksX3_writesSide_3 0 rfl rfl)
theorem dX3_writesSide_73 : decode cX3_writesSide 73 = .ok (.return_, 1) := dk_177 (dk_at dksX3_writesSide_3 3 rfl rfl)
abbrev cX3_sign : ByteArray := prog_15_method_82_code
def yX3_sign : MethodName := ⟨RX3, "sign", "(I)V"⟩
def dkwX3_sign_0 : List UInt8 := [42, 180, 0, 32, 42, 180, 0, 200, 27, 79, 42, 89, 180, 0, 200, 4, 96, 181, 0, 200, 177]
abbrev dktX3_sign_0 : List UInt8 := dkwX3_sign_0 ++ []
theorem dksX3_sign_0 : cX3_sign.data.toList.drop 0 = dktX3_sign_0 := by decide +kernel
theorem dX3_sign_0 : decode cX3_sign 0 = .ok (.aload_n 0, 1) := dk_42 (dk_at dksX3_sign_0 0 rfl rfl)
theorem dX3_sign_1 : decode cX3_sign 1 = .ok (.getfield 32, 3) := dk_180 0 32 (dk_at dksX3_sign_0 1 rfl rfl)
theorem dX3_sign_4 : decode cX3_sign 4 = .ok (.aload_n 0, 1) := dk_42 (dk_at dksX3_sign_0 4 rfl rfl)
theorem dX3_sign_5 : decode cX3_sign 5 = .ok (.getfield 200, 3) := dk_180 0 200 (dk_at dksX3_sign_0 5 rfl rfl)
theorem dX3_sign_8 : decode cX3_sign 8 = .ok (.iload_n 1, 1) := dk_27 (dk_at dksX3_sign_0 8 rfl rfl)
theorem dX3_sign_9 : decode cX3_sign 9 = .ok (.iastore, 1) := dk_79 (dk_at dksX3_sign_0 9 rfl rfl)
theorem dX3_sign_10 : decode cX3_sign 10 = .ok (.aload_n 0, 1) := dk_42 (dk_at dksX3_sign_0 10 rfl rfl)
theorem dX3_sign_11 : decode cX3_sign 11 = .ok (.dup, 1) := dk_89 (dk_at dksX3_sign_0 11 rfl rfl)
theorem dX3_sign_12 : decode cX3_sign 12 = .ok (.getfield 200, 3) := dk_180 0 200 (dk_at dksX3_sign_0 12 rfl rfl)
theorem dX3_sign_15 : decode cX3_sign 15 = .ok (.iconst 1, 1) := dk_4 (dk_at dksX3_sign_0 15 rfl rfl)
theorem dX3_sign_16 : decode cX3_sign 16 = .ok (.iadd, 1) := dk_96 (dk_at dksX3_sign_0 16 rfl rfl)
theorem dX3_sign_17 : decode cX3_sign 17 = .ok (.putfield 200, 3) := dk_181 0 200 (dk_at dksX3_sign_0 17 rfl rfl)
theorem dX3_sign_20 : decode cX3_sign 20 = .ok (.return_, 1) := dk_177 (dk_at dksX3_sign_0 20 rfl rfl)
abbrev cX3_writesNumber : ByteArray := prog_15_method_83_code
def yX3_writesNumber : MethodName := ⟨RX3, "writesNumber", "(I)V"⟩
def dkwX3_writesNumber_1 : List UInt8 := [16, 48, 27, 28, 108, 16, 10, 112, 96, 182, 0, 203, 28, 16, 10, 108, 61, 167, 255, 234, 177]
abbrev dktX3_writesNumber_1 : List UInt8 := dkwX3_writesNumber_1 ++ []
def dkwX3_writesNumber_0 : List UInt8 := [4, 61, 27, 28, 108, 16, 9, 164, 0, 11, 28, 16, 10, 104, 61, 167, 255, 243, 28, 158, 0, 24, 42]
abbrev dktX3_writesNumber_0 : List UInt8 := dkwX3_writesNumber_0 ++ dktX3_writesNumber_1
theorem dksX3_writesNumber_0 : cX3_writesNumber.data.toList.drop 0 = dktX3_writesNumber_0 := by decide +kernel
theorem dksX3_writesNumber_1 : cX3_writesNumber.data.toList.drop 23 = dktX3_writesNumber_1 := dk_seg dksX3_writesNumber_0 23 rfl rfl
theorem dX3_writesNumber_0 : decode cX3_writesNumber 0 = .ok (.iconst 1, 1) := dk_4 (dk_at dksX3_writesNumber_0 0 rfl rfl)
theorem dX3_writesNumber_1 : decode cX3_writesNumber 1 = .ok (.istore_n 2, 1) := dk_61 (dk_at dksX3_writesNumber_0 1 rfl rfl)
theorem dX3_writesNumber_2 : decode cX3_writesNumber 2 = .ok (.iload_n 1, 1) := dk_27 (dk_at dksX3_writesNumber_0 2 rfl rfl)
theorem dX3_writesNumber_3 : decode cX3_writesNumber 3 = .ok (.iload_n 2, 1) := dk_28 (dk_at dksX3_writesNumber_0 3 rfl rfl)
theorem dX3_writesNumber_4 : decode cX3_writesNumber 4 = .ok (.idiv, 1) := dk_108 (dk_at dksX3_writesNumber_0 4 rfl rfl)
theorem dX3_writesNumber_5 : decode cX3_writesNumber 5 = .ok (.bipush 9, 2) := dk_16 9 (dk_at dksX3_writesNumber_0 5 rfl rfl)
theorem dX3_writesNumber_7 : decode cX3_writesNumber 7 = .ok (.if_icmp .le 11, 3) := dk_164 0 11 (dk_at dksX3_writesNumber_0 7 rfl rfl)
theorem dX3_writesNumber_10 : decode cX3_writesNumber 10 = .ok (.iload_n 2, 1) := dk_28 (dk_at dksX3_writesNumber_0 10 rfl rfl)
theorem dX3_writesNumber_11 : decode cX3_writesNumber 11 = .ok (.bipush 10, 2) := dk_16 10 (dk_at dksX3_writesNumber_0 11 rfl rfl)
theorem dX3_writesNumber_13 : decode cX3_writesNumber 13 = .ok (.imul, 1) := dk_104 (dk_at dksX3_writesNumber_0 13 rfl rfl)
theorem dX3_writesNumber_14 : decode cX3_writesNumber 14 = .ok (.istore_n 2, 1) := dk_61 (dk_at dksX3_writesNumber_0 14 rfl rfl)
theorem dX3_writesNumber_15 : decode cX3_writesNumber 15 = .ok (.goto (-13), 3) := dk_167 255 243 (dk_at dksX3_writesNumber_0 15 rfl rfl)
theorem dX3_writesNumber_18 : decode cX3_writesNumber 18 = .ok (.iload_n 2, 1) := dk_28 (dk_at dksX3_writesNumber_0 18 rfl rfl)
theorem dX3_writesNumber_19 : decode cX3_writesNumber 19 = .ok (.ifCond .le 24, 3) := dk_158 0 24 (dk_at dksX3_writesNumber_0 19 rfl rfl)
theorem dX3_writesNumber_22 : decode cX3_writesNumber 22 = .ok (.aload_n 0, 1) := dk_42 (dk_at dksX3_writesNumber_0 22 rfl rfl)
theorem dX3_writesNumber_23 : decode cX3_writesNumber 23 = .ok (.bipush 48, 2) := dk_16 48 (dk_at dksX3_writesNumber_1 0 rfl rfl)
theorem dX3_writesNumber_25 : decode cX3_writesNumber 25 = .ok (.iload_n 1, 1) := dk_27 (dk_at dksX3_writesNumber_1 2 rfl rfl)
theorem dX3_writesNumber_26 : decode cX3_writesNumber 26 = .ok (.iload_n 2, 1) := dk_28 (dk_at dksX3_writesNumber_1 3 rfl rfl)
theorem dX3_writesNumber_27 : decode cX3_writesNumber 27 = .ok (.idiv, 1) := dk_108 (dk_at dksX3_writesNumber_1 4 rfl rfl)
theorem dX3_writesNumber_28 : decode cX3_writesNumber 28 = .ok (.bipush 10, 2) := dk_16 10 (dk_at dksX3_writesNumber_1 5 rfl rfl)
theorem dX3_writesNumber_30 : decode cX3_writesNumber 30 = .ok (.irem, 1) := dk_112 (dk_at dksX3_writesNumber_1 7 rfl rfl)
theorem dX3_writesNumber_31 : decode cX3_writesNumber 31 = .ok (.iadd, 1) := dk_96 (dk_at dksX3_writesNumber_1 8 rfl rfl)
theorem dX3_writesNumber_32 : decode cX3_writesNumber 32 = .ok (.invokevirtual 203, 3) := dk_182 0 203 (dk_at dksX3_writesNumber_1 9 rfl rfl)
theorem dX3_writesNumber_35 : decode cX3_writesNumber 35 = .ok (.iload_n 2, 1) := dk_28 (dk_at dksX3_writesNumber_1 12 rfl rfl)
theorem dX3_writesNumber_36 : decode cX3_writesNumber 36 = .ok (.bipush 10, 2) := dk_16 10 (dk_at dksX3_writesNumber_1 13 rfl rfl)
theorem dX3_writesNumber_38 : decode cX3_writesNumber 38 = .ok (.idiv, 1) := dk_108 (dk_at dksX3_writesNumber_1 15 rfl rfl)
theorem dX3_writesNumber_39 : decode cX3_writesNumber 39 = .ok (.istore_n 2, 1) := dk_61 (dk_at dksX3_writesNumber_1 16 rfl rfl)
theorem dX3_writesNumber_40 : decode cX3_writesNumber 40 = .ok (.goto (-22), 3) := dk_167 255 234 (dk_at dksX3_writesNumber_1 17 rfl rfl)
theorem dX3_writesNumber_43 : decode cX3_writesNumber 43 = .ok (.return_, 1) := dk_177 (dk_at dksX3_writesNumber_1 20 rfl rfl)
abbrev cX3_writeTrader : ByteArray := prog_15_method_87_code
def yX3_writeTrader : MethodName := ⟨RX3, "writeTrader", "(I)I"⟩
def dkwX3_writeTrader_5 : List UInt8 := [28, 96, 182, 0, 203, 132, 2, 1, 167, 255, 215, 42, 180, 0, 200, 172]
abbrev dktX3_writeTrader_5 : List UInt8 := dkwX3_writeTrader_5 ++ []
def dkwX3_writeTrader_4 : List UInt8 := [16, 13, 28, 96, 46, 27, 160, 0, 23, 42, 16, 32, 182, 0, 203, 42, 16, 118, 182, 0, 203, 42, 16, 48]
abbrev dktX3_writeTrader_4 : List UInt8 := dkwX3_writeTrader_4 ++ dktX3_writeTrader_5
def dkwX3_writeTrader_3 : List UInt8 := [182, 0, 206, 42, 42, 27, 3, 182, 0, 174, 182, 0, 213, 3, 61, 28, 7, 162, 0, 42, 42, 180, 0, 9]
abbrev dktX3_writeTrader_3 : List UInt8 := dkwX3_writeTrader_3 ++ dktX3_writeTrader_4
def dkwX3_writeTrader_2 : List UInt8 := [16, 32, 182, 0, 203, 42, 16, 119, 182, 0, 203, 42, 42, 180, 0, 9, 27, 184, 0, 78, 4, 96, 46]
abbrev dktX3_writeTrader_2 : List UInt8 := dkwX3_writeTrader_2 ++ dktX3_writeTrader_3
def dkwX3_writeTrader_1 : List UInt8 := [42, 42, 180, 0, 9, 27, 184, 0, 78, 46, 182, 0, 206, 42, 42, 27, 4, 182, 0, 174, 182, 0, 213, 42]
abbrev dktX3_writeTrader_1 : List UInt8 := dkwX3_writeTrader_1 ++ dktX3_writeTrader_2
def dkwX3_writeTrader_0 : List UInt8 := [42, 3, 181, 0, 45, 42, 27, 182, 0, 95, 154, 0, 9, 42, 4, 182, 0, 75, 172, 42, 3, 181, 0, 200]
abbrev dktX3_writeTrader_0 : List UInt8 := dkwX3_writeTrader_0 ++ dktX3_writeTrader_1
theorem dksX3_writeTrader_0 : cX3_writeTrader.data.toList.drop 0 = dktX3_writeTrader_0 := by decide +kernel
theorem dksX3_writeTrader_1 : cX3_writeTrader.data.toList.drop 24 = dktX3_writeTrader_1 := dk_seg dksX3_writeTrader_0 24 rfl rfl
theorem dksX3_writeTrader_2 : cX3_writeTrader.data.toList.drop 48 = dktX3_writeTrader_2 := dk_seg dksX3_writeTrader_1 24 rfl rfl
theorem dksX3_writeTrader_3 : cX3_writeTrader.data.toList.drop 71 = dktX3_writeTrader_3 := dk_seg dksX3_writeTrader_2 23 rfl rfl
theorem dksX3_writeTrader_4 : cX3_writeTrader.data.toList.drop 95 = dktX3_writeTrader_4 := dk_seg dksX3_writeTrader_3 24 rfl rfl
theorem dksX3_writeTrader_5 : cX3_writeTrader.data.toList.drop 119 = dktX3_writeTrader_5 := dk_seg dksX3_writeTrader_4 24 rfl rfl
theorem dX3_writeTrader_0 : decode cX3_writeTrader 0 = .ok (.aload_n 0, 1) := dk_42 (dk_at dksX3_writeTrader_0 0 rfl rfl)
theorem dX3_writeTrader_1 : decode cX3_writeTrader 1 = .ok (.iconst 0, 1) := dk_3 (dk_at dksX3_writeTrader_0 1 rfl rfl)
theorem dX3_writeTrader_2 : decode cX3_writeTrader 2 = .ok (.putfield 45, 3) := dk_181 0 45 (dk_at dksX3_writeTrader_0 2 rfl rfl)
theorem dX3_writeTrader_5 : decode cX3_writeTrader 5 = .ok (.aload_n 0, 1) := dk_42 (dk_at dksX3_writeTrader_0 5 rfl rfl)
theorem dX3_writeTrader_6 : decode cX3_writeTrader 6 = .ok (.iload_n 1, 1) := dk_27 (dk_at dksX3_writeTrader_0 6 rfl rfl)
theorem dX3_writeTrader_7 : decode cX3_writeTrader 7 = .ok (.invokevirtual 95, 3) := dk_182 0 95 (dk_at dksX3_writeTrader_0 7 rfl rfl)
theorem dX3_writeTrader_10 : decode cX3_writeTrader 10 = .ok (.ifCond .ne 9, 3) := dk_154 0 9 (dk_at dksX3_writeTrader_0 10 rfl rfl)
theorem dX3_writeTrader_13 : decode cX3_writeTrader 13 = .ok (.aload_n 0, 1) := dk_42 (dk_at dksX3_writeTrader_0 13 rfl rfl)
theorem dX3_writeTrader_14 : decode cX3_writeTrader 14 = .ok (.iconst 1, 1) := dk_4 (dk_at dksX3_writeTrader_0 14 rfl rfl)
theorem dX3_writeTrader_15 : decode cX3_writeTrader 15 = .ok (.invokevirtual 75, 3) := dk_182 0 75 (dk_at dksX3_writeTrader_0 15 rfl rfl)
theorem dX3_writeTrader_18 : decode cX3_writeTrader 18 = .ok (.ireturn, 1) := dk_172 (dk_at dksX3_writeTrader_0 18 rfl rfl)
theorem dX3_writeTrader_19 : decode cX3_writeTrader 19 = .ok (.aload_n 0, 1) := dk_42 (dk_at dksX3_writeTrader_0 19 rfl rfl)
theorem dX3_writeTrader_20 : decode cX3_writeTrader 20 = .ok (.iconst 0, 1) := dk_3 (dk_at dksX3_writeTrader_0 20 rfl rfl)
theorem dX3_writeTrader_21 : decode cX3_writeTrader 21 = .ok (.putfield 200, 3) := dk_181 0 200 (dk_at dksX3_writeTrader_0 21 rfl rfl)
theorem dX3_writeTrader_24 : decode cX3_writeTrader 24 = .ok (.aload_n 0, 1) := dk_42 (dk_at dksX3_writeTrader_1 0 rfl rfl)
theorem dX3_writeTrader_25 : decode cX3_writeTrader 25 = .ok (.aload_n 0, 1) := dk_42 (dk_at dksX3_writeTrader_1 1 rfl rfl)
theorem dX3_writeTrader_26 : decode cX3_writeTrader 26 = .ok (.getfield 9, 3) := dk_180 0 9 (dk_at dksX3_writeTrader_1 2 rfl rfl)
theorem dX3_writeTrader_29 : decode cX3_writeTrader 29 = .ok (.iload_n 1, 1) := dk_27 (dk_at dksX3_writeTrader_1 5 rfl rfl)
theorem dX3_writeTrader_30 : decode cX3_writeTrader 30 = .ok (.invokestatic 78, 3) := dk_184 0 78 (dk_at dksX3_writeTrader_1 6 rfl rfl)
theorem dX3_writeTrader_33 : decode cX3_writeTrader 33 = .ok (.iaload, 1) := dk_46 (dk_at dksX3_writeTrader_1 9 rfl rfl)
theorem dX3_writeTrader_34 : decode cX3_writeTrader 34 = .ok (.invokevirtual 206, 3) := dk_182 0 206 (dk_at dksX3_writeTrader_1 10 rfl rfl)
theorem dX3_writeTrader_37 : decode cX3_writeTrader 37 = .ok (.aload_n 0, 1) := dk_42 (dk_at dksX3_writeTrader_1 13 rfl rfl)
theorem dX3_writeTrader_38 : decode cX3_writeTrader 38 = .ok (.aload_n 0, 1) := dk_42 (dk_at dksX3_writeTrader_1 14 rfl rfl)
theorem dX3_writeTrader_39 : decode cX3_writeTrader 39 = .ok (.iload_n 1, 1) := dk_27 (dk_at dksX3_writeTrader_1 15 rfl rfl)
theorem dX3_writeTrader_40 : decode cX3_writeTrader 40 = .ok (.iconst 1, 1) := dk_4 (dk_at dksX3_writeTrader_1 16 rfl rfl)
theorem dX3_writeTrader_41 : decode cX3_writeTrader 41 = .ok (.invokevirtual 174, 3) := dk_182 0 174 (dk_at dksX3_writeTrader_1 17 rfl rfl)
theorem dX3_writeTrader_44 : decode cX3_writeTrader 44 = .ok (.invokevirtual 213, 3) := dk_182 0 213 (dk_at dksX3_writeTrader_1 20 rfl rfl)
theorem dX3_writeTrader_47 : decode cX3_writeTrader 47 = .ok (.aload_n 0, 1) := dk_42 (dk_at dksX3_writeTrader_1 23 rfl rfl)
theorem dX3_writeTrader_48 : decode cX3_writeTrader 48 = .ok (.bipush 32, 2) := dk_16 32 (dk_at dksX3_writeTrader_2 0 rfl rfl)
theorem dX3_writeTrader_50 : decode cX3_writeTrader 50 = .ok (.invokevirtual 203, 3) := dk_182 0 203 (dk_at dksX3_writeTrader_2 2 rfl rfl)
theorem dX3_writeTrader_53 : decode cX3_writeTrader 53 = .ok (.aload_n 0, 1) := dk_42 (dk_at dksX3_writeTrader_2 5 rfl rfl)
theorem dX3_writeTrader_54 : decode cX3_writeTrader 54 = .ok (.bipush 119, 2) := dk_16 119 (dk_at dksX3_writeTrader_2 6 rfl rfl)
theorem dX3_writeTrader_56 : decode cX3_writeTrader 56 = .ok (.invokevirtual 203, 3) := dk_182 0 203 (dk_at dksX3_writeTrader_2 8 rfl rfl)
theorem dX3_writeTrader_59 : decode cX3_writeTrader 59 = .ok (.aload_n 0, 1) := dk_42 (dk_at dksX3_writeTrader_2 11 rfl rfl)
theorem dX3_writeTrader_60 : decode cX3_writeTrader 60 = .ok (.aload_n 0, 1) := dk_42 (dk_at dksX3_writeTrader_2 12 rfl rfl)
theorem dX3_writeTrader_61 : decode cX3_writeTrader 61 = .ok (.getfield 9, 3) := dk_180 0 9 (dk_at dksX3_writeTrader_2 13 rfl rfl)
theorem dX3_writeTrader_64 : decode cX3_writeTrader 64 = .ok (.iload_n 1, 1) := dk_27 (dk_at dksX3_writeTrader_2 16 rfl rfl)
theorem dX3_writeTrader_65 : decode cX3_writeTrader 65 = .ok (.invokestatic 78, 3) := dk_184 0 78 (dk_at dksX3_writeTrader_2 17 rfl rfl)
theorem dX3_writeTrader_68 : decode cX3_writeTrader 68 = .ok (.iconst 1, 1) := dk_4 (dk_at dksX3_writeTrader_2 20 rfl rfl)
theorem dX3_writeTrader_69 : decode cX3_writeTrader 69 = .ok (.iadd, 1) := dk_96 (dk_at dksX3_writeTrader_2 21 rfl rfl)
theorem dX3_writeTrader_70 : decode cX3_writeTrader 70 = .ok (.iaload, 1) := dk_46 (dk_at dksX3_writeTrader_2 22 rfl rfl)
theorem dX3_writeTrader_71 : decode cX3_writeTrader 71 = .ok (.invokevirtual 206, 3) := dk_182 0 206 (dk_at dksX3_writeTrader_3 0 rfl rfl)
theorem dX3_writeTrader_74 : decode cX3_writeTrader 74 = .ok (.aload_n 0, 1) := dk_42 (dk_at dksX3_writeTrader_3 3 rfl rfl)
theorem dX3_writeTrader_75 : decode cX3_writeTrader 75 = .ok (.aload_n 0, 1) := dk_42 (dk_at dksX3_writeTrader_3 4 rfl rfl)
theorem dX3_writeTrader_76 : decode cX3_writeTrader 76 = .ok (.iload_n 1, 1) := dk_27 (dk_at dksX3_writeTrader_3 5 rfl rfl)
theorem dX3_writeTrader_77 : decode cX3_writeTrader 77 = .ok (.iconst 0, 1) := dk_3 (dk_at dksX3_writeTrader_3 6 rfl rfl)
theorem dX3_writeTrader_78 : decode cX3_writeTrader 78 = .ok (.invokevirtual 174, 3) := dk_182 0 174 (dk_at dksX3_writeTrader_3 7 rfl rfl)
theorem dX3_writeTrader_81 : decode cX3_writeTrader 81 = .ok (.invokevirtual 213, 3) := dk_182 0 213 (dk_at dksX3_writeTrader_3 10 rfl rfl)
theorem dX3_writeTrader_84 : decode cX3_writeTrader 84 = .ok (.iconst 0, 1) := dk_3 (dk_at dksX3_writeTrader_3 13 rfl rfl)
theorem dX3_writeTrader_85 : decode cX3_writeTrader 85 = .ok (.istore_n 2, 1) := dk_61 (dk_at dksX3_writeTrader_3 14 rfl rfl)
theorem dX3_writeTrader_86 : decode cX3_writeTrader 86 = .ok (.iload_n 2, 1) := dk_28 (dk_at dksX3_writeTrader_3 15 rfl rfl)
theorem dX3_writeTrader_87 : decode cX3_writeTrader 87 = .ok (.iconst 4, 1) := dk_7 (dk_at dksX3_writeTrader_3 16 rfl rfl)
theorem dX3_writeTrader_88 : decode cX3_writeTrader 88 = .ok (.if_icmp .ge 42, 3) := dk_162 0 42 (dk_at dksX3_writeTrader_3 17 rfl rfl)
theorem dX3_writeTrader_91 : decode cX3_writeTrader 91 = .ok (.aload_n 0, 1) := dk_42 (dk_at dksX3_writeTrader_3 20 rfl rfl)
theorem dX3_writeTrader_92 : decode cX3_writeTrader 92 = .ok (.getfield 9, 3) := dk_180 0 9 (dk_at dksX3_writeTrader_3 21 rfl rfl)
theorem dX3_writeTrader_95 : decode cX3_writeTrader 95 = .ok (.bipush 13, 2) := dk_16 13 (dk_at dksX3_writeTrader_4 0 rfl rfl)
theorem dX3_writeTrader_97 : decode cX3_writeTrader 97 = .ok (.iload_n 2, 1) := dk_28 (dk_at dksX3_writeTrader_4 2 rfl rfl)
theorem dX3_writeTrader_98 : decode cX3_writeTrader 98 = .ok (.iadd, 1) := dk_96 (dk_at dksX3_writeTrader_4 3 rfl rfl)
theorem dX3_writeTrader_99 : decode cX3_writeTrader 99 = .ok (.iaload, 1) := dk_46 (dk_at dksX3_writeTrader_4 4 rfl rfl)
theorem dX3_writeTrader_100 : decode cX3_writeTrader 100 = .ok (.iload_n 1, 1) := dk_27 (dk_at dksX3_writeTrader_4 5 rfl rfl)
theorem dX3_writeTrader_101 : decode cX3_writeTrader 101 = .ok (.if_icmp .ne 23, 3) := dk_160 0 23 (dk_at dksX3_writeTrader_4 6 rfl rfl)
theorem dX3_writeTrader_104 : decode cX3_writeTrader 104 = .ok (.aload_n 0, 1) := dk_42 (dk_at dksX3_writeTrader_4 9 rfl rfl)
theorem dX3_writeTrader_105 : decode cX3_writeTrader 105 = .ok (.bipush 32, 2) := dk_16 32 (dk_at dksX3_writeTrader_4 10 rfl rfl)
theorem dX3_writeTrader_107 : decode cX3_writeTrader 107 = .ok (.invokevirtual 203, 3) := dk_182 0 203 (dk_at dksX3_writeTrader_4 12 rfl rfl)
theorem dX3_writeTrader_110 : decode cX3_writeTrader 110 = .ok (.aload_n 0, 1) := dk_42 (dk_at dksX3_writeTrader_4 15 rfl rfl)
theorem dX3_writeTrader_111 : decode cX3_writeTrader 111 = .ok (.bipush 118, 2) := dk_16 118 (dk_at dksX3_writeTrader_4 16 rfl rfl)
theorem dX3_writeTrader_113 : decode cX3_writeTrader 113 = .ok (.invokevirtual 203, 3) := dk_182 0 203 (dk_at dksX3_writeTrader_4 18 rfl rfl)
theorem dX3_writeTrader_116 : decode cX3_writeTrader 116 = .ok (.aload_n 0, 1) := dk_42 (dk_at dksX3_writeTrader_4 21 rfl rfl)
theorem dX3_writeTrader_117 : decode cX3_writeTrader 117 = .ok (.bipush 48, 2) := dk_16 48 (dk_at dksX3_writeTrader_4 22 rfl rfl)
theorem dX3_writeTrader_119 : decode cX3_writeTrader 119 = .ok (.iload_n 2, 1) := dk_28 (dk_at dksX3_writeTrader_5 0 rfl rfl)
theorem dX3_writeTrader_120 : decode cX3_writeTrader 120 = .ok (.iadd, 1) := dk_96 (dk_at dksX3_writeTrader_5 1 rfl rfl)
theorem dX3_writeTrader_121 : decode cX3_writeTrader 121 = .ok (.invokevirtual 203, 3) := dk_182 0 203 (dk_at dksX3_writeTrader_5 2 rfl rfl)
theorem dX3_writeTrader_124 : decode cX3_writeTrader 124 = .ok (.iinc 2 1, 3) := dk_132 2 1 (dk_at dksX3_writeTrader_5 5 rfl rfl)
theorem dX3_writeTrader_127 : decode cX3_writeTrader 127 = .ok (.goto (-41), 3) := dk_167 255 215 (dk_at dksX3_writeTrader_5 8 rfl rfl)
theorem dX3_writeTrader_130 : decode cX3_writeTrader 130 = .ok (.aload_n 0, 1) := dk_42 (dk_at dksX3_writeTrader_5 11 rfl rfl)
theorem dX3_writeTrader_131 : decode cX3_writeTrader 131 = .ok (.getfield 200, 3) := dk_180 0 200 (dk_at dksX3_writeTrader_5 12 rfl rfl)
theorem dX3_writeTrader_134 : decode cX3_writeTrader 134 = .ok (.ireturn, 1) := dk_172 (dk_at dksX3_writeTrader_5 15 rfl rfl)
abbrev cX3_writesReserved : ByteArray := prog_15_method_86_code
def yX3_writesReserved : MethodName := ⟨RX3, "writesReserved", "(I)V"⟩
def dkwX3_writesReserved_0 : List UInt8 := [27, 158, 0, 14, 42, 16, 43, 182, 0, 203, 42, 27, 182, 0, 206, 177]
abbrev dktX3_writesReserved_0 : List UInt8 := dkwX3_writesReserved_0 ++ []
theorem dksX3_writesReserved_0 : cX3_writesReserved.data.toList.drop 0 = dktX3_writesReserved_0 := by decide +kernel
theorem dX3_writesReserved_0 : decode cX3_writesReserved 0 = .ok (.iload_n 1, 1) := dk_27 (dk_at dksX3_writesReserved_0 0 rfl rfl)
theorem dX3_writesReserved_1 : decode cX3_writesReserved 1 = .ok (.ifCond .le 14, 3) := dk_158 0 14 (dk_at dksX3_writesReserved_0 1 rfl rfl)
theorem dX3_writesReserved_4 : decode cX3_writesReserved 4 = .ok (.aload_n 0, 1) := dk_42 (dk_at dksX3_writesReserved_0 4 rfl rfl)
theorem dX3_writesReserved_5 : decode cX3_writesReserved 5 = .ok (.bipush 43, 2) := dk_16 43 (dk_at dksX3_writesReserved_0 5 rfl rfl)
theorem dX3_writesReserved_7 : decode cX3_writesReserved 7 = .ok (.invokevirtual 203, 3) := dk_182 0 203 (dk_at dksX3_writesReserved_0 7 rfl rfl)
theorem dX3_writesReserved_10 : decode cX3_writesReserved 10 = .ok (.aload_n 0, 1) := dk_42 (dk_at dksX3_writesReserved_0 10 rfl rfl)
theorem dX3_writesReserved_11 : decode cX3_writesReserved 11 = .ok (.iload_n 1, 1) := dk_27 (dk_at dksX3_writesReserved_0 11 rfl rfl)
theorem dX3_writesReserved_12 : decode cX3_writesReserved 12 = .ok (.invokevirtual 206, 3) := dk_182 0 206 (dk_at dksX3_writesReserved_0 12 rfl rfl)
theorem dX3_writesReserved_15 : decode cX3_writesReserved 15 = .ok (.return_, 1) := dk_177 (dk_at dksX3_writesReserved_0 15 rfl rfl)
abbrev cX3_charAt : ByteArray := prog_15_method_88_code
def yX3_charAt : MethodName := ⟨RX3, "charAt", "(I)C"⟩
def dkwX3_charAt_1 : List UInt8 := [180, 0, 32, 27, 46, 146, 167, 0, 9, 42, 4, 182, 0, 75, 146, 172]
abbrev dktX3_charAt_1 : List UInt8 := dkwX3_charAt_1 ++ []
def dkwX3_charAt_0 : List UInt8 := [42, 3, 181, 0, 45, 27, 133, 9, 42, 180, 0, 200, 4, 100, 133, 184, 0, 51, 153, 0, 13, 42]
abbrev dktX3_charAt_0 : List UInt8 := dkwX3_charAt_0 ++ dktX3_charAt_1
theorem dksX3_charAt_0 : cX3_charAt.data.toList.drop 0 = dktX3_charAt_0 := by decide +kernel
theorem dksX3_charAt_1 : cX3_charAt.data.toList.drop 22 = dktX3_charAt_1 := dk_seg dksX3_charAt_0 22 rfl rfl
theorem dX3_charAt_0 : decode cX3_charAt 0 = .ok (.aload_n 0, 1) := dk_42 (dk_at dksX3_charAt_0 0 rfl rfl)
theorem dX3_charAt_1 : decode cX3_charAt 1 = .ok (.iconst 0, 1) := dk_3 (dk_at dksX3_charAt_0 1 rfl rfl)
theorem dX3_charAt_2 : decode cX3_charAt 2 = .ok (.putfield 45, 3) := dk_181 0 45 (dk_at dksX3_charAt_0 2 rfl rfl)
theorem dX3_charAt_5 : decode cX3_charAt 5 = .ok (.iload_n 1, 1) := dk_27 (dk_at dksX3_charAt_0 5 rfl rfl)
theorem dX3_charAt_6 : decode cX3_charAt 6 = .ok (.i2l, 1) := dk_133 (dk_at dksX3_charAt_0 6 rfl rfl)
theorem dX3_charAt_7 : decode cX3_charAt 7 = .ok (.lconst 0, 1) := dk_9 (dk_at dksX3_charAt_0 7 rfl rfl)
theorem dX3_charAt_8 : decode cX3_charAt 8 = .ok (.aload_n 0, 1) := dk_42 (dk_at dksX3_charAt_0 8 rfl rfl)
theorem dX3_charAt_9 : decode cX3_charAt 9 = .ok (.getfield 200, 3) := dk_180 0 200 (dk_at dksX3_charAt_0 9 rfl rfl)
theorem dX3_charAt_12 : decode cX3_charAt 12 = .ok (.iconst 1, 1) := dk_4 (dk_at dksX3_charAt_0 12 rfl rfl)
theorem dX3_charAt_13 : decode cX3_charAt 13 = .ok (.isub, 1) := dk_100 (dk_at dksX3_charAt_0 13 rfl rfl)
theorem dX3_charAt_14 : decode cX3_charAt 14 = .ok (.i2l, 1) := dk_133 (dk_at dksX3_charAt_0 14 rfl rfl)
theorem dX3_charAt_15 : decode cX3_charAt 15 = .ok (.invokestatic 51, 3) := dk_184 0 51 (dk_at dksX3_charAt_0 15 rfl rfl)
theorem dX3_charAt_18 : decode cX3_charAt 18 = .ok (.ifCond .eq 13, 3) := dk_153 0 13 (dk_at dksX3_charAt_0 18 rfl rfl)
theorem dX3_charAt_21 : decode cX3_charAt 21 = .ok (.aload_n 0, 1) := dk_42 (dk_at dksX3_charAt_0 21 rfl rfl)
theorem dX3_charAt_22 : decode cX3_charAt 22 = .ok (.getfield 32, 3) := dk_180 0 32 (dk_at dksX3_charAt_1 0 rfl rfl)
theorem dX3_charAt_25 : decode cX3_charAt 25 = .ok (.iload_n 1, 1) := dk_27 (dk_at dksX3_charAt_1 3 rfl rfl)
theorem dX3_charAt_26 : decode cX3_charAt 26 = .ok (.iaload, 1) := dk_46 (dk_at dksX3_charAt_1 4 rfl rfl)
theorem dX3_charAt_27 : decode cX3_charAt 27 = .ok (.i2c, 1) := dk_146 (dk_at dksX3_charAt_1 5 rfl rfl)
theorem dX3_charAt_28 : decode cX3_charAt 28 = .ok (.goto 9, 3) := dk_167 0 9 (dk_at dksX3_charAt_1 6 rfl rfl)
theorem dX3_charAt_31 : decode cX3_charAt 31 = .ok (.aload_n 0, 1) := dk_42 (dk_at dksX3_charAt_1 9 rfl rfl)
theorem dX3_charAt_32 : decode cX3_charAt 32 = .ok (.iconst 1, 1) := dk_4 (dk_at dksX3_charAt_1 10 rfl rfl)
theorem dX3_charAt_33 : decode cX3_charAt 33 = .ok (.invokevirtual 75, 3) := dk_182 0 75 (dk_at dksX3_charAt_1 11 rfl rfl)
theorem dX3_charAt_36 : decode cX3_charAt 36 = .ok (.i2c, 1) := dk_146 (dk_at dksX3_charAt_1 14 rfl rfl)
theorem dX3_charAt_37 : decode cX3_charAt 37 = .ok (.ireturn, 1) := dk_172 (dk_at dksX3_charAt_1 15 rfl rfl)
abbrev cX3_type : ByteArray := prog_15_method_89_code
def yX3_type : MethodName := ⟨RX3, "type", "(C)I"⟩
def dkwX3_type_1 : List UInt8 := [42, 180, 0, 216, 27, 79, 42, 89, 180, 0, 216, 4, 96, 181, 0, 216, 42, 180, 0, 216, 172]
abbrev dktX3_type_1 : List UInt8 := dkwX3_type_1 ++ []
def dkwX3_type_0 : List UInt8 := [42, 3, 181, 0, 45, 42, 180, 0, 216, 16, 60, 160, 0, 9, 42, 4, 182, 0, 75, 172, 42, 180, 0, 29]
abbrev dktX3_type_0 : List UInt8 := dkwX3_type_0 ++ dktX3_type_1
theorem dksX3_type_0 : cX3_type.data.toList.drop 0 = dktX3_type_0 := by decide +kernel
theorem dksX3_type_1 : cX3_type.data.toList.drop 24 = dktX3_type_1 := dk_seg dksX3_type_0 24 rfl rfl
theorem dX3_type_0 : decode cX3_type 0 = .ok (.aload_n 0, 1) := dk_42 (dk_at dksX3_type_0 0 rfl rfl)
theorem dX3_type_1 : decode cX3_type 1 = .ok (.iconst 0, 1) := dk_3 (dk_at dksX3_type_0 1 rfl rfl)
theorem dX3_type_2 : decode cX3_type 2 = .ok (.putfield 45, 3) := dk_181 0 45 (dk_at dksX3_type_0 2 rfl rfl)
theorem dX3_type_5 : decode cX3_type 5 = .ok (.aload_n 0, 1) := dk_42 (dk_at dksX3_type_0 5 rfl rfl)
theorem dX3_type_6 : decode cX3_type 6 = .ok (.getfield 216, 3) := dk_180 0 216 (dk_at dksX3_type_0 6 rfl rfl)
theorem dX3_type_9 : decode cX3_type 9 = .ok (.bipush 60, 2) := dk_16 60 (dk_at dksX3_type_0 9 rfl rfl)
theorem dX3_type_11 : decode cX3_type 11 = .ok (.if_icmp .ne 9, 3) := dk_160 0 9 (dk_at dksX3_type_0 11 rfl rfl)
theorem dX3_type_14 : decode cX3_type 14 = .ok (.aload_n 0, 1) := dk_42 (dk_at dksX3_type_0 14 rfl rfl)
theorem dX3_type_15 : decode cX3_type 15 = .ok (.iconst 1, 1) := dk_4 (dk_at dksX3_type_0 15 rfl rfl)
theorem dX3_type_16 : decode cX3_type 16 = .ok (.invokevirtual 75, 3) := dk_182 0 75 (dk_at dksX3_type_0 16 rfl rfl)
theorem dX3_type_19 : decode cX3_type 19 = .ok (.ireturn, 1) := dk_172 (dk_at dksX3_type_0 19 rfl rfl)
theorem dX3_type_20 : decode cX3_type 20 = .ok (.aload_n 0, 1) := dk_42 (dk_at dksX3_type_0 20 rfl rfl)
theorem dX3_type_21 : decode cX3_type 21 = .ok (.getfield 29, 3) := dk_180 0 29 (dk_at dksX3_type_0 21 rfl rfl)
theorem dX3_type_24 : decode cX3_type 24 = .ok (.aload_n 0, 1) := dk_42 (dk_at dksX3_type_1 0 rfl rfl)
theorem dX3_type_25 : decode cX3_type 25 = .ok (.getfield 216, 3) := dk_180 0 216 (dk_at dksX3_type_1 1 rfl rfl)
theorem dX3_type_28 : decode cX3_type 28 = .ok (.iload_n 1, 1) := dk_27 (dk_at dksX3_type_1 4 rfl rfl)
theorem dX3_type_29 : decode cX3_type 29 = .ok (.iastore, 1) := dk_79 (dk_at dksX3_type_1 5 rfl rfl)
theorem dX3_type_30 : decode cX3_type 30 = .ok (.aload_n 0, 1) := dk_42 (dk_at dksX3_type_1 6 rfl rfl)
theorem dX3_type_31 : decode cX3_type 31 = .ok (.dup, 1) := dk_89 (dk_at dksX3_type_1 7 rfl rfl)
theorem dX3_type_32 : decode cX3_type 32 = .ok (.getfield 216, 3) := dk_180 0 216 (dk_at dksX3_type_1 8 rfl rfl)
theorem dX3_type_35 : decode cX3_type 35 = .ok (.iconst 1, 1) := dk_4 (dk_at dksX3_type_1 11 rfl rfl)
theorem dX3_type_36 : decode cX3_type 36 = .ok (.iadd, 1) := dk_96 (dk_at dksX3_type_1 12 rfl rfl)
theorem dX3_type_37 : decode cX3_type 37 = .ok (.putfield 216, 3) := dk_181 0 216 (dk_at dksX3_type_1 13 rfl rfl)
theorem dX3_type_40 : decode cX3_type 40 = .ok (.aload_n 0, 1) := dk_42 (dk_at dksX3_type_1 16 rfl rfl)
theorem dX3_type_41 : decode cX3_type 41 = .ok (.getfield 216, 3) := dk_180 0 216 (dk_at dksX3_type_1 17 rfl rfl)
theorem dX3_type_44 : decode cX3_type 44 = .ok (.ireturn, 1) := dk_172 (dk_at dksX3_type_1 20 rfl rfl)
abbrev cX3_run : ByteArray := prog_15_method_99_code
def yX3_run : MethodName := ⟨RX3, "run", "()I"⟩
def dkwX3_run_8 : List UInt8 := [182, 0, 88, 172]
abbrev dktX3_run_8 : List UInt8 := dkwX3_run_8 ++ []
def dkwX3_run_7 : List UInt8 := [42, 28, 181, 0, 26, 42, 5, 182, 0, 75, 172, 132, 2, 1, 167, 255, 192, 42, 42, 180, 0, 248]
abbrev dktX3_run_7 : List UInt8 := dkwX3_run_7 ++ dktX3_run_8
def dkwX3_run_6 : List UInt8 := [17, 0, 155, 162, 0, 21, 42, 180, 0, 9, 29, 42, 180, 0, 13, 29, 46, 79, 132, 3, 1, 167, 255, 234]
abbrev dktX3_run_6 : List UInt8 := dkwX3_run_6 ++ dktX3_run_7
def dkwX3_run_5 : List UInt8 := [180, 0, 248, 162, 0, 62, 42, 16, 6, 28, 104, 182, 1, 5, 42, 180, 0, 45, 158, 0, 41, 3, 62, 29]
abbrev dktX3_run_5 : List UInt8 := dkwX3_run_5 ++ dktX3_run_6
def dkwX3_run_4 : List UInt8 := [180, 0, 225, 153, 0, 17, 42, 42, 180, 0, 219, 181, 0, 22, 42, 4, 182, 0, 75, 172, 3, 61, 28, 42]
abbrev dktX3_run_4 : List UInt8 := dkwX3_run_4 ++ dktX3_run_5
def dkwX3_run_3 : List UInt8 := [42, 16, 59, 182, 0, 239, 42, 180, 0, 225, 154, 0, 7, 4, 167, 0, 4, 3, 60, 167, 255, 201, 42]
abbrev dktX3_run_3 : List UInt8 := dkwX3_run_3 ++ dktX3_run_4
def dkwX3_run_2 : List UInt8 := [154, 0, 18, 42, 180, 0, 219, 42, 180, 0, 222, 162, 0, 7, 4, 167, 0, 4, 3, 60, 27, 153, 255, 223]
abbrev dktX3_run_2 : List UInt8 := dkwX3_run_2 ++ dktX3_run_3
def dkwX3_run_1 : List UInt8 := [181, 0, 248, 42, 3, 181, 0, 225, 4, 60, 27, 153, 0, 57, 42, 182, 1, 2, 42, 180, 0, 225]
abbrev dktX3_run_1 : List UInt8 := dkwX3_run_1 ++ dktX3_run_2
def dkwX3_run_0 : List UInt8 := [42, 182, 0, 81, 42, 42, 180, 0, 216, 181, 0, 222, 42, 3, 181, 0, 216, 42, 3, 181, 0, 219, 42, 3]
abbrev dktX3_run_0 : List UInt8 := dkwX3_run_0 ++ dktX3_run_1
theorem dksX3_run_0 : cX3_run.data.toList.drop 0 = dktX3_run_0 := by decide +kernel
theorem dksX3_run_1 : cX3_run.data.toList.drop 24 = dktX3_run_1 := dk_seg dksX3_run_0 24 rfl rfl
theorem dksX3_run_2 : cX3_run.data.toList.drop 46 = dktX3_run_2 := dk_seg dksX3_run_1 22 rfl rfl
theorem dksX3_run_3 : cX3_run.data.toList.drop 70 = dktX3_run_3 := dk_seg dksX3_run_2 24 rfl rfl
theorem dksX3_run_4 : cX3_run.data.toList.drop 93 = dktX3_run_4 := dk_seg dksX3_run_3 23 rfl rfl
theorem dksX3_run_5 : cX3_run.data.toList.drop 117 = dktX3_run_5 := dk_seg dksX3_run_4 24 rfl rfl
theorem dksX3_run_6 : cX3_run.data.toList.drop 141 = dktX3_run_6 := dk_seg dksX3_run_5 24 rfl rfl
theorem dksX3_run_7 : cX3_run.data.toList.drop 165 = dktX3_run_7 := dk_seg dksX3_run_6 24 rfl rfl
theorem dksX3_run_8 : cX3_run.data.toList.drop 187 = dktX3_run_8 := dk_seg dksX3_run_7 22 rfl rfl
theorem dX3_run_0 : decode cX3_run 0 = .ok (.aload_n 0, 1) := dk_42 (dk_at dksX3_run_0 0 rfl rfl)
theorem dX3_run_1 : decode cX3_run 1 = .ok (.invokevirtual 81, 3) := dk_182 0 81 (dk_at dksX3_run_0 1 rfl rfl)
theorem dX3_run_4 : decode cX3_run 4 = .ok (.aload_n 0, 1) := dk_42 (dk_at dksX3_run_0 4 rfl rfl)
theorem dX3_run_5 : decode cX3_run 5 = .ok (.aload_n 0, 1) := dk_42 (dk_at dksX3_run_0 5 rfl rfl)
theorem dX3_run_6 : decode cX3_run 6 = .ok (.getfield 216, 3) := dk_180 0 216 (dk_at dksX3_run_0 6 rfl rfl)
theorem dX3_run_9 : decode cX3_run 9 = .ok (.putfield 222, 3) := dk_181 0 222 (dk_at dksX3_run_0 9 rfl rfl)
theorem dX3_run_12 : decode cX3_run 12 = .ok (.aload_n 0, 1) := dk_42 (dk_at dksX3_run_0 12 rfl rfl)
theorem dX3_run_13 : decode cX3_run 13 = .ok (.iconst 0, 1) := dk_3 (dk_at dksX3_run_0 13 rfl rfl)
theorem dX3_run_14 : decode cX3_run 14 = .ok (.putfield 216, 3) := dk_181 0 216 (dk_at dksX3_run_0 14 rfl rfl)
theorem dX3_run_17 : decode cX3_run 17 = .ok (.aload_n 0, 1) := dk_42 (dk_at dksX3_run_0 17 rfl rfl)
theorem dX3_run_18 : decode cX3_run 18 = .ok (.iconst 0, 1) := dk_3 (dk_at dksX3_run_0 18 rfl rfl)
theorem dX3_run_19 : decode cX3_run 19 = .ok (.putfield 219, 3) := dk_181 0 219 (dk_at dksX3_run_0 19 rfl rfl)
theorem dX3_run_22 : decode cX3_run 22 = .ok (.aload_n 0, 1) := dk_42 (dk_at dksX3_run_0 22 rfl rfl)
theorem dX3_run_23 : decode cX3_run 23 = .ok (.iconst 0, 1) := dk_3 (dk_at dksX3_run_0 23 rfl rfl)
theorem dX3_run_24 : decode cX3_run 24 = .ok (.putfield 248, 3) := dk_181 0 248 (dk_at dksX3_run_1 0 rfl rfl)
theorem dX3_run_27 : decode cX3_run 27 = .ok (.aload_n 0, 1) := dk_42 (dk_at dksX3_run_1 3 rfl rfl)
theorem dX3_run_28 : decode cX3_run 28 = .ok (.iconst 0, 1) := dk_3 (dk_at dksX3_run_1 4 rfl rfl)
theorem dX3_run_29 : decode cX3_run 29 = .ok (.putfield 225, 3) := dk_181 0 225 (dk_at dksX3_run_1 5 rfl rfl)
theorem dX3_run_32 : decode cX3_run 32 = .ok (.iconst 1, 1) := dk_4 (dk_at dksX3_run_1 8 rfl rfl)
theorem dX3_run_33 : decode cX3_run 33 = .ok (.istore_n 1, 1) := dk_60 (dk_at dksX3_run_1 9 rfl rfl)
theorem dX3_run_34 : decode cX3_run 34 = .ok (.iload_n 1, 1) := dk_27 (dk_at dksX3_run_1 10 rfl rfl)
theorem dX3_run_35 : decode cX3_run 35 = .ok (.ifCond .eq 57, 3) := dk_153 0 57 (dk_at dksX3_run_1 11 rfl rfl)
theorem dX3_run_38 : decode cX3_run 38 = .ok (.aload_n 0, 1) := dk_42 (dk_at dksX3_run_1 14 rfl rfl)
theorem dX3_run_39 : decode cX3_run 39 = .ok (.invokevirtual 258, 3) := dk_182 1 2 (dk_at dksX3_run_1 15 rfl rfl)
theorem dX3_run_42 : decode cX3_run 42 = .ok (.aload_n 0, 1) := dk_42 (dk_at dksX3_run_1 18 rfl rfl)
theorem dX3_run_43 : decode cX3_run 43 = .ok (.getfield 225, 3) := dk_180 0 225 (dk_at dksX3_run_1 19 rfl rfl)
theorem dX3_run_46 : decode cX3_run 46 = .ok (.ifCond .ne 18, 3) := dk_154 0 18 (dk_at dksX3_run_2 0 rfl rfl)
theorem dX3_run_49 : decode cX3_run 49 = .ok (.aload_n 0, 1) := dk_42 (dk_at dksX3_run_2 3 rfl rfl)
theorem dX3_run_50 : decode cX3_run 50 = .ok (.getfield 219, 3) := dk_180 0 219 (dk_at dksX3_run_2 4 rfl rfl)
theorem dX3_run_53 : decode cX3_run 53 = .ok (.aload_n 0, 1) := dk_42 (dk_at dksX3_run_2 7 rfl rfl)
theorem dX3_run_54 : decode cX3_run 54 = .ok (.getfield 222, 3) := dk_180 0 222 (dk_at dksX3_run_2 8 rfl rfl)
theorem dX3_run_57 : decode cX3_run 57 = .ok (.if_icmp .ge 7, 3) := dk_162 0 7 (dk_at dksX3_run_2 11 rfl rfl)
theorem dX3_run_60 : decode cX3_run 60 = .ok (.iconst 1, 1) := dk_4 (dk_at dksX3_run_2 14 rfl rfl)
theorem dX3_run_61 : decode cX3_run 61 = .ok (.goto 4, 3) := dk_167 0 4 (dk_at dksX3_run_2 15 rfl rfl)
theorem dX3_run_64 : decode cX3_run 64 = .ok (.iconst 0, 1) := dk_3 (dk_at dksX3_run_2 18 rfl rfl)
theorem dX3_run_65 : decode cX3_run 65 = .ok (.istore_n 1, 1) := dk_60 (dk_at dksX3_run_2 19 rfl rfl)
theorem dX3_run_66 : decode cX3_run 66 = .ok (.iload_n 1, 1) := dk_27 (dk_at dksX3_run_2 20 rfl rfl)
theorem dX3_run_67 : decode cX3_run 67 = .ok (.ifCond .eq (-33), 3) := dk_153 255 223 (dk_at dksX3_run_2 21 rfl rfl)
theorem dX3_run_70 : decode cX3_run 70 = .ok (.aload_n 0, 1) := dk_42 (dk_at dksX3_run_3 0 rfl rfl)
theorem dX3_run_71 : decode cX3_run 71 = .ok (.bipush 59, 2) := dk_16 59 (dk_at dksX3_run_3 1 rfl rfl)
theorem dX3_run_73 : decode cX3_run 73 = .ok (.invokevirtual 239, 3) := dk_182 0 239 (dk_at dksX3_run_3 3 rfl rfl)
theorem dX3_run_76 : decode cX3_run 76 = .ok (.aload_n 0, 1) := dk_42 (dk_at dksX3_run_3 6 rfl rfl)
theorem dX3_run_77 : decode cX3_run 77 = .ok (.getfield 225, 3) := dk_180 0 225 (dk_at dksX3_run_3 7 rfl rfl)
theorem dX3_run_80 : decode cX3_run 80 = .ok (.ifCond .ne 7, 3) := dk_154 0 7 (dk_at dksX3_run_3 10 rfl rfl)
theorem dX3_run_83 : decode cX3_run 83 = .ok (.iconst 1, 1) := dk_4 (dk_at dksX3_run_3 13 rfl rfl)
theorem dX3_run_84 : decode cX3_run 84 = .ok (.goto 4, 3) := dk_167 0 4 (dk_at dksX3_run_3 14 rfl rfl)
theorem dX3_run_87 : decode cX3_run 87 = .ok (.iconst 0, 1) := dk_3 (dk_at dksX3_run_3 17 rfl rfl)
theorem dX3_run_88 : decode cX3_run 88 = .ok (.istore_n 1, 1) := dk_60 (dk_at dksX3_run_3 18 rfl rfl)
theorem dX3_run_89 : decode cX3_run 89 = .ok (.goto (-55), 3) := dk_167 255 201 (dk_at dksX3_run_3 19 rfl rfl)
theorem dX3_run_92 : decode cX3_run 92 = .ok (.aload_n 0, 1) := dk_42 (dk_at dksX3_run_3 22 rfl rfl)
theorem dX3_run_93 : decode cX3_run 93 = .ok (.getfield 225, 3) := dk_180 0 225 (dk_at dksX3_run_4 0 rfl rfl)
theorem dX3_run_96 : decode cX3_run 96 = .ok (.ifCond .eq 17, 3) := dk_153 0 17 (dk_at dksX3_run_4 3 rfl rfl)
theorem dX3_run_99 : decode cX3_run 99 = .ok (.aload_n 0, 1) := dk_42 (dk_at dksX3_run_4 6 rfl rfl)
theorem dX3_run_100 : decode cX3_run 100 = .ok (.aload_n 0, 1) := dk_42 (dk_at dksX3_run_4 7 rfl rfl)
theorem dX3_run_101 : decode cX3_run 101 = .ok (.getfield 219, 3) := dk_180 0 219 (dk_at dksX3_run_4 8 rfl rfl)
theorem dX3_run_104 : decode cX3_run 104 = .ok (.putfield 22, 3) := dk_181 0 22 (dk_at dksX3_run_4 11 rfl rfl)
theorem dX3_run_107 : decode cX3_run 107 = .ok (.aload_n 0, 1) := dk_42 (dk_at dksX3_run_4 14 rfl rfl)
theorem dX3_run_108 : decode cX3_run 108 = .ok (.iconst 1, 1) := dk_4 (dk_at dksX3_run_4 15 rfl rfl)
theorem dX3_run_109 : decode cX3_run 109 = .ok (.invokevirtual 75, 3) := dk_182 0 75 (dk_at dksX3_run_4 16 rfl rfl)
theorem dX3_run_112 : decode cX3_run 112 = .ok (.ireturn, 1) := dk_172 (dk_at dksX3_run_4 19 rfl rfl)
theorem dX3_run_113 : decode cX3_run 113 = .ok (.iconst 0, 1) := dk_3 (dk_at dksX3_run_4 20 rfl rfl)
theorem dX3_run_114 : decode cX3_run 114 = .ok (.istore_n 2, 1) := dk_61 (dk_at dksX3_run_4 21 rfl rfl)
theorem dX3_run_115 : decode cX3_run 115 = .ok (.iload_n 2, 1) := dk_28 (dk_at dksX3_run_4 22 rfl rfl)
theorem dX3_run_116 : decode cX3_run 116 = .ok (.aload_n 0, 1) := dk_42 (dk_at dksX3_run_4 23 rfl rfl)
theorem dX3_run_117 : decode cX3_run 117 = .ok (.getfield 248, 3) := dk_180 0 248 (dk_at dksX3_run_5 0 rfl rfl)
theorem dX3_run_120 : decode cX3_run 120 = .ok (.if_icmp .ge 62, 3) := dk_162 0 62 (dk_at dksX3_run_5 3 rfl rfl)
theorem dX3_run_123 : decode cX3_run 123 = .ok (.aload_n 0, 1) := dk_42 (dk_at dksX3_run_5 6 rfl rfl)
theorem dX3_run_124 : decode cX3_run 124 = .ok (.bipush 6, 2) := dk_16 6 (dk_at dksX3_run_5 7 rfl rfl)
theorem dX3_run_126 : decode cX3_run 126 = .ok (.iload_n 2, 1) := dk_28 (dk_at dksX3_run_5 9 rfl rfl)
theorem dX3_run_127 : decode cX3_run 127 = .ok (.imul, 1) := dk_104 (dk_at dksX3_run_5 10 rfl rfl)
theorem dX3_run_128 : decode cX3_run 128 = .ok (.invokevirtual 261, 3) := dk_182 1 5 (dk_at dksX3_run_5 11 rfl rfl)
theorem dX3_run_131 : decode cX3_run 131 = .ok (.aload_n 0, 1) := dk_42 (dk_at dksX3_run_5 14 rfl rfl)
theorem dX3_run_132 : decode cX3_run 132 = .ok (.getfield 45, 3) := dk_180 0 45 (dk_at dksX3_run_5 15 rfl rfl)
theorem dX3_run_135 : decode cX3_run 135 = .ok (.ifCond .le 41, 3) := dk_158 0 41 (dk_at dksX3_run_5 18 rfl rfl)
theorem dX3_run_138 : decode cX3_run 138 = .ok (.iconst 0, 1) := dk_3 (dk_at dksX3_run_5 21 rfl rfl)
theorem dX3_run_139 : decode cX3_run 139 = .ok (.istore_n 3, 1) := dk_62 (dk_at dksX3_run_5 22 rfl rfl)
theorem dX3_run_140 : decode cX3_run 140 = .ok (.iload_n 3, 1) := dk_29 (dk_at dksX3_run_5 23 rfl rfl)
theorem dX3_run_141 : decode cX3_run 141 = .ok (.sipush 155, 3) := dk_17 0 155 (dk_at dksX3_run_6 0 rfl rfl)
theorem dX3_run_144 : decode cX3_run 144 = .ok (.if_icmp .ge 21, 3) := dk_162 0 21 (dk_at dksX3_run_6 3 rfl rfl)
theorem dX3_run_147 : decode cX3_run 147 = .ok (.aload_n 0, 1) := dk_42 (dk_at dksX3_run_6 6 rfl rfl)
theorem dX3_run_148 : decode cX3_run 148 = .ok (.getfield 9, 3) := dk_180 0 9 (dk_at dksX3_run_6 7 rfl rfl)
theorem dX3_run_151 : decode cX3_run 151 = .ok (.iload_n 3, 1) := dk_29 (dk_at dksX3_run_6 10 rfl rfl)
theorem dX3_run_152 : decode cX3_run 152 = .ok (.aload_n 0, 1) := dk_42 (dk_at dksX3_run_6 11 rfl rfl)
theorem dX3_run_153 : decode cX3_run 153 = .ok (.getfield 13, 3) := dk_180 0 13 (dk_at dksX3_run_6 12 rfl rfl)
theorem dX3_run_156 : decode cX3_run 156 = .ok (.iload_n 3, 1) := dk_29 (dk_at dksX3_run_6 15 rfl rfl)
theorem dX3_run_157 : decode cX3_run 157 = .ok (.iaload, 1) := dk_46 (dk_at dksX3_run_6 16 rfl rfl)
theorem dX3_run_158 : decode cX3_run 158 = .ok (.iastore, 1) := dk_79 (dk_at dksX3_run_6 17 rfl rfl)
theorem dX3_run_159 : decode cX3_run 159 = .ok (.iinc 3 1, 3) := dk_132 3 1 (dk_at dksX3_run_6 18 rfl rfl)
theorem dX3_run_162 : decode cX3_run 162 = .ok (.goto (-22), 3) := dk_167 255 234 (dk_at dksX3_run_6 21 rfl rfl)
theorem dX3_run_165 : decode cX3_run 165 = .ok (.aload_n 0, 1) := dk_42 (dk_at dksX3_run_7 0 rfl rfl)
theorem dX3_run_166 : decode cX3_run 166 = .ok (.iload_n 2, 1) := dk_28 (dk_at dksX3_run_7 1 rfl rfl)
theorem dX3_run_167 : decode cX3_run 167 = .ok (.putfield 26, 3) := dk_181 0 26 (dk_at dksX3_run_7 2 rfl rfl)
theorem dX3_run_170 : decode cX3_run 170 = .ok (.aload_n 0, 1) := dk_42 (dk_at dksX3_run_7 5 rfl rfl)
theorem dX3_run_171 : decode cX3_run 171 = .ok (.iconst 2, 1) := dk_5 (dk_at dksX3_run_7 6 rfl rfl)
theorem dX3_run_172 : decode cX3_run 172 = .ok (.invokevirtual 75, 3) := dk_182 0 75 (dk_at dksX3_run_7 7 rfl rfl)
theorem dX3_run_175 : decode cX3_run 175 = .ok (.ireturn, 1) := dk_172 (dk_at dksX3_run_7 10 rfl rfl)
theorem dX3_run_176 : decode cX3_run 176 = .ok (.iinc 2 1, 3) := dk_132 2 1 (dk_at dksX3_run_7 11 rfl rfl)
theorem dX3_run_179 : decode cX3_run 179 = .ok (.goto (-64), 3) := dk_167 255 192 (dk_at dksX3_run_7 14 rfl rfl)
theorem dX3_run_182 : decode cX3_run 182 = .ok (.aload_n 0, 1) := dk_42 (dk_at dksX3_run_7 17 rfl rfl)
theorem dX3_run_183 : decode cX3_run 183 = .ok (.aload_n 0, 1) := dk_42 (dk_at dksX3_run_7 18 rfl rfl)
theorem dX3_run_184 : decode cX3_run 184 = .ok (.getfield 248, 3) := dk_180 0 248 (dk_at dksX3_run_7 19 rfl rfl)
theorem dX3_run_187 : decode cX3_run 187 = .ok (.invokevirtual 88, 3) := dk_182 0 88 (dk_at dksX3_run_8 0 rfl rfl)
theorem dX3_run_190 : decode cX3_run 190 = .ok (.ireturn, 1) := dk_172 (dk_at dksX3_run_8 3 rfl rfl)
abbrev cX3_readCommand : ByteArray := prog_15_method_97_code
def yX3_readCommand : MethodName := ⟨RX3, "readCommand", "()V"⟩
def dkwX3_readCommand_5 : List UInt8 := [182, 0, 254, 177]
abbrev dktX3_readCommand_5 : List UInt8 := dkwX3_readCommand_5 ++ []
def dkwX3_readCommand_4 : List UInt8 := [42, 180, 0, 42, 27, 28, 79, 42, 89, 180, 0, 248, 4, 96, 181, 0, 248, 42, 28, 27, 4, 96]
abbrev dktX3_readCommand_4 : List UInt8 := dkwX3_readCommand_4 ++ dktX3_readCommand_5
def dkwX3_readCommand_3 : List UInt8 := [180, 0, 39, 28, 46, 100, 162, 0, 7, 4, 167, 0, 4, 3, 181, 0, 225, 42, 180, 0, 225, 154, 0, 28]
abbrev dktX3_readCommand_3 : List UInt8 := dkwX3_readCommand_3 ++ dktX3_readCommand_4
def dkwX3_readCommand_2 : List UInt8 := [62, 42, 89, 180, 0, 219, 29, 96, 181, 0, 219, 42, 29, 42, 180, 0, 39, 28, 4, 96, 46, 42]
abbrev dktX3_readCommand_2 : List UInt8 := dkwX3_readCommand_2 ++ dktX3_readCommand_3
def dkwX3_readCommand_1 : List UInt8 := [28, 182, 0, 251, 164, 0, 7, 29, 167, 0, 4, 28, 61, 132, 3, 1, 167, 255, 228, 42, 28, 182, 0, 251]
abbrev dktX3_readCommand_1 : List UInt8 := dkwX3_readCommand_1 ++ dktX3_readCommand_2
def dkwX3_readCommand_0 : List UInt8 := [16, 6, 42, 180, 0, 248, 104, 60, 3, 61, 4, 62, 29, 16, 9, 162, 0, 28, 42, 29, 182, 0, 251, 42]
abbrev dktX3_readCommand_0 : List UInt8 := dkwX3_readCommand_0 ++ dktX3_readCommand_1
theorem dksX3_readCommand_0 : cX3_readCommand.data.toList.drop 0 = dktX3_readCommand_0 := by decide +kernel
theorem dksX3_readCommand_1 : cX3_readCommand.data.toList.drop 24 = dktX3_readCommand_1 := dk_seg dksX3_readCommand_0 24 rfl rfl
theorem dksX3_readCommand_2 : cX3_readCommand.data.toList.drop 48 = dktX3_readCommand_2 := dk_seg dksX3_readCommand_1 24 rfl rfl
theorem dksX3_readCommand_3 : cX3_readCommand.data.toList.drop 70 = dktX3_readCommand_3 := dk_seg dksX3_readCommand_2 22 rfl rfl
theorem dksX3_readCommand_4 : cX3_readCommand.data.toList.drop 94 = dktX3_readCommand_4 := dk_seg dksX3_readCommand_3 24 rfl rfl
theorem dksX3_readCommand_5 : cX3_readCommand.data.toList.drop 116 = dktX3_readCommand_5 := dk_seg dksX3_readCommand_4 22 rfl rfl
theorem dX3_readCommand_0 : decode cX3_readCommand 0 = .ok (.bipush 6, 2) := dk_16 6 (dk_at dksX3_readCommand_0 0 rfl rfl)
theorem dX3_readCommand_2 : decode cX3_readCommand 2 = .ok (.aload_n 0, 1) := dk_42 (dk_at dksX3_readCommand_0 2 rfl rfl)
theorem dX3_readCommand_3 : decode cX3_readCommand 3 = .ok (.getfield 248, 3) := dk_180 0 248 (dk_at dksX3_readCommand_0 3 rfl rfl)
theorem dX3_readCommand_6 : decode cX3_readCommand 6 = .ok (.imul, 1) := dk_104 (dk_at dksX3_readCommand_0 6 rfl rfl)
theorem dX3_readCommand_7 : decode cX3_readCommand 7 = .ok (.istore_n 1, 1) := dk_60 (dk_at dksX3_readCommand_0 7 rfl rfl)
theorem dX3_readCommand_8 : decode cX3_readCommand 8 = .ok (.iconst 0, 1) := dk_3 (dk_at dksX3_readCommand_0 8 rfl rfl)
theorem dX3_readCommand_9 : decode cX3_readCommand 9 = .ok (.istore_n 2, 1) := dk_61 (dk_at dksX3_readCommand_0 9 rfl rfl)
theorem dX3_readCommand_10 : decode cX3_readCommand 10 = .ok (.iconst 1, 1) := dk_4 (dk_at dksX3_readCommand_0 10 rfl rfl)
theorem dX3_readCommand_11 : decode cX3_readCommand 11 = .ok (.istore_n 3, 1) := dk_62 (dk_at dksX3_readCommand_0 11 rfl rfl)
theorem dX3_readCommand_12 : decode cX3_readCommand 12 = .ok (.iload_n 3, 1) := dk_29 (dk_at dksX3_readCommand_0 12 rfl rfl)
theorem dX3_readCommand_13 : decode cX3_readCommand 13 = .ok (.bipush 9, 2) := dk_16 9 (dk_at dksX3_readCommand_0 13 rfl rfl)
theorem dX3_readCommand_15 : decode cX3_readCommand 15 = .ok (.if_icmp .ge 28, 3) := dk_162 0 28 (dk_at dksX3_readCommand_0 15 rfl rfl)
theorem dX3_readCommand_18 : decode cX3_readCommand 18 = .ok (.aload_n 0, 1) := dk_42 (dk_at dksX3_readCommand_0 18 rfl rfl)
theorem dX3_readCommand_19 : decode cX3_readCommand 19 = .ok (.iload_n 3, 1) := dk_29 (dk_at dksX3_readCommand_0 19 rfl rfl)
theorem dX3_readCommand_20 : decode cX3_readCommand 20 = .ok (.invokevirtual 251, 3) := dk_182 0 251 (dk_at dksX3_readCommand_0 20 rfl rfl)
theorem dX3_readCommand_23 : decode cX3_readCommand 23 = .ok (.aload_n 0, 1) := dk_42 (dk_at dksX3_readCommand_0 23 rfl rfl)
theorem dX3_readCommand_24 : decode cX3_readCommand 24 = .ok (.iload_n 2, 1) := dk_28 (dk_at dksX3_readCommand_1 0 rfl rfl)
theorem dX3_readCommand_25 : decode cX3_readCommand 25 = .ok (.invokevirtual 251, 3) := dk_182 0 251 (dk_at dksX3_readCommand_1 1 rfl rfl)
theorem dX3_readCommand_28 : decode cX3_readCommand 28 = .ok (.if_icmp .le 7, 3) := dk_164 0 7 (dk_at dksX3_readCommand_1 4 rfl rfl)
theorem dX3_readCommand_31 : decode cX3_readCommand 31 = .ok (.iload_n 3, 1) := dk_29 (dk_at dksX3_readCommand_1 7 rfl rfl)
theorem dX3_readCommand_32 : decode cX3_readCommand 32 = .ok (.goto 4, 3) := dk_167 0 4 (dk_at dksX3_readCommand_1 8 rfl rfl)
theorem dX3_readCommand_35 : decode cX3_readCommand 35 = .ok (.iload_n 2, 1) := dk_28 (dk_at dksX3_readCommand_1 11 rfl rfl)
theorem dX3_readCommand_36 : decode cX3_readCommand 36 = .ok (.istore_n 2, 1) := dk_61 (dk_at dksX3_readCommand_1 12 rfl rfl)
theorem dX3_readCommand_37 : decode cX3_readCommand 37 = .ok (.iinc 3 1, 3) := dk_132 3 1 (dk_at dksX3_readCommand_1 13 rfl rfl)
theorem dX3_readCommand_40 : decode cX3_readCommand 40 = .ok (.goto (-28), 3) := dk_167 255 228 (dk_at dksX3_readCommand_1 16 rfl rfl)
theorem dX3_readCommand_43 : decode cX3_readCommand 43 = .ok (.aload_n 0, 1) := dk_42 (dk_at dksX3_readCommand_1 19 rfl rfl)
theorem dX3_readCommand_44 : decode cX3_readCommand 44 = .ok (.iload_n 2, 1) := dk_28 (dk_at dksX3_readCommand_1 20 rfl rfl)
theorem dX3_readCommand_45 : decode cX3_readCommand 45 = .ok (.invokevirtual 251, 3) := dk_182 0 251 (dk_at dksX3_readCommand_1 21 rfl rfl)
theorem dX3_readCommand_48 : decode cX3_readCommand 48 = .ok (.istore_n 3, 1) := dk_62 (dk_at dksX3_readCommand_2 0 rfl rfl)
theorem dX3_readCommand_49 : decode cX3_readCommand 49 = .ok (.aload_n 0, 1) := dk_42 (dk_at dksX3_readCommand_2 1 rfl rfl)
theorem dX3_readCommand_50 : decode cX3_readCommand 50 = .ok (.dup, 1) := dk_89 (dk_at dksX3_readCommand_2 2 rfl rfl)
theorem dX3_readCommand_51 : decode cX3_readCommand 51 = .ok (.getfield 219, 3) := dk_180 0 219 (dk_at dksX3_readCommand_2 3 rfl rfl)
theorem dX3_readCommand_54 : decode cX3_readCommand 54 = .ok (.iload_n 3, 1) := dk_29 (dk_at dksX3_readCommand_2 6 rfl rfl)
theorem dX3_readCommand_55 : decode cX3_readCommand 55 = .ok (.iadd, 1) := dk_96 (dk_at dksX3_readCommand_2 7 rfl rfl)
theorem dX3_readCommand_56 : decode cX3_readCommand 56 = .ok (.putfield 219, 3) := dk_181 0 219 (dk_at dksX3_readCommand_2 8 rfl rfl)
theorem dX3_readCommand_59 : decode cX3_readCommand 59 = .ok (.aload_n 0, 1) := dk_42 (dk_at dksX3_readCommand_2 11 rfl rfl)
theorem dX3_readCommand_60 : decode cX3_readCommand 60 = .ok (.iload_n 3, 1) := dk_29 (dk_at dksX3_readCommand_2 12 rfl rfl)
theorem dX3_readCommand_61 : decode cX3_readCommand 61 = .ok (.aload_n 0, 1) := dk_42 (dk_at dksX3_readCommand_2 13 rfl rfl)
theorem dX3_readCommand_62 : decode cX3_readCommand 62 = .ok (.getfield 39, 3) := dk_180 0 39 (dk_at dksX3_readCommand_2 14 rfl rfl)
theorem dX3_readCommand_65 : decode cX3_readCommand 65 = .ok (.iload_n 2, 1) := dk_28 (dk_at dksX3_readCommand_2 17 rfl rfl)
theorem dX3_readCommand_66 : decode cX3_readCommand 66 = .ok (.iconst 1, 1) := dk_4 (dk_at dksX3_readCommand_2 18 rfl rfl)
theorem dX3_readCommand_67 : decode cX3_readCommand 67 = .ok (.iadd, 1) := dk_96 (dk_at dksX3_readCommand_2 19 rfl rfl)
theorem dX3_readCommand_68 : decode cX3_readCommand 68 = .ok (.iaload, 1) := dk_46 (dk_at dksX3_readCommand_2 20 rfl rfl)
theorem dX3_readCommand_69 : decode cX3_readCommand 69 = .ok (.aload_n 0, 1) := dk_42 (dk_at dksX3_readCommand_2 21 rfl rfl)
theorem dX3_readCommand_70 : decode cX3_readCommand 70 = .ok (.getfield 39, 3) := dk_180 0 39 (dk_at dksX3_readCommand_3 0 rfl rfl)
theorem dX3_readCommand_73 : decode cX3_readCommand 73 = .ok (.iload_n 2, 1) := dk_28 (dk_at dksX3_readCommand_3 3 rfl rfl)
theorem dX3_readCommand_74 : decode cX3_readCommand 74 = .ok (.iaload, 1) := dk_46 (dk_at dksX3_readCommand_3 4 rfl rfl)
theorem dX3_readCommand_75 : decode cX3_readCommand 75 = .ok (.isub, 1) := dk_100 (dk_at dksX3_readCommand_3 5 rfl rfl)
theorem dX3_readCommand_76 : decode cX3_readCommand 76 = .ok (.if_icmp .ge 7, 3) := dk_162 0 7 (dk_at dksX3_readCommand_3 6 rfl rfl)
theorem dX3_readCommand_79 : decode cX3_readCommand 79 = .ok (.iconst 1, 1) := dk_4 (dk_at dksX3_readCommand_3 9 rfl rfl)
theorem dX3_readCommand_80 : decode cX3_readCommand 80 = .ok (.goto 4, 3) := dk_167 0 4 (dk_at dksX3_readCommand_3 10 rfl rfl)
theorem dX3_readCommand_83 : decode cX3_readCommand 83 = .ok (.iconst 0, 1) := dk_3 (dk_at dksX3_readCommand_3 13 rfl rfl)
theorem dX3_readCommand_84 : decode cX3_readCommand 84 = .ok (.putfield 225, 3) := dk_181 0 225 (dk_at dksX3_readCommand_3 14 rfl rfl)
theorem dX3_readCommand_87 : decode cX3_readCommand 87 = .ok (.aload_n 0, 1) := dk_42 (dk_at dksX3_readCommand_3 17 rfl rfl)
theorem dX3_readCommand_88 : decode cX3_readCommand 88 = .ok (.getfield 225, 3) := dk_180 0 225 (dk_at dksX3_readCommand_3 18 rfl rfl)
theorem dX3_readCommand_91 : decode cX3_readCommand 91 = .ok (.ifCond .ne 28, 3) := dk_154 0 28 (dk_at dksX3_readCommand_3 21 rfl rfl)
theorem dX3_readCommand_94 : decode cX3_readCommand 94 = .ok (.aload_n 0, 1) := dk_42 (dk_at dksX3_readCommand_4 0 rfl rfl)
theorem dX3_readCommand_95 : decode cX3_readCommand 95 = .ok (.getfield 42, 3) := dk_180 0 42 (dk_at dksX3_readCommand_4 1 rfl rfl)
theorem dX3_readCommand_98 : decode cX3_readCommand 98 = .ok (.iload_n 1, 1) := dk_27 (dk_at dksX3_readCommand_4 4 rfl rfl)
theorem dX3_readCommand_99 : decode cX3_readCommand 99 = .ok (.iload_n 2, 1) := dk_28 (dk_at dksX3_readCommand_4 5 rfl rfl)
theorem dX3_readCommand_100 : decode cX3_readCommand 100 = .ok (.iastore, 1) := dk_79 (dk_at dksX3_readCommand_4 6 rfl rfl)
theorem dX3_readCommand_101 : decode cX3_readCommand 101 = .ok (.aload_n 0, 1) := dk_42 (dk_at dksX3_readCommand_4 7 rfl rfl)
theorem dX3_readCommand_102 : decode cX3_readCommand 102 = .ok (.dup, 1) := dk_89 (dk_at dksX3_readCommand_4 8 rfl rfl)
theorem dX3_readCommand_103 : decode cX3_readCommand 103 = .ok (.getfield 248, 3) := dk_180 0 248 (dk_at dksX3_readCommand_4 9 rfl rfl)
theorem dX3_readCommand_106 : decode cX3_readCommand 106 = .ok (.iconst 1, 1) := dk_4 (dk_at dksX3_readCommand_4 12 rfl rfl)
theorem dX3_readCommand_107 : decode cX3_readCommand 107 = .ok (.iadd, 1) := dk_96 (dk_at dksX3_readCommand_4 13 rfl rfl)
theorem dX3_readCommand_108 : decode cX3_readCommand 108 = .ok (.putfield 248, 3) := dk_181 0 248 (dk_at dksX3_readCommand_4 14 rfl rfl)
theorem dX3_readCommand_111 : decode cX3_readCommand 111 = .ok (.aload_n 0, 1) := dk_42 (dk_at dksX3_readCommand_4 17 rfl rfl)
theorem dX3_readCommand_112 : decode cX3_readCommand 112 = .ok (.iload_n 2, 1) := dk_28 (dk_at dksX3_readCommand_4 18 rfl rfl)
theorem dX3_readCommand_113 : decode cX3_readCommand 113 = .ok (.iload_n 1, 1) := dk_27 (dk_at dksX3_readCommand_4 19 rfl rfl)
theorem dX3_readCommand_114 : decode cX3_readCommand 114 = .ok (.iconst 1, 1) := dk_4 (dk_at dksX3_readCommand_4 20 rfl rfl)
theorem dX3_readCommand_115 : decode cX3_readCommand 115 = .ok (.iadd, 1) := dk_96 (dk_at dksX3_readCommand_4 21 rfl rfl)
theorem dX3_readCommand_116 : decode cX3_readCommand 116 = .ok (.invokevirtual 254, 3) := dk_182 0 254 (dk_at dksX3_readCommand_5 0 rfl rfl)
theorem dX3_readCommand_119 : decode cX3_readCommand 119 = .ok (.return_, 1) := dk_177 (dk_at dksX3_readCommand_5 3 rfl rfl)
abbrev cX3_likeness : ByteArray := prog_15_method_95_code
def yX3_likeness : MethodName := ⟨RX3, "likeness", "(I)I"⟩
def dkwX3_likeness_2 : List UInt8 := [180, 0, 35, 42, 180, 0, 39, 27, 46, 28, 96, 52, 160, 0, 9, 132, 2, 1, 167, 255, 208, 28, 172]
abbrev dktX3_likeness_2 : List UInt8 := dkwX3_likeness_2 ++ []
def dkwX3_likeness_1 : List UInt8 := [180, 0, 219, 28, 96, 42, 180, 0, 222, 162, 0, 36, 42, 180, 0, 29, 42, 180, 0, 219, 28, 96, 46, 42]
abbrev dktX3_likeness_1 : List UInt8 := dkwX3_likeness_1 ++ dktX3_likeness_2
def dkwX3_likeness_0 : List UInt8 := [3, 61, 42, 180, 0, 39, 27, 4, 96, 46, 42, 180, 0, 39, 27, 46, 100, 62, 28, 29, 162, 0, 49, 42]
abbrev dktX3_likeness_0 : List UInt8 := dkwX3_likeness_0 ++ dktX3_likeness_1
theorem dksX3_likeness_0 : cX3_likeness.data.toList.drop 0 = dktX3_likeness_0 := by decide +kernel
theorem dksX3_likeness_1 : cX3_likeness.data.toList.drop 24 = dktX3_likeness_1 := dk_seg dksX3_likeness_0 24 rfl rfl
theorem dksX3_likeness_2 : cX3_likeness.data.toList.drop 48 = dktX3_likeness_2 := dk_seg dksX3_likeness_1 24 rfl rfl
theorem dX3_likeness_0 : decode cX3_likeness 0 = .ok (.iconst 0, 1) := dk_3 (dk_at dksX3_likeness_0 0 rfl rfl)
theorem dX3_likeness_1 : decode cX3_likeness 1 = .ok (.istore_n 2, 1) := dk_61 (dk_at dksX3_likeness_0 1 rfl rfl)
theorem dX3_likeness_2 : decode cX3_likeness 2 = .ok (.aload_n 0, 1) := dk_42 (dk_at dksX3_likeness_0 2 rfl rfl)
theorem dX3_likeness_3 : decode cX3_likeness 3 = .ok (.getfield 39, 3) := dk_180 0 39 (dk_at dksX3_likeness_0 3 rfl rfl)
theorem dX3_likeness_6 : decode cX3_likeness 6 = .ok (.iload_n 1, 1) := dk_27 (dk_at dksX3_likeness_0 6 rfl rfl)
theorem dX3_likeness_7 : decode cX3_likeness 7 = .ok (.iconst 1, 1) := dk_4 (dk_at dksX3_likeness_0 7 rfl rfl)
theorem dX3_likeness_8 : decode cX3_likeness 8 = .ok (.iadd, 1) := dk_96 (dk_at dksX3_likeness_0 8 rfl rfl)
theorem dX3_likeness_9 : decode cX3_likeness 9 = .ok (.iaload, 1) := dk_46 (dk_at dksX3_likeness_0 9 rfl rfl)
theorem dX3_likeness_10 : decode cX3_likeness 10 = .ok (.aload_n 0, 1) := dk_42 (dk_at dksX3_likeness_0 10 rfl rfl)
theorem dX3_likeness_11 : decode cX3_likeness 11 = .ok (.getfield 39, 3) := dk_180 0 39 (dk_at dksX3_likeness_0 11 rfl rfl)
theorem dX3_likeness_14 : decode cX3_likeness 14 = .ok (.iload_n 1, 1) := dk_27 (dk_at dksX3_likeness_0 14 rfl rfl)
theorem dX3_likeness_15 : decode cX3_likeness 15 = .ok (.iaload, 1) := dk_46 (dk_at dksX3_likeness_0 15 rfl rfl)
theorem dX3_likeness_16 : decode cX3_likeness 16 = .ok (.isub, 1) := dk_100 (dk_at dksX3_likeness_0 16 rfl rfl)
theorem dX3_likeness_17 : decode cX3_likeness 17 = .ok (.istore_n 3, 1) := dk_62 (dk_at dksX3_likeness_0 17 rfl rfl)
theorem dX3_likeness_18 : decode cX3_likeness 18 = .ok (.iload_n 2, 1) := dk_28 (dk_at dksX3_likeness_0 18 rfl rfl)
theorem dX3_likeness_19 : decode cX3_likeness 19 = .ok (.iload_n 3, 1) := dk_29 (dk_at dksX3_likeness_0 19 rfl rfl)
theorem dX3_likeness_20 : decode cX3_likeness 20 = .ok (.if_icmp .ge 49, 3) := dk_162 0 49 (dk_at dksX3_likeness_0 20 rfl rfl)
theorem dX3_likeness_23 : decode cX3_likeness 23 = .ok (.aload_n 0, 1) := dk_42 (dk_at dksX3_likeness_0 23 rfl rfl)
theorem dX3_likeness_24 : decode cX3_likeness 24 = .ok (.getfield 219, 3) := dk_180 0 219 (dk_at dksX3_likeness_1 0 rfl rfl)
theorem dX3_likeness_27 : decode cX3_likeness 27 = .ok (.iload_n 2, 1) := dk_28 (dk_at dksX3_likeness_1 3 rfl rfl)
theorem dX3_likeness_28 : decode cX3_likeness 28 = .ok (.iadd, 1) := dk_96 (dk_at dksX3_likeness_1 4 rfl rfl)
theorem dX3_likeness_29 : decode cX3_likeness 29 = .ok (.aload_n 0, 1) := dk_42 (dk_at dksX3_likeness_1 5 rfl rfl)
theorem dX3_likeness_30 : decode cX3_likeness 30 = .ok (.getfield 222, 3) := dk_180 0 222 (dk_at dksX3_likeness_1 6 rfl rfl)
theorem dX3_likeness_33 : decode cX3_likeness 33 = .ok (.if_icmp .ge 36, 3) := dk_162 0 36 (dk_at dksX3_likeness_1 9 rfl rfl)
theorem dX3_likeness_36 : decode cX3_likeness 36 = .ok (.aload_n 0, 1) := dk_42 (dk_at dksX3_likeness_1 12 rfl rfl)
theorem dX3_likeness_37 : decode cX3_likeness 37 = .ok (.getfield 29, 3) := dk_180 0 29 (dk_at dksX3_likeness_1 13 rfl rfl)
theorem dX3_likeness_40 : decode cX3_likeness 40 = .ok (.aload_n 0, 1) := dk_42 (dk_at dksX3_likeness_1 16 rfl rfl)
theorem dX3_likeness_41 : decode cX3_likeness 41 = .ok (.getfield 219, 3) := dk_180 0 219 (dk_at dksX3_likeness_1 17 rfl rfl)
theorem dX3_likeness_44 : decode cX3_likeness 44 = .ok (.iload_n 2, 1) := dk_28 (dk_at dksX3_likeness_1 20 rfl rfl)
theorem dX3_likeness_45 : decode cX3_likeness 45 = .ok (.iadd, 1) := dk_96 (dk_at dksX3_likeness_1 21 rfl rfl)
theorem dX3_likeness_46 : decode cX3_likeness 46 = .ok (.iaload, 1) := dk_46 (dk_at dksX3_likeness_1 22 rfl rfl)
theorem dX3_likeness_47 : decode cX3_likeness 47 = .ok (.aload_n 0, 1) := dk_42 (dk_at dksX3_likeness_1 23 rfl rfl)
theorem dX3_likeness_48 : decode cX3_likeness 48 = .ok (.getfield 35, 3) := dk_180 0 35 (dk_at dksX3_likeness_2 0 rfl rfl)
theorem dX3_likeness_51 : decode cX3_likeness 51 = .ok (.aload_n 0, 1) := dk_42 (dk_at dksX3_likeness_2 3 rfl rfl)
theorem dX3_likeness_52 : decode cX3_likeness 52 = .ok (.getfield 39, 3) := dk_180 0 39 (dk_at dksX3_likeness_2 4 rfl rfl)
theorem dX3_likeness_55 : decode cX3_likeness 55 = .ok (.iload_n 1, 1) := dk_27 (dk_at dksX3_likeness_2 7 rfl rfl)
theorem dX3_likeness_56 : decode cX3_likeness 56 = .ok (.iaload, 1) := dk_46 (dk_at dksX3_likeness_2 8 rfl rfl)
theorem dX3_likeness_57 : decode cX3_likeness 57 = .ok (.iload_n 2, 1) := dk_28 (dk_at dksX3_likeness_2 9 rfl rfl)
theorem dX3_likeness_58 : decode cX3_likeness 58 = .ok (.iadd, 1) := dk_96 (dk_at dksX3_likeness_2 10 rfl rfl)
theorem dX3_likeness_59 : decode cX3_likeness 59 = .ok (.caload, 1) := dk_52 (dk_at dksX3_likeness_2 11 rfl rfl)
theorem dX3_likeness_60 : decode cX3_likeness 60 = .ok (.if_icmp .ne 9, 3) := dk_160 0 9 (dk_at dksX3_likeness_2 12 rfl rfl)
theorem dX3_likeness_63 : decode cX3_likeness 63 = .ok (.iinc 2 1, 3) := dk_132 2 1 (dk_at dksX3_likeness_2 15 rfl rfl)
theorem dX3_likeness_66 : decode cX3_likeness 66 = .ok (.goto (-48), 3) := dk_167 255 208 (dk_at dksX3_likeness_2 18 rfl rfl)
theorem dX3_likeness_69 : decode cX3_likeness 69 = .ok (.iload_n 2, 1) := dk_28 (dk_at dksX3_likeness_2 21 rfl rfl)
theorem dX3_likeness_70 : decode cX3_likeness 70 = .ok (.ireturn, 1) := dk_172 (dk_at dksX3_likeness_2 22 rfl rfl)
abbrev cX3_readArguments : ByteArray := prog_15_method_96_code
def yX3_readArguments : MethodName := ⟨RX3, "readArguments", "(II)V"⟩
def dkwX3_readArguments_11 : List UInt8 := [167, 0, 3, 177]
abbrev dktX3_readArguments_11 : List UInt8 := dkwX3_readArguments_11 ++ []
def dkwX3_readArguments_10 : List UInt8 := [180, 0, 42, 28, 42, 182, 0, 229, 16, 32, 160, 0, 12, 42, 16, 32, 182, 0, 245, 167, 0, 4, 4, 79]
abbrev dktX3_readArguments_10 : List UInt8 := dkwX3_readArguments_10 ++ dktX3_readArguments_11
def dkwX3_readArguments_9 : List UInt8 := [182, 0, 236, 79, 42, 180, 0, 42, 28, 4, 96, 42, 16, 61, 182, 0, 245, 79, 167, 0, 31, 42]
abbrev dktX3_readArguments_9 : List UInt8 := dkwX3_readArguments_9 ++ dktX3_readArguments_10
def dkwX3_readArguments_8 : List UInt8 := [180, 0, 42, 28, 7, 96, 42, 16, 43, 182, 0, 245, 79, 167, 0, 58, 42, 180, 0, 42, 28, 42]
abbrev dktX3_readArguments_8 : List UInt8 := dkwX3_readArguments_8 ++ dktX3_readArguments_9
def dkwX3_readArguments_7 : List UInt8 := [42, 16, 32, 182, 0, 245, 79, 42, 180, 0, 42, 28, 6, 96, 42, 16, 64, 182, 0, 245, 79, 42]
abbrev dktX3_readArguments_7 : List UInt8 := dkwX3_readArguments_7 ++ dktX3_readArguments_8
def dkwX3_readArguments_6 : List UInt8 := [16, 62, 182, 0, 239, 42, 180, 0, 42, 28, 4, 96, 42, 182, 0, 236, 79, 42, 180, 0, 42, 28, 5, 96]
abbrev dktX3_readArguments_6 : List UInt8 := dkwX3_readArguments_6 ++ dktX3_readArguments_7
def dkwX3_readArguments_5 : List UInt8 := [180, 0, 42, 28, 42, 182, 0, 242, 79, 167, 0, 131, 42, 180, 0, 42, 28, 42, 182, 0, 236, 79, 42]
abbrev dktX3_readArguments_5 : List UInt8 := dkwX3_readArguments_5 ++ dktX3_readArguments_6
def dkwX3_readArguments_4 : List UInt8 := [182, 0, 245, 79, 42, 180, 0, 42, 28, 5, 96, 42, 16, 64, 182, 0, 245, 79, 167, 0, 144, 42]
abbrev dktX3_readArguments_4 : List UInt8 := dkwX3_readArguments_4 ++ dktX3_readArguments_5
def dkwX3_readArguments_3 : List UInt8 := [167, 0, 185, 42, 180, 0, 42, 28, 42, 182, 0, 236, 79, 42, 180, 0, 42, 28, 4, 96, 42, 16, 32]
abbrev dktX3_readArguments_3 : List UInt8 := dkwX3_readArguments_3 ++ dktX3_readArguments_4
def dkwX3_readArguments_2 : List UInt8 := [42, 180, 0, 42, 28, 42, 182, 0, 242, 79, 42, 180, 0, 42, 28, 4, 96, 42, 16, 44, 182, 0, 245, 79]
abbrev dktX3_readArguments_2 : List UInt8 := dkwX3_readArguments_2 ++ dktX3_readArguments_3
def dkwX3_readArguments_1 : List UInt8 := [170, 0, 0, 0, 0, 1, 4, 0, 0, 0, 0, 0, 0, 0, 8, 0, 0, 0, 51, 0, 0, 0, 78, 0, 0, 0, 78, 0, 0, 0, 119, 0, 0, 0, 132, 0, 0, 0, 205, 0, 0, 0, 205, 0, 0, 1, 4, 0, 0, 0, 232]
abbrev dktX3_readArguments_1 : List UInt8 := dkwX3_readArguments_1 ++ dktX3_readArguments_2
def dkwX3_readArguments_0 : List UInt8 := [27]
abbrev dktX3_readArguments_0 : List UInt8 := dkwX3_readArguments_0 ++ dktX3_readArguments_1
theorem dksX3_readArguments_0 : cX3_readArguments.data.toList.drop 0 = dktX3_readArguments_0 := by decide +kernel
theorem dksX3_readArguments_1 : cX3_readArguments.data.toList.drop 1 = dktX3_readArguments_1 := dk_seg dksX3_readArguments_0 1 rfl rfl
theorem dksX3_readArguments_2 : cX3_readArguments.data.toList.drop 52 = dktX3_readArguments_2 := dk_seg dksX3_readArguments_1 51 rfl rfl
theorem dksX3_readArguments_3 : cX3_readArguments.data.toList.drop 76 = dktX3_readArguments_3 := dk_seg dksX3_readArguments_2 24 rfl rfl
theorem dksX3_readArguments_4 : cX3_readArguments.data.toList.drop 99 = dktX3_readArguments_4 := dk_seg dksX3_readArguments_3 23 rfl rfl
theorem dksX3_readArguments_5 : cX3_readArguments.data.toList.drop 121 = dktX3_readArguments_5 := dk_seg dksX3_readArguments_4 22 rfl rfl
theorem dksX3_readArguments_6 : cX3_readArguments.data.toList.drop 144 = dktX3_readArguments_6 := dk_seg dksX3_readArguments_5 23 rfl rfl
theorem dksX3_readArguments_7 : cX3_readArguments.data.toList.drop 168 = dktX3_readArguments_7 := dk_seg dksX3_readArguments_6 24 rfl rfl
theorem dksX3_readArguments_8 : cX3_readArguments.data.toList.drop 190 = dktX3_readArguments_8 := dk_seg dksX3_readArguments_7 22 rfl rfl
theorem dksX3_readArguments_9 : cX3_readArguments.data.toList.drop 212 = dktX3_readArguments_9 := dk_seg dksX3_readArguments_8 22 rfl rfl
theorem dksX3_readArguments_10 : cX3_readArguments.data.toList.drop 234 = dktX3_readArguments_10 := dk_seg dksX3_readArguments_9 22 rfl rfl
theorem dksX3_readArguments_11 : cX3_readArguments.data.toList.drop 258 = dktX3_readArguments_11 := dk_seg dksX3_readArguments_10 24 rfl rfl
theorem dX3_readArguments_0 : decode cX3_readArguments 0 = .ok (.iload_n 1, 1) := dk_27 (dk_at dksX3_readArguments_0 0 rfl rfl)
theorem dX3_readArguments_1 : decode cX3_readArguments 1 = .ok (.tableswitch 260 0 8 #[51, 78, 78, 119, 132, 205, 205, 260, 232], 51) := by decide +kernel
theorem dX3_readArguments_52 : decode cX3_readArguments 52 = .ok (.aload_n 0, 1) := dk_42 (dk_at dksX3_readArguments_2 0 rfl rfl)
theorem dX3_readArguments_53 : decode cX3_readArguments 53 = .ok (.getfield 42, 3) := dk_180 0 42 (dk_at dksX3_readArguments_2 1 rfl rfl)
theorem dX3_readArguments_56 : decode cX3_readArguments 56 = .ok (.iload_n 2, 1) := dk_28 (dk_at dksX3_readArguments_2 4 rfl rfl)
theorem dX3_readArguments_57 : decode cX3_readArguments 57 = .ok (.aload_n 0, 1) := dk_42 (dk_at dksX3_readArguments_2 5 rfl rfl)
theorem dX3_readArguments_58 : decode cX3_readArguments 58 = .ok (.invokevirtual 242, 3) := dk_182 0 242 (dk_at dksX3_readArguments_2 6 rfl rfl)
theorem dX3_readArguments_61 : decode cX3_readArguments 61 = .ok (.iastore, 1) := dk_79 (dk_at dksX3_readArguments_2 9 rfl rfl)
theorem dX3_readArguments_62 : decode cX3_readArguments 62 = .ok (.aload_n 0, 1) := dk_42 (dk_at dksX3_readArguments_2 10 rfl rfl)
theorem dX3_readArguments_63 : decode cX3_readArguments 63 = .ok (.getfield 42, 3) := dk_180 0 42 (dk_at dksX3_readArguments_2 11 rfl rfl)
theorem dX3_readArguments_66 : decode cX3_readArguments 66 = .ok (.iload_n 2, 1) := dk_28 (dk_at dksX3_readArguments_2 14 rfl rfl)
theorem dX3_readArguments_67 : decode cX3_readArguments 67 = .ok (.iconst 1, 1) := dk_4 (dk_at dksX3_readArguments_2 15 rfl rfl)
theorem dX3_readArguments_68 : decode cX3_readArguments 68 = .ok (.iadd, 1) := dk_96 (dk_at dksX3_readArguments_2 16 rfl rfl)
theorem dX3_readArguments_69 : decode cX3_readArguments 69 = .ok (.aload_n 0, 1) := dk_42 (dk_at dksX3_readArguments_2 17 rfl rfl)
theorem dX3_readArguments_70 : decode cX3_readArguments 70 = .ok (.bipush 44, 2) := dk_16 44 (dk_at dksX3_readArguments_2 18 rfl rfl)
theorem dX3_readArguments_72 : decode cX3_readArguments 72 = .ok (.invokevirtual 245, 3) := dk_182 0 245 (dk_at dksX3_readArguments_2 20 rfl rfl)
theorem dX3_readArguments_75 : decode cX3_readArguments 75 = .ok (.iastore, 1) := dk_79 (dk_at dksX3_readArguments_2 23 rfl rfl)
theorem dX3_readArguments_76 : decode cX3_readArguments 76 = .ok (.goto 185, 3) := dk_167 0 185 (dk_at dksX3_readArguments_3 0 rfl rfl)
theorem dX3_readArguments_79 : decode cX3_readArguments 79 = .ok (.aload_n 0, 1) := dk_42 (dk_at dksX3_readArguments_3 3 rfl rfl)
theorem dX3_readArguments_80 : decode cX3_readArguments 80 = .ok (.getfield 42, 3) := dk_180 0 42 (dk_at dksX3_readArguments_3 4 rfl rfl)
theorem dX3_readArguments_83 : decode cX3_readArguments 83 = .ok (.iload_n 2, 1) := dk_28 (dk_at dksX3_readArguments_3 7 rfl rfl)
theorem dX3_readArguments_84 : decode cX3_readArguments 84 = .ok (.aload_n 0, 1) := dk_42 (dk_at dksX3_readArguments_3 8 rfl rfl)
theorem dX3_readArguments_85 : decode cX3_readArguments 85 = .ok (.invokevirtual 236, 3) := dk_182 0 236 (dk_at dksX3_readArguments_3 9 rfl rfl)
theorem dX3_readArguments_88 : decode cX3_readArguments 88 = .ok (.iastore, 1) := dk_79 (dk_at dksX3_readArguments_3 12 rfl rfl)
theorem dX3_readArguments_89 : decode cX3_readArguments 89 = .ok (.aload_n 0, 1) := dk_42 (dk_at dksX3_readArguments_3 13 rfl rfl)
theorem dX3_readArguments_90 : decode cX3_readArguments 90 = .ok (.getfield 42, 3) := dk_180 0 42 (dk_at dksX3_readArguments_3 14 rfl rfl)
theorem dX3_readArguments_93 : decode cX3_readArguments 93 = .ok (.iload_n 2, 1) := dk_28 (dk_at dksX3_readArguments_3 17 rfl rfl)
theorem dX3_readArguments_94 : decode cX3_readArguments 94 = .ok (.iconst 1, 1) := dk_4 (dk_at dksX3_readArguments_3 18 rfl rfl)
theorem dX3_readArguments_95 : decode cX3_readArguments 95 = .ok (.iadd, 1) := dk_96 (dk_at dksX3_readArguments_3 19 rfl rfl)
theorem dX3_readArguments_96 : decode cX3_readArguments 96 = .ok (.aload_n 0, 1) := dk_42 (dk_at dksX3_readArguments_3 20 rfl rfl)
theorem dX3_readArguments_97 : decode cX3_readArguments 97 = .ok (.bipush 32, 2) := dk_16 32 (dk_at dksX3_readArguments_3 21 rfl rfl)
theorem dX3_readArguments_99 : decode cX3_readArguments 99 = .ok (.invokevirtual 245, 3) := dk_182 0 245 (dk_at dksX3_readArguments_4 0 rfl rfl)
theorem dX3_readArguments_102 : decode cX3_readArguments 102 = .ok (.iastore, 1) := dk_79 (dk_at dksX3_readArguments_4 3 rfl rfl)
theorem dX3_readArguments_103 : decode cX3_readArguments 103 = .ok (.aload_n 0, 1) := dk_42 (dk_at dksX3_readArguments_4 4 rfl rfl)
theorem dX3_readArguments_104 : decode cX3_readArguments 104 = .ok (.getfield 42, 3) := dk_180 0 42 (dk_at dksX3_readArguments_4 5 rfl rfl)
theorem dX3_readArguments_107 : decode cX3_readArguments 107 = .ok (.iload_n 2, 1) := dk_28 (dk_at dksX3_readArguments_4 8 rfl rfl)
theorem dX3_readArguments_108 : decode cX3_readArguments 108 = .ok (.iconst 2, 1) := dk_5 (dk_at dksX3_readArguments_4 9 rfl rfl)
theorem dX3_readArguments_109 : decode cX3_readArguments 109 = .ok (.iadd, 1) := dk_96 (dk_at dksX3_readArguments_4 10 rfl rfl)
theorem dX3_readArguments_110 : decode cX3_readArguments 110 = .ok (.aload_n 0, 1) := dk_42 (dk_at dksX3_readArguments_4 11 rfl rfl)
theorem dX3_readArguments_111 : decode cX3_readArguments 111 = .ok (.bipush 64, 2) := dk_16 64 (dk_at dksX3_readArguments_4 12 rfl rfl)
theorem dX3_readArguments_113 : decode cX3_readArguments 113 = .ok (.invokevirtual 245, 3) := dk_182 0 245 (dk_at dksX3_readArguments_4 14 rfl rfl)
theorem dX3_readArguments_116 : decode cX3_readArguments 116 = .ok (.iastore, 1) := dk_79 (dk_at dksX3_readArguments_4 17 rfl rfl)
theorem dX3_readArguments_117 : decode cX3_readArguments 117 = .ok (.goto 144, 3) := dk_167 0 144 (dk_at dksX3_readArguments_4 18 rfl rfl)
theorem dX3_readArguments_120 : decode cX3_readArguments 120 = .ok (.aload_n 0, 1) := dk_42 (dk_at dksX3_readArguments_4 21 rfl rfl)
theorem dX3_readArguments_121 : decode cX3_readArguments 121 = .ok (.getfield 42, 3) := dk_180 0 42 (dk_at dksX3_readArguments_5 0 rfl rfl)
theorem dX3_readArguments_124 : decode cX3_readArguments 124 = .ok (.iload_n 2, 1) := dk_28 (dk_at dksX3_readArguments_5 3 rfl rfl)
theorem dX3_readArguments_125 : decode cX3_readArguments 125 = .ok (.aload_n 0, 1) := dk_42 (dk_at dksX3_readArguments_5 4 rfl rfl)
theorem dX3_readArguments_126 : decode cX3_readArguments 126 = .ok (.invokevirtual 242, 3) := dk_182 0 242 (dk_at dksX3_readArguments_5 5 rfl rfl)
theorem dX3_readArguments_129 : decode cX3_readArguments 129 = .ok (.iastore, 1) := dk_79 (dk_at dksX3_readArguments_5 8 rfl rfl)
theorem dX3_readArguments_130 : decode cX3_readArguments 130 = .ok (.goto 131, 3) := dk_167 0 131 (dk_at dksX3_readArguments_5 9 rfl rfl)
theorem dX3_readArguments_133 : decode cX3_readArguments 133 = .ok (.aload_n 0, 1) := dk_42 (dk_at dksX3_readArguments_5 12 rfl rfl)
theorem dX3_readArguments_134 : decode cX3_readArguments 134 = .ok (.getfield 42, 3) := dk_180 0 42 (dk_at dksX3_readArguments_5 13 rfl rfl)
theorem dX3_readArguments_137 : decode cX3_readArguments 137 = .ok (.iload_n 2, 1) := dk_28 (dk_at dksX3_readArguments_5 16 rfl rfl)
theorem dX3_readArguments_138 : decode cX3_readArguments 138 = .ok (.aload_n 0, 1) := dk_42 (dk_at dksX3_readArguments_5 17 rfl rfl)
theorem dX3_readArguments_139 : decode cX3_readArguments 139 = .ok (.invokevirtual 236, 3) := dk_182 0 236 (dk_at dksX3_readArguments_5 18 rfl rfl)
theorem dX3_readArguments_142 : decode cX3_readArguments 142 = .ok (.iastore, 1) := dk_79 (dk_at dksX3_readArguments_5 21 rfl rfl)
theorem dX3_readArguments_143 : decode cX3_readArguments 143 = .ok (.aload_n 0, 1) := dk_42 (dk_at dksX3_readArguments_5 22 rfl rfl)
theorem dX3_readArguments_144 : decode cX3_readArguments 144 = .ok (.bipush 62, 2) := dk_16 62 (dk_at dksX3_readArguments_6 0 rfl rfl)
theorem dX3_readArguments_146 : decode cX3_readArguments 146 = .ok (.invokevirtual 239, 3) := dk_182 0 239 (dk_at dksX3_readArguments_6 2 rfl rfl)
theorem dX3_readArguments_149 : decode cX3_readArguments 149 = .ok (.aload_n 0, 1) := dk_42 (dk_at dksX3_readArguments_6 5 rfl rfl)
theorem dX3_readArguments_150 : decode cX3_readArguments 150 = .ok (.getfield 42, 3) := dk_180 0 42 (dk_at dksX3_readArguments_6 6 rfl rfl)
theorem dX3_readArguments_153 : decode cX3_readArguments 153 = .ok (.iload_n 2, 1) := dk_28 (dk_at dksX3_readArguments_6 9 rfl rfl)
theorem dX3_readArguments_154 : decode cX3_readArguments 154 = .ok (.iconst 1, 1) := dk_4 (dk_at dksX3_readArguments_6 10 rfl rfl)
theorem dX3_readArguments_155 : decode cX3_readArguments 155 = .ok (.iadd, 1) := dk_96 (dk_at dksX3_readArguments_6 11 rfl rfl)
theorem dX3_readArguments_156 : decode cX3_readArguments 156 = .ok (.aload_n 0, 1) := dk_42 (dk_at dksX3_readArguments_6 12 rfl rfl)
theorem dX3_readArguments_157 : decode cX3_readArguments 157 = .ok (.invokevirtual 236, 3) := dk_182 0 236 (dk_at dksX3_readArguments_6 13 rfl rfl)
theorem dX3_readArguments_160 : decode cX3_readArguments 160 = .ok (.iastore, 1) := dk_79 (dk_at dksX3_readArguments_6 16 rfl rfl)
theorem dX3_readArguments_161 : decode cX3_readArguments 161 = .ok (.aload_n 0, 1) := dk_42 (dk_at dksX3_readArguments_6 17 rfl rfl)
theorem dX3_readArguments_162 : decode cX3_readArguments 162 = .ok (.getfield 42, 3) := dk_180 0 42 (dk_at dksX3_readArguments_6 18 rfl rfl)
theorem dX3_readArguments_165 : decode cX3_readArguments 165 = .ok (.iload_n 2, 1) := dk_28 (dk_at dksX3_readArguments_6 21 rfl rfl)
theorem dX3_readArguments_166 : decode cX3_readArguments 166 = .ok (.iconst 2, 1) := dk_5 (dk_at dksX3_readArguments_6 22 rfl rfl)
theorem dX3_readArguments_167 : decode cX3_readArguments 167 = .ok (.iadd, 1) := dk_96 (dk_at dksX3_readArguments_6 23 rfl rfl)
theorem dX3_readArguments_168 : decode cX3_readArguments 168 = .ok (.aload_n 0, 1) := dk_42 (dk_at dksX3_readArguments_7 0 rfl rfl)
theorem dX3_readArguments_169 : decode cX3_readArguments 169 = .ok (.bipush 32, 2) := dk_16 32 (dk_at dksX3_readArguments_7 1 rfl rfl)
theorem dX3_readArguments_171 : decode cX3_readArguments 171 = .ok (.invokevirtual 245, 3) := dk_182 0 245 (dk_at dksX3_readArguments_7 3 rfl rfl)
theorem dX3_readArguments_174 : decode cX3_readArguments 174 = .ok (.iastore, 1) := dk_79 (dk_at dksX3_readArguments_7 6 rfl rfl)
theorem dX3_readArguments_175 : decode cX3_readArguments 175 = .ok (.aload_n 0, 1) := dk_42 (dk_at dksX3_readArguments_7 7 rfl rfl)
theorem dX3_readArguments_176 : decode cX3_readArguments 176 = .ok (.getfield 42, 3) := dk_180 0 42 (dk_at dksX3_readArguments_7 8 rfl rfl)
theorem dX3_readArguments_179 : decode cX3_readArguments 179 = .ok (.iload_n 2, 1) := dk_28 (dk_at dksX3_readArguments_7 11 rfl rfl)
theorem dX3_readArguments_180 : decode cX3_readArguments 180 = .ok (.iconst 3, 1) := dk_6 (dk_at dksX3_readArguments_7 12 rfl rfl)
theorem dX3_readArguments_181 : decode cX3_readArguments 181 = .ok (.iadd, 1) := dk_96 (dk_at dksX3_readArguments_7 13 rfl rfl)
theorem dX3_readArguments_182 : decode cX3_readArguments 182 = .ok (.aload_n 0, 1) := dk_42 (dk_at dksX3_readArguments_7 14 rfl rfl)
theorem dX3_readArguments_183 : decode cX3_readArguments 183 = .ok (.bipush 64, 2) := dk_16 64 (dk_at dksX3_readArguments_7 15 rfl rfl)
theorem dX3_readArguments_185 : decode cX3_readArguments 185 = .ok (.invokevirtual 245, 3) := dk_182 0 245 (dk_at dksX3_readArguments_7 17 rfl rfl)
theorem dX3_readArguments_188 : decode cX3_readArguments 188 = .ok (.iastore, 1) := dk_79 (dk_at dksX3_readArguments_7 20 rfl rfl)
theorem dX3_readArguments_189 : decode cX3_readArguments 189 = .ok (.aload_n 0, 1) := dk_42 (dk_at dksX3_readArguments_7 21 rfl rfl)
theorem dX3_readArguments_190 : decode cX3_readArguments 190 = .ok (.getfield 42, 3) := dk_180 0 42 (dk_at dksX3_readArguments_8 0 rfl rfl)
theorem dX3_readArguments_193 : decode cX3_readArguments 193 = .ok (.iload_n 2, 1) := dk_28 (dk_at dksX3_readArguments_8 3 rfl rfl)
theorem dX3_readArguments_194 : decode cX3_readArguments 194 = .ok (.iconst 4, 1) := dk_7 (dk_at dksX3_readArguments_8 4 rfl rfl)
theorem dX3_readArguments_195 : decode cX3_readArguments 195 = .ok (.iadd, 1) := dk_96 (dk_at dksX3_readArguments_8 5 rfl rfl)
theorem dX3_readArguments_196 : decode cX3_readArguments 196 = .ok (.aload_n 0, 1) := dk_42 (dk_at dksX3_readArguments_8 6 rfl rfl)
theorem dX3_readArguments_197 : decode cX3_readArguments 197 = .ok (.bipush 43, 2) := dk_16 43 (dk_at dksX3_readArguments_8 7 rfl rfl)
theorem dX3_readArguments_199 : decode cX3_readArguments 199 = .ok (.invokevirtual 245, 3) := dk_182 0 245 (dk_at dksX3_readArguments_8 9 rfl rfl)
theorem dX3_readArguments_202 : decode cX3_readArguments 202 = .ok (.iastore, 1) := dk_79 (dk_at dksX3_readArguments_8 12 rfl rfl)
theorem dX3_readArguments_203 : decode cX3_readArguments 203 = .ok (.goto 58, 3) := dk_167 0 58 (dk_at dksX3_readArguments_8 13 rfl rfl)
theorem dX3_readArguments_206 : decode cX3_readArguments 206 = .ok (.aload_n 0, 1) := dk_42 (dk_at dksX3_readArguments_8 16 rfl rfl)
theorem dX3_readArguments_207 : decode cX3_readArguments 207 = .ok (.getfield 42, 3) := dk_180 0 42 (dk_at dksX3_readArguments_8 17 rfl rfl)
theorem dX3_readArguments_210 : decode cX3_readArguments 210 = .ok (.iload_n 2, 1) := dk_28 (dk_at dksX3_readArguments_8 20 rfl rfl)
theorem dX3_readArguments_211 : decode cX3_readArguments 211 = .ok (.aload_n 0, 1) := dk_42 (dk_at dksX3_readArguments_8 21 rfl rfl)
theorem dX3_readArguments_212 : decode cX3_readArguments 212 = .ok (.invokevirtual 236, 3) := dk_182 0 236 (dk_at dksX3_readArguments_9 0 rfl rfl)
theorem dX3_readArguments_215 : decode cX3_readArguments 215 = .ok (.iastore, 1) := dk_79 (dk_at dksX3_readArguments_9 3 rfl rfl)
theorem dX3_readArguments_216 : decode cX3_readArguments 216 = .ok (.aload_n 0, 1) := dk_42 (dk_at dksX3_readArguments_9 4 rfl rfl)
theorem dX3_readArguments_217 : decode cX3_readArguments 217 = .ok (.getfield 42, 3) := dk_180 0 42 (dk_at dksX3_readArguments_9 5 rfl rfl)
theorem dX3_readArguments_220 : decode cX3_readArguments 220 = .ok (.iload_n 2, 1) := dk_28 (dk_at dksX3_readArguments_9 8 rfl rfl)
theorem dX3_readArguments_221 : decode cX3_readArguments 221 = .ok (.iconst 1, 1) := dk_4 (dk_at dksX3_readArguments_9 9 rfl rfl)
theorem dX3_readArguments_222 : decode cX3_readArguments 222 = .ok (.iadd, 1) := dk_96 (dk_at dksX3_readArguments_9 10 rfl rfl)
theorem dX3_readArguments_223 : decode cX3_readArguments 223 = .ok (.aload_n 0, 1) := dk_42 (dk_at dksX3_readArguments_9 11 rfl rfl)
theorem dX3_readArguments_224 : decode cX3_readArguments 224 = .ok (.bipush 61, 2) := dk_16 61 (dk_at dksX3_readArguments_9 12 rfl rfl)
theorem dX3_readArguments_226 : decode cX3_readArguments 226 = .ok (.invokevirtual 245, 3) := dk_182 0 245 (dk_at dksX3_readArguments_9 14 rfl rfl)
theorem dX3_readArguments_229 : decode cX3_readArguments 229 = .ok (.iastore, 1) := dk_79 (dk_at dksX3_readArguments_9 17 rfl rfl)
theorem dX3_readArguments_230 : decode cX3_readArguments 230 = .ok (.goto 31, 3) := dk_167 0 31 (dk_at dksX3_readArguments_9 18 rfl rfl)
theorem dX3_readArguments_233 : decode cX3_readArguments 233 = .ok (.aload_n 0, 1) := dk_42 (dk_at dksX3_readArguments_9 21 rfl rfl)
theorem dX3_readArguments_234 : decode cX3_readArguments 234 = .ok (.getfield 42, 3) := dk_180 0 42 (dk_at dksX3_readArguments_10 0 rfl rfl)
theorem dX3_readArguments_237 : decode cX3_readArguments 237 = .ok (.iload_n 2, 1) := dk_28 (dk_at dksX3_readArguments_10 3 rfl rfl)
theorem dX3_readArguments_238 : decode cX3_readArguments 238 = .ok (.aload_n 0, 1) := dk_42 (dk_at dksX3_readArguments_10 4 rfl rfl)
theorem dX3_readArguments_239 : decode cX3_readArguments 239 = .ok (.invokevirtual 229, 3) := dk_182 0 229 (dk_at dksX3_readArguments_10 5 rfl rfl)
theorem dX3_readArguments_242 : decode cX3_readArguments 242 = .ok (.bipush 32, 2) := dk_16 32 (dk_at dksX3_readArguments_10 8 rfl rfl)
theorem dX3_readArguments_244 : decode cX3_readArguments 244 = .ok (.if_icmp .ne 12, 3) := dk_160 0 12 (dk_at dksX3_readArguments_10 10 rfl rfl)
theorem dX3_readArguments_247 : decode cX3_readArguments 247 = .ok (.aload_n 0, 1) := dk_42 (dk_at dksX3_readArguments_10 13 rfl rfl)
theorem dX3_readArguments_248 : decode cX3_readArguments 248 = .ok (.bipush 32, 2) := dk_16 32 (dk_at dksX3_readArguments_10 14 rfl rfl)
theorem dX3_readArguments_250 : decode cX3_readArguments 250 = .ok (.invokevirtual 245, 3) := dk_182 0 245 (dk_at dksX3_readArguments_10 16 rfl rfl)
theorem dX3_readArguments_253 : decode cX3_readArguments 253 = .ok (.goto 4, 3) := dk_167 0 4 (dk_at dksX3_readArguments_10 19 rfl rfl)
theorem dX3_readArguments_256 : decode cX3_readArguments 256 = .ok (.iconst 1, 1) := dk_4 (dk_at dksX3_readArguments_10 22 rfl rfl)
theorem dX3_readArguments_257 : decode cX3_readArguments 257 = .ok (.iastore, 1) := dk_79 (dk_at dksX3_readArguments_10 23 rfl rfl)
theorem dX3_readArguments_258 : decode cX3_readArguments 258 = .ok (.goto 3, 3) := dk_167 0 3 (dk_at dksX3_readArguments_11 0 rfl rfl)
theorem dX3_readArguments_261 : decode cX3_readArguments 261 = .ok (.return_, 1) := dk_177 (dk_at dksX3_readArguments_11 3 rfl rfl)
abbrev cX3_number : ByteArray := prog_15_method_93_code
def yX3_number : MethodName := ⟨RX3, "number", "()I"⟩
def dkwX3_number_2 : List UInt8 := [132, 2, 1, 167, 255, 214, 27, 172]
abbrev dktX3_number_2 : List UInt8 := dkwX3_number_2 ++ []
def dkwX3_number_1 : List UInt8 := [20, 0, 232, 20, 0, 234, 184, 0, 51, 153, 0, 19, 16, 10, 27, 104, 42, 182, 0, 236, 96, 60]
abbrev dktX3_number_1 : List UInt8 := dkwX3_number_1 ++ dktX3_number_2
def dkwX3_number_0 : List UInt8 := [42, 182, 0, 236, 60, 3, 61, 28, 5, 162, 0, 43, 42, 180, 0, 225, 154, 0, 36, 42, 182, 0, 229, 133]
abbrev dktX3_number_0 : List UInt8 := dkwX3_number_0 ++ dktX3_number_1
theorem dksX3_number_0 : cX3_number.data.toList.drop 0 = dktX3_number_0 := by decide +kernel
theorem dksX3_number_1 : cX3_number.data.toList.drop 24 = dktX3_number_1 := dk_seg dksX3_number_0 24 rfl rfl
theorem dksX3_number_2 : cX3_number.data.toList.drop 46 = dktX3_number_2 := dk_seg dksX3_number_1 22 rfl rfl
theorem dX3_number_0 : decode cX3_number 0 = .ok (.aload_n 0, 1) := dk_42 (dk_at dksX3_number_0 0 rfl rfl)
theorem dX3_number_1 : decode cX3_number 1 = .ok (.invokevirtual 236, 3) := dk_182 0 236 (dk_at dksX3_number_0 1 rfl rfl)
theorem dX3_number_4 : decode cX3_number 4 = .ok (.istore_n 1, 1) := dk_60 (dk_at dksX3_number_0 4 rfl rfl)
theorem dX3_number_5 : decode cX3_number 5 = .ok (.iconst 0, 1) := dk_3 (dk_at dksX3_number_0 5 rfl rfl)
theorem dX3_number_6 : decode cX3_number 6 = .ok (.istore_n 2, 1) := dk_61 (dk_at dksX3_number_0 6 rfl rfl)
theorem dX3_number_7 : decode cX3_number 7 = .ok (.iload_n 2, 1) := dk_28 (dk_at dksX3_number_0 7 rfl rfl)
theorem dX3_number_8 : decode cX3_number 8 = .ok (.iconst 2, 1) := dk_5 (dk_at dksX3_number_0 8 rfl rfl)
theorem dX3_number_9 : decode cX3_number 9 = .ok (.if_icmp .ge 43, 3) := dk_162 0 43 (dk_at dksX3_number_0 9 rfl rfl)
theorem dX3_number_12 : decode cX3_number 12 = .ok (.aload_n 0, 1) := dk_42 (dk_at dksX3_number_0 12 rfl rfl)
theorem dX3_number_13 : decode cX3_number 13 = .ok (.getfield 225, 3) := dk_180 0 225 (dk_at dksX3_number_0 13 rfl rfl)
theorem dX3_number_16 : decode cX3_number 16 = .ok (.ifCond .ne 36, 3) := dk_154 0 36 (dk_at dksX3_number_0 16 rfl rfl)
theorem dX3_number_19 : decode cX3_number 19 = .ok (.aload_n 0, 1) := dk_42 (dk_at dksX3_number_0 19 rfl rfl)
theorem dX3_number_20 : decode cX3_number 20 = .ok (.invokevirtual 229, 3) := dk_182 0 229 (dk_at dksX3_number_0 20 rfl rfl)
theorem dX3_number_23 : decode cX3_number 23 = .ok (.i2l, 1) := dk_133 (dk_at dksX3_number_0 23 rfl rfl)
theorem dX3_number_24 : decode cX3_number 24 = .ok (.ldc2_w 232, 3) := dk_20 0 232 (dk_at dksX3_number_1 0 rfl rfl)
theorem dX3_number_27 : decode cX3_number 27 = .ok (.ldc2_w 234, 3) := dk_20 0 234 (dk_at dksX3_number_1 3 rfl rfl)
theorem dX3_number_30 : decode cX3_number 30 = .ok (.invokestatic 51, 3) := dk_184 0 51 (dk_at dksX3_number_1 6 rfl rfl)
theorem dX3_number_33 : decode cX3_number 33 = .ok (.ifCond .eq 19, 3) := dk_153 0 19 (dk_at dksX3_number_1 9 rfl rfl)
theorem dX3_number_36 : decode cX3_number 36 = .ok (.bipush 10, 2) := dk_16 10 (dk_at dksX3_number_1 12 rfl rfl)
theorem dX3_number_38 : decode cX3_number 38 = .ok (.iload_n 1, 1) := dk_27 (dk_at dksX3_number_1 14 rfl rfl)
theorem dX3_number_39 : decode cX3_number 39 = .ok (.imul, 1) := dk_104 (dk_at dksX3_number_1 15 rfl rfl)
theorem dX3_number_40 : decode cX3_number 40 = .ok (.aload_n 0, 1) := dk_42 (dk_at dksX3_number_1 16 rfl rfl)
theorem dX3_number_41 : decode cX3_number 41 = .ok (.invokevirtual 236, 3) := dk_182 0 236 (dk_at dksX3_number_1 17 rfl rfl)
theorem dX3_number_44 : decode cX3_number 44 = .ok (.iadd, 1) := dk_96 (dk_at dksX3_number_1 20 rfl rfl)
theorem dX3_number_45 : decode cX3_number 45 = .ok (.istore_n 1, 1) := dk_60 (dk_at dksX3_number_1 21 rfl rfl)
theorem dX3_number_46 : decode cX3_number 46 = .ok (.iinc 2 1, 3) := dk_132 2 1 (dk_at dksX3_number_2 0 rfl rfl)
theorem dX3_number_49 : decode cX3_number 49 = .ok (.goto (-42), 3) := dk_167 255 214 (dk_at dksX3_number_2 3 rfl rfl)
theorem dX3_number_52 : decode cX3_number 52 = .ok (.iload_n 1, 1) := dk_27 (dk_at dksX3_number_2 6 rfl rfl)
theorem dX3_number_53 : decode cX3_number 53 = .ok (.ireturn, 1) := dk_172 (dk_at dksX3_number_2 7 rfl rfl)
abbrev cX3_digit : ByteArray := prog_15_method_92_code
def yX3_digit : MethodName := ⟨RX3, "digit", "()I"⟩
def dkwX3_digit_3 : List UInt8 := [96, 181, 0, 219, 27, 172]
abbrev dktX3_digit_3 : List UInt8 := dkwX3_digit_3 ++ []
def dkwX3_digit_2 : List UInt8 := [182, 0, 229, 16, 48, 100, 60, 42, 89, 180, 0, 219, 42, 180, 0, 225, 153, 0, 7, 3, 167, 0, 4, 4]
abbrev dktX3_digit_2 : List UInt8 := dkwX3_digit_2 ++ dktX3_digit_3
def dkwX3_digit_1 : List UInt8 := [154, 0, 7, 4, 167, 0, 4, 3, 181, 0, 225, 42, 180, 0, 225, 153, 0, 7, 3, 167, 0, 10, 42]
abbrev dktX3_digit_1 : List UInt8 := dkwX3_digit_1 ++ dktX3_digit_2
def dkwX3_digit_0 : List UInt8 := [42, 42, 180, 0, 225, 154, 0, 20, 42, 182, 0, 229, 133, 20, 0, 232, 20, 0, 234, 184, 0, 51]
abbrev dktX3_digit_0 : List UInt8 := dkwX3_digit_0 ++ dktX3_digit_1
theorem dksX3_digit_0 : cX3_digit.data.toList.drop 0 = dktX3_digit_0 := by decide +kernel
theorem dksX3_digit_1 : cX3_digit.data.toList.drop 22 = dktX3_digit_1 := dk_seg dksX3_digit_0 22 rfl rfl
theorem dksX3_digit_2 : cX3_digit.data.toList.drop 45 = dktX3_digit_2 := dk_seg dksX3_digit_1 23 rfl rfl
theorem dksX3_digit_3 : cX3_digit.data.toList.drop 69 = dktX3_digit_3 := dk_seg dksX3_digit_2 24 rfl rfl
theorem dX3_digit_0 : decode cX3_digit 0 = .ok (.aload_n 0, 1) := dk_42 (dk_at dksX3_digit_0 0 rfl rfl)
theorem dX3_digit_1 : decode cX3_digit 1 = .ok (.aload_n 0, 1) := dk_42 (dk_at dksX3_digit_0 1 rfl rfl)
theorem dX3_digit_2 : decode cX3_digit 2 = .ok (.getfield 225, 3) := dk_180 0 225 (dk_at dksX3_digit_0 2 rfl rfl)
theorem dX3_digit_5 : decode cX3_digit 5 = .ok (.ifCond .ne 20, 3) := dk_154 0 20 (dk_at dksX3_digit_0 5 rfl rfl)
theorem dX3_digit_8 : decode cX3_digit 8 = .ok (.aload_n 0, 1) := dk_42 (dk_at dksX3_digit_0 8 rfl rfl)
theorem dX3_digit_9 : decode cX3_digit 9 = .ok (.invokevirtual 229, 3) := dk_182 0 229 (dk_at dksX3_digit_0 9 rfl rfl)
theorem dX3_digit_12 : decode cX3_digit 12 = .ok (.i2l, 1) := dk_133 (dk_at dksX3_digit_0 12 rfl rfl)
theorem dX3_digit_13 : decode cX3_digit 13 = .ok (.ldc2_w 232, 3) := dk_20 0 232 (dk_at dksX3_digit_0 13 rfl rfl)
theorem dX3_digit_16 : decode cX3_digit 16 = .ok (.ldc2_w 234, 3) := dk_20 0 234 (dk_at dksX3_digit_0 16 rfl rfl)
theorem dX3_digit_19 : decode cX3_digit 19 = .ok (.invokestatic 51, 3) := dk_184 0 51 (dk_at dksX3_digit_0 19 rfl rfl)
theorem dX3_digit_22 : decode cX3_digit 22 = .ok (.ifCond .ne 7, 3) := dk_154 0 7 (dk_at dksX3_digit_1 0 rfl rfl)
theorem dX3_digit_25 : decode cX3_digit 25 = .ok (.iconst 1, 1) := dk_4 (dk_at dksX3_digit_1 3 rfl rfl)
theorem dX3_digit_26 : decode cX3_digit 26 = .ok (.goto 4, 3) := dk_167 0 4 (dk_at dksX3_digit_1 4 rfl rfl)
theorem dX3_digit_29 : decode cX3_digit 29 = .ok (.iconst 0, 1) := dk_3 (dk_at dksX3_digit_1 7 rfl rfl)
theorem dX3_digit_30 : decode cX3_digit 30 = .ok (.putfield 225, 3) := dk_181 0 225 (dk_at dksX3_digit_1 8 rfl rfl)
theorem dX3_digit_33 : decode cX3_digit 33 = .ok (.aload_n 0, 1) := dk_42 (dk_at dksX3_digit_1 11 rfl rfl)
theorem dX3_digit_34 : decode cX3_digit 34 = .ok (.getfield 225, 3) := dk_180 0 225 (dk_at dksX3_digit_1 12 rfl rfl)
theorem dX3_digit_37 : decode cX3_digit 37 = .ok (.ifCond .eq 7, 3) := dk_153 0 7 (dk_at dksX3_digit_1 15 rfl rfl)
theorem dX3_digit_40 : decode cX3_digit 40 = .ok (.iconst 0, 1) := dk_3 (dk_at dksX3_digit_1 18 rfl rfl)
theorem dX3_digit_41 : decode cX3_digit 41 = .ok (.goto 10, 3) := dk_167 0 10 (dk_at dksX3_digit_1 19 rfl rfl)
theorem dX3_digit_44 : decode cX3_digit 44 = .ok (.aload_n 0, 1) := dk_42 (dk_at dksX3_digit_1 22 rfl rfl)
theorem dX3_digit_45 : decode cX3_digit 45 = .ok (.invokevirtual 229, 3) := dk_182 0 229 (dk_at dksX3_digit_2 0 rfl rfl)
theorem dX3_digit_48 : decode cX3_digit 48 = .ok (.bipush 48, 2) := dk_16 48 (dk_at dksX3_digit_2 3 rfl rfl)
theorem dX3_digit_50 : decode cX3_digit 50 = .ok (.isub, 1) := dk_100 (dk_at dksX3_digit_2 5 rfl rfl)
theorem dX3_digit_51 : decode cX3_digit 51 = .ok (.istore_n 1, 1) := dk_60 (dk_at dksX3_digit_2 6 rfl rfl)
theorem dX3_digit_52 : decode cX3_digit 52 = .ok (.aload_n 0, 1) := dk_42 (dk_at dksX3_digit_2 7 rfl rfl)
theorem dX3_digit_53 : decode cX3_digit 53 = .ok (.dup, 1) := dk_89 (dk_at dksX3_digit_2 8 rfl rfl)
theorem dX3_digit_54 : decode cX3_digit 54 = .ok (.getfield 219, 3) := dk_180 0 219 (dk_at dksX3_digit_2 9 rfl rfl)
theorem dX3_digit_57 : decode cX3_digit 57 = .ok (.aload_n 0, 1) := dk_42 (dk_at dksX3_digit_2 12 rfl rfl)
theorem dX3_digit_58 : decode cX3_digit 58 = .ok (.getfield 225, 3) := dk_180 0 225 (dk_at dksX3_digit_2 13 rfl rfl)
theorem dX3_digit_61 : decode cX3_digit 61 = .ok (.ifCond .eq 7, 3) := dk_153 0 7 (dk_at dksX3_digit_2 16 rfl rfl)
theorem dX3_digit_64 : decode cX3_digit 64 = .ok (.iconst 0, 1) := dk_3 (dk_at dksX3_digit_2 19 rfl rfl)
theorem dX3_digit_65 : decode cX3_digit 65 = .ok (.goto 4, 3) := dk_167 0 4 (dk_at dksX3_digit_2 20 rfl rfl)
theorem dX3_digit_68 : decode cX3_digit 68 = .ok (.iconst 1, 1) := dk_4 (dk_at dksX3_digit_2 23 rfl rfl)
theorem dX3_digit_69 : decode cX3_digit 69 = .ok (.iadd, 1) := dk_96 (dk_at dksX3_digit_3 0 rfl rfl)
theorem dX3_digit_70 : decode cX3_digit 70 = .ok (.putfield 219, 3) := dk_181 0 219 (dk_at dksX3_digit_3 1 rfl rfl)
theorem dX3_digit_73 : decode cX3_digit 73 = .ok (.iload_n 1, 1) := dk_27 (dk_at dksX3_digit_3 4 rfl rfl)
theorem dX3_digit_74 : decode cX3_digit 74 = .ok (.ireturn, 1) := dk_172 (dk_at dksX3_digit_3 5 rfl rfl)
abbrev cX3_here : ByteArray := prog_15_method_90_code
def yX3_here : MethodName := ⟨RX3, "here", "()I"⟩
def dkwX3_here_1 : List UInt8 := [172]
abbrev dktX3_here_1 : List UInt8 := dkwX3_here_1 ++ []
def dkwX3_here_0 : List UInt8 := [42, 180, 0, 219, 42, 180, 0, 222, 162, 0, 15, 42, 180, 0, 29, 42, 180, 0, 219, 46, 167, 0, 4, 2]
abbrev dktX3_here_0 : List UInt8 := dkwX3_here_0 ++ dktX3_here_1
theorem dksX3_here_0 : cX3_here.data.toList.drop 0 = dktX3_here_0 := by decide +kernel
theorem dksX3_here_1 : cX3_here.data.toList.drop 24 = dktX3_here_1 := dk_seg dksX3_here_0 24 rfl rfl
theorem dX3_here_0 : decode cX3_here 0 = .ok (.aload_n 0, 1) := dk_42 (dk_at dksX3_here_0 0 rfl rfl)
theorem dX3_here_1 : decode cX3_here 1 = .ok (.getfield 219, 3) := dk_180 0 219 (dk_at dksX3_here_0 1 rfl rfl)
theorem dX3_here_4 : decode cX3_here 4 = .ok (.aload_n 0, 1) := dk_42 (dk_at dksX3_here_0 4 rfl rfl)
theorem dX3_here_5 : decode cX3_here 5 = .ok (.getfield 222, 3) := dk_180 0 222 (dk_at dksX3_here_0 5 rfl rfl)
theorem dX3_here_8 : decode cX3_here 8 = .ok (.if_icmp .ge 15, 3) := dk_162 0 15 (dk_at dksX3_here_0 8 rfl rfl)
theorem dX3_here_11 : decode cX3_here 11 = .ok (.aload_n 0, 1) := dk_42 (dk_at dksX3_here_0 11 rfl rfl)
theorem dX3_here_12 : decode cX3_here 12 = .ok (.getfield 29, 3) := dk_180 0 29 (dk_at dksX3_here_0 12 rfl rfl)
theorem dX3_here_15 : decode cX3_here 15 = .ok (.aload_n 0, 1) := dk_42 (dk_at dksX3_here_0 15 rfl rfl)
theorem dX3_here_16 : decode cX3_here 16 = .ok (.getfield 219, 3) := dk_180 0 219 (dk_at dksX3_here_0 16 rfl rfl)
theorem dX3_here_19 : decode cX3_here 19 = .ok (.iaload, 1) := dk_46 (dk_at dksX3_here_0 19 rfl rfl)
theorem dX3_here_20 : decode cX3_here 20 = .ok (.goto 4, 3) := dk_167 0 4 (dk_at dksX3_here_0 20 rfl rfl)
theorem dX3_here_23 : decode cX3_here 23 = .ok (.iconst (-1), 1) := dk_2 (dk_at dksX3_here_0 23 rfl rfl)
theorem dX3_here_24 : decode cX3_here 24 = .ok (.ireturn, 1) := dk_172 (dk_at dksX3_here_1 0 rfl rfl)
abbrev cX3_numberBehind : ByteArray := prog_15_method_94_code
def yX3_numberBehind : MethodName := ⟨RX3, "numberBehind", "(I)I"⟩
def dkwX3_numberBehind_0 : List UInt8 := [42, 27, 182, 0, 239, 42, 182, 0, 242, 172]
abbrev dktX3_numberBehind_0 : List UInt8 := dkwX3_numberBehind_0 ++ []
theorem dksX3_numberBehind_0 : cX3_numberBehind.data.toList.drop 0 = dktX3_numberBehind_0 := by decide +kernel
theorem dX3_numberBehind_0 : decode cX3_numberBehind 0 = .ok (.aload_n 0, 1) := dk_42 (dk_at dksX3_numberBehind_0 0 rfl rfl)
theorem dX3_numberBehind_1 : decode cX3_numberBehind 1 = .ok (.iload_n 1, 1) := dk_27 (dk_at dksX3_numberBehind_0 1 rfl rfl)
theorem dX3_numberBehind_2 : decode cX3_numberBehind 2 = .ok (.invokevirtual 239, 3) := dk_182 0 239 (dk_at dksX3_numberBehind_0 2 rfl rfl)
theorem dX3_numberBehind_5 : decode cX3_numberBehind 5 = .ok (.aload_n 0, 1) := dk_42 (dk_at dksX3_numberBehind_0 5 rfl rfl)
theorem dX3_numberBehind_6 : decode cX3_numberBehind 6 = .ok (.invokevirtual 242, 3) := dk_182 0 242 (dk_at dksX3_numberBehind_0 6 rfl rfl)
theorem dX3_numberBehind_9 : decode cX3_numberBehind 9 = .ok (.ireturn, 1) := dk_172 (dk_at dksX3_numberBehind_0 9 rfl rfl)
abbrev cX3_expects : ByteArray := prog_15_method_91_code
def yX3_expects : MethodName := ⟨RX3, "expects", "(I)V"⟩
def dkwX3_expects_1 : List UInt8 := [42, 89, 180, 0, 219, 42, 180, 0, 225, 153, 0, 7, 3, 167, 0, 4, 4, 96, 181, 0, 219, 177]
abbrev dktX3_expects_1 : List UInt8 := dkwX3_expects_1 ++ []
def dkwX3_expects_0 : List UInt8 := [42, 42, 180, 0, 225, 154, 0, 11, 42, 182, 0, 229, 27, 159, 0, 7, 4, 167, 0, 4, 3, 181, 0, 225]
abbrev dktX3_expects_0 : List UInt8 := dkwX3_expects_0 ++ dktX3_expects_1
theorem dksX3_expects_0 : cX3_expects.data.toList.drop 0 = dktX3_expects_0 := by decide +kernel
theorem dksX3_expects_1 : cX3_expects.data.toList.drop 24 = dktX3_expects_1 := dk_seg dksX3_expects_0 24 rfl rfl
theorem dX3_expects_0 : decode cX3_expects 0 = .ok (.aload_n 0, 1) := dk_42 (dk_at dksX3_expects_0 0 rfl rfl)
theorem dX3_expects_1 : decode cX3_expects 1 = .ok (.aload_n 0, 1) := dk_42 (dk_at dksX3_expects_0 1 rfl rfl)
theorem dX3_expects_2 : decode cX3_expects 2 = .ok (.getfield 225, 3) := dk_180 0 225 (dk_at dksX3_expects_0 2 rfl rfl)
theorem dX3_expects_5 : decode cX3_expects 5 = .ok (.ifCond .ne 11, 3) := dk_154 0 11 (dk_at dksX3_expects_0 5 rfl rfl)
theorem dX3_expects_8 : decode cX3_expects 8 = .ok (.aload_n 0, 1) := dk_42 (dk_at dksX3_expects_0 8 rfl rfl)
theorem dX3_expects_9 : decode cX3_expects 9 = .ok (.invokevirtual 229, 3) := dk_182 0 229 (dk_at dksX3_expects_0 9 rfl rfl)
theorem dX3_expects_12 : decode cX3_expects 12 = .ok (.iload_n 1, 1) := dk_27 (dk_at dksX3_expects_0 12 rfl rfl)
theorem dX3_expects_13 : decode cX3_expects 13 = .ok (.if_icmp .eq 7, 3) := dk_159 0 7 (dk_at dksX3_expects_0 13 rfl rfl)
theorem dX3_expects_16 : decode cX3_expects 16 = .ok (.iconst 1, 1) := dk_4 (dk_at dksX3_expects_0 16 rfl rfl)
theorem dX3_expects_17 : decode cX3_expects 17 = .ok (.goto 4, 3) := dk_167 0 4 (dk_at dksX3_expects_0 17 rfl rfl)
theorem dX3_expects_20 : decode cX3_expects 20 = .ok (.iconst 0, 1) := dk_3 (dk_at dksX3_expects_0 20 rfl rfl)
theorem dX3_expects_21 : decode cX3_expects 21 = .ok (.putfield 225, 3) := dk_181 0 225 (dk_at dksX3_expects_0 21 rfl rfl)
theorem dX3_expects_24 : decode cX3_expects 24 = .ok (.aload_n 0, 1) := dk_42 (dk_at dksX3_expects_1 0 rfl rfl)
theorem dX3_expects_25 : decode cX3_expects 25 = .ok (.dup, 1) := dk_89 (dk_at dksX3_expects_1 1 rfl rfl)
theorem dX3_expects_26 : decode cX3_expects 26 = .ok (.getfield 219, 3) := dk_180 0 219 (dk_at dksX3_expects_1 2 rfl rfl)
theorem dX3_expects_29 : decode cX3_expects 29 = .ok (.aload_n 0, 1) := dk_42 (dk_at dksX3_expects_1 5 rfl rfl)
theorem dX3_expects_30 : decode cX3_expects 30 = .ok (.getfield 225, 3) := dk_180 0 225 (dk_at dksX3_expects_1 6 rfl rfl)
theorem dX3_expects_33 : decode cX3_expects 33 = .ok (.ifCond .eq 7, 3) := dk_153 0 7 (dk_at dksX3_expects_1 9 rfl rfl)
theorem dX3_expects_36 : decode cX3_expects 36 = .ok (.iconst 0, 1) := dk_3 (dk_at dksX3_expects_1 12 rfl rfl)
theorem dX3_expects_37 : decode cX3_expects 37 = .ok (.goto 4, 3) := dk_167 0 4 (dk_at dksX3_expects_1 13 rfl rfl)
theorem dX3_expects_40 : decode cX3_expects 40 = .ok (.iconst 1, 1) := dk_4 (dk_at dksX3_expects_1 16 rfl rfl)
theorem dX3_expects_41 : decode cX3_expects 41 = .ok (.iadd, 1) := dk_96 (dk_at dksX3_expects_1 17 rfl rfl)
theorem dX3_expects_42 : decode cX3_expects 42 = .ok (.putfield 219, 3) := dk_181 0 219 (dk_at dksX3_expects_1 18 rfl rfl)
theorem dX3_expects_45 : decode cX3_expects 45 = .ok (.return_, 1) := dk_177 (dk_at dksX3_expects_1 21 rfl rfl)
abbrev cX3_does : ByteArray := prog_15_method_98_code
def yX3_does : MethodName := ⟨RX3, "does", "(I)V"⟩
def dkwX3_does_7 : List UInt8 := [182, 0, 171, 87, 167, 0, 9, 42, 28, 182, 0, 146, 87, 177]
abbrev dktX3_does_7 : List UInt8 := dkwX3_does_7 ++ []
def dkwX3_does_6 : List UInt8 := [167, 0, 37, 42, 28, 29, 182, 0, 152, 87, 167, 0, 27, 42, 28, 29, 182, 0, 155, 87, 167, 0, 17, 42]
abbrev dktX3_does_6 : List UInt8 := dkwX3_does_6 ++ dktX3_does_7
def dkwX3_does_5 : List UInt8 := [21, 4, 42, 180, 0, 42, 27, 7, 96, 46, 42, 180, 0, 42, 27, 8, 96, 46, 182, 0, 133, 87]
abbrev dktX3_does_5 : List UInt8 := dkwX3_does_5 ++ dktX3_does_6
def dkwX3_does_4 : List UInt8 := [28, 3, 29, 21, 4, 182, 0, 120, 87, 167, 0, 74, 42, 28, 182, 0, 127, 87, 167, 0, 65, 42, 28, 29]
abbrev dktX3_does_4 : List UInt8 := dkwX3_does_4 ++ dktX3_does_5
def dkwX3_does_3 : List UInt8 := [42, 28, 29, 182, 0, 84, 87, 167, 0, 100, 42, 28, 4, 29, 21, 4, 182, 0, 120, 87, 167, 0, 87, 42]
abbrev dktX3_does_3 : List UInt8 := dkwX3_does_3 ++ dktX3_does_4
def dkwX3_does_2 : List UInt8 := [170, 0, 0, 0, 0, 147, 0, 0, 0, 0, 0, 0, 0, 7, 0, 0, 0, 46, 0, 0, 0, 56, 0, 0, 0, 69, 0, 0, 0, 82, 0, 0, 0, 91, 0, 0, 0, 119, 0, 0, 0, 129, 0, 0, 0, 139]
abbrev dktX3_does_2 : List UInt8 := dkwX3_does_2 ++ dktX3_does_3
def dkwX3_does_1 : List UInt8 := [96, 46, 54, 4, 42, 180, 0, 42, 27, 46]
abbrev dktX3_does_1 : List UInt8 := dkwX3_does_1 ++ dktX3_does_2
def dkwX3_does_0 : List UInt8 := [42, 180, 0, 42, 27, 4, 96, 46, 61, 42, 180, 0, 42, 27, 5, 96, 46, 62, 42, 180, 0, 42, 27, 6]
abbrev dktX3_does_0 : List UInt8 := dkwX3_does_0 ++ dktX3_does_1
theorem dksX3_does_0 : cX3_does.data.toList.drop 0 = dktX3_does_0 := by decide +kernel
theorem dksX3_does_1 : cX3_does.data.toList.drop 24 = dktX3_does_1 := dk_seg dksX3_does_0 24 rfl rfl
theorem dksX3_does_2 : cX3_does.data.toList.drop 34 = dktX3_does_2 := dk_seg dksX3_does_1 10 rfl rfl
theorem dksX3_does_3 : cX3_does.data.toList.drop 80 = dktX3_does_3 := dk_seg dksX3_does_2 46 rfl rfl
theorem dksX3_does_4 : cX3_does.data.toList.drop 104 = dktX3_does_4 := dk_seg dksX3_does_3 24 rfl rfl
theorem dksX3_does_5 : cX3_does.data.toList.drop 128 = dktX3_does_5 := dk_seg dksX3_does_4 24 rfl rfl
theorem dksX3_does_6 : cX3_does.data.toList.drop 150 = dktX3_does_6 := dk_seg dksX3_does_5 22 rfl rfl
theorem dksX3_does_7 : cX3_does.data.toList.drop 174 = dktX3_does_7 := dk_seg dksX3_does_6 24 rfl rfl
theorem dX3_does_0 : decode cX3_does 0 = .ok (.aload_n 0, 1) := dk_42 (dk_at dksX3_does_0 0 rfl rfl)
theorem dX3_does_1 : decode cX3_does 1 = .ok (.getfield 42, 3) := dk_180 0 42 (dk_at dksX3_does_0 1 rfl rfl)
theorem dX3_does_4 : decode cX3_does 4 = .ok (.iload_n 1, 1) := dk_27 (dk_at dksX3_does_0 4 rfl rfl)
theorem dX3_does_5 : decode cX3_does 5 = .ok (.iconst 1, 1) := dk_4 (dk_at dksX3_does_0 5 rfl rfl)
theorem dX3_does_6 : decode cX3_does 6 = .ok (.iadd, 1) := dk_96 (dk_at dksX3_does_0 6 rfl rfl)
theorem dX3_does_7 : decode cX3_does 7 = .ok (.iaload, 1) := dk_46 (dk_at dksX3_does_0 7 rfl rfl)
theorem dX3_does_8 : decode cX3_does 8 = .ok (.istore_n 2, 1) := dk_61 (dk_at dksX3_does_0 8 rfl rfl)
theorem dX3_does_9 : decode cX3_does 9 = .ok (.aload_n 0, 1) := dk_42 (dk_at dksX3_does_0 9 rfl rfl)
theorem dX3_does_10 : decode cX3_does 10 = .ok (.getfield 42, 3) := dk_180 0 42 (dk_at dksX3_does_0 10 rfl rfl)
theorem dX3_does_13 : decode cX3_does 13 = .ok (.iload_n 1, 1) := dk_27 (dk_at dksX3_does_0 13 rfl rfl)
theorem dX3_does_14 : decode cX3_does 14 = .ok (.iconst 2, 1) := dk_5 (dk_at dksX3_does_0 14 rfl rfl)
theorem dX3_does_15 : decode cX3_does 15 = .ok (.iadd, 1) := dk_96 (dk_at dksX3_does_0 15 rfl rfl)
theorem dX3_does_16 : decode cX3_does 16 = .ok (.iaload, 1) := dk_46 (dk_at dksX3_does_0 16 rfl rfl)
theorem dX3_does_17 : decode cX3_does 17 = .ok (.istore_n 3, 1) := dk_62 (dk_at dksX3_does_0 17 rfl rfl)
theorem dX3_does_18 : decode cX3_does 18 = .ok (.aload_n 0, 1) := dk_42 (dk_at dksX3_does_0 18 rfl rfl)
theorem dX3_does_19 : decode cX3_does 19 = .ok (.getfield 42, 3) := dk_180 0 42 (dk_at dksX3_does_0 19 rfl rfl)
theorem dX3_does_22 : decode cX3_does 22 = .ok (.iload_n 1, 1) := dk_27 (dk_at dksX3_does_0 22 rfl rfl)
theorem dX3_does_23 : decode cX3_does 23 = .ok (.iconst 3, 1) := dk_6 (dk_at dksX3_does_0 23 rfl rfl)
theorem dX3_does_24 : decode cX3_does 24 = .ok (.iadd, 1) := dk_96 (dk_at dksX3_does_1 0 rfl rfl)
theorem dX3_does_25 : decode cX3_does 25 = .ok (.iaload, 1) := dk_46 (dk_at dksX3_does_1 1 rfl rfl)
theorem dX3_does_26 : decode cX3_does 26 = .ok (.istore 4, 2) := dk_54 4 (dk_at dksX3_does_1 2 rfl rfl)
theorem dX3_does_28 : decode cX3_does 28 = .ok (.aload_n 0, 1) := dk_42 (dk_at dksX3_does_1 4 rfl rfl)
theorem dX3_does_29 : decode cX3_does 29 = .ok (.getfield 42, 3) := dk_180 0 42 (dk_at dksX3_does_1 5 rfl rfl)
theorem dX3_does_32 : decode cX3_does 32 = .ok (.iload_n 1, 1) := dk_27 (dk_at dksX3_does_1 8 rfl rfl)
theorem dX3_does_33 : decode cX3_does 33 = .ok (.iaload, 1) := dk_46 (dk_at dksX3_does_1 9 rfl rfl)
theorem dX3_does_34 : decode cX3_does 34 = .ok (.tableswitch 147 0 7 #[46, 56, 69, 82, 91, 119, 129, 139], 46) := by decide +kernel
theorem dX3_does_80 : decode cX3_does 80 = .ok (.aload_n 0, 1) := dk_42 (dk_at dksX3_does_3 0 rfl rfl)
theorem dX3_does_81 : decode cX3_does 81 = .ok (.iload_n 2, 1) := dk_28 (dk_at dksX3_does_3 1 rfl rfl)
theorem dX3_does_82 : decode cX3_does 82 = .ok (.iload_n 3, 1) := dk_29 (dk_at dksX3_does_3 2 rfl rfl)
theorem dX3_does_83 : decode cX3_does 83 = .ok (.invokevirtual 84, 3) := dk_182 0 84 (dk_at dksX3_does_3 3 rfl rfl)
theorem dX3_does_86 : decode cX3_does 86 = .ok (.pop, 1) := dk_87 (dk_at dksX3_does_3 6 rfl rfl)
theorem dX3_does_87 : decode cX3_does 87 = .ok (.goto 100, 3) := dk_167 0 100 (dk_at dksX3_does_3 7 rfl rfl)
theorem dX3_does_90 : decode cX3_does 90 = .ok (.aload_n 0, 1) := dk_42 (dk_at dksX3_does_3 10 rfl rfl)
theorem dX3_does_91 : decode cX3_does 91 = .ok (.iload_n 2, 1) := dk_28 (dk_at dksX3_does_3 11 rfl rfl)
theorem dX3_does_92 : decode cX3_does 92 = .ok (.iconst 1, 1) := dk_4 (dk_at dksX3_does_3 12 rfl rfl)
theorem dX3_does_93 : decode cX3_does 93 = .ok (.iload_n 3, 1) := dk_29 (dk_at dksX3_does_3 13 rfl rfl)
theorem dX3_does_94 : decode cX3_does 94 = .ok (.iload 4, 2) := dk_21 4 (dk_at dksX3_does_3 14 rfl rfl)
theorem dX3_does_96 : decode cX3_does 96 = .ok (.invokevirtual 120, 3) := dk_182 0 120 (dk_at dksX3_does_3 16 rfl rfl)
theorem dX3_does_99 : decode cX3_does 99 = .ok (.pop, 1) := dk_87 (dk_at dksX3_does_3 19 rfl rfl)
theorem dX3_does_100 : decode cX3_does 100 = .ok (.goto 87, 3) := dk_167 0 87 (dk_at dksX3_does_3 20 rfl rfl)
theorem dX3_does_103 : decode cX3_does 103 = .ok (.aload_n 0, 1) := dk_42 (dk_at dksX3_does_3 23 rfl rfl)
theorem dX3_does_104 : decode cX3_does 104 = .ok (.iload_n 2, 1) := dk_28 (dk_at dksX3_does_4 0 rfl rfl)
theorem dX3_does_105 : decode cX3_does 105 = .ok (.iconst 0, 1) := dk_3 (dk_at dksX3_does_4 1 rfl rfl)
theorem dX3_does_106 : decode cX3_does 106 = .ok (.iload_n 3, 1) := dk_29 (dk_at dksX3_does_4 2 rfl rfl)
theorem dX3_does_107 : decode cX3_does 107 = .ok (.iload 4, 2) := dk_21 4 (dk_at dksX3_does_4 3 rfl rfl)
theorem dX3_does_109 : decode cX3_does 109 = .ok (.invokevirtual 120, 3) := dk_182 0 120 (dk_at dksX3_does_4 5 rfl rfl)
theorem dX3_does_112 : decode cX3_does 112 = .ok (.pop, 1) := dk_87 (dk_at dksX3_does_4 8 rfl rfl)
theorem dX3_does_113 : decode cX3_does 113 = .ok (.goto 74, 3) := dk_167 0 74 (dk_at dksX3_does_4 9 rfl rfl)
theorem dX3_does_116 : decode cX3_does 116 = .ok (.aload_n 0, 1) := dk_42 (dk_at dksX3_does_4 12 rfl rfl)
theorem dX3_does_117 : decode cX3_does 117 = .ok (.iload_n 2, 1) := dk_28 (dk_at dksX3_does_4 13 rfl rfl)
theorem dX3_does_118 : decode cX3_does 118 = .ok (.invokevirtual 127, 3) := dk_182 0 127 (dk_at dksX3_does_4 14 rfl rfl)
theorem dX3_does_121 : decode cX3_does 121 = .ok (.pop, 1) := dk_87 (dk_at dksX3_does_4 17 rfl rfl)
theorem dX3_does_122 : decode cX3_does 122 = .ok (.goto 65, 3) := dk_167 0 65 (dk_at dksX3_does_4 18 rfl rfl)
theorem dX3_does_125 : decode cX3_does 125 = .ok (.aload_n 0, 1) := dk_42 (dk_at dksX3_does_4 21 rfl rfl)
theorem dX3_does_126 : decode cX3_does 126 = .ok (.iload_n 2, 1) := dk_28 (dk_at dksX3_does_4 22 rfl rfl)
theorem dX3_does_127 : decode cX3_does 127 = .ok (.iload_n 3, 1) := dk_29 (dk_at dksX3_does_4 23 rfl rfl)
theorem dX3_does_128 : decode cX3_does 128 = .ok (.iload 4, 2) := dk_21 4 (dk_at dksX3_does_5 0 rfl rfl)
theorem dX3_does_130 : decode cX3_does 130 = .ok (.aload_n 0, 1) := dk_42 (dk_at dksX3_does_5 2 rfl rfl)
theorem dX3_does_131 : decode cX3_does 131 = .ok (.getfield 42, 3) := dk_180 0 42 (dk_at dksX3_does_5 3 rfl rfl)
theorem dX3_does_134 : decode cX3_does 134 = .ok (.iload_n 1, 1) := dk_27 (dk_at dksX3_does_5 6 rfl rfl)
theorem dX3_does_135 : decode cX3_does 135 = .ok (.iconst 4, 1) := dk_7 (dk_at dksX3_does_5 7 rfl rfl)
theorem dX3_does_136 : decode cX3_does 136 = .ok (.iadd, 1) := dk_96 (dk_at dksX3_does_5 8 rfl rfl)
theorem dX3_does_137 : decode cX3_does 137 = .ok (.iaload, 1) := dk_46 (dk_at dksX3_does_5 9 rfl rfl)
theorem dX3_does_138 : decode cX3_does 138 = .ok (.aload_n 0, 1) := dk_42 (dk_at dksX3_does_5 10 rfl rfl)
theorem dX3_does_139 : decode cX3_does 139 = .ok (.getfield 42, 3) := dk_180 0 42 (dk_at dksX3_does_5 11 rfl rfl)
theorem dX3_does_142 : decode cX3_does 142 = .ok (.iload_n 1, 1) := dk_27 (dk_at dksX3_does_5 14 rfl rfl)
theorem dX3_does_143 : decode cX3_does 143 = .ok (.iconst 5, 1) := dk_8 (dk_at dksX3_does_5 15 rfl rfl)
theorem dX3_does_144 : decode cX3_does 144 = .ok (.iadd, 1) := dk_96 (dk_at dksX3_does_5 16 rfl rfl)
theorem dX3_does_145 : decode cX3_does 145 = .ok (.iaload, 1) := dk_46 (dk_at dksX3_does_5 17 rfl rfl)
theorem dX3_does_146 : decode cX3_does 146 = .ok (.invokevirtual 133, 3) := dk_182 0 133 (dk_at dksX3_does_5 18 rfl rfl)
theorem dX3_does_149 : decode cX3_does 149 = .ok (.pop, 1) := dk_87 (dk_at dksX3_does_5 21 rfl rfl)
theorem dX3_does_150 : decode cX3_does 150 = .ok (.goto 37, 3) := dk_167 0 37 (dk_at dksX3_does_6 0 rfl rfl)
theorem dX3_does_153 : decode cX3_does 153 = .ok (.aload_n 0, 1) := dk_42 (dk_at dksX3_does_6 3 rfl rfl)
theorem dX3_does_154 : decode cX3_does 154 = .ok (.iload_n 2, 1) := dk_28 (dk_at dksX3_does_6 4 rfl rfl)
theorem dX3_does_155 : decode cX3_does 155 = .ok (.iload_n 3, 1) := dk_29 (dk_at dksX3_does_6 5 rfl rfl)
theorem dX3_does_156 : decode cX3_does 156 = .ok (.invokevirtual 152, 3) := dk_182 0 152 (dk_at dksX3_does_6 6 rfl rfl)
theorem dX3_does_159 : decode cX3_does 159 = .ok (.pop, 1) := dk_87 (dk_at dksX3_does_6 9 rfl rfl)
theorem dX3_does_160 : decode cX3_does 160 = .ok (.goto 27, 3) := dk_167 0 27 (dk_at dksX3_does_6 10 rfl rfl)
theorem dX3_does_163 : decode cX3_does 163 = .ok (.aload_n 0, 1) := dk_42 (dk_at dksX3_does_6 13 rfl rfl)
theorem dX3_does_164 : decode cX3_does 164 = .ok (.iload_n 2, 1) := dk_28 (dk_at dksX3_does_6 14 rfl rfl)
theorem dX3_does_165 : decode cX3_does 165 = .ok (.iload_n 3, 1) := dk_29 (dk_at dksX3_does_6 15 rfl rfl)
theorem dX3_does_166 : decode cX3_does 166 = .ok (.invokevirtual 155, 3) := dk_182 0 155 (dk_at dksX3_does_6 16 rfl rfl)
theorem dX3_does_169 : decode cX3_does 169 = .ok (.pop, 1) := dk_87 (dk_at dksX3_does_6 19 rfl rfl)
theorem dX3_does_170 : decode cX3_does 170 = .ok (.goto 17, 3) := dk_167 0 17 (dk_at dksX3_does_6 20 rfl rfl)
theorem dX3_does_173 : decode cX3_does 173 = .ok (.aload_n 0, 1) := dk_42 (dk_at dksX3_does_6 23 rfl rfl)
theorem dX3_does_174 : decode cX3_does 174 = .ok (.invokevirtual 171, 3) := dk_182 0 171 (dk_at dksX3_does_7 0 rfl rfl)
theorem dX3_does_177 : decode cX3_does 177 = .ok (.pop, 1) := dk_87 (dk_at dksX3_does_7 3 rfl rfl)
theorem dX3_does_178 : decode cX3_does 178 = .ok (.goto 9, 3) := dk_167 0 9 (dk_at dksX3_does_7 4 rfl rfl)
theorem dX3_does_181 : decode cX3_does 181 = .ok (.aload_n 0, 1) := dk_42 (dk_at dksX3_does_7 7 rfl rfl)
theorem dX3_does_182 : decode cX3_does 182 = .ok (.iload_n 2, 1) := dk_28 (dk_at dksX3_does_7 8 rfl rfl)
theorem dX3_does_183 : decode cX3_does 183 = .ok (.invokevirtual 146, 3) := dk_182 0 146 (dk_at dksX3_does_7 9 rfl rfl)
theorem dX3_does_186 : decode cX3_does 186 = .ok (.pop, 1) := dk_87 (dk_at dksX3_does_7 12 rfl rfl)
theorem dX3_does_187 : decode cX3_does 187 = .ok (.return_, 1) := dk_177 (dk_at dksX3_does_7 13 rfl rfl)
abbrev cX3_errorPosition : ByteArray := prog_15_method_100_code
def yX3_errorPosition : MethodName := ⟨RX3, "errorPosition", "()I"⟩
def dkwX3_errorPosition_1 : List UInt8 := [180, 0, 22, 172]
abbrev dktX3_errorPosition_1 : List UInt8 := dkwX3_errorPosition_1 ++ []
def dkwX3_errorPosition_0 : List UInt8 := [42, 3, 181, 0, 45, 42, 180, 0, 22, 2, 160, 0, 11, 42, 4, 182, 0, 75, 167, 0, 7, 42]
abbrev dktX3_errorPosition_0 : List UInt8 := dkwX3_errorPosition_0 ++ dktX3_errorPosition_1
theorem dksX3_errorPosition_0 : cX3_errorPosition.data.toList.drop 0 = dktX3_errorPosition_0 := by decide +kernel
theorem dksX3_errorPosition_1 : cX3_errorPosition.data.toList.drop 22 = dktX3_errorPosition_1 := dk_seg dksX3_errorPosition_0 22 rfl rfl
theorem dX3_errorPosition_0 : decode cX3_errorPosition 0 = .ok (.aload_n 0, 1) := dk_42 (dk_at dksX3_errorPosition_0 0 rfl rfl)
theorem dX3_errorPosition_1 : decode cX3_errorPosition 1 = .ok (.iconst 0, 1) := dk_3 (dk_at dksX3_errorPosition_0 1 rfl rfl)
theorem dX3_errorPosition_2 : decode cX3_errorPosition 2 = .ok (.putfield 45, 3) := dk_181 0 45 (dk_at dksX3_errorPosition_0 2 rfl rfl)
theorem dX3_errorPosition_5 : decode cX3_errorPosition 5 = .ok (.aload_n 0, 1) := dk_42 (dk_at dksX3_errorPosition_0 5 rfl rfl)
theorem dX3_errorPosition_6 : decode cX3_errorPosition 6 = .ok (.getfield 22, 3) := dk_180 0 22 (dk_at dksX3_errorPosition_0 6 rfl rfl)
theorem dX3_errorPosition_9 : decode cX3_errorPosition 9 = .ok (.iconst (-1), 1) := dk_2 (dk_at dksX3_errorPosition_0 9 rfl rfl)
theorem dX3_errorPosition_10 : decode cX3_errorPosition 10 = .ok (.if_icmp .ne 11, 3) := dk_160 0 11 (dk_at dksX3_errorPosition_0 10 rfl rfl)
theorem dX3_errorPosition_13 : decode cX3_errorPosition 13 = .ok (.aload_n 0, 1) := dk_42 (dk_at dksX3_errorPosition_0 13 rfl rfl)
theorem dX3_errorPosition_14 : decode cX3_errorPosition 14 = .ok (.iconst 1, 1) := dk_4 (dk_at dksX3_errorPosition_0 14 rfl rfl)
theorem dX3_errorPosition_15 : decode cX3_errorPosition 15 = .ok (.invokevirtual 75, 3) := dk_182 0 75 (dk_at dksX3_errorPosition_0 15 rfl rfl)
theorem dX3_errorPosition_18 : decode cX3_errorPosition 18 = .ok (.goto 7, 3) := dk_167 0 7 (dk_at dksX3_errorPosition_0 18 rfl rfl)
theorem dX3_errorPosition_21 : decode cX3_errorPosition 21 = .ok (.aload_n 0, 1) := dk_42 (dk_at dksX3_errorPosition_0 21 rfl rfl)
theorem dX3_errorPosition_22 : decode cX3_errorPosition 22 = .ok (.getfield 22, 3) := dk_180 0 22 (dk_at dksX3_errorPosition_1 0 rfl rfl)
theorem dX3_errorPosition_25 : decode cX3_errorPosition 25 = .ok (.ireturn, 1) := dk_172 (dk_at dksX3_errorPosition_1 3 rfl rfl)
abbrev cX3_failedCommand : ByteArray := prog_15_method_101_code
def yX3_failedCommand : MethodName := ⟨RX3, "failedCommand", "()I"⟩
def dkwX3_failedCommand_1 : List UInt8 := [180, 0, 26, 172]
abbrev dktX3_failedCommand_1 : List UInt8 := dkwX3_failedCommand_1 ++ []
def dkwX3_failedCommand_0 : List UInt8 := [42, 3, 181, 0, 45, 42, 180, 0, 26, 2, 160, 0, 11, 42, 4, 182, 0, 75, 167, 0, 7, 42]
abbrev dktX3_failedCommand_0 : List UInt8 := dkwX3_failedCommand_0 ++ dktX3_failedCommand_1
theorem dksX3_failedCommand_0 : cX3_failedCommand.data.toList.drop 0 = dktX3_failedCommand_0 := by decide +kernel
theorem dksX3_failedCommand_1 : cX3_failedCommand.data.toList.drop 22 = dktX3_failedCommand_1 := dk_seg dksX3_failedCommand_0 22 rfl rfl
theorem dX3_failedCommand_0 : decode cX3_failedCommand 0 = .ok (.aload_n 0, 1) := dk_42 (dk_at dksX3_failedCommand_0 0 rfl rfl)
theorem dX3_failedCommand_1 : decode cX3_failedCommand 1 = .ok (.iconst 0, 1) := dk_3 (dk_at dksX3_failedCommand_0 1 rfl rfl)
theorem dX3_failedCommand_2 : decode cX3_failedCommand 2 = .ok (.putfield 45, 3) := dk_181 0 45 (dk_at dksX3_failedCommand_0 2 rfl rfl)
theorem dX3_failedCommand_5 : decode cX3_failedCommand 5 = .ok (.aload_n 0, 1) := dk_42 (dk_at dksX3_failedCommand_0 5 rfl rfl)
theorem dX3_failedCommand_6 : decode cX3_failedCommand 6 = .ok (.getfield 26, 3) := dk_180 0 26 (dk_at dksX3_failedCommand_0 6 rfl rfl)
theorem dX3_failedCommand_9 : decode cX3_failedCommand 9 = .ok (.iconst (-1), 1) := dk_2 (dk_at dksX3_failedCommand_0 9 rfl rfl)
theorem dX3_failedCommand_10 : decode cX3_failedCommand 10 = .ok (.if_icmp .ne 11, 3) := dk_160 0 11 (dk_at dksX3_failedCommand_0 10 rfl rfl)
theorem dX3_failedCommand_13 : decode cX3_failedCommand 13 = .ok (.aload_n 0, 1) := dk_42 (dk_at dksX3_failedCommand_0 13 rfl rfl)
theorem dX3_failedCommand_14 : decode cX3_failedCommand 14 = .ok (.iconst 1, 1) := dk_4 (dk_at dksX3_failedCommand_0 14 rfl rfl)
theorem dX3_failedCommand_15 : decode cX3_failedCommand 15 = .ok (.invokevirtual 75, 3) := dk_182 0 75 (dk_at dksX3_failedCommand_0 15 rfl rfl)
theorem dX3_failedCommand_18 : decode cX3_failedCommand 18 = .ok (.goto 7, 3) := dk_167 0 7 (dk_at dksX3_failedCommand_0 18 rfl rfl)
theorem dX3_failedCommand_21 : decode cX3_failedCommand 21 = .ok (.aload_n 0, 1) := dk_42 (dk_at dksX3_failedCommand_0 21 rfl rfl)
theorem dX3_failedCommand_22 : decode cX3_failedCommand 22 = .ok (.getfield 26, 3) := dk_180 0 26 (dk_at dksX3_failedCommand_1 0 rfl rfl)
theorem dX3_failedCommand_25 : decode cX3_failedCommand 25 = .ok (.ireturn, 1) := dk_172 (dk_at dksX3_failedCommand_1 3 rfl rfl)
abbrev cX3_undo : ByteArray := prog_15_method_102_code
def yX3_undo : MethodName := ⟨RX3, "undo", "()I"⟩
def dkwX3_undo_2 : List UInt8 := [17, 0, 155, 42, 180, 0, 48, 104, 27, 96, 46, 79, 132, 1, 1, 167, 255, 225, 42, 180, 0, 48, 172]
abbrev dktX3_undo_2 : List UInt8 := dkwX3_undo_2 ++ []
def dkwX3_undo_1 : List UInt8 := [100, 181, 0, 48, 3, 60, 27, 17, 0, 155, 162, 0, 30, 42, 180, 0, 9, 27, 42, 180, 0, 19]
abbrev dktX3_undo_1 : List UInt8 := dkwX3_undo_1 ++ dktX3_undo_2
def dkwX3_undo_0 : List UInt8 := [42, 3, 181, 0, 45, 42, 180, 0, 48, 154, 0, 9, 42, 4, 182, 0, 75, 172, 42, 89, 180, 0, 48, 4]
abbrev dktX3_undo_0 : List UInt8 := dkwX3_undo_0 ++ dktX3_undo_1
theorem dksX3_undo_0 : cX3_undo.data.toList.drop 0 = dktX3_undo_0 := by decide +kernel
theorem dksX3_undo_1 : cX3_undo.data.toList.drop 24 = dktX3_undo_1 := dk_seg dksX3_undo_0 24 rfl rfl
theorem dksX3_undo_2 : cX3_undo.data.toList.drop 46 = dktX3_undo_2 := dk_seg dksX3_undo_1 22 rfl rfl
theorem dX3_undo_0 : decode cX3_undo 0 = .ok (.aload_n 0, 1) := dk_42 (dk_at dksX3_undo_0 0 rfl rfl)
theorem dX3_undo_1 : decode cX3_undo 1 = .ok (.iconst 0, 1) := dk_3 (dk_at dksX3_undo_0 1 rfl rfl)
theorem dX3_undo_2 : decode cX3_undo 2 = .ok (.putfield 45, 3) := dk_181 0 45 (dk_at dksX3_undo_0 2 rfl rfl)
theorem dX3_undo_5 : decode cX3_undo 5 = .ok (.aload_n 0, 1) := dk_42 (dk_at dksX3_undo_0 5 rfl rfl)
theorem dX3_undo_6 : decode cX3_undo 6 = .ok (.getfield 48, 3) := dk_180 0 48 (dk_at dksX3_undo_0 6 rfl rfl)
theorem dX3_undo_9 : decode cX3_undo 9 = .ok (.ifCond .ne 9, 3) := dk_154 0 9 (dk_at dksX3_undo_0 9 rfl rfl)
theorem dX3_undo_12 : decode cX3_undo 12 = .ok (.aload_n 0, 1) := dk_42 (dk_at dksX3_undo_0 12 rfl rfl)
theorem dX3_undo_13 : decode cX3_undo 13 = .ok (.iconst 1, 1) := dk_4 (dk_at dksX3_undo_0 13 rfl rfl)
theorem dX3_undo_14 : decode cX3_undo 14 = .ok (.invokevirtual 75, 3) := dk_182 0 75 (dk_at dksX3_undo_0 14 rfl rfl)
theorem dX3_undo_17 : decode cX3_undo 17 = .ok (.ireturn, 1) := dk_172 (dk_at dksX3_undo_0 17 rfl rfl)
theorem dX3_undo_18 : decode cX3_undo 18 = .ok (.aload_n 0, 1) := dk_42 (dk_at dksX3_undo_0 18 rfl rfl)
theorem dX3_undo_19 : decode cX3_undo 19 = .ok (.dup, 1) := dk_89 (dk_at dksX3_undo_0 19 rfl rfl)
theorem dX3_undo_20 : decode cX3_undo 20 = .ok (.getfield 48, 3) := dk_180 0 48 (dk_at dksX3_undo_0 20 rfl rfl)
theorem dX3_undo_23 : decode cX3_undo 23 = .ok (.iconst 1, 1) := dk_4 (dk_at dksX3_undo_0 23 rfl rfl)
theorem dX3_undo_24 : decode cX3_undo 24 = .ok (.isub, 1) := dk_100 (dk_at dksX3_undo_1 0 rfl rfl)
theorem dX3_undo_25 : decode cX3_undo 25 = .ok (.putfield 48, 3) := dk_181 0 48 (dk_at dksX3_undo_1 1 rfl rfl)
theorem dX3_undo_28 : decode cX3_undo 28 = .ok (.iconst 0, 1) := dk_3 (dk_at dksX3_undo_1 4 rfl rfl)
theorem dX3_undo_29 : decode cX3_undo 29 = .ok (.istore_n 1, 1) := dk_60 (dk_at dksX3_undo_1 5 rfl rfl)
theorem dX3_undo_30 : decode cX3_undo 30 = .ok (.iload_n 1, 1) := dk_27 (dk_at dksX3_undo_1 6 rfl rfl)
theorem dX3_undo_31 : decode cX3_undo 31 = .ok (.sipush 155, 3) := dk_17 0 155 (dk_at dksX3_undo_1 7 rfl rfl)
theorem dX3_undo_34 : decode cX3_undo 34 = .ok (.if_icmp .ge 30, 3) := dk_162 0 30 (dk_at dksX3_undo_1 10 rfl rfl)
theorem dX3_undo_37 : decode cX3_undo 37 = .ok (.aload_n 0, 1) := dk_42 (dk_at dksX3_undo_1 13 rfl rfl)
theorem dX3_undo_38 : decode cX3_undo 38 = .ok (.getfield 9, 3) := dk_180 0 9 (dk_at dksX3_undo_1 14 rfl rfl)
theorem dX3_undo_41 : decode cX3_undo 41 = .ok (.iload_n 1, 1) := dk_27 (dk_at dksX3_undo_1 17 rfl rfl)
theorem dX3_undo_42 : decode cX3_undo 42 = .ok (.aload_n 0, 1) := dk_42 (dk_at dksX3_undo_1 18 rfl rfl)
theorem dX3_undo_43 : decode cX3_undo 43 = .ok (.getfield 19, 3) := dk_180 0 19 (dk_at dksX3_undo_1 19 rfl rfl)
theorem dX3_undo_46 : decode cX3_undo 46 = .ok (.sipush 155, 3) := dk_17 0 155 (dk_at dksX3_undo_2 0 rfl rfl)
theorem dX3_undo_49 : decode cX3_undo 49 = .ok (.aload_n 0, 1) := dk_42 (dk_at dksX3_undo_2 3 rfl rfl)
theorem dX3_undo_50 : decode cX3_undo 50 = .ok (.getfield 48, 3) := dk_180 0 48 (dk_at dksX3_undo_2 4 rfl rfl)
theorem dX3_undo_53 : decode cX3_undo 53 = .ok (.imul, 1) := dk_104 (dk_at dksX3_undo_2 7 rfl rfl)
theorem dX3_undo_54 : decode cX3_undo 54 = .ok (.iload_n 1, 1) := dk_27 (dk_at dksX3_undo_2 8 rfl rfl)
theorem dX3_undo_55 : decode cX3_undo 55 = .ok (.iadd, 1) := dk_96 (dk_at dksX3_undo_2 9 rfl rfl)
theorem dX3_undo_56 : decode cX3_undo 56 = .ok (.iaload, 1) := dk_46 (dk_at dksX3_undo_2 10 rfl rfl)
theorem dX3_undo_57 : decode cX3_undo 57 = .ok (.iastore, 1) := dk_79 (dk_at dksX3_undo_2 11 rfl rfl)
theorem dX3_undo_58 : decode cX3_undo 58 = .ok (.iinc 1 1, 3) := dk_132 1 1 (dk_at dksX3_undo_2 12 rfl rfl)
theorem dX3_undo_61 : decode cX3_undo 61 = .ok (.goto (-31), 3) := dk_167 255 225 (dk_at dksX3_undo_2 15 rfl rfl)
theorem dX3_undo_64 : decode cX3_undo 64 = .ok (.aload_n 0, 1) := dk_42 (dk_at dksX3_undo_2 18 rfl rfl)
theorem dX3_undo_65 : decode cX3_undo 65 = .ok (.getfield 48, 3) := dk_180 0 48 (dk_at dksX3_undo_2 19 rfl rfl)
theorem dX3_undo_68 : decode cX3_undo 68 = .ok (.ireturn, 1) := dk_172 (dk_at dksX3_undo_2 22 rfl rfl)
abbrev cX3_save : ByteArray := prog_15_method_103_code
def yX3_save : MethodName := ⟨RX3, "save", "()I"⟩
def dkwX3_save_1 : List UInt8 := [46, 79, 132, 1, 1, 167, 255, 234, 42, 4, 181, 1, 8, 42, 180, 0, 9, 3, 46, 172]
abbrev dktX3_save_1 : List UInt8 := dkwX3_save_1 ++ []
def dkwX3_save_0 : List UInt8 := [42, 3, 181, 0, 45, 3, 60, 27, 17, 0, 155, 162, 0, 21, 42, 180, 0, 16, 27, 42, 180, 0, 9, 27]
abbrev dktX3_save_0 : List UInt8 := dkwX3_save_0 ++ dktX3_save_1
theorem dksX3_save_0 : cX3_save.data.toList.drop 0 = dktX3_save_0 := by decide +kernel
theorem dksX3_save_1 : cX3_save.data.toList.drop 24 = dktX3_save_1 := dk_seg dksX3_save_0 24 rfl rfl
theorem dX3_save_0 : decode cX3_save 0 = .ok (.aload_n 0, 1) := dk_42 (dk_at dksX3_save_0 0 rfl rfl)
theorem dX3_save_1 : decode cX3_save 1 = .ok (.iconst 0, 1) := dk_3 (dk_at dksX3_save_0 1 rfl rfl)
theorem dX3_save_2 : decode cX3_save 2 = .ok (.putfield 45, 3) := dk_181 0 45 (dk_at dksX3_save_0 2 rfl rfl)
theorem dX3_save_5 : decode cX3_save 5 = .ok (.iconst 0, 1) := dk_3 (dk_at dksX3_save_0 5 rfl rfl)
theorem dX3_save_6 : decode cX3_save 6 = .ok (.istore_n 1, 1) := dk_60 (dk_at dksX3_save_0 6 rfl rfl)
theorem dX3_save_7 : decode cX3_save 7 = .ok (.iload_n 1, 1) := dk_27 (dk_at dksX3_save_0 7 rfl rfl)
theorem dX3_save_8 : decode cX3_save 8 = .ok (.sipush 155, 3) := dk_17 0 155 (dk_at dksX3_save_0 8 rfl rfl)
theorem dX3_save_11 : decode cX3_save 11 = .ok (.if_icmp .ge 21, 3) := dk_162 0 21 (dk_at dksX3_save_0 11 rfl rfl)
theorem dX3_save_14 : decode cX3_save 14 = .ok (.aload_n 0, 1) := dk_42 (dk_at dksX3_save_0 14 rfl rfl)
theorem dX3_save_15 : decode cX3_save 15 = .ok (.getfield 16, 3) := dk_180 0 16 (dk_at dksX3_save_0 15 rfl rfl)
theorem dX3_save_18 : decode cX3_save 18 = .ok (.iload_n 1, 1) := dk_27 (dk_at dksX3_save_0 18 rfl rfl)
theorem dX3_save_19 : decode cX3_save 19 = .ok (.aload_n 0, 1) := dk_42 (dk_at dksX3_save_0 19 rfl rfl)
theorem dX3_save_20 : decode cX3_save 20 = .ok (.getfield 9, 3) := dk_180 0 9 (dk_at dksX3_save_0 20 rfl rfl)
theorem dX3_save_23 : decode cX3_save 23 = .ok (.iload_n 1, 1) := dk_27 (dk_at dksX3_save_0 23 rfl rfl)
theorem dX3_save_24 : decode cX3_save 24 = .ok (.iaload, 1) := dk_46 (dk_at dksX3_save_1 0 rfl rfl)
theorem dX3_save_25 : decode cX3_save 25 = .ok (.iastore, 1) := dk_79 (dk_at dksX3_save_1 1 rfl rfl)
theorem dX3_save_26 : decode cX3_save 26 = .ok (.iinc 1 1, 3) := dk_132 1 1 (dk_at dksX3_save_1 2 rfl rfl)
theorem dX3_save_29 : decode cX3_save 29 = .ok (.goto (-22), 3) := dk_167 255 234 (dk_at dksX3_save_1 5 rfl rfl)
theorem dX3_save_32 : decode cX3_save 32 = .ok (.aload_n 0, 1) := dk_42 (dk_at dksX3_save_1 8 rfl rfl)
theorem dX3_save_33 : decode cX3_save 33 = .ok (.iconst 1, 1) := dk_4 (dk_at dksX3_save_1 9 rfl rfl)
theorem dX3_save_34 : decode cX3_save 34 = .ok (.putfield 264, 3) := dk_181 1 8 (dk_at dksX3_save_1 10 rfl rfl)
theorem dX3_save_37 : decode cX3_save 37 = .ok (.aload_n 0, 1) := dk_42 (dk_at dksX3_save_1 13 rfl rfl)
theorem dX3_save_38 : decode cX3_save 38 = .ok (.getfield 9, 3) := dk_180 0 9 (dk_at dksX3_save_1 14 rfl rfl)
theorem dX3_save_41 : decode cX3_save 41 = .ok (.iconst 0, 1) := dk_3 (dk_at dksX3_save_1 17 rfl rfl)
theorem dX3_save_42 : decode cX3_save 42 = .ok (.iaload, 1) := dk_46 (dk_at dksX3_save_1 18 rfl rfl)
theorem dX3_save_43 : decode cX3_save 43 = .ok (.ireturn, 1) := dk_172 (dk_at dksX3_save_1 19 rfl rfl)
abbrev cX3_restore : ByteArray := prog_15_method_104_code
def yX3_restore : MethodName := ⟨RX3, "restore", "()I"⟩
def dkwX3_restore_2 : List UInt8 := [181, 0, 48, 42, 180, 0, 9, 3, 46, 172]
abbrev dktX3_restore_2 : List UInt8 := dkwX3_restore_2 ++ []
def dkwX3_restore_1 : List UInt8 := [162, 0, 21, 42, 180, 0, 9, 27, 42, 180, 0, 16, 27, 46, 79, 132, 1, 1, 167, 255, 234, 42, 3]
abbrev dktX3_restore_1 : List UInt8 := dkwX3_restore_1 ++ dktX3_restore_2
def dkwX3_restore_0 : List UInt8 := [42, 3, 181, 0, 45, 42, 180, 1, 8, 154, 0, 9, 42, 4, 182, 0, 75, 172, 3, 60, 27, 17, 0, 155]
abbrev dktX3_restore_0 : List UInt8 := dkwX3_restore_0 ++ dktX3_restore_1
theorem dksX3_restore_0 : cX3_restore.data.toList.drop 0 = dktX3_restore_0 := by decide +kernel
theorem dksX3_restore_1 : cX3_restore.data.toList.drop 24 = dktX3_restore_1 := dk_seg dksX3_restore_0 24 rfl rfl
theorem dksX3_restore_2 : cX3_restore.data.toList.drop 47 = dktX3_restore_2 := dk_seg dksX3_restore_1 23 rfl rfl
theorem dX3_restore_0 : decode cX3_restore 0 = .ok (.aload_n 0, 1) := dk_42 (dk_at dksX3_restore_0 0 rfl rfl)
theorem dX3_restore_1 : decode cX3_restore 1 = .ok (.iconst 0, 1) := dk_3 (dk_at dksX3_restore_0 1 rfl rfl)
theorem dX3_restore_2 : decode cX3_restore 2 = .ok (.putfield 45, 3) := dk_181 0 45 (dk_at dksX3_restore_0 2 rfl rfl)
theorem dX3_restore_5 : decode cX3_restore 5 = .ok (.aload_n 0, 1) := dk_42 (dk_at dksX3_restore_0 5 rfl rfl)
theorem dX3_restore_6 : decode cX3_restore 6 = .ok (.getfield 264, 3) := dk_180 1 8 (dk_at dksX3_restore_0 6 rfl rfl)
theorem dX3_restore_9 : decode cX3_restore 9 = .ok (.ifCond .ne 9, 3) := dk_154 0 9 (dk_at dksX3_restore_0 9 rfl rfl)
theorem dX3_restore_12 : decode cX3_restore 12 = .ok (.aload_n 0, 1) := dk_42 (dk_at dksX3_restore_0 12 rfl rfl)
theorem dX3_restore_13 : decode cX3_restore 13 = .ok (.iconst 1, 1) := dk_4 (dk_at dksX3_restore_0 13 rfl rfl)
theorem dX3_restore_14 : decode cX3_restore 14 = .ok (.invokevirtual 75, 3) := dk_182 0 75 (dk_at dksX3_restore_0 14 rfl rfl)
theorem dX3_restore_17 : decode cX3_restore 17 = .ok (.ireturn, 1) := dk_172 (dk_at dksX3_restore_0 17 rfl rfl)
theorem dX3_restore_18 : decode cX3_restore 18 = .ok (.iconst 0, 1) := dk_3 (dk_at dksX3_restore_0 18 rfl rfl)
theorem dX3_restore_19 : decode cX3_restore 19 = .ok (.istore_n 1, 1) := dk_60 (dk_at dksX3_restore_0 19 rfl rfl)
theorem dX3_restore_20 : decode cX3_restore 20 = .ok (.iload_n 1, 1) := dk_27 (dk_at dksX3_restore_0 20 rfl rfl)
theorem dX3_restore_21 : decode cX3_restore 21 = .ok (.sipush 155, 3) := dk_17 0 155 (dk_at dksX3_restore_0 21 rfl rfl)
theorem dX3_restore_24 : decode cX3_restore 24 = .ok (.if_icmp .ge 21, 3) := dk_162 0 21 (dk_at dksX3_restore_1 0 rfl rfl)
theorem dX3_restore_27 : decode cX3_restore 27 = .ok (.aload_n 0, 1) := dk_42 (dk_at dksX3_restore_1 3 rfl rfl)
theorem dX3_restore_28 : decode cX3_restore 28 = .ok (.getfield 9, 3) := dk_180 0 9 (dk_at dksX3_restore_1 4 rfl rfl)
theorem dX3_restore_31 : decode cX3_restore 31 = .ok (.iload_n 1, 1) := dk_27 (dk_at dksX3_restore_1 7 rfl rfl)
theorem dX3_restore_32 : decode cX3_restore 32 = .ok (.aload_n 0, 1) := dk_42 (dk_at dksX3_restore_1 8 rfl rfl)
theorem dX3_restore_33 : decode cX3_restore 33 = .ok (.getfield 16, 3) := dk_180 0 16 (dk_at dksX3_restore_1 9 rfl rfl)
theorem dX3_restore_36 : decode cX3_restore 36 = .ok (.iload_n 1, 1) := dk_27 (dk_at dksX3_restore_1 12 rfl rfl)
theorem dX3_restore_37 : decode cX3_restore 37 = .ok (.iaload, 1) := dk_46 (dk_at dksX3_restore_1 13 rfl rfl)
theorem dX3_restore_38 : decode cX3_restore 38 = .ok (.iastore, 1) := dk_79 (dk_at dksX3_restore_1 14 rfl rfl)
theorem dX3_restore_39 : decode cX3_restore 39 = .ok (.iinc 1 1, 3) := dk_132 1 1 (dk_at dksX3_restore_1 15 rfl rfl)
theorem dX3_restore_42 : decode cX3_restore 42 = .ok (.goto (-22), 3) := dk_167 255 234 (dk_at dksX3_restore_1 18 rfl rfl)
theorem dX3_restore_45 : decode cX3_restore 45 = .ok (.aload_n 0, 1) := dk_42 (dk_at dksX3_restore_1 21 rfl rfl)
theorem dX3_restore_46 : decode cX3_restore 46 = .ok (.iconst 0, 1) := dk_3 (dk_at dksX3_restore_1 22 rfl rfl)
theorem dX3_restore_47 : decode cX3_restore 47 = .ok (.putfield 48, 3) := dk_181 0 48 (dk_at dksX3_restore_2 0 rfl rfl)
theorem dX3_restore_50 : decode cX3_restore 50 = .ok (.aload_n 0, 1) := dk_42 (dk_at dksX3_restore_2 3 rfl rfl)
theorem dX3_restore_51 : decode cX3_restore 51 = .ok (.getfield 9, 3) := dk_180 0 9 (dk_at dksX3_restore_2 4 rfl rfl)
theorem dX3_restore_54 : decode cX3_restore 54 = .ok (.iconst 0, 1) := dk_3 (dk_at dksX3_restore_2 7 rfl rfl)
theorem dX3_restore_55 : decode cX3_restore 55 = .ok (.iaload, 1) := dk_46 (dk_at dksX3_restore_2 8 rfl rfl)
theorem dX3_restore_56 : decode cX3_restore 56 = .ok (.ireturn, 1) := dk_172 (dk_at dksX3_restore_2 9 rfl rfl)
theorem q104 : (Jvm.Cond.initialized "WindowExchangeModel") ∈ lw_all := lw_g (lw_at lw_m1 11 rfl) rfl
theorem q719 : (Jvm.Cond.selects "WindowExchangeModel" ({ cls := "java/lang/Object", name := "getClass", desc := "()Ljava/lang/Class;" } : Jvm.MethodName) ({ cls := "java/lang/Object", name := "getClass", desc := "()Ljava/lang/Class;" } : Jvm.MethodName)) ∈ lw_all := lw_g (lw_at lw_m3 146 rfl) rfl
theorem q2718 : (Jvm.Cond.instantiable "WindowExchangeModel" (20 : Nat)) ∈ lw_all := lw_g (lw_at lw_m11 225 rfl) rfl
theorem q2720 : (Jvm.Cond.instanceMethod ({ cls := "WindowExchangeModel", name := "<init>", desc := "()V" } : Jvm.MethodName)) ∈ lw_all := lw_g (lw_at lw_m11 227 rfl) rfl
theorem q2721 : (Jvm.Cond.code ({ cls := "WindowExchangeModel", name := "<init>", desc := "()V" } : Jvm.MethodName) prog_15_method_1_code (2 : Nat) (Option.none : Option Jvm.ClassFile.FieldType)) ∈ lw_all := lw_g (lw_at lw_m11 228 rfl) rfl
theorem q2722 : (Jvm.Cond.methodLink "WindowExchangeModel" (1 : Nat) ({ cls := "java/lang/Object", name := "<init>", desc := "()V" } : Jvm.MethodName)) ∈ lw_all := lw_g (lw_at lw_m11 229 rfl) rfl
theorem q2723 : (Jvm.Cond.fieldLink "WindowExchangeModel" (9 : Nat) "WindowExchangeModel" "m" "[I") ∈ lw_all := lw_g (lw_at lw_m11 230 rfl) rfl
theorem q2724 : (Jvm.Cond.fieldLink "WindowExchangeModel" (13 : Nat) "WindowExchangeModel" "aside" "[I") ∈ lw_all := lw_g (lw_at lw_m11 231 rfl) rfl
theorem q2725 : (Jvm.Cond.fieldLink "WindowExchangeModel" (16 : Nat) "WindowExchangeModel" "saved" "[I") ∈ lw_all := lw_g (lw_at lw_m11 232 rfl) rfl
theorem q2726 : (Jvm.Cond.fieldLink "WindowExchangeModel" (264 : Nat) "WindowExchangeModel" "isSaved" "Z") ∈ lw_all := lw_g (lw_at lw_m11 233 rfl) rfl
theorem q2727 : (Jvm.Cond.fieldLink "WindowExchangeModel" (19 : Nat) "WindowExchangeModel" "past" "[I") ∈ lw_all := lw_g (lw_at lw_m11 234 rfl) rfl
theorem q2728 : (Jvm.Cond.fieldLink "WindowExchangeModel" (48 : Nat) "WindowExchangeModel" "changes" "I") ∈ lw_all := lw_g (lw_at lw_m11 235 rfl) rfl
theorem q2729 : (Jvm.Cond.fieldLink "WindowExchangeModel" (22 : Nat) "WindowExchangeModel" "errorAt" "I") ∈ lw_all := lw_g (lw_at lw_m11 236 rfl) rfl
theorem q2730 : (Jvm.Cond.fieldLink "WindowExchangeModel" (26 : Nat) "WindowExchangeModel" "failed" "I") ∈ lw_all := lw_g (lw_at lw_m11 237 rfl) rfl
theorem q2731 : (Jvm.Cond.fieldLink "WindowExchangeModel" (45 : Nat) "WindowExchangeModel" "thrown" "I") ∈ lw_all := lw_g (lw_at lw_m11 238 rfl) rfl
theorem q2732 : (Jvm.Cond.fieldLink "WindowExchangeModel" (29 : Nat) "WindowExchangeModel" "program" "[I") ∈ lw_all := lw_g (lw_at lw_m11 239 rfl) rfl
theorem q2733 : (Jvm.Cond.fieldLink "WindowExchangeModel" (216 : Nat) "WindowExchangeModel" "programMany" "I") ∈ lw_all := lw_g (lw_at lw_m12 0 rfl) rfl
theorem q2734 : (Jvm.Cond.fieldLink "WindowExchangeModel" (32 : Nat) "WindowExchangeModel" "line" "[I") ∈ lw_all := lw_g (lw_at lw_m12 1 rfl) rfl
theorem q2735 : (Jvm.Cond.fieldLink "WindowExchangeModel" (200 : Nat) "WindowExchangeModel" "lineMany" "I") ∈ lw_all := lw_g (lw_at lw_m12 2 rfl) rfl
theorem q2736 : (Jvm.Cond.fieldLink "WindowExchangeModel" (35 : Nat) "WindowExchangeModel" "letters" "[C") ∈ lw_all := lw_g (lw_at lw_m12 3 rfl) rfl
theorem q2737 : (Jvm.Cond.fieldLink "WindowExchangeModel" (39 : Nat) "WindowExchangeModel" "begins0" "[I") ∈ lw_all := lw_g (lw_at lw_m12 4 rfl) rfl
theorem q2738 : (Jvm.Cond.fieldLink "WindowExchangeModel" (42 : Nat) "WindowExchangeModel" "commands" "[I") ∈ lw_all := lw_g (lw_at lw_m12 5 rfl) rfl
theorem q2739 : (Jvm.Cond.fieldLink "WindowExchangeModel" (248 : Nat) "WindowExchangeModel" "commandMany" "I") ∈ lw_all := lw_g (lw_at lw_m12 6 rfl) rfl
theorem q2740 : (Jvm.Cond.fieldLink "WindowExchangeModel" (219 : Nat) "WindowExchangeModel" "place0" "I") ∈ lw_all := lw_g (lw_at lw_m12 7 rfl) rfl
theorem q2741 : (Jvm.Cond.fieldLink "WindowExchangeModel" (222 : Nat) "WindowExchangeModel" "size0" "I") ∈ lw_all := lw_g (lw_at lw_m12 8 rfl) rfl
theorem q2742 : (Jvm.Cond.fieldLink "WindowExchangeModel" (225 : Nat) "WindowExchangeModel" "isWrong" "Z") ∈ lw_all := lw_g (lw_at lw_m12 9 rfl) rfl
theorem q2743 : (Jvm.Cond.laysFinal "WindowExchangeModel" "WindowExchangeModel" "m" "[I") ∈ lw_all := lw_g (lw_at lw_m12 10 rfl) rfl
theorem q2744 : (Jvm.Cond.soleField "WindowExchangeModel" "m") ∈ lw_all := lw_g (lw_at lw_m12 11 rfl) rfl
theorem q2745 : (Jvm.Cond.laysFinal "WindowExchangeModel" "WindowExchangeModel" "aside" "[I") ∈ lw_all := lw_g (lw_at lw_m12 12 rfl) rfl
theorem q2746 : (Jvm.Cond.soleField "WindowExchangeModel" "aside") ∈ lw_all := lw_g (lw_at lw_m12 13 rfl) rfl
theorem q2747 : (Jvm.Cond.laysFinal "WindowExchangeModel" "WindowExchangeModel" "saved" "[I") ∈ lw_all := lw_g (lw_at lw_m12 14 rfl) rfl
theorem q2748 : (Jvm.Cond.soleField "WindowExchangeModel" "saved") ∈ lw_all := lw_g (lw_at lw_m12 15 rfl) rfl
theorem q2749 : (Jvm.Cond.lays "WindowExchangeModel" "WindowExchangeModel" "isSaved" "Z") ∈ lw_all := lw_g (lw_at lw_m12 16 rfl) rfl
theorem q2750 : (Jvm.Cond.soleField "WindowExchangeModel" "isSaved") ∈ lw_all := lw_g (lw_at lw_m12 17 rfl) rfl
theorem q2751 : (Jvm.Cond.laysFinal "WindowExchangeModel" "WindowExchangeModel" "past" "[I") ∈ lw_all := lw_g (lw_at lw_m12 18 rfl) rfl
theorem q2752 : (Jvm.Cond.soleField "WindowExchangeModel" "past") ∈ lw_all := lw_g (lw_at lw_m12 19 rfl) rfl
theorem q2753 : (Jvm.Cond.lays "WindowExchangeModel" "WindowExchangeModel" "changes" "I") ∈ lw_all := lw_g (lw_at lw_m12 20 rfl) rfl
theorem q2754 : (Jvm.Cond.soleField "WindowExchangeModel" "changes") ∈ lw_all := lw_g (lw_at lw_m12 21 rfl) rfl
theorem q2755 : (Jvm.Cond.lays "WindowExchangeModel" "WindowExchangeModel" "errorAt" "I") ∈ lw_all := lw_g (lw_at lw_m12 22 rfl) rfl
theorem q2756 : (Jvm.Cond.soleField "WindowExchangeModel" "errorAt") ∈ lw_all := lw_g (lw_at lw_m12 23 rfl) rfl
theorem q2757 : (Jvm.Cond.lays "WindowExchangeModel" "WindowExchangeModel" "failed" "I") ∈ lw_all := lw_g (lw_at lw_m12 24 rfl) rfl
theorem q2758 : (Jvm.Cond.soleField "WindowExchangeModel" "failed") ∈ lw_all := lw_g (lw_at lw_m12 25 rfl) rfl
theorem q2759 : (Jvm.Cond.lays "WindowExchangeModel" "WindowExchangeModel" "thrown" "I") ∈ lw_all := lw_g (lw_at lw_m12 26 rfl) rfl
theorem q2760 : (Jvm.Cond.soleField "WindowExchangeModel" "thrown") ∈ lw_all := lw_g (lw_at lw_m12 27 rfl) rfl
theorem q2761 : (Jvm.Cond.laysFinal "WindowExchangeModel" "WindowExchangeModel" "program" "[I") ∈ lw_all := lw_g (lw_at lw_m12 28 rfl) rfl
theorem q2762 : (Jvm.Cond.soleField "WindowExchangeModel" "program") ∈ lw_all := lw_g (lw_at lw_m12 29 rfl) rfl
theorem q2763 : (Jvm.Cond.lays "WindowExchangeModel" "WindowExchangeModel" "programMany" "I") ∈ lw_all := lw_g (lw_at lw_m12 30 rfl) rfl
theorem q2764 : (Jvm.Cond.soleField "WindowExchangeModel" "programMany") ∈ lw_all := lw_g (lw_at lw_m12 31 rfl) rfl
theorem q2765 : (Jvm.Cond.laysFinal "WindowExchangeModel" "WindowExchangeModel" "line" "[I") ∈ lw_all := lw_g (lw_at lw_m12 32 rfl) rfl
theorem q2766 : (Jvm.Cond.soleField "WindowExchangeModel" "line") ∈ lw_all := lw_g (lw_at lw_m12 33 rfl) rfl
theorem q2767 : (Jvm.Cond.lays "WindowExchangeModel" "WindowExchangeModel" "lineMany" "I") ∈ lw_all := lw_g (lw_at lw_m12 34 rfl) rfl
theorem q2768 : (Jvm.Cond.soleField "WindowExchangeModel" "lineMany") ∈ lw_all := lw_g (lw_at lw_m12 35 rfl) rfl
theorem q2769 : (Jvm.Cond.laysFinal "WindowExchangeModel" "WindowExchangeModel" "letters" "[C") ∈ lw_all := lw_g (lw_at lw_m12 36 rfl) rfl
theorem q2770 : (Jvm.Cond.soleField "WindowExchangeModel" "letters") ∈ lw_all := lw_g (lw_at lw_m12 37 rfl) rfl
theorem q2771 : (Jvm.Cond.laysFinal "WindowExchangeModel" "WindowExchangeModel" "begins0" "[I") ∈ lw_all := lw_g (lw_at lw_m12 38 rfl) rfl
theorem q2772 : (Jvm.Cond.soleField "WindowExchangeModel" "begins0") ∈ lw_all := lw_g (lw_at lw_m12 39 rfl) rfl
theorem q2773 : (Jvm.Cond.laysFinal "WindowExchangeModel" "WindowExchangeModel" "commands" "[I") ∈ lw_all := lw_g (lw_at lw_m12 40 rfl) rfl
theorem q2774 : (Jvm.Cond.soleField "WindowExchangeModel" "commands") ∈ lw_all := lw_g (lw_at lw_m12 41 rfl) rfl
theorem q2775 : (Jvm.Cond.lays "WindowExchangeModel" "WindowExchangeModel" "commandMany" "I") ∈ lw_all := lw_g (lw_at lw_m12 42 rfl) rfl
theorem q2776 : (Jvm.Cond.soleField "WindowExchangeModel" "commandMany") ∈ lw_all := lw_g (lw_at lw_m12 43 rfl) rfl
theorem q2777 : (Jvm.Cond.lays "WindowExchangeModel" "WindowExchangeModel" "place0" "I") ∈ lw_all := lw_g (lw_at lw_m12 44 rfl) rfl
theorem q2778 : (Jvm.Cond.soleField "WindowExchangeModel" "place0") ∈ lw_all := lw_g (lw_at lw_m12 45 rfl) rfl
theorem q2779 : (Jvm.Cond.lays "WindowExchangeModel" "WindowExchangeModel" "size0" "I") ∈ lw_all := lw_g (lw_at lw_m12 46 rfl) rfl
theorem q2780 : (Jvm.Cond.soleField "WindowExchangeModel" "size0") ∈ lw_all := lw_g (lw_at lw_m12 47 rfl) rfl
theorem q2781 : (Jvm.Cond.lays "WindowExchangeModel" "WindowExchangeModel" "isWrong" "Z") ∈ lw_all := lw_g (lw_at lw_m12 48 rfl) rfl
theorem q2782 : (Jvm.Cond.soleField "WindowExchangeModel" "isWrong") ∈ lw_all := lw_g (lw_at lw_m12 49 rfl) rfl
theorem q2783 : (Jvm.Cond.superclass "WindowExchangeModel" "java/lang/Object") ∈ lw_all := lw_g (lw_at lw_m12 50 rfl) rfl
theorem q2785 : (Jvm.Cond.instanceMethod ({ cls := "WindowExchangeModel", name := "thrown", desc := "()I" } : Jvm.MethodName)) ∈ lw_all := lw_g (lw_at lw_m12 52 rfl) rfl
theorem q2786 : (Jvm.Cond.selects "WindowExchangeModel" ({ cls := "WindowExchangeModel", name := "thrown", desc := "()I" } : Jvm.MethodName) ({ cls := "WindowExchangeModel", name := "thrown", desc := "()I" } : Jvm.MethodName)) ∈ lw_all := lw_g (lw_at lw_m12 53 rfl) rfl
theorem q2787 : (Jvm.Cond.code ({ cls := "WindowExchangeModel", name := "thrown", desc := "()I" } : Jvm.MethodName) prog_15_method_2_code (1 : Nat) (Option.some Jvm.ClassFile.FieldType.int)) ∈ lw_all := lw_g (lw_at lw_m12 54 rfl) rfl
theorem q2789 : (Jvm.Cond.instanceMethod ({ cls := "WindowExchangeModel", name := "addTrader", desc := "(II)I" } : Jvm.MethodName)) ∈ lw_all := lw_g (lw_at lw_m12 56 rfl) rfl
theorem q2790 : (Jvm.Cond.selects "WindowExchangeModel" ({ cls := "WindowExchangeModel", name := "addTrader", desc := "(II)I" } : Jvm.MethodName) ({ cls := "WindowExchangeModel", name := "addTrader", desc := "(II)I" } : Jvm.MethodName)) ∈ lw_all := lw_g (lw_at lw_m12 57 rfl) rfl
theorem q2791 : (Jvm.Cond.code ({ cls := "WindowExchangeModel", name := "addTrader", desc := "(II)I" } : Jvm.MethodName) prog_15_method_21_code (3 : Nat) (Option.some Jvm.ClassFile.FieldType.int)) ∈ lw_all := lw_g (lw_at lw_m12 58 rfl) rfl
theorem q2792 : (Jvm.Cond.methodLink "WindowExchangeModel" (81 : Nat) ({ cls := "WindowExchangeModel", name := "starts", desc := "()V" } : Jvm.MethodName)) ∈ lw_all := lw_g (lw_at lw_m12 59 rfl) rfl
theorem q2793 : (Jvm.Cond.privateMethod ({ cls := "WindowExchangeModel", name := "starts", desc := "()V" } : Jvm.MethodName)) ∈ lw_tbl := lw_at lw_m12 60 rfl
theorem q2794 : (Jvm.Cond.instanceMethod ({ cls := "WindowExchangeModel", name := "starts", desc := "()V" } : Jvm.MethodName)) ∈ lw_all := lw_g (lw_at lw_m12 61 rfl) rfl
theorem q2795 : (Jvm.Cond.code ({ cls := "WindowExchangeModel", name := "starts", desc := "()V" } : Jvm.MethodName) prog_15_method_5_code (2 : Nat) (Option.none : Option Jvm.ClassFile.FieldType)) ∈ lw_all := lw_g (lw_at lw_m12 62 rfl) rfl
theorem q2796 : (Jvm.Cond.methodLink "WindowExchangeModel" (84 : Nat) ({ cls := "WindowExchangeModel", name := "traderIt", desc := "(II)I" } : Jvm.MethodName)) ∈ lw_all := lw_g (lw_at lw_m12 63 rfl) rfl
theorem q2797 : (Jvm.Cond.privateMethod ({ cls := "WindowExchangeModel", name := "traderIt", desc := "(II)I" } : Jvm.MethodName)) ∈ lw_tbl := lw_at lw_m12 64 rfl
theorem q2798 : (Jvm.Cond.instanceMethod ({ cls := "WindowExchangeModel", name := "traderIt", desc := "(II)I" } : Jvm.MethodName)) ∈ lw_all := lw_g (lw_at lw_m12 65 rfl) rfl
theorem q2799 : (Jvm.Cond.code ({ cls := "WindowExchangeModel", name := "traderIt", desc := "(II)I" } : Jvm.MethodName) prog_15_method_20_code (3 : Nat) (Option.some Jvm.ClassFile.FieldType.int)) ∈ lw_all := lw_g (lw_at lw_m12 66 rfl) rfl
theorem q2800 : (Jvm.Cond.constantLong "WindowExchangeModel" (73 : Nat) (999 : Int64)) ∈ lw_all := lw_g (lw_at lw_m12 67 rfl) rfl
theorem q2801 : (Jvm.Cond.methodLink "WindowExchangeModel" (51 : Nat) ({ cls := "WindowExchangeModel", name := "in", desc := "(JJJ)Z" } : Jvm.MethodName)) ∈ lw_all := lw_g (lw_at lw_m12 68 rfl) rfl
theorem q2802 : (Jvm.Cond.static ({ cls := "WindowExchangeModel", name := "in", desc := "(JJJ)Z" } : Jvm.MethodName)) ∈ lw_all := lw_g (lw_at lw_m12 69 rfl) rfl
theorem q2803 : (Jvm.Cond.code ({ cls := "WindowExchangeModel", name := "in", desc := "(JJJ)Z" } : Jvm.MethodName) prog_15_method_4_code (6 : Nat) (Option.some Jvm.ClassFile.FieldType.boolean)) ∈ lw_all := lw_g (lw_at lw_m12 70 rfl) rfl
theorem q2804 : (Jvm.Cond.constantLong "WindowExchangeModel" (59 : Nat) (99 : Int64)) ∈ lw_all := lw_g (lw_at lw_m12 71 rfl) rfl
theorem q2805 : (Jvm.Cond.methodLink "WindowExchangeModel" (75 : Nat) ({ cls := "WindowExchangeModel", name := "throwing", desc := "(I)I" } : Jvm.MethodName)) ∈ lw_all := lw_g (lw_at lw_m12 72 rfl) rfl
theorem q2806 : (Jvm.Cond.privateMethod ({ cls := "WindowExchangeModel", name := "throwing", desc := "(I)I" } : Jvm.MethodName)) ∈ lw_tbl := lw_at lw_m12 73 rfl
theorem q2807 : (Jvm.Cond.instanceMethod ({ cls := "WindowExchangeModel", name := "throwing", desc := "(I)I" } : Jvm.MethodName)) ∈ lw_all := lw_g (lw_at lw_m12 74 rfl) rfl
theorem q2808 : (Jvm.Cond.code ({ cls := "WindowExchangeModel", name := "throwing", desc := "(I)I" } : Jvm.MethodName) prog_15_method_3_code (2 : Nat) (Option.some Jvm.ClassFile.FieldType.int)) ∈ lw_all := lw_g (lw_at lw_m12 75 rfl) rfl
theorem q2809 : (Jvm.Cond.methodLink "WindowExchangeModel" (78 : Nat) ({ cls := "WindowExchangeModel", name := "traderAt", desc := "(I)I" } : Jvm.MethodName)) ∈ lw_all := lw_g (lw_at lw_m12 76 rfl) rfl
theorem q2810 : (Jvm.Cond.static ({ cls := "WindowExchangeModel", name := "traderAt", desc := "(I)I" } : Jvm.MethodName)) ∈ lw_all := lw_g (lw_at lw_m12 77 rfl) rfl
theorem q2811 : (Jvm.Cond.code ({ cls := "WindowExchangeModel", name := "traderAt", desc := "(I)I" } : Jvm.MethodName) prog_15_method_7_code (1 : Nat) (Option.some Jvm.ClassFile.FieldType.int)) ∈ lw_all := lw_g (lw_at lw_m12 78 rfl) rfl
theorem q2812 : (Jvm.Cond.methodLink "WindowExchangeModel" (88 : Nat) ({ cls := "WindowExchangeModel", name := "changed", desc := "(I)I" } : Jvm.MethodName)) ∈ lw_all := lw_g (lw_at lw_m12 79 rfl) rfl
theorem q2813 : (Jvm.Cond.privateMethod ({ cls := "WindowExchangeModel", name := "changed", desc := "(I)I" } : Jvm.MethodName)) ∈ lw_tbl := lw_at lw_m12 80 rfl
theorem q2814 : (Jvm.Cond.instanceMethod ({ cls := "WindowExchangeModel", name := "changed", desc := "(I)I" } : Jvm.MethodName)) ∈ lw_all := lw_g (lw_at lw_m12 81 rfl) rfl
theorem q2815 : (Jvm.Cond.code ({ cls := "WindowExchangeModel", name := "changed", desc := "(I)I" } : Jvm.MethodName) prog_15_method_6_code (3 : Nat) (Option.some Jvm.ClassFile.FieldType.int)) ∈ lw_all := lw_g (lw_at lw_m12 82 rfl) rfl
theorem q2817 : (Jvm.Cond.instanceMethod ({ cls := "WindowExchangeModel", name := "placeBid", desc := "(III)I" } : Jvm.MethodName)) ∈ lw_all := lw_g (lw_at lw_m12 84 rfl) rfl
theorem q2818 : (Jvm.Cond.selects "WindowExchangeModel" ({ cls := "WindowExchangeModel", name := "placeBid", desc := "(III)I" } : Jvm.MethodName) ({ cls := "WindowExchangeModel", name := "placeBid", desc := "(III)I" } : Jvm.MethodName)) ∈ lw_all := lw_g (lw_at lw_m12 85 rfl) rfl
theorem q2819 : (Jvm.Cond.code ({ cls := "WindowExchangeModel", name := "placeBid", desc := "(III)I" } : Jvm.MethodName) prog_15_method_24_code (4 : Nat) (Option.some Jvm.ClassFile.FieldType.int)) ∈ lw_all := lw_g (lw_at lw_m12 86 rfl) rfl
theorem q2820 : (Jvm.Cond.methodLink "WindowExchangeModel" (120 : Nat) ({ cls := "WindowExchangeModel", name := "placesIt", desc := "(IZII)I" } : Jvm.MethodName)) ∈ lw_all := lw_g (lw_at lw_m12 87 rfl) rfl
theorem q2821 : (Jvm.Cond.privateMethod ({ cls := "WindowExchangeModel", name := "placesIt", desc := "(IZII)I" } : Jvm.MethodName)) ∈ lw_tbl := lw_at lw_m12 88 rfl
theorem q2822 : (Jvm.Cond.instanceMethod ({ cls := "WindowExchangeModel", name := "placesIt", desc := "(IZII)I" } : Jvm.MethodName)) ∈ lw_all := lw_g (lw_at lw_m12 89 rfl) rfl
theorem q2823 : (Jvm.Cond.code ({ cls := "WindowExchangeModel", name := "placesIt", desc := "(IZII)I" } : Jvm.MethodName) prog_15_method_23_code (9 : Nat) (Option.some Jvm.ClassFile.FieldType.int)) ∈ lw_all := lw_g (lw_at lw_m12 90 rfl) rfl
theorem q2824 : (Jvm.Cond.methodLink "WindowExchangeModel" (95 : Nat) ({ cls := "WindowExchangeModel", name := "isTrader", desc := "(I)Z" } : Jvm.MethodName)) ∈ lw_all := lw_g (lw_at lw_m12 91 rfl) rfl
theorem q2825 : (Jvm.Cond.privateMethod ({ cls := "WindowExchangeModel", name := "isTrader", desc := "(I)Z" } : Jvm.MethodName)) ∈ lw_tbl := lw_at lw_m12 92 rfl
theorem q2826 : (Jvm.Cond.instanceMethod ({ cls := "WindowExchangeModel", name := "isTrader", desc := "(I)Z" } : Jvm.MethodName)) ∈ lw_all := lw_g (lw_at lw_m12 93 rfl) rfl
theorem q2827 : (Jvm.Cond.code ({ cls := "WindowExchangeModel", name := "isTrader", desc := "(I)Z" } : Jvm.MethodName) prog_15_method_10_code (2 : Nat) (Option.some Jvm.ClassFile.FieldType.boolean)) ∈ lw_all := lw_g (lw_at lw_m12 94 rfl) rfl
theorem q2828 : (Jvm.Cond.methodLink "WindowExchangeModel" (99 : Nat) ({ cls := "WindowExchangeModel", name := "isDeal", desc := "(II)Z" } : Jvm.MethodName)) ∈ lw_all := lw_g (lw_at lw_m12 95 rfl) rfl
theorem q2829 : (Jvm.Cond.static ({ cls := "WindowExchangeModel", name := "isDeal", desc := "(II)Z" } : Jvm.MethodName)) ∈ lw_all := lw_g (lw_at lw_m12 96 rfl) rfl
theorem q2830 : (Jvm.Cond.code ({ cls := "WindowExchangeModel", name := "isDeal", desc := "(II)Z" } : Jvm.MethodName) prog_15_method_13_code (2 : Nat) (Option.some Jvm.ClassFile.FieldType.boolean)) ∈ lw_all := lw_g (lw_at lw_m12 97 rfl) rfl
theorem q2831 : (Jvm.Cond.constantLong "WindowExchangeModel" (57 : Nat) (50 : Int64)) ∈ lw_all := lw_g (lw_at lw_m12 98 rfl) rfl
theorem q2832 : (Jvm.Cond.methodLink "WindowExchangeModel" (103 : Nat) ({ cls := "WindowExchangeModel", name := "matchesOwn", desc := "(IZI)Z" } : Jvm.MethodName)) ∈ lw_all := lw_g (lw_at lw_m12 99 rfl) rfl
theorem q2833 : (Jvm.Cond.privateMethod ({ cls := "WindowExchangeModel", name := "matchesOwn", desc := "(IZI)Z" } : Jvm.MethodName)) ∈ lw_tbl := lw_at lw_m12 100 rfl
theorem q2834 : (Jvm.Cond.instanceMethod ({ cls := "WindowExchangeModel", name := "matchesOwn", desc := "(IZI)Z" } : Jvm.MethodName)) ∈ lw_all := lw_g (lw_at lw_m12 101 rfl) rfl
theorem q2835 : (Jvm.Cond.code ({ cls := "WindowExchangeModel", name := "matchesOwn", desc := "(IZI)Z" } : Jvm.MethodName) prog_15_method_19_code (6 : Nat) (Option.some Jvm.ClassFile.FieldType.boolean)) ∈ lw_all := lw_g (lw_at lw_m12 102 rfl) rfl
theorem q2836 : (Jvm.Cond.methodLink "WindowExchangeModel" (69 : Nat) ({ cls := "WindowExchangeModel", name := "matches", desc := "(ZII)Z" } : Jvm.MethodName)) ∈ lw_all := lw_g (lw_at lw_m12 103 rfl) rfl
theorem q2837 : (Jvm.Cond.privateMethod ({ cls := "WindowExchangeModel", name := "matches", desc := "(ZII)Z" } : Jvm.MethodName)) ∈ lw_tbl := lw_at lw_m12 104 rfl
theorem q2838 : (Jvm.Cond.instanceMethod ({ cls := "WindowExchangeModel", name := "matches", desc := "(ZII)Z" } : Jvm.MethodName)) ∈ lw_all := lw_g (lw_at lw_m12 105 rfl) rfl
theorem q2839 : (Jvm.Cond.code ({ cls := "WindowExchangeModel", name := "matches", desc := "(ZII)Z" } : Jvm.MethodName) prog_15_method_17_code (5 : Nat) (Option.some Jvm.ClassFile.FieldType.boolean)) ∈ lw_all := lw_g (lw_at lw_m12 106 rfl) rfl
theorem q2840 : (Jvm.Cond.methodLink "WindowExchangeModel" (61 : Nat) ({ cls := "WindowExchangeModel", name := "orderAtPlace", desc := "(I)I" } : Jvm.MethodName)) ∈ lw_all := lw_g (lw_at lw_m12 107 rfl) rfl
theorem q2841 : (Jvm.Cond.static ({ cls := "WindowExchangeModel", name := "orderAtPlace", desc := "(I)I" } : Jvm.MethodName)) ∈ lw_all := lw_g (lw_at lw_m12 108 rfl) rfl
theorem q2842 : (Jvm.Cond.code ({ cls := "WindowExchangeModel", name := "orderAtPlace", desc := "(I)I" } : Jvm.MethodName) prog_15_method_8_code (1 : Nat) (Option.some Jvm.ClassFile.FieldType.int)) ∈ lw_all := lw_g (lw_at lw_m12 109 rfl) rfl
theorem q2843 : (Jvm.Cond.methodLink "WindowExchangeModel" (65 : Nat) ({ cls := "WindowExchangeModel", name := "isSide", desc := "(IZ)Z" } : Jvm.MethodName)) ∈ lw_all := lw_g (lw_at lw_m12 110 rfl) rfl
theorem q2844 : (Jvm.Cond.privateMethod ({ cls := "WindowExchangeModel", name := "isSide", desc := "(IZ)Z" } : Jvm.MethodName)) ∈ lw_tbl := lw_at lw_m12 111 rfl
theorem q2845 : (Jvm.Cond.instanceMethod ({ cls := "WindowExchangeModel", name := "isSide", desc := "(IZ)Z" } : Jvm.MethodName)) ∈ lw_all := lw_g (lw_at lw_m12 112 rfl) rfl
theorem q2846 : (Jvm.Cond.code ({ cls := "WindowExchangeModel", name := "isSide", desc := "(IZ)Z" } : Jvm.MethodName) prog_15_method_16_code (3 : Nat) (Option.some Jvm.ClassFile.FieldType.boolean)) ∈ lw_all := lw_g (lw_at lw_m12 113 rfl) rfl
theorem q2847 : (Jvm.Cond.methodLink "WindowExchangeModel" (107 : Nat) ({ cls := "WindowExchangeModel", name := "firstMatch", desc := "(ZI)I" } : Jvm.MethodName)) ∈ lw_all := lw_g (lw_at lw_m12 114 rfl) rfl
theorem q2848 : (Jvm.Cond.privateMethod ({ cls := "WindowExchangeModel", name := "firstMatch", desc := "(ZI)I" } : Jvm.MethodName)) ∈ lw_tbl := lw_at lw_m12 115 rfl
theorem q2849 : (Jvm.Cond.instanceMethod ({ cls := "WindowExchangeModel", name := "firstMatch", desc := "(ZI)I" } : Jvm.MethodName)) ∈ lw_all := lw_g (lw_at lw_m12 116 rfl) rfl
theorem q2850 : (Jvm.Cond.code ({ cls := "WindowExchangeModel", name := "firstMatch", desc := "(ZI)I" } : Jvm.MethodName) prog_15_method_18_code (7 : Nat) (Option.some Jvm.ClassFile.FieldType.int)) ∈ lw_all := lw_g (lw_at lw_m12 117 rfl) rfl
theorem q2851 : (Jvm.Cond.methodLink "WindowExchangeModel" (111 : Nat) ({ cls := "java/lang/Math", name := "min", desc := "(II)I" } : Jvm.MethodName)) ∈ lw_all := lw_g (lw_at lw_m12 118 rfl) rfl
theorem q2852 : (Jvm.Cond.methodLink "WindowExchangeModel" (116 : Nat) ({ cls := "WindowExchangeModel", name := "trades", desc := "(IZII)V" } : Jvm.MethodName)) ∈ lw_all := lw_g (lw_at lw_m12 119 rfl) rfl
theorem q2853 : (Jvm.Cond.privateMethod ({ cls := "WindowExchangeModel", name := "trades", desc := "(IZII)V" } : Jvm.MethodName)) ∈ lw_tbl := lw_at lw_m12 120 rfl
theorem q2854 : (Jvm.Cond.instanceMethod ({ cls := "WindowExchangeModel", name := "trades", desc := "(IZII)V" } : Jvm.MethodName)) ∈ lw_all := lw_g (lw_at lw_m12 121 rfl) rfl
theorem q2855 : (Jvm.Cond.code ({ cls := "WindowExchangeModel", name := "trades", desc := "(IZII)V" } : Jvm.MethodName) prog_15_method_22_code (8 : Nat) (Option.none : Option Jvm.ClassFile.FieldType)) ∈ lw_all := lw_g (lw_at lw_m12 122 rfl) rfl
theorem q2856 : (Jvm.Cond.methodLink "WindowExchangeModel" (91 : Nat) ({ cls := "WindowExchangeModel", name := "closesOrder", desc := "(I)V" } : Jvm.MethodName)) ∈ lw_all := lw_g (lw_at lw_m12 123 rfl) rfl
theorem q2857 : (Jvm.Cond.privateMethod ({ cls := "WindowExchangeModel", name := "closesOrder", desc := "(I)V" } : Jvm.MethodName)) ∈ lw_tbl := lw_at lw_m12 124 rfl
theorem q2858 : (Jvm.Cond.instanceMethod ({ cls := "WindowExchangeModel", name := "closesOrder", desc := "(I)V" } : Jvm.MethodName)) ∈ lw_all := lw_g (lw_at lw_m12 125 rfl) rfl
theorem q2859 : (Jvm.Cond.code ({ cls := "WindowExchangeModel", name := "closesOrder", desc := "(I)V" } : Jvm.MethodName) prog_15_method_15_code (3 : Nat) (Option.none : Option Jvm.ClassFile.FieldType)) ∈ lw_all := lw_g (lw_at lw_m12 126 rfl) rfl
theorem q2861 : (Jvm.Cond.instanceMethod ({ cls := "WindowExchangeModel", name := "placeAsk", desc := "(III)I" } : Jvm.MethodName)) ∈ lw_all := lw_g (lw_at lw_m12 128 rfl) rfl
theorem q2862 : (Jvm.Cond.selects "WindowExchangeModel" ({ cls := "WindowExchangeModel", name := "placeAsk", desc := "(III)I" } : Jvm.MethodName) ({ cls := "WindowExchangeModel", name := "placeAsk", desc := "(III)I" } : Jvm.MethodName)) ∈ lw_all := lw_g (lw_at lw_m12 129 rfl) rfl
theorem q2863 : (Jvm.Cond.code ({ cls := "WindowExchangeModel", name := "placeAsk", desc := "(III)I" } : Jvm.MethodName) prog_15_method_25_code (4 : Nat) (Option.some Jvm.ClassFile.FieldType.int)) ∈ lw_all := lw_g (lw_at lw_m12 130 rfl) rfl
theorem q2865 : (Jvm.Cond.instanceMethod ({ cls := "WindowExchangeModel", name := "cancelOrder", desc := "(I)I" } : Jvm.MethodName)) ∈ lw_all := lw_g (lw_at lw_m12 132 rfl) rfl
theorem q2866 : (Jvm.Cond.selects "WindowExchangeModel" ({ cls := "WindowExchangeModel", name := "cancelOrder", desc := "(I)I" } : Jvm.MethodName) ({ cls := "WindowExchangeModel", name := "cancelOrder", desc := "(I)I" } : Jvm.MethodName)) ∈ lw_all := lw_g (lw_at lw_m12 133 rfl) rfl
theorem q2867 : (Jvm.Cond.code ({ cls := "WindowExchangeModel", name := "cancelOrder", desc := "(I)I" } : Jvm.MethodName) prog_15_method_27_code (2 : Nat) (Option.some Jvm.ClassFile.FieldType.int)) ∈ lw_all := lw_g (lw_at lw_m12 134 rfl) rfl
theorem q2868 : (Jvm.Cond.methodLink "WindowExchangeModel" (127 : Nat) ({ cls := "WindowExchangeModel", name := "cancelIt", desc := "(I)I" } : Jvm.MethodName)) ∈ lw_all := lw_g (lw_at lw_m12 135 rfl) rfl
theorem q2869 : (Jvm.Cond.privateMethod ({ cls := "WindowExchangeModel", name := "cancelIt", desc := "(I)I" } : Jvm.MethodName)) ∈ lw_tbl := lw_at lw_m12 136 rfl
theorem q2870 : (Jvm.Cond.instanceMethod ({ cls := "WindowExchangeModel", name := "cancelIt", desc := "(I)I" } : Jvm.MethodName)) ∈ lw_all := lw_g (lw_at lw_m12 137 rfl) rfl
theorem q2871 : (Jvm.Cond.code ({ cls := "WindowExchangeModel", name := "cancelIt", desc := "(I)I" } : Jvm.MethodName) prog_15_method_26_code (5 : Nat) (Option.some Jvm.ClassFile.FieldType.int)) ∈ lw_all := lw_g (lw_at lw_m12 138 rfl) rfl
theorem q2872 : (Jvm.Cond.methodLink "WindowExchangeModel" (124 : Nat) ({ cls := "WindowExchangeModel", name := "placeOf", desc := "(I)I" } : Jvm.MethodName)) ∈ lw_all := lw_g (lw_at lw_m12 139 rfl) rfl
theorem q2873 : (Jvm.Cond.privateMethod ({ cls := "WindowExchangeModel", name := "placeOf", desc := "(I)I" } : Jvm.MethodName)) ∈ lw_tbl := lw_at lw_m12 140 rfl
theorem q2874 : (Jvm.Cond.instanceMethod ({ cls := "WindowExchangeModel", name := "placeOf", desc := "(I)I" } : Jvm.MethodName)) ∈ lw_all := lw_g (lw_at lw_m12 141 rfl) rfl
theorem q2875 : (Jvm.Cond.code ({ cls := "WindowExchangeModel", name := "placeOf", desc := "(I)I" } : Jvm.MethodName) prog_15_method_14_code (3 : Nat) (Option.some Jvm.ClassFile.FieldType.int)) ∈ lw_all := lw_g (lw_at lw_m12 142 rfl) rfl
theorem q2877 : (Jvm.Cond.instanceMethod ({ cls := "WindowExchangeModel", name := "agree", desc := "(IIIII)I" } : Jvm.MethodName)) ∈ lw_all := lw_g (lw_at lw_m12 144 rfl) rfl
theorem q2878 : (Jvm.Cond.selects "WindowExchangeModel" ({ cls := "WindowExchangeModel", name := "agree", desc := "(IIIII)I" } : Jvm.MethodName) ({ cls := "WindowExchangeModel", name := "agree", desc := "(IIIII)I" } : Jvm.MethodName)) ∈ lw_all := lw_g (lw_at lw_m12 145 rfl) rfl
theorem q2879 : (Jvm.Cond.code ({ cls := "WindowExchangeModel", name := "agree", desc := "(IIIII)I" } : Jvm.MethodName) prog_15_method_29_code (6 : Nat) (Option.some Jvm.ClassFile.FieldType.int)) ∈ lw_all := lw_g (lw_at lw_m12 146 rfl) rfl
theorem q2880 : (Jvm.Cond.methodLink "WindowExchangeModel" (133 : Nat) ({ cls := "WindowExchangeModel", name := "agreeIt", desc := "(IIIII)I" } : Jvm.MethodName)) ∈ lw_all := lw_g (lw_at lw_m12 147 rfl) rfl
theorem q2881 : (Jvm.Cond.privateMethod ({ cls := "WindowExchangeModel", name := "agreeIt", desc := "(IIIII)I" } : Jvm.MethodName)) ∈ lw_tbl := lw_at lw_m12 148 rfl
theorem q2882 : (Jvm.Cond.instanceMethod ({ cls := "WindowExchangeModel", name := "agreeIt", desc := "(IIIII)I" } : Jvm.MethodName)) ∈ lw_all := lw_g (lw_at lw_m12 149 rfl) rfl
theorem q2883 : (Jvm.Cond.code ({ cls := "WindowExchangeModel", name := "agreeIt", desc := "(IIIII)I" } : Jvm.MethodName) prog_15_method_28_code (7 : Nat) (Option.some Jvm.ClassFile.FieldType.int)) ∈ lw_all := lw_g (lw_at lw_m12 150 rfl) rfl
theorem q2884 : (Jvm.Cond.methodLink "WindowExchangeModel" (130 : Nat) ({ cls := "WindowExchangeModel", name := "contractAt", desc := "(I)I" } : Jvm.MethodName)) ∈ lw_all := lw_g (lw_at lw_m12 151 rfl) rfl
theorem q2885 : (Jvm.Cond.static ({ cls := "WindowExchangeModel", name := "contractAt", desc := "(I)I" } : Jvm.MethodName)) ∈ lw_all := lw_g (lw_at lw_m12 152 rfl) rfl
theorem q2886 : (Jvm.Cond.code ({ cls := "WindowExchangeModel", name := "contractAt", desc := "(I)I" } : Jvm.MethodName) prog_15_method_9_code (1 : Nat) (Option.some Jvm.ClassFile.FieldType.int)) ∈ lw_all := lw_g (lw_at lw_m12 153 rfl) rfl
theorem q2888 : (Jvm.Cond.instanceMethod ({ cls := "WindowExchangeModel", name := "advance", desc := "(I)I" } : Jvm.MethodName)) ∈ lw_all := lw_g (lw_at lw_m12 155 rfl) rfl
theorem q2889 : (Jvm.Cond.selects "WindowExchangeModel" ({ cls := "WindowExchangeModel", name := "advance", desc := "(I)I" } : Jvm.MethodName) ({ cls := "WindowExchangeModel", name := "advance", desc := "(I)I" } : Jvm.MethodName)) ∈ lw_all := lw_g (lw_at lw_m12 156 rfl) rfl
theorem q2890 : (Jvm.Cond.code ({ cls := "WindowExchangeModel", name := "advance", desc := "(I)I" } : Jvm.MethodName) prog_15_method_33_code (2 : Nat) (Option.some Jvm.ClassFile.FieldType.int)) ∈ lw_all := lw_g (lw_at lw_m12 157 rfl) rfl
theorem q2891 : (Jvm.Cond.methodLink "WindowExchangeModel" (146 : Nat) ({ cls := "WindowExchangeModel", name := "advanceIt", desc := "(I)I" } : Jvm.MethodName)) ∈ lw_all := lw_g (lw_at lw_m12 158 rfl) rfl
theorem q2892 : (Jvm.Cond.privateMethod ({ cls := "WindowExchangeModel", name := "advanceIt", desc := "(I)I" } : Jvm.MethodName)) ∈ lw_tbl := lw_at lw_m12 159 rfl
theorem q2893 : (Jvm.Cond.instanceMethod ({ cls := "WindowExchangeModel", name := "advanceIt", desc := "(I)I" } : Jvm.MethodName)) ∈ lw_all := lw_g (lw_at lw_m12 160 rfl) rfl
theorem q2894 : (Jvm.Cond.code ({ cls := "WindowExchangeModel", name := "advanceIt", desc := "(I)I" } : Jvm.MethodName) prog_15_method_32_code (5 : Nat) (Option.some Jvm.ClassFile.FieldType.int)) ∈ lw_all := lw_g (lw_at lw_m12 161 rfl) rfl
theorem q2895 : (Jvm.Cond.methodLink "WindowExchangeModel" (143 : Nat) ({ cls := "WindowExchangeModel", name := "settles", desc := "(I)V" } : Jvm.MethodName)) ∈ lw_all := lw_g (lw_at lw_m12 162 rfl) rfl
theorem q2896 : (Jvm.Cond.privateMethod ({ cls := "WindowExchangeModel", name := "settles", desc := "(I)V" } : Jvm.MethodName)) ∈ lw_tbl := lw_at lw_m12 163 rfl
theorem q2897 : (Jvm.Cond.instanceMethod ({ cls := "WindowExchangeModel", name := "settles", desc := "(I)V" } : Jvm.MethodName)) ∈ lw_all := lw_g (lw_at lw_m12 164 rfl) rfl
theorem q2898 : (Jvm.Cond.code ({ cls := "WindowExchangeModel", name := "settles", desc := "(I)V" } : Jvm.MethodName) prog_15_method_31_code (9 : Nat) (Option.none : Option Jvm.ClassFile.FieldType)) ∈ lw_all := lw_g (lw_at lw_m12 165 rfl) rfl
theorem q2899 : (Jvm.Cond.methodLink "WindowExchangeModel" (137 : Nat) ({ cls := "WindowExchangeModel", name := "gainOf", desc := "(II)I" } : Jvm.MethodName)) ∈ lw_all := lw_g (lw_at lw_m12 166 rfl) rfl
theorem q2900 : (Jvm.Cond.privateMethod ({ cls := "WindowExchangeModel", name := "gainOf", desc := "(II)I" } : Jvm.MethodName)) ∈ lw_tbl := lw_at lw_m12 167 rfl
theorem q2901 : (Jvm.Cond.instanceMethod ({ cls := "WindowExchangeModel", name := "gainOf", desc := "(II)I" } : Jvm.MethodName)) ∈ lw_all := lw_g (lw_at lw_m12 168 rfl) rfl
theorem q2902 : (Jvm.Cond.code ({ cls := "WindowExchangeModel", name := "gainOf", desc := "(II)I" } : Jvm.MethodName) prog_15_method_30_code (4 : Nat) (Option.some Jvm.ClassFile.FieldType.int)) ∈ lw_all := lw_g (lw_at lw_m12 169 rfl) rfl
theorem q2903 : (Jvm.Cond.methodLink "WindowExchangeModel" (140 : Nat) ({ cls := "java/lang/Math", name := "abs", desc := "(I)I" } : Jvm.MethodName)) ∈ lw_all := lw_g (lw_at lw_m12 170 rfl) rfl
theorem q2905 : (Jvm.Cond.instanceMethod ({ cls := "WindowExchangeModel", name := "openAuction", desc := "(II)I" } : Jvm.MethodName)) ∈ lw_all := lw_g (lw_at lw_m12 172 rfl) rfl
theorem q2906 : (Jvm.Cond.selects "WindowExchangeModel" ({ cls := "WindowExchangeModel", name := "openAuction", desc := "(II)I" } : Jvm.MethodName) ({ cls := "WindowExchangeModel", name := "openAuction", desc := "(II)I" } : Jvm.MethodName)) ∈ lw_all := lw_g (lw_at lw_m12 173 rfl) rfl
theorem q2907 : (Jvm.Cond.code ({ cls := "WindowExchangeModel", name := "openAuction", desc := "(II)I" } : Jvm.MethodName) prog_15_method_35_code (3 : Nat) (Option.some Jvm.ClassFile.FieldType.int)) ∈ lw_all := lw_g (lw_at lw_m12 174 rfl) rfl
theorem q2908 : (Jvm.Cond.methodLink "WindowExchangeModel" (152 : Nat) ({ cls := "WindowExchangeModel", name := "openIt", desc := "(II)I" } : Jvm.MethodName)) ∈ lw_all := lw_g (lw_at lw_m12 175 rfl) rfl
theorem q2909 : (Jvm.Cond.privateMethod ({ cls := "WindowExchangeModel", name := "openIt", desc := "(II)I" } : Jvm.MethodName)) ∈ lw_tbl := lw_at lw_m12 176 rfl
theorem q2910 : (Jvm.Cond.instanceMethod ({ cls := "WindowExchangeModel", name := "openIt", desc := "(II)I" } : Jvm.MethodName)) ∈ lw_all := lw_g (lw_at lw_m12 177 rfl) rfl
theorem q2911 : (Jvm.Cond.code ({ cls := "WindowExchangeModel", name := "openIt", desc := "(II)I" } : Jvm.MethodName) prog_15_method_34_code (5 : Nat) (Option.some Jvm.ClassFile.FieldType.int)) ∈ lw_all := lw_g (lw_at lw_m12 178 rfl) rfl
theorem q2912 : (Jvm.Cond.methodLink "WindowExchangeModel" (149 : Nat) ({ cls := "WindowExchangeModel", name := "isRoom", desc := "(I)Z" } : Jvm.MethodName)) ∈ lw_all := lw_g (lw_at lw_m12 179 rfl) rfl
theorem q2913 : (Jvm.Cond.static ({ cls := "WindowExchangeModel", name := "isRoom", desc := "(I)Z" } : Jvm.MethodName)) ∈ lw_all := lw_g (lw_at lw_m12 180 rfl) rfl
theorem q2914 : (Jvm.Cond.code ({ cls := "WindowExchangeModel", name := "isRoom", desc := "(I)Z" } : Jvm.MethodName) prog_15_method_12_code (1 : Nat) (Option.some Jvm.ClassFile.FieldType.boolean)) ∈ lw_all := lw_g (lw_at lw_m12 181 rfl) rfl
theorem q2915 : (Jvm.Cond.constantLong "WindowExchangeModel" (55 : Nat) (3 : Int64)) ∈ lw_all := lw_g (lw_at lw_m12 182 rfl) rfl
theorem q2917 : (Jvm.Cond.instanceMethod ({ cls := "WindowExchangeModel", name := "sealBid", desc := "(II)I" } : Jvm.MethodName)) ∈ lw_all := lw_g (lw_at lw_m12 184 rfl) rfl
theorem q2918 : (Jvm.Cond.selects "WindowExchangeModel" ({ cls := "WindowExchangeModel", name := "sealBid", desc := "(II)I" } : Jvm.MethodName) ({ cls := "WindowExchangeModel", name := "sealBid", desc := "(II)I" } : Jvm.MethodName)) ∈ lw_all := lw_g (lw_at lw_m12 185 rfl) rfl
theorem q2919 : (Jvm.Cond.code ({ cls := "WindowExchangeModel", name := "sealBid", desc := "(II)I" } : Jvm.MethodName) prog_15_method_37_code (3 : Nat) (Option.some Jvm.ClassFile.FieldType.int)) ∈ lw_all := lw_g (lw_at lw_m12 186 rfl) rfl
theorem q2920 : (Jvm.Cond.methodLink "WindowExchangeModel" (155 : Nat) ({ cls := "WindowExchangeModel", name := "sealIt", desc := "(II)I" } : Jvm.MethodName)) ∈ lw_all := lw_g (lw_at lw_m12 187 rfl) rfl
theorem q2921 : (Jvm.Cond.privateMethod ({ cls := "WindowExchangeModel", name := "sealIt", desc := "(II)I" } : Jvm.MethodName)) ∈ lw_tbl := lw_at lw_m12 188 rfl
theorem q2922 : (Jvm.Cond.instanceMethod ({ cls := "WindowExchangeModel", name := "sealIt", desc := "(II)I" } : Jvm.MethodName)) ∈ lw_all := lw_g (lw_at lw_m12 189 rfl) rfl
theorem q2923 : (Jvm.Cond.code ({ cls := "WindowExchangeModel", name := "sealIt", desc := "(II)I" } : Jvm.MethodName) prog_15_method_36_code (5 : Nat) (Option.some Jvm.ClassFile.FieldType.int)) ∈ lw_all := lw_g (lw_at lw_m12 190 rfl) rfl
theorem q2925 : (Jvm.Cond.instanceMethod ({ cls := "WindowExchangeModel", name := "closeAuction", desc := "()I" } : Jvm.MethodName)) ∈ lw_all := lw_g (lw_at lw_m12 192 rfl) rfl
theorem q2926 : (Jvm.Cond.selects "WindowExchangeModel" ({ cls := "WindowExchangeModel", name := "closeAuction", desc := "()I" } : Jvm.MethodName) ({ cls := "WindowExchangeModel", name := "closeAuction", desc := "()I" } : Jvm.MethodName)) ∈ lw_all := lw_g (lw_at lw_m12 193 rfl) rfl
theorem q2927 : (Jvm.Cond.code ({ cls := "WindowExchangeModel", name := "closeAuction", desc := "()I" } : Jvm.MethodName) prog_15_method_42_code (1 : Nat) (Option.some Jvm.ClassFile.FieldType.int)) ∈ lw_all := lw_g (lw_at lw_m12 194 rfl) rfl
theorem q2928 : (Jvm.Cond.methodLink "WindowExchangeModel" (171 : Nat) ({ cls := "WindowExchangeModel", name := "closeIt", desc := "()I" } : Jvm.MethodName)) ∈ lw_all := lw_g (lw_at lw_m12 195 rfl) rfl
theorem q2929 : (Jvm.Cond.privateMethod ({ cls := "WindowExchangeModel", name := "closeIt", desc := "()I" } : Jvm.MethodName)) ∈ lw_tbl := lw_at lw_m12 196 rfl
theorem q2930 : (Jvm.Cond.instanceMethod ({ cls := "WindowExchangeModel", name := "closeIt", desc := "()I" } : Jvm.MethodName)) ∈ lw_all := lw_g (lw_at lw_m12 197 rfl) rfl
theorem q2931 : (Jvm.Cond.code ({ cls := "WindowExchangeModel", name := "closeIt", desc := "()I" } : Jvm.MethodName) prog_15_method_41_code (4 : Nat) (Option.some Jvm.ClassFile.FieldType.int)) ∈ lw_all := lw_g (lw_at lw_m12 198 rfl) rfl
theorem q2932 : (Jvm.Cond.methodLink "WindowExchangeModel" (161 : Nat) ({ cls := "WindowExchangeModel", name := "winnerNow", desc := "()I" } : Jvm.MethodName)) ∈ lw_all := lw_g (lw_at lw_m12 199 rfl) rfl
theorem q2933 : (Jvm.Cond.privateMethod ({ cls := "WindowExchangeModel", name := "winnerNow", desc := "()I" } : Jvm.MethodName)) ∈ lw_tbl := lw_at lw_m12 200 rfl
theorem q2934 : (Jvm.Cond.instanceMethod ({ cls := "WindowExchangeModel", name := "winnerNow", desc := "()I" } : Jvm.MethodName)) ∈ lw_all := lw_g (lw_at lw_m12 201 rfl) rfl
theorem q2935 : (Jvm.Cond.code ({ cls := "WindowExchangeModel", name := "winnerNow", desc := "()I" } : Jvm.MethodName) prog_15_method_39_code (4 : Nat) (Option.some Jvm.ClassFile.FieldType.int)) ∈ lw_all := lw_g (lw_at lw_m12 202 rfl) rfl
theorem q2936 : (Jvm.Cond.methodLink "WindowExchangeModel" (158 : Nat) ({ cls := "WindowExchangeModel", name := "validBid", desc := "(I)I" } : Jvm.MethodName)) ∈ lw_all := lw_g (lw_at lw_m12 203 rfl) rfl
theorem q2937 : (Jvm.Cond.privateMethod ({ cls := "WindowExchangeModel", name := "validBid", desc := "(I)I" } : Jvm.MethodName)) ∈ lw_tbl := lw_at lw_m12 204 rfl
theorem q2938 : (Jvm.Cond.instanceMethod ({ cls := "WindowExchangeModel", name := "validBid", desc := "(I)I" } : Jvm.MethodName)) ∈ lw_all := lw_g (lw_at lw_m12 205 rfl) rfl
theorem q2939 : (Jvm.Cond.code ({ cls := "WindowExchangeModel", name := "validBid", desc := "(I)I" } : Jvm.MethodName) prog_15_method_38_code (3 : Nat) (Option.some Jvm.ClassFile.FieldType.int)) ∈ lw_all := lw_g (lw_at lw_m12 206 rfl) rfl
theorem q2940 : (Jvm.Cond.methodLink "WindowExchangeModel" (168 : Nat) ({ cls := "WindowExchangeModel", name := "winnersPrice", desc := "()I" } : Jvm.MethodName)) ∈ lw_all := lw_g (lw_at lw_m12 207 rfl) rfl
theorem q2941 : (Jvm.Cond.privateMethod ({ cls := "WindowExchangeModel", name := "winnersPrice", desc := "()I" } : Jvm.MethodName)) ∈ lw_tbl := lw_at lw_m12 208 rfl
theorem q2942 : (Jvm.Cond.instanceMethod ({ cls := "WindowExchangeModel", name := "winnersPrice", desc := "()I" } : Jvm.MethodName)) ∈ lw_all := lw_g (lw_at lw_m12 209 rfl) rfl
theorem q2943 : (Jvm.Cond.code ({ cls := "WindowExchangeModel", name := "winnersPrice", desc := "()I" } : Jvm.MethodName) prog_15_method_40_code (3 : Nat) (Option.some Jvm.ClassFile.FieldType.int)) ∈ lw_all := lw_g (lw_at lw_m12 210 rfl) rfl
theorem q2944 : (Jvm.Cond.methodLink "WindowExchangeModel" (165 : Nat) ({ cls := "java/lang/Math", name := "max", desc := "(II)I" } : Jvm.MethodName)) ∈ lw_all := lw_g (lw_at lw_m12 211 rfl) rfl
theorem q2946 : (Jvm.Cond.instanceMethod ({ cls := "WindowExchangeModel", name := "traders", desc := "()I" } : Jvm.MethodName)) ∈ lw_all := lw_g (lw_at lw_m12 213 rfl) rfl
theorem q2947 : (Jvm.Cond.selects "WindowExchangeModel" ({ cls := "WindowExchangeModel", name := "traders", desc := "()I" } : Jvm.MethodName) ({ cls := "WindowExchangeModel", name := "traders", desc := "()I" } : Jvm.MethodName)) ∈ lw_all := lw_g (lw_at lw_m12 214 rfl) rfl
theorem q2948 : (Jvm.Cond.code ({ cls := "WindowExchangeModel", name := "traders", desc := "()I" } : Jvm.MethodName) prog_15_method_43_code (1 : Nat) (Option.some Jvm.ClassFile.FieldType.int)) ∈ lw_all := lw_g (lw_at lw_m12 215 rfl) rfl
theorem q2950 : (Jvm.Cond.instanceMethod ({ cls := "WindowExchangeModel", name := "cash", desc := "(I)I" } : Jvm.MethodName)) ∈ lw_all := lw_g (lw_at lw_m12 217 rfl) rfl
theorem q2951 : (Jvm.Cond.selects "WindowExchangeModel" ({ cls := "WindowExchangeModel", name := "cash", desc := "(I)I" } : Jvm.MethodName) ({ cls := "WindowExchangeModel", name := "cash", desc := "(I)I" } : Jvm.MethodName)) ∈ lw_all := lw_g (lw_at lw_m12 218 rfl) rfl
theorem q2952 : (Jvm.Cond.code ({ cls := "WindowExchangeModel", name := "cash", desc := "(I)I" } : Jvm.MethodName) prog_15_method_44_code (2 : Nat) (Option.some Jvm.ClassFile.FieldType.int)) ∈ lw_all := lw_g (lw_at lw_m12 219 rfl) rfl
theorem q2954 : (Jvm.Cond.instanceMethod ({ cls := "WindowExchangeModel", name := "windows", desc := "(I)I" } : Jvm.MethodName)) ∈ lw_all := lw_g (lw_at lw_m12 221 rfl) rfl
theorem q2955 : (Jvm.Cond.selects "WindowExchangeModel" ({ cls := "WindowExchangeModel", name := "windows", desc := "(I)I" } : Jvm.MethodName) ({ cls := "WindowExchangeModel", name := "windows", desc := "(I)I" } : Jvm.MethodName)) ∈ lw_all := lw_g (lw_at lw_m12 222 rfl) rfl
theorem q2956 : (Jvm.Cond.code ({ cls := "WindowExchangeModel", name := "windows", desc := "(I)I" } : Jvm.MethodName) prog_15_method_45_code (2 : Nat) (Option.some Jvm.ClassFile.FieldType.int)) ∈ lw_all := lw_g (lw_at lw_m12 223 rfl) rfl
theorem q2958 : (Jvm.Cond.instanceMethod ({ cls := "WindowExchangeModel", name := "reservedCash", desc := "(I)I" } : Jvm.MethodName)) ∈ lw_all := lw_g (lw_at lw_m12 225 rfl) rfl
theorem q2959 : (Jvm.Cond.selects "WindowExchangeModel" ({ cls := "WindowExchangeModel", name := "reservedCash", desc := "(I)I" } : Jvm.MethodName) ({ cls := "WindowExchangeModel", name := "reservedCash", desc := "(I)I" } : Jvm.MethodName)) ∈ lw_all := lw_g (lw_at lw_m12 226 rfl) rfl
theorem q2960 : (Jvm.Cond.code ({ cls := "WindowExchangeModel", name := "reservedCash", desc := "(I)I" } : Jvm.MethodName) prog_15_method_47_code (2 : Nat) (Option.some Jvm.ClassFile.FieldType.int)) ∈ lw_all := lw_g (lw_at lw_m12 227 rfl) rfl
theorem q2961 : (Jvm.Cond.methodLink "WindowExchangeModel" (174 : Nat) ({ cls := "WindowExchangeModel", name := "reservedFor", desc := "(IZ)I" } : Jvm.MethodName)) ∈ lw_all := lw_g (lw_at lw_m12 228 rfl) rfl
theorem q2962 : (Jvm.Cond.privateMethod ({ cls := "WindowExchangeModel", name := "reservedFor", desc := "(IZ)I" } : Jvm.MethodName)) ∈ lw_tbl := lw_at lw_m12 229 rfl
theorem q2963 : (Jvm.Cond.instanceMethod ({ cls := "WindowExchangeModel", name := "reservedFor", desc := "(IZ)I" } : Jvm.MethodName)) ∈ lw_all := lw_g (lw_at lw_m12 230 rfl) rfl
theorem q2964 : (Jvm.Cond.code ({ cls := "WindowExchangeModel", name := "reservedFor", desc := "(IZ)I" } : Jvm.MethodName) prog_15_method_46_code (7 : Nat) (Option.some Jvm.ClassFile.FieldType.int)) ∈ lw_all := lw_g (lw_at lw_m12 231 rfl) rfl
theorem q2966 : (Jvm.Cond.instanceMethod ({ cls := "WindowExchangeModel", name := "reservedWindows", desc := "(I)I" } : Jvm.MethodName)) ∈ lw_all := lw_g (lw_at lw_m12 233 rfl) rfl
theorem q2967 : (Jvm.Cond.selects "WindowExchangeModel" ({ cls := "WindowExchangeModel", name := "reservedWindows", desc := "(I)I" } : Jvm.MethodName) ({ cls := "WindowExchangeModel", name := "reservedWindows", desc := "(I)I" } : Jvm.MethodName)) ∈ lw_all := lw_g (lw_at lw_m12 234 rfl) rfl
theorem q2968 : (Jvm.Cond.code ({ cls := "WindowExchangeModel", name := "reservedWindows", desc := "(I)I" } : Jvm.MethodName) prog_15_method_48_code (2 : Nat) (Option.some Jvm.ClassFile.FieldType.int)) ∈ lw_all := lw_g (lw_at lw_m12 235 rfl) rfl
theorem q2970 : (Jvm.Cond.instanceMethod ({ cls := "WindowExchangeModel", name := "openOrders", desc := "()I" } : Jvm.MethodName)) ∈ lw_all := lw_g (lw_at lw_m12 237 rfl) rfl
theorem q2971 : (Jvm.Cond.selects "WindowExchangeModel" ({ cls := "WindowExchangeModel", name := "openOrders", desc := "()I" } : Jvm.MethodName) ({ cls := "WindowExchangeModel", name := "openOrders", desc := "()I" } : Jvm.MethodName)) ∈ lw_all := lw_g (lw_at lw_m12 238 rfl) rfl
theorem q2972 : (Jvm.Cond.code ({ cls := "WindowExchangeModel", name := "openOrders", desc := "()I" } : Jvm.MethodName) prog_15_method_49_code (1 : Nat) (Option.some Jvm.ClassFile.FieldType.int)) ∈ lw_all := lw_g (lw_at lw_m12 239 rfl) rfl
theorem q2974 : (Jvm.Cond.instanceMethod ({ cls := "WindowExchangeModel", name := "traderOf", desc := "(I)I" } : Jvm.MethodName)) ∈ lw_all := lw_g (lw_at lw_m13 1 rfl) rfl
theorem q2975 : (Jvm.Cond.selects "WindowExchangeModel" ({ cls := "WindowExchangeModel", name := "traderOf", desc := "(I)I" } : Jvm.MethodName) ({ cls := "WindowExchangeModel", name := "traderOf", desc := "(I)I" } : Jvm.MethodName)) ∈ lw_all := lw_g (lw_at lw_m13 2 rfl) rfl
theorem q2976 : (Jvm.Cond.code ({ cls := "WindowExchangeModel", name := "traderOf", desc := "(I)I" } : Jvm.MethodName) prog_15_method_51_code (2 : Nat) (Option.some Jvm.ClassFile.FieldType.int)) ∈ lw_all := lw_g (lw_at lw_m13 3 rfl) rfl
theorem q2977 : (Jvm.Cond.methodLink "WindowExchangeModel" (178 : Nat) ({ cls := "WindowExchangeModel", name := "ofOrder", desc := "(II)I" } : Jvm.MethodName)) ∈ lw_all := lw_g (lw_at lw_m13 4 rfl) rfl
theorem q2978 : (Jvm.Cond.privateMethod ({ cls := "WindowExchangeModel", name := "ofOrder", desc := "(II)I" } : Jvm.MethodName)) ∈ lw_tbl := lw_at lw_m13 5 rfl
theorem q2979 : (Jvm.Cond.instanceMethod ({ cls := "WindowExchangeModel", name := "ofOrder", desc := "(II)I" } : Jvm.MethodName)) ∈ lw_all := lw_g (lw_at lw_m13 6 rfl) rfl
theorem q2980 : (Jvm.Cond.code ({ cls := "WindowExchangeModel", name := "ofOrder", desc := "(II)I" } : Jvm.MethodName) prog_15_method_50_code (4 : Nat) (Option.some Jvm.ClassFile.FieldType.int)) ∈ lw_all := lw_g (lw_at lw_m13 7 rfl) rfl
theorem q2982 : (Jvm.Cond.instanceMethod ({ cls := "WindowExchangeModel", name := "isBid", desc := "(I)Z" } : Jvm.MethodName)) ∈ lw_all := lw_g (lw_at lw_m13 9 rfl) rfl
theorem q2983 : (Jvm.Cond.selects "WindowExchangeModel" ({ cls := "WindowExchangeModel", name := "isBid", desc := "(I)Z" } : Jvm.MethodName) ({ cls := "WindowExchangeModel", name := "isBid", desc := "(I)Z" } : Jvm.MethodName)) ∈ lw_all := lw_g (lw_at lw_m13 10 rfl) rfl
theorem q2984 : (Jvm.Cond.code ({ cls := "WindowExchangeModel", name := "isBid", desc := "(I)Z" } : Jvm.MethodName) prog_15_method_52_code (2 : Nat) (Option.some Jvm.ClassFile.FieldType.boolean)) ∈ lw_all := lw_g (lw_at lw_m13 11 rfl) rfl
theorem q2986 : (Jvm.Cond.instanceMethod ({ cls := "WindowExchangeModel", name := "priceOf", desc := "(I)I" } : Jvm.MethodName)) ∈ lw_all := lw_g (lw_at lw_m13 13 rfl) rfl
theorem q2987 : (Jvm.Cond.selects "WindowExchangeModel" ({ cls := "WindowExchangeModel", name := "priceOf", desc := "(I)I" } : Jvm.MethodName) ({ cls := "WindowExchangeModel", name := "priceOf", desc := "(I)I" } : Jvm.MethodName)) ∈ lw_all := lw_g (lw_at lw_m13 14 rfl) rfl
theorem q2988 : (Jvm.Cond.code ({ cls := "WindowExchangeModel", name := "priceOf", desc := "(I)I" } : Jvm.MethodName) prog_15_method_53_code (2 : Nat) (Option.some Jvm.ClassFile.FieldType.int)) ∈ lw_all := lw_g (lw_at lw_m13 15 rfl) rfl
theorem q2990 : (Jvm.Cond.instanceMethod ({ cls := "WindowExchangeModel", name := "unitsOf", desc := "(I)I" } : Jvm.MethodName)) ∈ lw_all := lw_g (lw_at lw_m13 17 rfl) rfl
theorem q2991 : (Jvm.Cond.selects "WindowExchangeModel" ({ cls := "WindowExchangeModel", name := "unitsOf", desc := "(I)I" } : Jvm.MethodName) ({ cls := "WindowExchangeModel", name := "unitsOf", desc := "(I)I" } : Jvm.MethodName)) ∈ lw_all := lw_g (lw_at lw_m13 18 rfl) rfl
theorem q2992 : (Jvm.Cond.code ({ cls := "WindowExchangeModel", name := "unitsOf", desc := "(I)I" } : Jvm.MethodName) prog_15_method_54_code (2 : Nat) (Option.some Jvm.ClassFile.FieldType.int)) ∈ lw_all := lw_g (lw_at lw_m13 19 rfl) rfl
theorem q2994 : (Jvm.Cond.instanceMethod ({ cls := "WindowExchangeModel", name := "orderAt", desc := "(ZI)I" } : Jvm.MethodName)) ∈ lw_all := lw_g (lw_at lw_m13 21 rfl) rfl
theorem q2995 : (Jvm.Cond.selects "WindowExchangeModel" ({ cls := "WindowExchangeModel", name := "orderAt", desc := "(ZI)I" } : Jvm.MethodName) ({ cls := "WindowExchangeModel", name := "orderAt", desc := "(ZI)I" } : Jvm.MethodName)) ∈ lw_all := lw_g (lw_at lw_m13 22 rfl) rfl
theorem q2996 : (Jvm.Cond.code ({ cls := "WindowExchangeModel", name := "orderAt", desc := "(ZI)I" } : Jvm.MethodName) prog_15_method_56_code (4 : Nat) (Option.some Jvm.ClassFile.FieldType.int)) ∈ lw_all := lw_g (lw_at lw_m13 23 rfl) rfl
theorem q2997 : (Jvm.Cond.methodLink "WindowExchangeModel" (181 : Nat) ({ cls := "WindowExchangeModel", name := "placeAtRank", desc := "(ZI)I" } : Jvm.MethodName)) ∈ lw_all := lw_g (lw_at lw_m13 24 rfl) rfl
theorem q2998 : (Jvm.Cond.privateMethod ({ cls := "WindowExchangeModel", name := "placeAtRank", desc := "(ZI)I" } : Jvm.MethodName)) ∈ lw_tbl := lw_at lw_m13 25 rfl
theorem q2999 : (Jvm.Cond.instanceMethod ({ cls := "WindowExchangeModel", name := "placeAtRank", desc := "(ZI)I" } : Jvm.MethodName)) ∈ lw_all := lw_g (lw_at lw_m13 26 rfl) rfl
theorem q3000 : (Jvm.Cond.code ({ cls := "WindowExchangeModel", name := "placeAtRank", desc := "(ZI)I" } : Jvm.MethodName) prog_15_method_55_code (8 : Nat) (Option.some Jvm.ClassFile.FieldType.int)) ∈ lw_all := lw_g (lw_at lw_m13 27 rfl) rfl
theorem q3002 : (Jvm.Cond.instanceMethod ({ cls := "WindowExchangeModel", name := "bestBid", desc := "()I" } : Jvm.MethodName)) ∈ lw_all := lw_g (lw_at lw_m13 29 rfl) rfl
theorem q3003 : (Jvm.Cond.selects "WindowExchangeModel" ({ cls := "WindowExchangeModel", name := "bestBid", desc := "()I" } : Jvm.MethodName) ({ cls := "WindowExchangeModel", name := "bestBid", desc := "()I" } : Jvm.MethodName)) ∈ lw_all := lw_g (lw_at lw_m13 30 rfl) rfl
theorem q3004 : (Jvm.Cond.code ({ cls := "WindowExchangeModel", name := "bestBid", desc := "()I" } : Jvm.MethodName) prog_15_method_57_code (2 : Nat) (Option.some Jvm.ClassFile.FieldType.int)) ∈ lw_all := lw_g (lw_at lw_m13 31 rfl) rfl
theorem q3006 : (Jvm.Cond.instanceMethod ({ cls := "WindowExchangeModel", name := "bestAsk", desc := "()I" } : Jvm.MethodName)) ∈ lw_all := lw_g (lw_at lw_m13 33 rfl) rfl
theorem q3007 : (Jvm.Cond.selects "WindowExchangeModel" ({ cls := "WindowExchangeModel", name := "bestAsk", desc := "()I" } : Jvm.MethodName) ({ cls := "WindowExchangeModel", name := "bestAsk", desc := "()I" } : Jvm.MethodName)) ∈ lw_all := lw_g (lw_at lw_m13 34 rfl) rfl
theorem q3008 : (Jvm.Cond.code ({ cls := "WindowExchangeModel", name := "bestAsk", desc := "()I" } : Jvm.MethodName) prog_15_method_58_code (2 : Nat) (Option.some Jvm.ClassFile.FieldType.int)) ∈ lw_all := lw_g (lw_at lw_m13 35 rfl) rfl
theorem q3010 : (Jvm.Cond.instanceMethod ({ cls := "WindowExchangeModel", name := "depth", desc := "(ZI)I" } : Jvm.MethodName)) ∈ lw_all := lw_g (lw_at lw_m13 37 rfl) rfl
theorem q3011 : (Jvm.Cond.selects "WindowExchangeModel" ({ cls := "WindowExchangeModel", name := "depth", desc := "(ZI)I" } : Jvm.MethodName) ({ cls := "WindowExchangeModel", name := "depth", desc := "(ZI)I" } : Jvm.MethodName)) ∈ lw_all := lw_g (lw_at lw_m13 38 rfl) rfl
theorem q3012 : (Jvm.Cond.code ({ cls := "WindowExchangeModel", name := "depth", desc := "(ZI)I" } : Jvm.MethodName) prog_15_method_59_code (5 : Nat) (Option.some Jvm.ClassFile.FieldType.int)) ∈ lw_all := lw_g (lw_at lw_m13 39 rfl) rfl
theorem q3014 : (Jvm.Cond.instanceMethod ({ cls := "WindowExchangeModel", name := "costToBuy", desc := "(I)I" } : Jvm.MethodName)) ∈ lw_all := lw_g (lw_at lw_m13 41 rfl) rfl
theorem q3015 : (Jvm.Cond.selects "WindowExchangeModel" ({ cls := "WindowExchangeModel", name := "costToBuy", desc := "(I)I" } : Jvm.MethodName) ({ cls := "WindowExchangeModel", name := "costToBuy", desc := "(I)I" } : Jvm.MethodName)) ∈ lw_all := lw_g (lw_at lw_m13 42 rfl) rfl
theorem q3016 : (Jvm.Cond.code ({ cls := "WindowExchangeModel", name := "costToBuy", desc := "(I)I" } : Jvm.MethodName) prog_15_method_60_code (7 : Nat) (Option.some Jvm.ClassFile.FieldType.int)) ∈ lw_all := lw_g (lw_at lw_m13 43 rfl) rfl
theorem q3018 : (Jvm.Cond.instanceMethod ({ cls := "WindowExchangeModel", name := "costToBuyByPrices", desc := "(I)I" } : Jvm.MethodName)) ∈ lw_all := lw_g (lw_at lw_m13 45 rfl) rfl
theorem q3019 : (Jvm.Cond.selects "WindowExchangeModel" ({ cls := "WindowExchangeModel", name := "costToBuyByPrices", desc := "(I)I" } : Jvm.MethodName) ({ cls := "WindowExchangeModel", name := "costToBuyByPrices", desc := "(I)I" } : Jvm.MethodName)) ∈ lw_all := lw_g (lw_at lw_m13 46 rfl) rfl
theorem q3020 : (Jvm.Cond.code ({ cls := "WindowExchangeModel", name := "costToBuyByPrices", desc := "(I)I" } : Jvm.MethodName) prog_15_method_61_code (2 : Nat) (Option.some Jvm.ClassFile.FieldType.int)) ∈ lw_all := lw_g (lw_at lw_m13 47 rfl) rfl
theorem q3021 : (Jvm.Cond.methodLink "WindowExchangeModel" (184 : Nat) ({ cls := "WindowExchangeModel", name := "costToBuy", desc := "(I)I" } : Jvm.MethodName)) ∈ lw_all := lw_g (lw_at lw_m13 48 rfl) rfl
theorem q3023 : (Jvm.Cond.instanceMethod ({ cls := "WindowExchangeModel", name := "lastPrice", desc := "()I" } : Jvm.MethodName)) ∈ lw_all := lw_g (lw_at lw_m13 50 rfl) rfl
theorem q3024 : (Jvm.Cond.selects "WindowExchangeModel" ({ cls := "WindowExchangeModel", name := "lastPrice", desc := "()I" } : Jvm.MethodName) ({ cls := "WindowExchangeModel", name := "lastPrice", desc := "()I" } : Jvm.MethodName)) ∈ lw_all := lw_g (lw_at lw_m13 51 rfl) rfl
theorem q3025 : (Jvm.Cond.code ({ cls := "WindowExchangeModel", name := "lastPrice", desc := "()I" } : Jvm.MethodName) prog_15_method_62_code (1 : Nat) (Option.some Jvm.ClassFile.FieldType.int)) ∈ lw_all := lw_g (lw_at lw_m13 52 rfl) rfl
theorem q3027 : (Jvm.Cond.instanceMethod ({ cls := "WindowExchangeModel", name := "tradedUnits", desc := "()I" } : Jvm.MethodName)) ∈ lw_all := lw_g (lw_at lw_m13 54 rfl) rfl
theorem q3028 : (Jvm.Cond.selects "WindowExchangeModel" ({ cls := "WindowExchangeModel", name := "tradedUnits", desc := "()I" } : Jvm.MethodName) ({ cls := "WindowExchangeModel", name := "tradedUnits", desc := "()I" } : Jvm.MethodName)) ∈ lw_all := lw_g (lw_at lw_m13 55 rfl) rfl
theorem q3029 : (Jvm.Cond.code ({ cls := "WindowExchangeModel", name := "tradedUnits", desc := "()I" } : Jvm.MethodName) prog_15_method_63_code (1 : Nat) (Option.some Jvm.ClassFile.FieldType.int)) ∈ lw_all := lw_g (lw_at lw_m13 56 rfl) rfl
theorem q3031 : (Jvm.Cond.instanceMethod ({ cls := "WindowExchangeModel", name := "meanPrice", desc := "()D" } : Jvm.MethodName)) ∈ lw_all := lw_g (lw_at lw_m13 58 rfl) rfl
theorem q3032 : (Jvm.Cond.selects "WindowExchangeModel" ({ cls := "WindowExchangeModel", name := "meanPrice", desc := "()D" } : Jvm.MethodName) ({ cls := "WindowExchangeModel", name := "meanPrice", desc := "()D" } : Jvm.MethodName)) ∈ lw_all := lw_g (lw_at lw_m13 59 rfl) rfl
theorem q3033 : (Jvm.Cond.code ({ cls := "WindowExchangeModel", name := "meanPrice", desc := "()D" } : Jvm.MethodName) prog_15_method_64_code (1 : Nat) (Option.some Jvm.ClassFile.FieldType.double)) ∈ lw_all := lw_g (lw_at lw_m13 60 rfl) rfl
theorem q3035 : (Jvm.Cond.instanceMethod ({ cls := "WindowExchangeModel", name := "day", desc := "()I" } : Jvm.MethodName)) ∈ lw_all := lw_g (lw_at lw_m13 62 rfl) rfl
theorem q3036 : (Jvm.Cond.selects "WindowExchangeModel" ({ cls := "WindowExchangeModel", name := "day", desc := "()I" } : Jvm.MethodName) ({ cls := "WindowExchangeModel", name := "day", desc := "()I" } : Jvm.MethodName)) ∈ lw_all := lw_g (lw_at lw_m13 63 rfl) rfl
theorem q3037 : (Jvm.Cond.code ({ cls := "WindowExchangeModel", name := "day", desc := "()I" } : Jvm.MethodName) prog_15_method_65_code (1 : Nat) (Option.some Jvm.ClassFile.FieldType.int)) ∈ lw_all := lw_g (lw_at lw_m13 64 rfl) rfl
theorem q3039 : (Jvm.Cond.instanceMethod ({ cls := "WindowExchangeModel", name := "contracts", desc := "()I" } : Jvm.MethodName)) ∈ lw_all := lw_g (lw_at lw_m13 66 rfl) rfl
theorem q3040 : (Jvm.Cond.selects "WindowExchangeModel" ({ cls := "WindowExchangeModel", name := "contracts", desc := "()I" } : Jvm.MethodName) ({ cls := "WindowExchangeModel", name := "contracts", desc := "()I" } : Jvm.MethodName)) ∈ lw_all := lw_g (lw_at lw_m13 67 rfl) rfl
theorem q3041 : (Jvm.Cond.code ({ cls := "WindowExchangeModel", name := "contracts", desc := "()I" } : Jvm.MethodName) prog_15_method_66_code (1 : Nat) (Option.some Jvm.ClassFile.FieldType.int)) ∈ lw_all := lw_g (lw_at lw_m13 68 rfl) rfl
theorem q3043 : (Jvm.Cond.instanceMethod ({ cls := "WindowExchangeModel", name := "daysLeft", desc := "(I)I" } : Jvm.MethodName)) ∈ lw_all := lw_g (lw_at lw_m13 70 rfl) rfl
theorem q3044 : (Jvm.Cond.selects "WindowExchangeModel" ({ cls := "WindowExchangeModel", name := "daysLeft", desc := "(I)I" } : Jvm.MethodName) ({ cls := "WindowExchangeModel", name := "daysLeft", desc := "(I)I" } : Jvm.MethodName)) ∈ lw_all := lw_g (lw_at lw_m13 71 rfl) rfl
theorem q3045 : (Jvm.Cond.code ({ cls := "WindowExchangeModel", name := "daysLeft", desc := "(I)I" } : Jvm.MethodName) prog_15_method_67_code (2 : Nat) (Option.some Jvm.ClassFile.FieldType.int)) ∈ lw_all := lw_g (lw_at lw_m13 72 rfl) rfl
theorem q3046 : (Jvm.Cond.methodLink "WindowExchangeModel" (187 : Nat) ({ cls := "WindowExchangeModel", name := "isContract", desc := "(I)Z" } : Jvm.MethodName)) ∈ lw_all := lw_g (lw_at lw_m13 73 rfl) rfl
theorem q3047 : (Jvm.Cond.privateMethod ({ cls := "WindowExchangeModel", name := "isContract", desc := "(I)Z" } : Jvm.MethodName)) ∈ lw_tbl := lw_at lw_m13 74 rfl
theorem q3048 : (Jvm.Cond.instanceMethod ({ cls := "WindowExchangeModel", name := "isContract", desc := "(I)Z" } : Jvm.MethodName)) ∈ lw_all := lw_g (lw_at lw_m13 75 rfl) rfl
theorem q3049 : (Jvm.Cond.code ({ cls := "WindowExchangeModel", name := "isContract", desc := "(I)Z" } : Jvm.MethodName) prog_15_method_11_code (2 : Nat) (Option.some Jvm.ClassFile.FieldType.boolean)) ∈ lw_all := lw_g (lw_at lw_m13 76 rfl) rfl
theorem q3051 : (Jvm.Cond.instanceMethod ({ cls := "WindowExchangeModel", name := "gain", desc := "(II)I" } : Jvm.MethodName)) ∈ lw_all := lw_g (lw_at lw_m13 78 rfl) rfl
theorem q3052 : (Jvm.Cond.selects "WindowExchangeModel" ({ cls := "WindowExchangeModel", name := "gain", desc := "(II)I" } : Jvm.MethodName) ({ cls := "WindowExchangeModel", name := "gain", desc := "(II)I" } : Jvm.MethodName)) ∈ lw_all := lw_g (lw_at lw_m13 79 rfl) rfl
theorem q3053 : (Jvm.Cond.code ({ cls := "WindowExchangeModel", name := "gain", desc := "(II)I" } : Jvm.MethodName) prog_15_method_68_code (3 : Nat) (Option.some Jvm.ClassFile.FieldType.int)) ∈ lw_all := lw_g (lw_at lw_m13 80 rfl) rfl
theorem q3055 : (Jvm.Cond.instanceMethod ({ cls := "WindowExchangeModel", name := "exposure", desc := "(I)I" } : Jvm.MethodName)) ∈ lw_all := lw_g (lw_at lw_m13 82 rfl) rfl
theorem q3056 : (Jvm.Cond.selects "WindowExchangeModel" ({ cls := "WindowExchangeModel", name := "exposure", desc := "(I)I" } : Jvm.MethodName) ({ cls := "WindowExchangeModel", name := "exposure", desc := "(I)I" } : Jvm.MethodName)) ∈ lw_all := lw_g (lw_at lw_m13 83 rfl) rfl
theorem q3057 : (Jvm.Cond.code ({ cls := "WindowExchangeModel", name := "exposure", desc := "(I)I" } : Jvm.MethodName) prog_15_method_70_code (4 : Nat) (Option.some Jvm.ClassFile.FieldType.int)) ∈ lw_all := lw_g (lw_at lw_m13 84 rfl) rfl
theorem q3058 : (Jvm.Cond.methodLink "WindowExchangeModel" (190 : Nat) ({ cls := "WindowExchangeModel", name := "sideIn", desc := "(II)I" } : Jvm.MethodName)) ∈ lw_all := lw_g (lw_at lw_m13 85 rfl) rfl
theorem q3059 : (Jvm.Cond.privateMethod ({ cls := "WindowExchangeModel", name := "sideIn", desc := "(II)I" } : Jvm.MethodName)) ∈ lw_tbl := lw_at lw_m13 86 rfl
theorem q3060 : (Jvm.Cond.instanceMethod ({ cls := "WindowExchangeModel", name := "sideIn", desc := "(II)I" } : Jvm.MethodName)) ∈ lw_all := lw_g (lw_at lw_m13 87 rfl) rfl
theorem q3061 : (Jvm.Cond.code ({ cls := "WindowExchangeModel", name := "sideIn", desc := "(II)I" } : Jvm.MethodName) prog_15_method_69_code (4 : Nat) (Option.some Jvm.ClassFile.FieldType.int)) ∈ lw_all := lw_g (lw_at lw_m13 88 rfl) rfl
theorem q3063 : (Jvm.Cond.instanceMethod ({ cls := "WindowExchangeModel", name := "value", desc := "(II)I" } : Jvm.MethodName)) ∈ lw_all := lw_g (lw_at lw_m13 90 rfl) rfl
theorem q3064 : (Jvm.Cond.selects "WindowExchangeModel" ({ cls := "WindowExchangeModel", name := "value", desc := "(II)I" } : Jvm.MethodName) ({ cls := "WindowExchangeModel", name := "value", desc := "(II)I" } : Jvm.MethodName)) ∈ lw_all := lw_g (lw_at lw_m13 91 rfl) rfl
theorem q3065 : (Jvm.Cond.code ({ cls := "WindowExchangeModel", name := "value", desc := "(II)I" } : Jvm.MethodName) prog_15_method_71_code (5 : Nat) (Option.some Jvm.ClassFile.FieldType.int)) ∈ lw_all := lw_g (lw_at lw_m13 92 rfl) rfl
theorem q3067 : (Jvm.Cond.instanceMethod ({ cls := "WindowExchangeModel", name := "valueByExposure", desc := "(II)I" } : Jvm.MethodName)) ∈ lw_all := lw_g (lw_at lw_m13 94 rfl) rfl
theorem q3068 : (Jvm.Cond.selects "WindowExchangeModel" ({ cls := "WindowExchangeModel", name := "valueByExposure", desc := "(II)I" } : Jvm.MethodName) ({ cls := "WindowExchangeModel", name := "valueByExposure", desc := "(II)I" } : Jvm.MethodName)) ∈ lw_all := lw_g (lw_at lw_m13 95 rfl) rfl
theorem q3069 : (Jvm.Cond.code ({ cls := "WindowExchangeModel", name := "valueByExposure", desc := "(II)I" } : Jvm.MethodName) prog_15_method_72_code (3 : Nat) (Option.some Jvm.ClassFile.FieldType.int)) ∈ lw_all := lw_g (lw_at lw_m13 96 rfl) rfl
theorem q3070 : (Jvm.Cond.methodLink "WindowExchangeModel" (193 : Nat) ({ cls := "WindowExchangeModel", name := "value", desc := "(II)I" } : Jvm.MethodName)) ∈ lw_all := lw_g (lw_at lw_m13 97 rfl) rfl
theorem q3072 : (Jvm.Cond.instanceMethod ({ cls := "WindowExchangeModel", name := "defaults", desc := "()I" } : Jvm.MethodName)) ∈ lw_all := lw_g (lw_at lw_m13 99 rfl) rfl
theorem q3073 : (Jvm.Cond.selects "WindowExchangeModel" ({ cls := "WindowExchangeModel", name := "defaults", desc := "()I" } : Jvm.MethodName) ({ cls := "WindowExchangeModel", name := "defaults", desc := "()I" } : Jvm.MethodName)) ∈ lw_all := lw_g (lw_at lw_m13 100 rfl) rfl
theorem q3074 : (Jvm.Cond.code ({ cls := "WindowExchangeModel", name := "defaults", desc := "()I" } : Jvm.MethodName) prog_15_method_73_code (1 : Nat) (Option.some Jvm.ClassFile.FieldType.int)) ∈ lw_all := lw_g (lw_at lw_m13 101 rfl) rfl
theorem q3076 : (Jvm.Cond.instanceMethod ({ cls := "WindowExchangeModel", name := "defaultRate", desc := "()F" } : Jvm.MethodName)) ∈ lw_all := lw_g (lw_at lw_m13 103 rfl) rfl
theorem q3077 : (Jvm.Cond.selects "WindowExchangeModel" ({ cls := "WindowExchangeModel", name := "defaultRate", desc := "()F" } : Jvm.MethodName) ({ cls := "WindowExchangeModel", name := "defaultRate", desc := "()F" } : Jvm.MethodName)) ∈ lw_all := lw_g (lw_at lw_m13 104 rfl) rfl
theorem q3078 : (Jvm.Cond.code ({ cls := "WindowExchangeModel", name := "defaultRate", desc := "()F" } : Jvm.MethodName) prog_15_method_74_code (1 : Nat) (Option.some Jvm.ClassFile.FieldType.float)) ∈ lw_all := lw_g (lw_at lw_m13 105 rfl) rfl
theorem q3080 : (Jvm.Cond.instanceMethod ({ cls := "WindowExchangeModel", name := "isAuctionOpen", desc := "()Z" } : Jvm.MethodName)) ∈ lw_all := lw_g (lw_at lw_m13 107 rfl) rfl
theorem q3081 : (Jvm.Cond.selects "WindowExchangeModel" ({ cls := "WindowExchangeModel", name := "isAuctionOpen", desc := "()Z" } : Jvm.MethodName) ({ cls := "WindowExchangeModel", name := "isAuctionOpen", desc := "()Z" } : Jvm.MethodName)) ∈ lw_all := lw_g (lw_at lw_m13 108 rfl) rfl
theorem q3082 : (Jvm.Cond.code ({ cls := "WindowExchangeModel", name := "isAuctionOpen", desc := "()Z" } : Jvm.MethodName) prog_15_method_75_code (1 : Nat) (Option.some Jvm.ClassFile.FieldType.boolean)) ∈ lw_all := lw_g (lw_at lw_m13 109 rfl) rfl
theorem q3084 : (Jvm.Cond.instanceMethod ({ cls := "WindowExchangeModel", name := "holder", desc := "(I)I" } : Jvm.MethodName)) ∈ lw_all := lw_g (lw_at lw_m13 111 rfl) rfl
theorem q3085 : (Jvm.Cond.selects "WindowExchangeModel" ({ cls := "WindowExchangeModel", name := "holder", desc := "(I)I" } : Jvm.MethodName) ({ cls := "WindowExchangeModel", name := "holder", desc := "(I)I" } : Jvm.MethodName)) ∈ lw_all := lw_g (lw_at lw_m13 112 rfl) rfl
theorem q3086 : (Jvm.Cond.code ({ cls := "WindowExchangeModel", name := "holder", desc := "(I)I" } : Jvm.MethodName) prog_15_method_76_code (2 : Nat) (Option.some Jvm.ClassFile.FieldType.int)) ∈ lw_all := lw_g (lw_at lw_m13 113 rfl) rfl
theorem q3088 : (Jvm.Cond.instanceMethod ({ cls := "WindowExchangeModel", name := "winner", desc := "()I" } : Jvm.MethodName)) ∈ lw_all := lw_g (lw_at lw_m13 115 rfl) rfl
theorem q3089 : (Jvm.Cond.selects "WindowExchangeModel" ({ cls := "WindowExchangeModel", name := "winner", desc := "()I" } : Jvm.MethodName) ({ cls := "WindowExchangeModel", name := "winner", desc := "()I" } : Jvm.MethodName)) ∈ lw_all := lw_g (lw_at lw_m13 116 rfl) rfl
theorem q3090 : (Jvm.Cond.code ({ cls := "WindowExchangeModel", name := "winner", desc := "()I" } : Jvm.MethodName) prog_15_method_78_code (1 : Nat) (Option.some Jvm.ClassFile.FieldType.int)) ∈ lw_all := lw_g (lw_at lw_m13 117 rfl) rfl
theorem q3091 : (Jvm.Cond.methodLink "WindowExchangeModel" (196 : Nat) ({ cls := "WindowExchangeModel", name := "hasWinner", desc := "()Z" } : Jvm.MethodName)) ∈ lw_all := lw_g (lw_at lw_m13 118 rfl) rfl
theorem q3092 : (Jvm.Cond.privateMethod ({ cls := "WindowExchangeModel", name := "hasWinner", desc := "()Z" } : Jvm.MethodName)) ∈ lw_tbl := lw_at lw_m13 119 rfl
theorem q3093 : (Jvm.Cond.instanceMethod ({ cls := "WindowExchangeModel", name := "hasWinner", desc := "()Z" } : Jvm.MethodName)) ∈ lw_all := lw_g (lw_at lw_m13 120 rfl) rfl
theorem q3094 : (Jvm.Cond.code ({ cls := "WindowExchangeModel", name := "hasWinner", desc := "()Z" } : Jvm.MethodName) prog_15_method_77_code (1 : Nat) (Option.some Jvm.ClassFile.FieldType.boolean)) ∈ lw_all := lw_g (lw_at lw_m13 121 rfl) rfl
theorem q3096 : (Jvm.Cond.instanceMethod ({ cls := "WindowExchangeModel", name := "winnerPays", desc := "()I" } : Jvm.MethodName)) ∈ lw_all := lw_g (lw_at lw_m13 123 rfl) rfl
theorem q3097 : (Jvm.Cond.selects "WindowExchangeModel" ({ cls := "WindowExchangeModel", name := "winnerPays", desc := "()I" } : Jvm.MethodName) ({ cls := "WindowExchangeModel", name := "winnerPays", desc := "()I" } : Jvm.MethodName)) ∈ lw_all := lw_g (lw_at lw_m13 124 rfl) rfl
theorem q3098 : (Jvm.Cond.code ({ cls := "WindowExchangeModel", name := "winnerPays", desc := "()I" } : Jvm.MethodName) prog_15_method_79_code (1 : Nat) (Option.some Jvm.ClassFile.FieldType.int)) ∈ lw_all := lw_g (lw_at lw_m13 125 rfl) rfl
theorem q3100 : (Jvm.Cond.instanceMethod ({ cls := "WindowExchangeModel", name := "till", desc := "()I" } : Jvm.MethodName)) ∈ lw_all := lw_g (lw_at lw_m13 127 rfl) rfl
theorem q3101 : (Jvm.Cond.selects "WindowExchangeModel" ({ cls := "WindowExchangeModel", name := "till", desc := "()I" } : Jvm.MethodName) ({ cls := "WindowExchangeModel", name := "till", desc := "()I" } : Jvm.MethodName)) ∈ lw_all := lw_g (lw_at lw_m13 128 rfl) rfl
theorem q3102 : (Jvm.Cond.code ({ cls := "WindowExchangeModel", name := "till", desc := "()I" } : Jvm.MethodName) prog_15_method_80_code (1 : Nat) (Option.some Jvm.ClassFile.FieldType.int)) ∈ lw_all := lw_g (lw_at lw_m13 129 rfl) rfl
theorem q3104 : (Jvm.Cond.instanceMethod ({ cls := "WindowExchangeModel", name := "isConsistent", desc := "()Z" } : Jvm.MethodName)) ∈ lw_all := lw_g (lw_at lw_m13 131 rfl) rfl
theorem q3105 : (Jvm.Cond.selects "WindowExchangeModel" ({ cls := "WindowExchangeModel", name := "isConsistent", desc := "()Z" } : Jvm.MethodName) ({ cls := "WindowExchangeModel", name := "isConsistent", desc := "()Z" } : Jvm.MethodName)) ∈ lw_all := lw_g (lw_at lw_m13 132 rfl) rfl
theorem q3106 : (Jvm.Cond.code ({ cls := "WindowExchangeModel", name := "isConsistent", desc := "()Z" } : Jvm.MethodName) prog_15_method_81_code (1 : Nat) (Option.some Jvm.ClassFile.FieldType.boolean)) ∈ lw_all := lw_g (lw_at lw_m13 133 rfl) rfl
theorem q3108 : (Jvm.Cond.instanceMethod ({ cls := "WindowExchangeModel", name := "writeBook", desc := "()I" } : Jvm.MethodName)) ∈ lw_all := lw_g (lw_at lw_m13 135 rfl) rfl
theorem q3109 : (Jvm.Cond.selects "WindowExchangeModel" ({ cls := "WindowExchangeModel", name := "writeBook", desc := "()I" } : Jvm.MethodName) ({ cls := "WindowExchangeModel", name := "writeBook", desc := "()I" } : Jvm.MethodName)) ∈ lw_all := lw_g (lw_at lw_m13 136 rfl) rfl
theorem q3110 : (Jvm.Cond.code ({ cls := "WindowExchangeModel", name := "writeBook", desc := "()I" } : Jvm.MethodName) prog_15_method_85_code (1 : Nat) (Option.some Jvm.ClassFile.FieldType.int)) ∈ lw_all := lw_g (lw_at lw_m13 137 rfl) rfl
theorem q3111 : (Jvm.Cond.methodLink "WindowExchangeModel" (209 : Nat) ({ cls := "WindowExchangeModel", name := "writesSide", desc := "(Z)V" } : Jvm.MethodName)) ∈ lw_all := lw_g (lw_at lw_m13 138 rfl) rfl
theorem q3112 : (Jvm.Cond.privateMethod ({ cls := "WindowExchangeModel", name := "writesSide", desc := "(Z)V" } : Jvm.MethodName)) ∈ lw_tbl := lw_at lw_m13 139 rfl
theorem q3113 : (Jvm.Cond.instanceMethod ({ cls := "WindowExchangeModel", name := "writesSide", desc := "(Z)V" } : Jvm.MethodName)) ∈ lw_all := lw_g (lw_at lw_m13 140 rfl) rfl
theorem q3114 : (Jvm.Cond.code ({ cls := "WindowExchangeModel", name := "writesSide", desc := "(Z)V" } : Jvm.MethodName) prog_15_method_84_code (4 : Nat) (Option.none : Option Jvm.ClassFile.FieldType)) ∈ lw_all := lw_g (lw_at lw_m13 141 rfl) rfl
theorem q3115 : (Jvm.Cond.methodLink "WindowExchangeModel" (203 : Nat) ({ cls := "WindowExchangeModel", name := "sign", desc := "(I)V" } : Jvm.MethodName)) ∈ lw_all := lw_g (lw_at lw_m13 142 rfl) rfl
theorem q3116 : (Jvm.Cond.privateMethod ({ cls := "WindowExchangeModel", name := "sign", desc := "(I)V" } : Jvm.MethodName)) ∈ lw_tbl := lw_at lw_m13 143 rfl
theorem q3117 : (Jvm.Cond.instanceMethod ({ cls := "WindowExchangeModel", name := "sign", desc := "(I)V" } : Jvm.MethodName)) ∈ lw_all := lw_g (lw_at lw_m13 144 rfl) rfl
theorem q3118 : (Jvm.Cond.code ({ cls := "WindowExchangeModel", name := "sign", desc := "(I)V" } : Jvm.MethodName) prog_15_method_82_code (2 : Nat) (Option.none : Option Jvm.ClassFile.FieldType)) ∈ lw_all := lw_g (lw_at lw_m13 145 rfl) rfl
theorem q3119 : (Jvm.Cond.methodLink "WindowExchangeModel" (206 : Nat) ({ cls := "WindowExchangeModel", name := "writesNumber", desc := "(I)V" } : Jvm.MethodName)) ∈ lw_all := lw_g (lw_at lw_m13 146 rfl) rfl
theorem q3120 : (Jvm.Cond.privateMethod ({ cls := "WindowExchangeModel", name := "writesNumber", desc := "(I)V" } : Jvm.MethodName)) ∈ lw_tbl := lw_at lw_m13 147 rfl
theorem q3121 : (Jvm.Cond.instanceMethod ({ cls := "WindowExchangeModel", name := "writesNumber", desc := "(I)V" } : Jvm.MethodName)) ∈ lw_all := lw_g (lw_at lw_m13 148 rfl) rfl
theorem q3122 : (Jvm.Cond.code ({ cls := "WindowExchangeModel", name := "writesNumber", desc := "(I)V" } : Jvm.MethodName) prog_15_method_83_code (3 : Nat) (Option.none : Option Jvm.ClassFile.FieldType)) ∈ lw_all := lw_g (lw_at lw_m13 149 rfl) rfl
theorem q3124 : (Jvm.Cond.instanceMethod ({ cls := "WindowExchangeModel", name := "writeTrader", desc := "(I)I" } : Jvm.MethodName)) ∈ lw_all := lw_g (lw_at lw_m13 151 rfl) rfl
theorem q3125 : (Jvm.Cond.selects "WindowExchangeModel" ({ cls := "WindowExchangeModel", name := "writeTrader", desc := "(I)I" } : Jvm.MethodName) ({ cls := "WindowExchangeModel", name := "writeTrader", desc := "(I)I" } : Jvm.MethodName)) ∈ lw_all := lw_g (lw_at lw_m13 152 rfl) rfl
theorem q3126 : (Jvm.Cond.code ({ cls := "WindowExchangeModel", name := "writeTrader", desc := "(I)I" } : Jvm.MethodName) prog_15_method_87_code (3 : Nat) (Option.some Jvm.ClassFile.FieldType.int)) ∈ lw_all := lw_g (lw_at lw_m13 153 rfl) rfl
theorem q3127 : (Jvm.Cond.methodLink "WindowExchangeModel" (213 : Nat) ({ cls := "WindowExchangeModel", name := "writesReserved", desc := "(I)V" } : Jvm.MethodName)) ∈ lw_all := lw_g (lw_at lw_m13 154 rfl) rfl
theorem q3128 : (Jvm.Cond.privateMethod ({ cls := "WindowExchangeModel", name := "writesReserved", desc := "(I)V" } : Jvm.MethodName)) ∈ lw_tbl := lw_at lw_m13 155 rfl
theorem q3129 : (Jvm.Cond.instanceMethod ({ cls := "WindowExchangeModel", name := "writesReserved", desc := "(I)V" } : Jvm.MethodName)) ∈ lw_all := lw_g (lw_at lw_m13 156 rfl) rfl
theorem q3130 : (Jvm.Cond.code ({ cls := "WindowExchangeModel", name := "writesReserved", desc := "(I)V" } : Jvm.MethodName) prog_15_method_86_code (2 : Nat) (Option.none : Option Jvm.ClassFile.FieldType)) ∈ lw_all := lw_g (lw_at lw_m13 157 rfl) rfl
theorem q3132 : (Jvm.Cond.instanceMethod ({ cls := "WindowExchangeModel", name := "charAt", desc := "(I)C" } : Jvm.MethodName)) ∈ lw_all := lw_g (lw_at lw_m13 159 rfl) rfl
theorem q3133 : (Jvm.Cond.selects "WindowExchangeModel" ({ cls := "WindowExchangeModel", name := "charAt", desc := "(I)C" } : Jvm.MethodName) ({ cls := "WindowExchangeModel", name := "charAt", desc := "(I)C" } : Jvm.MethodName)) ∈ lw_all := lw_g (lw_at lw_m13 160 rfl) rfl
theorem q3134 : (Jvm.Cond.code ({ cls := "WindowExchangeModel", name := "charAt", desc := "(I)C" } : Jvm.MethodName) prog_15_method_88_code (2 : Nat) (Option.some Jvm.ClassFile.FieldType.char)) ∈ lw_all := lw_g (lw_at lw_m13 161 rfl) rfl
theorem q3136 : (Jvm.Cond.instanceMethod ({ cls := "WindowExchangeModel", name := "type", desc := "(C)I" } : Jvm.MethodName)) ∈ lw_all := lw_g (lw_at lw_m13 163 rfl) rfl
theorem q3137 : (Jvm.Cond.selects "WindowExchangeModel" ({ cls := "WindowExchangeModel", name := "type", desc := "(C)I" } : Jvm.MethodName) ({ cls := "WindowExchangeModel", name := "type", desc := "(C)I" } : Jvm.MethodName)) ∈ lw_all := lw_g (lw_at lw_m13 164 rfl) rfl
theorem q3138 : (Jvm.Cond.code ({ cls := "WindowExchangeModel", name := "type", desc := "(C)I" } : Jvm.MethodName) prog_15_method_89_code (2 : Nat) (Option.some Jvm.ClassFile.FieldType.int)) ∈ lw_all := lw_g (lw_at lw_m13 165 rfl) rfl
theorem q3140 : (Jvm.Cond.instanceMethod ({ cls := "WindowExchangeModel", name := "run", desc := "()I" } : Jvm.MethodName)) ∈ lw_all := lw_g (lw_at lw_m13 167 rfl) rfl
theorem q3141 : (Jvm.Cond.selects "WindowExchangeModel" ({ cls := "WindowExchangeModel", name := "run", desc := "()I" } : Jvm.MethodName) ({ cls := "WindowExchangeModel", name := "run", desc := "()I" } : Jvm.MethodName)) ∈ lw_all := lw_g (lw_at lw_m13 168 rfl) rfl
theorem q3142 : (Jvm.Cond.code ({ cls := "WindowExchangeModel", name := "run", desc := "()I" } : Jvm.MethodName) prog_15_method_99_code (4 : Nat) (Option.some Jvm.ClassFile.FieldType.int)) ∈ lw_all := lw_g (lw_at lw_m13 169 rfl) rfl
theorem q3143 : (Jvm.Cond.methodLink "WindowExchangeModel" (258 : Nat) ({ cls := "WindowExchangeModel", name := "readCommand", desc := "()V" } : Jvm.MethodName)) ∈ lw_all := lw_g (lw_at lw_m13 170 rfl) rfl
theorem q3144 : (Jvm.Cond.privateMethod ({ cls := "WindowExchangeModel", name := "readCommand", desc := "()V" } : Jvm.MethodName)) ∈ lw_tbl := lw_at lw_m13 171 rfl
theorem q3145 : (Jvm.Cond.instanceMethod ({ cls := "WindowExchangeModel", name := "readCommand", desc := "()V" } : Jvm.MethodName)) ∈ lw_all := lw_g (lw_at lw_m13 172 rfl) rfl
theorem q3146 : (Jvm.Cond.code ({ cls := "WindowExchangeModel", name := "readCommand", desc := "()V" } : Jvm.MethodName) prog_15_method_97_code (4 : Nat) (Option.none : Option Jvm.ClassFile.FieldType)) ∈ lw_all := lw_g (lw_at lw_m13 173 rfl) rfl
theorem q3147 : (Jvm.Cond.methodLink "WindowExchangeModel" (251 : Nat) ({ cls := "WindowExchangeModel", name := "likeness", desc := "(I)I" } : Jvm.MethodName)) ∈ lw_all := lw_g (lw_at lw_m13 174 rfl) rfl
theorem q3148 : (Jvm.Cond.privateMethod ({ cls := "WindowExchangeModel", name := "likeness", desc := "(I)I" } : Jvm.MethodName)) ∈ lw_tbl := lw_at lw_m13 175 rfl
theorem q3149 : (Jvm.Cond.instanceMethod ({ cls := "WindowExchangeModel", name := "likeness", desc := "(I)I" } : Jvm.MethodName)) ∈ lw_all := lw_g (lw_at lw_m13 176 rfl) rfl
theorem q3150 : (Jvm.Cond.code ({ cls := "WindowExchangeModel", name := "likeness", desc := "(I)I" } : Jvm.MethodName) prog_15_method_95_code (4 : Nat) (Option.some Jvm.ClassFile.FieldType.int)) ∈ lw_all := lw_g (lw_at lw_m13 177 rfl) rfl
theorem q3151 : (Jvm.Cond.methodLink "WindowExchangeModel" (254 : Nat) ({ cls := "WindowExchangeModel", name := "readArguments", desc := "(II)V" } : Jvm.MethodName)) ∈ lw_all := lw_g (lw_at lw_m13 178 rfl) rfl
theorem q3152 : (Jvm.Cond.privateMethod ({ cls := "WindowExchangeModel", name := "readArguments", desc := "(II)V" } : Jvm.MethodName)) ∈ lw_tbl := lw_at lw_m13 179 rfl
theorem q3153 : (Jvm.Cond.instanceMethod ({ cls := "WindowExchangeModel", name := "readArguments", desc := "(II)V" } : Jvm.MethodName)) ∈ lw_all := lw_g (lw_at lw_m13 180 rfl) rfl
theorem q3154 : (Jvm.Cond.code ({ cls := "WindowExchangeModel", name := "readArguments", desc := "(II)V" } : Jvm.MethodName) prog_15_method_96_code (3 : Nat) (Option.none : Option Jvm.ClassFile.FieldType)) ∈ lw_all := lw_g (lw_at lw_m13 181 rfl) rfl
theorem q3155 : (Jvm.Cond.methodLink "WindowExchangeModel" (242 : Nat) ({ cls := "WindowExchangeModel", name := "number", desc := "()I" } : Jvm.MethodName)) ∈ lw_all := lw_g (lw_at lw_m13 182 rfl) rfl
theorem q3156 : (Jvm.Cond.privateMethod ({ cls := "WindowExchangeModel", name := "number", desc := "()I" } : Jvm.MethodName)) ∈ lw_tbl := lw_at lw_m13 183 rfl
theorem q3157 : (Jvm.Cond.instanceMethod ({ cls := "WindowExchangeModel", name := "number", desc := "()I" } : Jvm.MethodName)) ∈ lw_all := lw_g (lw_at lw_m13 184 rfl) rfl
theorem q3158 : (Jvm.Cond.code ({ cls := "WindowExchangeModel", name := "number", desc := "()I" } : Jvm.MethodName) prog_15_method_93_code (3 : Nat) (Option.some Jvm.ClassFile.FieldType.int)) ∈ lw_all := lw_g (lw_at lw_m13 185 rfl) rfl
theorem q3159 : (Jvm.Cond.methodLink "WindowExchangeModel" (236 : Nat) ({ cls := "WindowExchangeModel", name := "digit", desc := "()I" } : Jvm.MethodName)) ∈ lw_all := lw_g (lw_at lw_m13 186 rfl) rfl
theorem q3160 : (Jvm.Cond.privateMethod ({ cls := "WindowExchangeModel", name := "digit", desc := "()I" } : Jvm.MethodName)) ∈ lw_tbl := lw_at lw_m13 187 rfl
theorem q3161 : (Jvm.Cond.instanceMethod ({ cls := "WindowExchangeModel", name := "digit", desc := "()I" } : Jvm.MethodName)) ∈ lw_all := lw_g (lw_at lw_m13 188 rfl) rfl
theorem q3162 : (Jvm.Cond.code ({ cls := "WindowExchangeModel", name := "digit", desc := "()I" } : Jvm.MethodName) prog_15_method_92_code (2 : Nat) (Option.some Jvm.ClassFile.FieldType.int)) ∈ lw_all := lw_g (lw_at lw_m13 189 rfl) rfl
theorem q3163 : (Jvm.Cond.methodLink "WindowExchangeModel" (229 : Nat) ({ cls := "WindowExchangeModel", name := "here", desc := "()I" } : Jvm.MethodName)) ∈ lw_all := lw_g (lw_at lw_m13 190 rfl) rfl
theorem q3164 : (Jvm.Cond.privateMethod ({ cls := "WindowExchangeModel", name := "here", desc := "()I" } : Jvm.MethodName)) ∈ lw_tbl := lw_at lw_m13 191 rfl
theorem q3165 : (Jvm.Cond.instanceMethod ({ cls := "WindowExchangeModel", name := "here", desc := "()I" } : Jvm.MethodName)) ∈ lw_all := lw_g (lw_at lw_m13 192 rfl) rfl
theorem q3166 : (Jvm.Cond.code ({ cls := "WindowExchangeModel", name := "here", desc := "()I" } : Jvm.MethodName) prog_15_method_90_code (1 : Nat) (Option.some Jvm.ClassFile.FieldType.int)) ∈ lw_all := lw_g (lw_at lw_m13 193 rfl) rfl
theorem q3167 : (Jvm.Cond.constantLong "WindowExchangeModel" (232 : Nat) (48 : Int64)) ∈ lw_all := lw_g (lw_at lw_m13 194 rfl) rfl
theorem q3168 : (Jvm.Cond.constantLong "WindowExchangeModel" (234 : Nat) (57 : Int64)) ∈ lw_all := lw_g (lw_at lw_m13 195 rfl) rfl
theorem q3169 : (Jvm.Cond.methodLink "WindowExchangeModel" (245 : Nat) ({ cls := "WindowExchangeModel", name := "numberBehind", desc := "(I)I" } : Jvm.MethodName)) ∈ lw_all := lw_g (lw_at lw_m13 196 rfl) rfl
theorem q3170 : (Jvm.Cond.privateMethod ({ cls := "WindowExchangeModel", name := "numberBehind", desc := "(I)I" } : Jvm.MethodName)) ∈ lw_tbl := lw_at lw_m13 197 rfl
theorem q3171 : (Jvm.Cond.instanceMethod ({ cls := "WindowExchangeModel", name := "numberBehind", desc := "(I)I" } : Jvm.MethodName)) ∈ lw_all := lw_g (lw_at lw_m13 198 rfl) rfl
theorem q3172 : (Jvm.Cond.code ({ cls := "WindowExchangeModel", name := "numberBehind", desc := "(I)I" } : Jvm.MethodName) prog_15_method_94_code (2 : Nat) (Option.some Jvm.ClassFile.FieldType.int)) ∈ lw_all := lw_g (lw_at lw_m13 199 rfl) rfl
theorem q3173 : (Jvm.Cond.methodLink "WindowExchangeModel" (239 : Nat) ({ cls := "WindowExchangeModel", name := "expects", desc := "(I)V" } : Jvm.MethodName)) ∈ lw_all := lw_g (lw_at lw_m13 200 rfl) rfl
theorem q3174 : (Jvm.Cond.privateMethod ({ cls := "WindowExchangeModel", name := "expects", desc := "(I)V" } : Jvm.MethodName)) ∈ lw_tbl := lw_at lw_m13 201 rfl
theorem q3175 : (Jvm.Cond.instanceMethod ({ cls := "WindowExchangeModel", name := "expects", desc := "(I)V" } : Jvm.MethodName)) ∈ lw_all := lw_g (lw_at lw_m13 202 rfl) rfl
theorem q3176 : (Jvm.Cond.code ({ cls := "WindowExchangeModel", name := "expects", desc := "(I)V" } : Jvm.MethodName) prog_15_method_91_code (2 : Nat) (Option.none : Option Jvm.ClassFile.FieldType)) ∈ lw_all := lw_g (lw_at lw_m13 203 rfl) rfl
theorem q3177 : (Jvm.Cond.methodLink "WindowExchangeModel" (261 : Nat) ({ cls := "WindowExchangeModel", name := "does", desc := "(I)V" } : Jvm.MethodName)) ∈ lw_all := lw_g (lw_at lw_m13 204 rfl) rfl
theorem q3178 : (Jvm.Cond.privateMethod ({ cls := "WindowExchangeModel", name := "does", desc := "(I)V" } : Jvm.MethodName)) ∈ lw_tbl := lw_at lw_m13 205 rfl
theorem q3179 : (Jvm.Cond.instanceMethod ({ cls := "WindowExchangeModel", name := "does", desc := "(I)V" } : Jvm.MethodName)) ∈ lw_all := lw_g (lw_at lw_m13 206 rfl) rfl
theorem q3180 : (Jvm.Cond.code ({ cls := "WindowExchangeModel", name := "does", desc := "(I)V" } : Jvm.MethodName) prog_15_method_98_code (5 : Nat) (Option.none : Option Jvm.ClassFile.FieldType)) ∈ lw_all := lw_g (lw_at lw_m13 207 rfl) rfl
theorem q3182 : (Jvm.Cond.instanceMethod ({ cls := "WindowExchangeModel", name := "errorPosition", desc := "()I" } : Jvm.MethodName)) ∈ lw_all := lw_g (lw_at lw_m13 209 rfl) rfl
theorem q3183 : (Jvm.Cond.selects "WindowExchangeModel" ({ cls := "WindowExchangeModel", name := "errorPosition", desc := "()I" } : Jvm.MethodName) ({ cls := "WindowExchangeModel", name := "errorPosition", desc := "()I" } : Jvm.MethodName)) ∈ lw_all := lw_g (lw_at lw_m13 210 rfl) rfl
theorem q3184 : (Jvm.Cond.code ({ cls := "WindowExchangeModel", name := "errorPosition", desc := "()I" } : Jvm.MethodName) prog_15_method_100_code (1 : Nat) (Option.some Jvm.ClassFile.FieldType.int)) ∈ lw_all := lw_g (lw_at lw_m13 211 rfl) rfl
theorem q3186 : (Jvm.Cond.instanceMethod ({ cls := "WindowExchangeModel", name := "failedCommand", desc := "()I" } : Jvm.MethodName)) ∈ lw_all := lw_g (lw_at lw_m13 213 rfl) rfl
theorem q3187 : (Jvm.Cond.selects "WindowExchangeModel" ({ cls := "WindowExchangeModel", name := "failedCommand", desc := "()I" } : Jvm.MethodName) ({ cls := "WindowExchangeModel", name := "failedCommand", desc := "()I" } : Jvm.MethodName)) ∈ lw_all := lw_g (lw_at lw_m13 214 rfl) rfl
theorem q3188 : (Jvm.Cond.code ({ cls := "WindowExchangeModel", name := "failedCommand", desc := "()I" } : Jvm.MethodName) prog_15_method_101_code (1 : Nat) (Option.some Jvm.ClassFile.FieldType.int)) ∈ lw_all := lw_g (lw_at lw_m13 215 rfl) rfl
theorem q3190 : (Jvm.Cond.instanceMethod ({ cls := "WindowExchangeModel", name := "undo", desc := "()I" } : Jvm.MethodName)) ∈ lw_all := lw_g (lw_at lw_m13 217 rfl) rfl
theorem q3191 : (Jvm.Cond.selects "WindowExchangeModel" ({ cls := "WindowExchangeModel", name := "undo", desc := "()I" } : Jvm.MethodName) ({ cls := "WindowExchangeModel", name := "undo", desc := "()I" } : Jvm.MethodName)) ∈ lw_all := lw_g (lw_at lw_m13 218 rfl) rfl
theorem q3192 : (Jvm.Cond.code ({ cls := "WindowExchangeModel", name := "undo", desc := "()I" } : Jvm.MethodName) prog_15_method_102_code (2 : Nat) (Option.some Jvm.ClassFile.FieldType.int)) ∈ lw_all := lw_g (lw_at lw_m13 219 rfl) rfl
theorem q3194 : (Jvm.Cond.instanceMethod ({ cls := "WindowExchangeModel", name := "save", desc := "()I" } : Jvm.MethodName)) ∈ lw_all := lw_g (lw_at lw_m13 221 rfl) rfl
theorem q3195 : (Jvm.Cond.selects "WindowExchangeModel" ({ cls := "WindowExchangeModel", name := "save", desc := "()I" } : Jvm.MethodName) ({ cls := "WindowExchangeModel", name := "save", desc := "()I" } : Jvm.MethodName)) ∈ lw_all := lw_g (lw_at lw_m13 222 rfl) rfl
theorem q3196 : (Jvm.Cond.code ({ cls := "WindowExchangeModel", name := "save", desc := "()I" } : Jvm.MethodName) prog_15_method_103_code (2 : Nat) (Option.some Jvm.ClassFile.FieldType.int)) ∈ lw_all := lw_g (lw_at lw_m13 223 rfl) rfl
theorem q3198 : (Jvm.Cond.instanceMethod ({ cls := "WindowExchangeModel", name := "restore", desc := "()I" } : Jvm.MethodName)) ∈ lw_all := lw_g (lw_at lw_m13 225 rfl) rfl
theorem q3199 : (Jvm.Cond.selects "WindowExchangeModel" ({ cls := "WindowExchangeModel", name := "restore", desc := "()I" } : Jvm.MethodName) ({ cls := "WindowExchangeModel", name := "restore", desc := "()I" } : Jvm.MethodName)) ∈ lw_all := lw_g (lw_at lw_m13 226 rfl) rfl
theorem q3200 : (Jvm.Cond.code ({ cls := "WindowExchangeModel", name := "restore", desc := "()I" } : Jvm.MethodName) prog_15_method_104_code (2 : Nat) (Option.some Jvm.ClassFile.FieldType.int)) ∈ lw_all := lw_g (lw_at lw_m13 227 rfl) rfl
theorem q3226 : (Jvm.Cond.castable "WindowExchangeModel" "java/lang/Object") ∈ lw_tbl := lw_at lw_m14 13 rfl
theorem in_X3 : ∀ w ∈ wsX30, w ∈ lw_all := lw_in wsX30 [2743, 2745, 2747, 2749, 2751, 2753, 2755, 2757, 2759, 2761, 2763, 2765, 2767, 2769, 2771, 2773, 2775, 2777, 2779, 2781] (by decide +kernel) (by decide +kernel)
