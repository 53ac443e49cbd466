/-! AheadRowsModel -/
set_option maxRecDepth 100000
def RX2 : String := "AheadRowsModel"
def TX2 : u_T := fun k => match k with
  | 0 => ("AheadRowsModel", "rowMany", "I", false)
  | 1 => ("AheadRowsModel", "kind", "[I", true)
  | 2 => ("AheadRowsModel", "part", "[I", true)
  | 3 => ("AheadRowsModel", "reads", "I", false)
  | 4 => ("AheadRowsModel", "given", "I", false)
  | 5 => ("AheadRowsModel", "givenAt", "[I", true)
  | 6 => ("AheadRowsModel", "pageLength", "I", false)
  | 7 => ("AheadRowsModel", "page", "[B", true)
  | 8 => ("AheadRowsModel", "newMany", "I", false)
  | 9 => ("AheadRowsModel", "newSigns", "I", false)
  | 10 => ("AheadRowsModel", "newKind", "[I", true)
  | 11 => ("AheadRowsModel", "newPart", "[I", true)
  | 12 => ("AheadRowsModel", "begins", "Z", false)
  | 13 => ("AheadRowsModel", "isLaid", "Z", false)
  | 14 => ("AheadRowsModel", "laidBy", "I", false)
  | 15 => ("AheadRowsModel", "terms", "[I", true)
  | 16 => ("AheadRowsModel", "lead", "[I", true)
  | 17 => ("AheadRowsModel", "turn", "[I", true)
  | 18 => ("AheadRowsModel", "rests", "[B", true)
  | 19 => ("AheadRowsModel", "met", "[I", true)
  | 20 => ("AheadRowsModel", "table", "[I", true)
  | 21 => ("AheadRowsModel", "found", "[I", true)
  | 22 => ("AheadRowsModel", "isOpen", "[Z", true)
  | 23 => ("AheadRowsModel", "guessU", "I", false)
  | 24 => ("AheadRowsModel", "guessV", "I", false)
  | 25 => ("AheadRowsModel", "seedNow", "J", false)
  | 26 => ("AheadRowsModel", "keptReads", "I", false)
  | 27 => ("AheadRowsModel", "keptRows", "I", false)
  | 28 => ("AheadRowsModel", "keptGiven", "I", false)
  | 29 => ("AheadRowsModel", "keptKind", "[I", true)
  | 30 => ("AheadRowsModel", "keptPart", "[I", true)
  | 31 => ("AheadRowsModel", "keptAt", "[I", true)
  | _ => ("AheadRowsModel", "h", "J", false)
def tyX2 : Nat → FieldType := fun k => match k with
  | 0 => .int
  | 1 => .array .int
  | 2 => .array .int
  | 3 => .int
  | 4 => .int
  | 5 => .array .int
  | 6 => .int
  | 7 => .array .byte
  | 8 => .int
  | 9 => .int
  | 10 => .array .int
  | 11 => .array .int
  | 12 => .boolean
  | 13 => .boolean
  | 14 => .int
  | 15 => .array .int
  | 16 => .array .int
  | 17 => .array .int
  | 18 => .array .byte
  | 19 => .array .int
  | 20 => .array .int
  | 21 => .array .int
  | 22 => .array .boolean
  | 23 => .int
  | 24 => .int
  | 25 => .long
  | 26 => .int
  | 27 => .int
  | 28 => .int
  | 29 => .array .int
  | 30 => .array .int
  | 31 => .array .int
  | _ => .long
abbrev wsX20 : List Cond := u_ws RX2 TX2 33
set_option maxRecDepth 100000 in
theorem nmX2 : ∀ a, a < 33 → ∀ b, b < 33 → a ≠ b → (TX2 a).2.1 ≠ (TX2 b).2.1 := by decide +kernel
set_option maxRecDepth 100000 in
theorem tyX2_ok : ∀ k, k < 33 → parseFieldDescriptor (TX2 k).2.2.1 = some (tyX2 k) := by decide +kernel
abbrev cX2_init : ByteArray := prog_17_method_1_code
def yX2_init : MethodName := ⟨RX2, "<init>", "()V"⟩
def dkwX2_init_6 : List UInt8 := [181, 0, 62, 42, 16, 8, 188, 10, 181, 0, 65, 177]
abbrev dktX2_init_6 : List UInt8 := dkwX2_init_6 ++ []
def dkwX2_init_5 : List UInt8 := [181, 0, 50, 42, 18, 54, 181, 0, 55, 42, 16, 9, 188, 10, 181, 0, 59, 42, 16, 36, 188, 10]
abbrev dktX2_init_5 : List UInt8 := dkwX2_init_5 ++ dktX2_init_6
def dkwX2_init_4 : List UInt8 := [42, 17, 1, 16, 188, 10, 181, 0, 44, 42, 16, 17, 188, 10, 181, 0, 47, 42, 17, 3, 232, 188, 4]
abbrev dktX2_init_4 : List UInt8 := dkwX2_init_4 ++ dktX2_init_5
def dkwX2_init_3 : List UInt8 := [16, 9, 188, 10, 181, 0, 35, 42, 17, 18, 0, 188, 8, 181, 0, 38, 42, 16, 100, 188, 10, 181, 0, 41]
abbrev dktX2_init_3 : List UInt8 := dkwX2_init_3 ++ dktX2_init_4
def dkwX2_init_2 : List UInt8 := [188, 10, 181, 0, 26, 42, 17, 6, 72, 188, 10, 181, 0, 29, 42, 16, 9, 188, 10, 181, 0, 32, 42]
abbrev dktX2_init_2 : List UInt8 := dkwX2_init_2 ++ dktX2_init_3
def dkwX2_init_1 : List UInt8 := [188, 10, 181, 0, 16, 42, 16, 47, 188, 8, 181, 0, 19, 42, 16, 8, 188, 10, 181, 0, 23, 42, 16, 32]
abbrev dktX2_init_1 : List UInt8 := dkwX2_init_1 ++ dktX2_init_2
def dkwX2_init_0 : List UInt8 := [42, 183, 0, 1, 42, 16, 9, 188, 10, 181, 0, 7, 42, 16, 36, 188, 10, 181, 0, 13, 42, 16, 8]
abbrev dktX2_init_0 : List UInt8 := dkwX2_init_0 ++ dktX2_init_1
theorem dksX2_init_0 : cX2_init.data.toList.drop 0 = dktX2_init_0 := by decide +kernel
theorem dksX2_init_1 : cX2_init.data.toList.drop 23 = dktX2_init_1 := dk_seg dksX2_init_0 23 rfl rfl
theorem dksX2_init_2 : cX2_init.data.toList.drop 47 = dktX2_init_2 := dk_seg dksX2_init_1 24 rfl rfl
theorem dksX2_init_3 : cX2_init.data.toList.drop 70 = dktX2_init_3 := dk_seg dksX2_init_2 23 rfl rfl
theorem dksX2_init_4 : cX2_init.data.toList.drop 94 = dktX2_init_4 := dk_seg dksX2_init_3 24 rfl rfl
theorem dksX2_init_5 : cX2_init.data.toList.drop 117 = dktX2_init_5 := dk_seg dksX2_init_4 23 rfl rfl
theorem dksX2_init_6 : cX2_init.data.toList.drop 139 = dktX2_init_6 := dk_seg dksX2_init_5 22 rfl rfl
theorem dX2_init_0 : decode cX2_init 0 = .ok (.aload_n 0, 1) := dk_42 (dk_at dksX2_init_0 0 rfl rfl)
theorem dX2_init_1 : decode cX2_init 1 = .ok (.invokespecial 1, 3) := dk_183 0 1 (dk_at dksX2_init_0 1 rfl rfl)
theorem dX2_init_4 : decode cX2_init 4 = .ok (.aload_n 0, 1) := dk_42 (dk_at dksX2_init_0 4 rfl rfl)
theorem dX2_init_5 : decode cX2_init 5 = .ok (.bipush 9, 2) := dk_16 9 (dk_at dksX2_init_0 5 rfl rfl)
theorem dX2_init_7 : decode cX2_init 7 = .ok (.newarray .int, 2) := dk_188_10 (dk_at dksX2_init_0 7 rfl rfl)
theorem dX2_init_9 : decode cX2_init 9 = .ok (.putfield 7, 3) := dk_181 0 7 (dk_at dksX2_init_0 9 rfl rfl)
theorem dX2_init_12 : decode cX2_init 12 = .ok (.aload_n 0, 1) := dk_42 (dk_at dksX2_init_0 12 rfl rfl)
theorem dX2_init_13 : decode cX2_init 13 = .ok (.bipush 36, 2) := dk_16 36 (dk_at dksX2_init_0 13 rfl rfl)
theorem dX2_init_15 : decode cX2_init 15 = .ok (.newarray .int, 2) := dk_188_10 (dk_at dksX2_init_0 15 rfl rfl)
theorem dX2_init_17 : decode cX2_init 17 = .ok (.putfield 13, 3) := dk_181 0 13 (dk_at dksX2_init_0 17 rfl rfl)
theorem dX2_init_20 : decode cX2_init 20 = .ok (.aload_n 0, 1) := dk_42 (dk_at dksX2_init_0 20 rfl rfl)
theorem dX2_init_21 : decode cX2_init 21 = .ok (.bipush 8, 2) := dk_16 8 (dk_at dksX2_init_0 21 rfl rfl)
theorem dX2_init_23 : decode cX2_init 23 = .ok (.newarray .int, 2) := dk_188_10 (dk_at dksX2_init_1 0 rfl rfl)
theorem dX2_init_25 : decode cX2_init 25 = .ok (.putfield 16, 3) := dk_181 0 16 (dk_at dksX2_init_1 2 rfl rfl)
theorem dX2_init_28 : decode cX2_init 28 = .ok (.aload_n 0, 1) := dk_42 (dk_at dksX2_init_1 5 rfl rfl)
theorem dX2_init_29 : decode cX2_init 29 = .ok (.bipush 47, 2) := dk_16 47 (dk_at dksX2_init_1 6 rfl rfl)
theorem dX2_init_31 : decode cX2_init 31 = .ok (.newarray .byte, 2) := dk_188_8 (dk_at dksX2_init_1 8 rfl rfl)
theorem dX2_init_33 : decode cX2_init 33 = .ok (.putfield 19, 3) := dk_181 0 19 (dk_at dksX2_init_1 10 rfl rfl)
theorem dX2_init_36 : decode cX2_init 36 = .ok (.aload_n 0, 1) := dk_42 (dk_at dksX2_init_1 13 rfl rfl)
theorem dX2_init_37 : decode cX2_init 37 = .ok (.bipush 8, 2) := dk_16 8 (dk_at dksX2_init_1 14 rfl rfl)
theorem dX2_init_39 : decode cX2_init 39 = .ok (.newarray .int, 2) := dk_188_10 (dk_at dksX2_init_1 16 rfl rfl)
theorem dX2_init_41 : decode cX2_init 41 = .ok (.putfield 23, 3) := dk_181 0 23 (dk_at dksX2_init_1 18 rfl rfl)
theorem dX2_init_44 : decode cX2_init 44 = .ok (.aload_n 0, 1) := dk_42 (dk_at dksX2_init_1 21 rfl rfl)
theorem dX2_init_45 : decode cX2_init 45 = .ok (.bipush 32, 2) := dk_16 32 (dk_at dksX2_init_1 22 rfl rfl)
theorem dX2_init_47 : decode cX2_init 47 = .ok (.newarray .int, 2) := dk_188_10 (dk_at dksX2_init_2 0 rfl rfl)
theorem dX2_init_49 : decode cX2_init 49 = .ok (.putfield 26, 3) := dk_181 0 26 (dk_at dksX2_init_2 2 rfl rfl)
theorem dX2_init_52 : decode cX2_init 52 = .ok (.aload_n 0, 1) := dk_42 (dk_at dksX2_init_2 5 rfl rfl)
theorem dX2_init_53 : decode cX2_init 53 = .ok (.sipush 1608, 3) := dk_17 6 72 (dk_at dksX2_init_2 6 rfl rfl)
theorem dX2_init_56 : decode cX2_init 56 = .ok (.newarray .int, 2) := dk_188_10 (dk_at dksX2_init_2 9 rfl rfl)
theorem dX2_init_58 : decode cX2_init 58 = .ok (.putfield 29, 3) := dk_181 0 29 (dk_at dksX2_init_2 11 rfl rfl)
theorem dX2_init_61 : decode cX2_init 61 = .ok (.aload_n 0, 1) := dk_42 (dk_at dksX2_init_2 14 rfl rfl)
theorem dX2_init_62 : decode cX2_init 62 = .ok (.bipush 9, 2) := dk_16 9 (dk_at dksX2_init_2 15 rfl rfl)
theorem dX2_init_64 : decode cX2_init 64 = .ok (.newarray .int, 2) := dk_188_10 (dk_at dksX2_init_2 17 rfl rfl)
theorem dX2_init_66 : decode cX2_init 66 = .ok (.putfield 32, 3) := dk_181 0 32 (dk_at dksX2_init_2 19 rfl rfl)
theorem dX2_init_69 : decode cX2_init 69 = .ok (.aload_n 0, 1) := dk_42 (dk_at dksX2_init_2 22 rfl rfl)
theorem dX2_init_70 : decode cX2_init 70 = .ok (.bipush 9, 2) := dk_16 9 (dk_at dksX2_init_3 0 rfl rfl)
theorem dX2_init_72 : decode cX2_init 72 = .ok (.newarray .int, 2) := dk_188_10 (dk_at dksX2_init_3 2 rfl rfl)
theorem dX2_init_74 : decode cX2_init 74 = .ok (.putfield 35, 3) := dk_181 0 35 (dk_at dksX2_init_3 4 rfl rfl)
theorem dX2_init_77 : decode cX2_init 77 = .ok (.aload_n 0, 1) := dk_42 (dk_at dksX2_init_3 7 rfl rfl)
theorem dX2_init_78 : decode cX2_init 78 = .ok (.sipush 4608, 3) := dk_17 18 0 (dk_at dksX2_init_3 8 rfl rfl)
theorem dX2_init_81 : decode cX2_init 81 = .ok (.newarray .byte, 2) := dk_188_8 (dk_at dksX2_init_3 11 rfl rfl)
theorem dX2_init_83 : decode cX2_init 83 = .ok (.putfield 38, 3) := dk_181 0 38 (dk_at dksX2_init_3 13 rfl rfl)
theorem dX2_init_86 : decode cX2_init 86 = .ok (.aload_n 0, 1) := dk_42 (dk_at dksX2_init_3 16 rfl rfl)
theorem dX2_init_87 : decode cX2_init 87 = .ok (.bipush 100, 2) := dk_16 100 (dk_at dksX2_init_3 17 rfl rfl)
theorem dX2_init_89 : decode cX2_init 89 = .ok (.newarray .int, 2) := dk_188_10 (dk_at dksX2_init_3 19 rfl rfl)
theorem dX2_init_91 : decode cX2_init 91 = .ok (.putfield 41, 3) := dk_181 0 41 (dk_at dksX2_init_3 21 rfl rfl)
theorem dX2_init_94 : decode cX2_init 94 = .ok (.aload_n 0, 1) := dk_42 (dk_at dksX2_init_4 0 rfl rfl)
theorem dX2_init_95 : decode cX2_init 95 = .ok (.sipush 272, 3) := dk_17 1 16 (dk_at dksX2_init_4 1 rfl rfl)
theorem dX2_init_98 : decode cX2_init 98 = .ok (.newarray .int, 2) := dk_188_10 (dk_at dksX2_init_4 4 rfl rfl)
theorem dX2_init_100 : decode cX2_init 100 = .ok (.putfield 44, 3) := dk_181 0 44 (dk_at dksX2_init_4 6 rfl rfl)
theorem dX2_init_103 : decode cX2_init 103 = .ok (.aload_n 0, 1) := dk_42 (dk_at dksX2_init_4 9 rfl rfl)
theorem dX2_init_104 : decode cX2_init 104 = .ok (.bipush 17, 2) := dk_16 17 (dk_at dksX2_init_4 10 rfl rfl)
theorem dX2_init_106 : decode cX2_init 106 = .ok (.newarray .int, 2) := dk_188_10 (dk_at dksX2_init_4 12 rfl rfl)
theorem dX2_init_108 : decode cX2_init 108 = .ok (.putfield 47, 3) := dk_181 0 47 (dk_at dksX2_init_4 14 rfl rfl)
theorem dX2_init_111 : decode cX2_init 111 = .ok (.aload_n 0, 1) := dk_42 (dk_at dksX2_init_4 17 rfl rfl)
theorem dX2_init_112 : decode cX2_init 112 = .ok (.sipush 1000, 3) := dk_17 3 232 (dk_at dksX2_init_4 18 rfl rfl)
theorem dX2_init_115 : decode cX2_init 115 = .ok (.newarray .boolean, 2) := dk_188_4 (dk_at dksX2_init_4 21 rfl rfl)
theorem dX2_init_117 : decode cX2_init 117 = .ok (.putfield 50, 3) := dk_181 0 50 (dk_at dksX2_init_5 0 rfl rfl)
theorem dX2_init_120 : decode cX2_init 120 = .ok (.aload_n 0, 1) := dk_42 (dk_at dksX2_init_5 3 rfl rfl)
theorem dX2_init_121 : decode cX2_init 121 = .ok (.ldc 54, 2) := dk_18 54 (dk_at dksX2_init_5 4 rfl rfl)
theorem dX2_init_123 : decode cX2_init 123 = .ok (.putfield 55, 3) := dk_181 0 55 (dk_at dksX2_init_5 6 rfl rfl)
theorem dX2_init_126 : decode cX2_init 126 = .ok (.aload_n 0, 1) := dk_42 (dk_at dksX2_init_5 9 rfl rfl)
theorem dX2_init_127 : decode cX2_init 127 = .ok (.bipush 9, 2) := dk_16 9 (dk_at dksX2_init_5 10 rfl rfl)
theorem dX2_init_129 : decode cX2_init 129 = .ok (.newarray .int, 2) := dk_188_10 (dk_at dksX2_init_5 12 rfl rfl)
theorem dX2_init_131 : decode cX2_init 131 = .ok (.putfield 59, 3) := dk_181 0 59 (dk_at dksX2_init_5 14 rfl rfl)
theorem dX2_init_134 : decode cX2_init 134 = .ok (.aload_n 0, 1) := dk_42 (dk_at dksX2_init_5 17 rfl rfl)
theorem dX2_init_135 : decode cX2_init 135 = .ok (.bipush 36, 2) := dk_16 36 (dk_at dksX2_init_5 18 rfl rfl)
theorem dX2_init_137 : decode cX2_init 137 = .ok (.newarray .int, 2) := dk_188_10 (dk_at dksX2_init_5 20 rfl rfl)
theorem dX2_init_139 : decode cX2_init 139 = .ok (.putfield 62, 3) := dk_181 0 62 (dk_at dksX2_init_6 0 rfl rfl)
theorem dX2_init_142 : decode cX2_init 142 = .ok (.aload_n 0, 1) := dk_42 (dk_at dksX2_init_6 3 rfl rfl)
theorem dX2_init_143 : decode cX2_init 143 = .ok (.bipush 8, 2) := dk_16 8 (dk_at dksX2_init_6 4 rfl rfl)
theorem dX2_init_145 : decode cX2_init 145 = .ok (.newarray .int, 2) := dk_188_10 (dk_at dksX2_init_6 6 rfl rfl)
theorem dX2_init_147 : decode cX2_init 147 = .ok (.putfield 65, 3) := dk_181 0 65 (dk_at dksX2_init_6 8 rfl rfl)
theorem dX2_init_150 : decode cX2_init 150 = .ok (.return_, 1) := dk_177 (dk_at dksX2_init_6 11 rfl rfl)
abbrev cX2_letter : ByteArray := prog_17_method_4_code
def yX2_letter : MethodName := ⟨RX2, "letter", "(I)I"⟩
def dkwX2_letter_2 : List UInt8 := [42, 180, 0, 73, 172]
abbrev dktX2_letter_2 : List UInt8 := dkwX2_letter_2 ++ []
def dkwX2_letter_1 : List UInt8 := [18, 76, 172, 42, 180, 0, 19, 42, 180, 0, 73, 27, 145, 84, 42, 89, 180, 0, 73, 4, 96, 181, 0, 73]
abbrev dktX2_letter_1 : List UInt8 := dkwX2_letter_1 ++ dktX2_letter_2
def dkwX2_letter_0 : List UInt8 := [27, 16, 32, 16, 126, 184, 0, 68, 154, 0, 6, 18, 72, 172, 42, 180, 0, 73, 16, 47, 160, 0, 6]
abbrev dktX2_letter_0 : List UInt8 := dkwX2_letter_0 ++ dktX2_letter_1
theorem dksX2_letter_0 : cX2_letter.data.toList.drop 0 = dktX2_letter_0 := by decide +kernel
theorem dksX2_letter_1 : cX2_letter.data.toList.drop 23 = dktX2_letter_1 := dk_seg dksX2_letter_0 23 rfl rfl
theorem dksX2_letter_2 : cX2_letter.data.toList.drop 47 = dktX2_letter_2 := dk_seg dksX2_letter_1 24 rfl rfl
theorem dX2_letter_0 : decode cX2_letter 0 = .ok (.iload_n 1, 1) := dk_27 (dk_at dksX2_letter_0 0 rfl rfl)
theorem dX2_letter_1 : decode cX2_letter 1 = .ok (.bipush 32, 2) := dk_16 32 (dk_at dksX2_letter_0 1 rfl rfl)
theorem dX2_letter_3 : decode cX2_letter 3 = .ok (.bipush 126, 2) := dk_16 126 (dk_at dksX2_letter_0 3 rfl rfl)
theorem dX2_letter_5 : decode cX2_letter 5 = .ok (.invokestatic 68, 3) := dk_184 0 68 (dk_at dksX2_letter_0 5 rfl rfl)
theorem dX2_letter_8 : decode cX2_letter 8 = .ok (.ifCond .ne 6, 3) := dk_154 0 6 (dk_at dksX2_letter_0 8 rfl rfl)
theorem dX2_letter_11 : decode cX2_letter 11 = .ok (.ldc 72, 2) := dk_18 72 (dk_at dksX2_letter_0 11 rfl rfl)
theorem dX2_letter_13 : decode cX2_letter 13 = .ok (.ireturn, 1) := dk_172 (dk_at dksX2_letter_0 13 rfl rfl)
theorem dX2_letter_14 : decode cX2_letter 14 = .ok (.aload_n 0, 1) := dk_42 (dk_at dksX2_letter_0 14 rfl rfl)
theorem dX2_letter_15 : decode cX2_letter 15 = .ok (.getfield 73, 3) := dk_180 0 73 (dk_at dksX2_letter_0 15 rfl rfl)
theorem dX2_letter_18 : decode cX2_letter 18 = .ok (.bipush 47, 2) := dk_16 47 (dk_at dksX2_letter_0 18 rfl rfl)
theorem dX2_letter_20 : decode cX2_letter 20 = .ok (.if_icmp .ne 6, 3) := dk_160 0 6 (dk_at dksX2_letter_0 20 rfl rfl)
theorem dX2_letter_23 : decode cX2_letter 23 = .ok (.ldc 76, 2) := dk_18 76 (dk_at dksX2_letter_1 0 rfl rfl)
theorem dX2_letter_25 : decode cX2_letter 25 = .ok (.ireturn, 1) := dk_172 (dk_at dksX2_letter_1 2 rfl rfl)
theorem dX2_letter_26 : decode cX2_letter 26 = .ok (.aload_n 0, 1) := dk_42 (dk_at dksX2_letter_1 3 rfl rfl)
theorem dX2_letter_27 : decode cX2_letter 27 = .ok (.getfield 19, 3) := dk_180 0 19 (dk_at dksX2_letter_1 4 rfl rfl)
theorem dX2_letter_30 : decode cX2_letter 30 = .ok (.aload_n 0, 1) := dk_42 (dk_at dksX2_letter_1 7 rfl rfl)
theorem dX2_letter_31 : decode cX2_letter 31 = .ok (.getfield 73, 3) := dk_180 0 73 (dk_at dksX2_letter_1 8 rfl rfl)
theorem dX2_letter_34 : decode cX2_letter 34 = .ok (.iload_n 1, 1) := dk_27 (dk_at dksX2_letter_1 11 rfl rfl)
theorem dX2_letter_35 : decode cX2_letter 35 = .ok (.i2b, 1) := dk_145 (dk_at dksX2_letter_1 12 rfl rfl)
theorem dX2_letter_36 : decode cX2_letter 36 = .ok (.bastore, 1) := dk_84 (dk_at dksX2_letter_1 13 rfl rfl)
theorem dX2_letter_37 : decode cX2_letter 37 = .ok (.aload_n 0, 1) := dk_42 (dk_at dksX2_letter_1 14 rfl rfl)
theorem dX2_letter_38 : decode cX2_letter 38 = .ok (.dup, 1) := dk_89 (dk_at dksX2_letter_1 15 rfl rfl)
theorem dX2_letter_39 : decode cX2_letter 39 = .ok (.getfield 73, 3) := dk_180 0 73 (dk_at dksX2_letter_1 16 rfl rfl)
theorem dX2_letter_42 : decode cX2_letter 42 = .ok (.iconst 1, 1) := dk_4 (dk_at dksX2_letter_1 19 rfl rfl)
theorem dX2_letter_43 : decode cX2_letter 43 = .ok (.iadd, 1) := dk_96 (dk_at dksX2_letter_1 20 rfl rfl)
theorem dX2_letter_44 : decode cX2_letter 44 = .ok (.putfield 73, 3) := dk_181 0 73 (dk_at dksX2_letter_1 21 rfl rfl)
theorem dX2_letter_47 : decode cX2_letter 47 = .ok (.aload_n 0, 1) := dk_42 (dk_at dksX2_letter_2 0 rfl rfl)
theorem dX2_letter_48 : decode cX2_letter 48 = .ok (.getfield 73, 3) := dk_180 0 73 (dk_at dksX2_letter_2 1 rfl rfl)
theorem dX2_letter_51 : decode cX2_letter 51 = .ok (.ireturn, 1) := dk_172 (dk_at dksX2_letter_2 4 rfl rfl)
abbrev cX2_within : ByteArray := prog_17_method_3_code
def yX2_within : MethodName := ⟨RX2, "within", "(III)Z"⟩
def dkwX2_within_0 : List UInt8 := [26, 27, 161, 0, 12, 26, 28, 163, 0, 7, 4, 167, 0, 4, 3, 172]
abbrev dktX2_within_0 : List UInt8 := dkwX2_within_0 ++ []
theorem dksX2_within_0 : cX2_within.data.toList.drop 0 = dktX2_within_0 := by decide +kernel
theorem dX2_within_0 : decode cX2_within 0 = .ok (.iload_n 0, 1) := dk_26 (dk_at dksX2_within_0 0 rfl rfl)
theorem dX2_within_1 : decode cX2_within 1 = .ok (.iload_n 1, 1) := dk_27 (dk_at dksX2_within_0 1 rfl rfl)
theorem dX2_within_2 : decode cX2_within 2 = .ok (.if_icmp .lt 12, 3) := dk_161 0 12 (dk_at dksX2_within_0 2 rfl rfl)
theorem dX2_within_5 : decode cX2_within 5 = .ok (.iload_n 0, 1) := dk_26 (dk_at dksX2_within_0 5 rfl rfl)
theorem dX2_within_6 : decode cX2_within 6 = .ok (.iload_n 2, 1) := dk_28 (dk_at dksX2_within_0 6 rfl rfl)
theorem dX2_within_7 : decode cX2_within 7 = .ok (.if_icmp .gt 7, 3) := dk_163 0 7 (dk_at dksX2_within_0 7 rfl rfl)
theorem dX2_within_10 : decode cX2_within 10 = .ok (.iconst 1, 1) := dk_4 (dk_at dksX2_within_0 10 rfl rfl)
theorem dX2_within_11 : decode cX2_within 11 = .ok (.goto 4, 3) := dk_167 0 4 (dk_at dksX2_within_0 11 rfl rfl)
theorem dX2_within_14 : decode cX2_within 14 = .ok (.iconst 0, 1) := dk_3 (dk_at dksX2_within_0 14 rfl rfl)
theorem dX2_within_15 : decode cX2_within 15 = .ok (.ireturn, 1) := dk_172 (dk_at dksX2_within_0 15 rfl rfl)
abbrev cX2_blank : ByteArray := prog_17_method_5_code
def yX2_blank : MethodName := ⟨RX2, "blank", "()I"⟩
def dkwX2_blank_0 : List UInt8 := [42, 180, 0, 73, 60, 42, 3, 181, 0, 73, 27, 172]
abbrev dktX2_blank_0 : List UInt8 := dkwX2_blank_0 ++ []
theorem dksX2_blank_0 : cX2_blank.data.toList.drop 0 = dktX2_blank_0 := by decide +kernel
theorem dX2_blank_0 : decode cX2_blank 0 = .ok (.aload_n 0, 1) := dk_42 (dk_at dksX2_blank_0 0 rfl rfl)
theorem dX2_blank_1 : decode cX2_blank 1 = .ok (.getfield 73, 3) := dk_180 0 73 (dk_at dksX2_blank_0 1 rfl rfl)
theorem dX2_blank_4 : decode cX2_blank 4 = .ok (.istore_n 1, 1) := dk_60 (dk_at dksX2_blank_0 4 rfl rfl)
theorem dX2_blank_5 : decode cX2_blank 5 = .ok (.aload_n 0, 1) := dk_42 (dk_at dksX2_blank_0 5 rfl rfl)
theorem dX2_blank_6 : decode cX2_blank 6 = .ok (.iconst 0, 1) := dk_3 (dk_at dksX2_blank_0 6 rfl rfl)
theorem dX2_blank_7 : decode cX2_blank 7 = .ok (.putfield 73, 3) := dk_181 0 73 (dk_at dksX2_blank_0 7 rfl rfl)
theorem dX2_blank_10 : decode cX2_blank 10 = .ok (.iload_n 1, 1) := dk_27 (dk_at dksX2_blank_0 10 rfl rfl)
theorem dX2_blank_11 : decode cX2_blank 11 = .ok (.ireturn, 1) := dk_172 (dk_at dksX2_blank_0 11 rfl rfl)
abbrev cX2_fault : ByteArray := prog_17_method_14_code
def yX2_fault : MethodName := ⟨RX2, "fault", "()I"⟩
theorem dX2_fault_0 : decode cX2_fault 0 = .ok (.aload_n 0, 1) := by decide +kernel
theorem dX2_fault_1 : decode cX2_fault 1 = .ok (.invokevirtual 111, 3) := by decide +kernel
theorem dX2_fault_4 : decode cX2_fault 4 = .ok (.ireturn, 1) := by decide +kernel
abbrev cX2_read : ByteArray := prog_17_method_13_code
def yX2_read : MethodName := ⟨RX2, "read", "()I"⟩
def dkwX2_read_1 : List UInt8 := [162, 0, 22, 42, 42, 180, 0, 19, 27, 51, 182, 0, 108, 153, 0, 9, 132, 1, 1, 167, 255, 232, 27, 172]
abbrev dktX2_read_1 : List UInt8 := dkwX2_read_1 ++ []
def dkwX2_read_0 : List UInt8 := [42, 3, 181, 0, 77, 42, 3, 181, 0, 84, 42, 4, 181, 0, 90, 3, 60, 27, 42, 180, 0, 73]
abbrev dktX2_read_0 : List UInt8 := dkwX2_read_0 ++ dktX2_read_1
theorem dksX2_read_0 : cX2_read.data.toList.drop 0 = dktX2_read_0 := by decide +kernel
theorem dksX2_read_1 : cX2_read.data.toList.drop 22 = dktX2_read_1 := dk_seg dksX2_read_0 22 rfl rfl
theorem dX2_read_0 : decode cX2_read 0 = .ok (.aload_n 0, 1) := dk_42 (dk_at dksX2_read_0 0 rfl rfl)
theorem dX2_read_1 : decode cX2_read 1 = .ok (.iconst 0, 1) := dk_3 (dk_at dksX2_read_0 1 rfl rfl)
theorem dX2_read_2 : decode cX2_read 2 = .ok (.putfield 77, 3) := dk_181 0 77 (dk_at dksX2_read_0 2 rfl rfl)
theorem dX2_read_5 : decode cX2_read 5 = .ok (.aload_n 0, 1) := dk_42 (dk_at dksX2_read_0 5 rfl rfl)
theorem dX2_read_6 : decode cX2_read 6 = .ok (.iconst 0, 1) := dk_3 (dk_at dksX2_read_0 6 rfl rfl)
theorem dX2_read_7 : decode cX2_read 7 = .ok (.putfield 84, 3) := dk_181 0 84 (dk_at dksX2_read_0 7 rfl rfl)
theorem dX2_read_10 : decode cX2_read 10 = .ok (.aload_n 0, 1) := dk_42 (dk_at dksX2_read_0 10 rfl rfl)
theorem dX2_read_11 : decode cX2_read 11 = .ok (.iconst 1, 1) := dk_4 (dk_at dksX2_read_0 11 rfl rfl)
theorem dX2_read_12 : decode cX2_read 12 = .ok (.putfield 90, 3) := dk_181 0 90 (dk_at dksX2_read_0 12 rfl rfl)
theorem dX2_read_15 : decode cX2_read 15 = .ok (.iconst 0, 1) := dk_3 (dk_at dksX2_read_0 15 rfl rfl)
theorem dX2_read_16 : decode cX2_read 16 = .ok (.istore_n 1, 1) := dk_60 (dk_at dksX2_read_0 16 rfl rfl)
theorem dX2_read_17 : decode cX2_read 17 = .ok (.iload_n 1, 1) := dk_27 (dk_at dksX2_read_0 17 rfl rfl)
theorem dX2_read_18 : decode cX2_read 18 = .ok (.aload_n 0, 1) := dk_42 (dk_at dksX2_read_0 18 rfl rfl)
theorem dX2_read_19 : decode cX2_read 19 = .ok (.getfield 73, 3) := dk_180 0 73 (dk_at dksX2_read_0 19 rfl rfl)
theorem dX2_read_22 : decode cX2_read 22 = .ok (.if_icmp .ge 22, 3) := dk_162 0 22 (dk_at dksX2_read_1 0 rfl rfl)
theorem dX2_read_25 : decode cX2_read 25 = .ok (.aload_n 0, 1) := dk_42 (dk_at dksX2_read_1 3 rfl rfl)
theorem dX2_read_26 : decode cX2_read 26 = .ok (.aload_n 0, 1) := dk_42 (dk_at dksX2_read_1 4 rfl rfl)
theorem dX2_read_27 : decode cX2_read 27 = .ok (.getfield 19, 3) := dk_180 0 19 (dk_at dksX2_read_1 5 rfl rfl)
theorem dX2_read_30 : decode cX2_read 30 = .ok (.iload_n 1, 1) := dk_27 (dk_at dksX2_read_1 8 rfl rfl)
theorem dX2_read_31 : decode cX2_read 31 = .ok (.baload, 1) := dk_51 (dk_at dksX2_read_1 9 rfl rfl)
theorem dX2_read_32 : decode cX2_read 32 = .ok (.invokevirtual 108, 3) := dk_182 0 108 (dk_at dksX2_read_1 10 rfl rfl)
theorem dX2_read_35 : decode cX2_read 35 = .ok (.ifCond .eq 9, 3) := dk_153 0 9 (dk_at dksX2_read_1 13 rfl rfl)
theorem dX2_read_38 : decode cX2_read 38 = .ok (.iinc 1 1, 3) := dk_132 1 1 (dk_at dksX2_read_1 16 rfl rfl)
theorem dX2_read_41 : decode cX2_read 41 = .ok (.goto (-24), 3) := dk_167 255 232 (dk_at dksX2_read_1 19 rfl rfl)
theorem dX2_read_44 : decode cX2_read 44 = .ok (.iload_n 1, 1) := dk_27 (dk_at dksX2_read_1 22 rfl rfl)
theorem dX2_read_45 : decode cX2_read 45 = .ok (.ireturn, 1) := dk_172 (dk_at dksX2_read_1 23 rfl rfl)
abbrev cX2_takes : ByteArray := prog_17_method_11_code
def yX2_takes : MethodName := ⟨RX2, "takes", "(I)Z"⟩
def dkwX2_takes_3 : List UInt8 := [180, 0, 84, 96, 27, 184, 0, 80, 79, 42, 89, 180, 0, 84, 4, 96, 181, 0, 84, 4, 172]
abbrev dktX2_takes_3 : List UInt8 := dkwX2_takes_3 ++ []
def dkwX2_takes_2 : List UInt8 := [172, 42, 27, 182, 0, 102, 154, 0, 5, 3, 172, 42, 180, 0, 26, 7, 42, 180, 0, 77, 104, 7, 100, 42]
abbrev dktX2_takes_2 : List UInt8 := dkwX2_takes_2 ++ dktX2_takes_3
def dkwX2_takes_1 : List UInt8 := [160, 0, 16, 42, 180, 0, 77, 16, 8, 162, 0, 7, 4, 167, 0, 4, 3, 181, 0, 90, 42, 180, 0, 90]
abbrev dktX2_takes_1 : List UInt8 := dkwX2_takes_1 ++ dktX2_takes_2
def dkwX2_takes_0 : List UInt8 := [42, 180, 0, 90, 153, 0, 9, 42, 27, 182, 0, 94, 172, 42, 182, 0, 98, 153, 0, 32, 42, 27, 16, 59]
abbrev dktX2_takes_0 : List UInt8 := dkwX2_takes_0 ++ dktX2_takes_1
theorem dksX2_takes_0 : cX2_takes.data.toList.drop 0 = dktX2_takes_0 := by decide +kernel
theorem dksX2_takes_1 : cX2_takes.data.toList.drop 24 = dktX2_takes_1 := dk_seg dksX2_takes_0 24 rfl rfl
theorem dksX2_takes_2 : cX2_takes.data.toList.drop 48 = dktX2_takes_2 := dk_seg dksX2_takes_1 24 rfl rfl
theorem dksX2_takes_3 : cX2_takes.data.toList.drop 72 = dktX2_takes_3 := dk_seg dksX2_takes_2 24 rfl rfl
theorem dX2_takes_0 : decode cX2_takes 0 = .ok (.aload_n 0, 1) := dk_42 (dk_at dksX2_takes_0 0 rfl rfl)
theorem dX2_takes_1 : decode cX2_takes 1 = .ok (.getfield 90, 3) := dk_180 0 90 (dk_at dksX2_takes_0 1 rfl rfl)
theorem dX2_takes_4 : decode cX2_takes 4 = .ok (.ifCond .eq 9, 3) := dk_153 0 9 (dk_at dksX2_takes_0 4 rfl rfl)
theorem dX2_takes_7 : decode cX2_takes 7 = .ok (.aload_n 0, 1) := dk_42 (dk_at dksX2_takes_0 7 rfl rfl)
theorem dX2_takes_8 : decode cX2_takes 8 = .ok (.iload_n 1, 1) := dk_27 (dk_at dksX2_takes_0 8 rfl rfl)
theorem dX2_takes_9 : decode cX2_takes 9 = .ok (.invokevirtual 94, 3) := dk_182 0 94 (dk_at dksX2_takes_0 9 rfl rfl)
theorem dX2_takes_12 : decode cX2_takes 12 = .ok (.ireturn, 1) := dk_172 (dk_at dksX2_takes_0 12 rfl rfl)
theorem dX2_takes_13 : decode cX2_takes 13 = .ok (.aload_n 0, 1) := dk_42 (dk_at dksX2_takes_0 13 rfl rfl)
theorem dX2_takes_14 : decode cX2_takes 14 = .ok (.invokevirtual 98, 3) := dk_182 0 98 (dk_at dksX2_takes_0 14 rfl rfl)
theorem dX2_takes_17 : decode cX2_takes 17 = .ok (.ifCond .eq 32, 3) := dk_153 0 32 (dk_at dksX2_takes_0 17 rfl rfl)
theorem dX2_takes_20 : decode cX2_takes 20 = .ok (.aload_n 0, 1) := dk_42 (dk_at dksX2_takes_0 20 rfl rfl)
theorem dX2_takes_21 : decode cX2_takes 21 = .ok (.iload_n 1, 1) := dk_27 (dk_at dksX2_takes_0 21 rfl rfl)
theorem dX2_takes_22 : decode cX2_takes 22 = .ok (.bipush 59, 2) := dk_16 59 (dk_at dksX2_takes_0 22 rfl rfl)
theorem dX2_takes_24 : decode cX2_takes 24 = .ok (.if_icmp .ne 16, 3) := dk_160 0 16 (dk_at dksX2_takes_1 0 rfl rfl)
theorem dX2_takes_27 : decode cX2_takes 27 = .ok (.aload_n 0, 1) := dk_42 (dk_at dksX2_takes_1 3 rfl rfl)
theorem dX2_takes_28 : decode cX2_takes 28 = .ok (.getfield 77, 3) := dk_180 0 77 (dk_at dksX2_takes_1 4 rfl rfl)
theorem dX2_takes_31 : decode cX2_takes 31 = .ok (.bipush 8, 2) := dk_16 8 (dk_at dksX2_takes_1 7 rfl rfl)
theorem dX2_takes_33 : decode cX2_takes 33 = .ok (.if_icmp .ge 7, 3) := dk_162 0 7 (dk_at dksX2_takes_1 9 rfl rfl)
theorem dX2_takes_36 : decode cX2_takes 36 = .ok (.iconst 1, 1) := dk_4 (dk_at dksX2_takes_1 12 rfl rfl)
theorem dX2_takes_37 : decode cX2_takes 37 = .ok (.goto 4, 3) := dk_167 0 4 (dk_at dksX2_takes_1 13 rfl rfl)
theorem dX2_takes_40 : decode cX2_takes 40 = .ok (.iconst 0, 1) := dk_3 (dk_at dksX2_takes_1 16 rfl rfl)
theorem dX2_takes_41 : decode cX2_takes 41 = .ok (.putfield 90, 3) := dk_181 0 90 (dk_at dksX2_takes_1 17 rfl rfl)
theorem dX2_takes_44 : decode cX2_takes 44 = .ok (.aload_n 0, 1) := dk_42 (dk_at dksX2_takes_1 20 rfl rfl)
theorem dX2_takes_45 : decode cX2_takes 45 = .ok (.getfield 90, 3) := dk_180 0 90 (dk_at dksX2_takes_1 21 rfl rfl)
theorem dX2_takes_48 : decode cX2_takes 48 = .ok (.ireturn, 1) := dk_172 (dk_at dksX2_takes_2 0 rfl rfl)
theorem dX2_takes_49 : decode cX2_takes 49 = .ok (.aload_n 0, 1) := dk_42 (dk_at dksX2_takes_2 1 rfl rfl)
theorem dX2_takes_50 : decode cX2_takes 50 = .ok (.iload_n 1, 1) := dk_27 (dk_at dksX2_takes_2 2 rfl rfl)
theorem dX2_takes_51 : decode cX2_takes 51 = .ok (.invokevirtual 102, 3) := dk_182 0 102 (dk_at dksX2_takes_2 3 rfl rfl)
theorem dX2_takes_54 : decode cX2_takes 54 = .ok (.ifCond .ne 5, 3) := dk_154 0 5 (dk_at dksX2_takes_2 6 rfl rfl)
theorem dX2_takes_57 : decode cX2_takes 57 = .ok (.iconst 0, 1) := dk_3 (dk_at dksX2_takes_2 9 rfl rfl)
theorem dX2_takes_58 : decode cX2_takes 58 = .ok (.ireturn, 1) := dk_172 (dk_at dksX2_takes_2 10 rfl rfl)
theorem dX2_takes_59 : decode cX2_takes 59 = .ok (.aload_n 0, 1) := dk_42 (dk_at dksX2_takes_2 11 rfl rfl)
theorem dX2_takes_60 : decode cX2_takes 60 = .ok (.getfield 26, 3) := dk_180 0 26 (dk_at dksX2_takes_2 12 rfl rfl)
theorem dX2_takes_63 : decode cX2_takes 63 = .ok (.iconst 4, 1) := dk_7 (dk_at dksX2_takes_2 15 rfl rfl)
theorem dX2_takes_64 : decode cX2_takes 64 = .ok (.aload_n 0, 1) := dk_42 (dk_at dksX2_takes_2 16 rfl rfl)
theorem dX2_takes_65 : decode cX2_takes 65 = .ok (.getfield 77, 3) := dk_180 0 77 (dk_at dksX2_takes_2 17 rfl rfl)
theorem dX2_takes_68 : decode cX2_takes 68 = .ok (.imul, 1) := dk_104 (dk_at dksX2_takes_2 20 rfl rfl)
theorem dX2_takes_69 : decode cX2_takes 69 = .ok (.iconst 4, 1) := dk_7 (dk_at dksX2_takes_2 21 rfl rfl)
theorem dX2_takes_70 : decode cX2_takes 70 = .ok (.isub, 1) := dk_100 (dk_at dksX2_takes_2 22 rfl rfl)
theorem dX2_takes_71 : decode cX2_takes 71 = .ok (.aload_n 0, 1) := dk_42 (dk_at dksX2_takes_2 23 rfl rfl)
theorem dX2_takes_72 : decode cX2_takes 72 = .ok (.getfield 84, 3) := dk_180 0 84 (dk_at dksX2_takes_3 0 rfl rfl)
theorem dX2_takes_75 : decode cX2_takes 75 = .ok (.iadd, 1) := dk_96 (dk_at dksX2_takes_3 3 rfl rfl)
theorem dX2_takes_76 : decode cX2_takes 76 = .ok (.iload_n 1, 1) := dk_27 (dk_at dksX2_takes_3 4 rfl rfl)
theorem dX2_takes_77 : decode cX2_takes 77 = .ok (.invokestatic 80, 3) := dk_184 0 80 (dk_at dksX2_takes_3 5 rfl rfl)
theorem dX2_takes_80 : decode cX2_takes 80 = .ok (.iastore, 1) := dk_79 (dk_at dksX2_takes_3 8 rfl rfl)
theorem dX2_takes_81 : decode cX2_takes 81 = .ok (.aload_n 0, 1) := dk_42 (dk_at dksX2_takes_3 9 rfl rfl)
theorem dX2_takes_82 : decode cX2_takes 82 = .ok (.dup, 1) := dk_89 (dk_at dksX2_takes_3 10 rfl rfl)
theorem dX2_takes_83 : decode cX2_takes 83 = .ok (.getfield 84, 3) := dk_180 0 84 (dk_at dksX2_takes_3 11 rfl rfl)
theorem dX2_takes_86 : decode cX2_takes 86 = .ok (.iconst 1, 1) := dk_4 (dk_at dksX2_takes_3 14 rfl rfl)
theorem dX2_takes_87 : decode cX2_takes 87 = .ok (.iadd, 1) := dk_96 (dk_at dksX2_takes_3 15 rfl rfl)
theorem dX2_takes_88 : decode cX2_takes 88 = .ok (.putfield 84, 3) := dk_181 0 84 (dk_at dksX2_takes_3 16 rfl rfl)
theorem dX2_takes_91 : decode cX2_takes 91 = .ok (.iconst 1, 1) := dk_4 (dk_at dksX2_takes_3 19 rfl rfl)
theorem dX2_takes_92 : decode cX2_takes 92 = .ok (.ireturn, 1) := dk_172 (dk_at dksX2_takes_3 20 rfl rfl)
abbrev cX2_takesKind : ByteArray := prog_17_method_12_code
def yX2_takesKind : MethodName := ⟨RX2, "takesKind", "(I)Z"⟩
def dkwX2_takesKind_3 : List UInt8 := [181, 0, 77, 42, 3, 181, 0, 84, 42, 3, 181, 0, 90, 4, 172]
abbrev dktX2_takesKind_3 : List UInt8 := dkwX2_takesKind_3 ++ []
def dkwX2_takesKind_2 : List UInt8 := [180, 0, 77, 104, 29, 96, 18, 54, 79, 132, 3, 1, 167, 255, 233, 42, 89, 180, 0, 77, 4, 96]
abbrev dktX2_takesKind_2 : List UInt8 := dkwX2_takesKind_2 ++ dktX2_takesKind_3
def dkwX2_takesKind_1 : List UInt8 := [42, 180, 0, 23, 42, 180, 0, 77, 28, 79, 3, 62, 29, 7, 162, 0, 24, 42, 180, 0, 26, 7, 42]
abbrev dktX2_takesKind_1 : List UInt8 := dkwX2_takesKind_1 ++ dktX2_takesKind_2
def dkwX2_takesKind_0 : List UInt8 := [27, 184, 0, 105, 61, 28, 18, 54, 159, 0, 14, 28, 153, 0, 12, 42, 180, 0, 77, 154, 0, 5, 3, 172]
abbrev dktX2_takesKind_0 : List UInt8 := dkwX2_takesKind_0 ++ dktX2_takesKind_1
theorem dksX2_takesKind_0 : cX2_takesKind.data.toList.drop 0 = dktX2_takesKind_0 := by decide +kernel
theorem dksX2_takesKind_1 : cX2_takesKind.data.toList.drop 24 = dktX2_takesKind_1 := dk_seg dksX2_takesKind_0 24 rfl rfl
theorem dksX2_takesKind_2 : cX2_takesKind.data.toList.drop 47 = dktX2_takesKind_2 := dk_seg dksX2_takesKind_1 23 rfl rfl
theorem dksX2_takesKind_3 : cX2_takesKind.data.toList.drop 69 = dktX2_takesKind_3 := dk_seg dksX2_takesKind_2 22 rfl rfl
theorem dX2_takesKind_0 : decode cX2_takesKind 0 = .ok (.iload_n 1, 1) := dk_27 (dk_at dksX2_takesKind_0 0 rfl rfl)
theorem dX2_takesKind_1 : decode cX2_takesKind 1 = .ok (.invokestatic 105, 3) := dk_184 0 105 (dk_at dksX2_takesKind_0 1 rfl rfl)
theorem dX2_takesKind_4 : decode cX2_takesKind 4 = .ok (.istore_n 2, 1) := dk_61 (dk_at dksX2_takesKind_0 4 rfl rfl)
theorem dX2_takesKind_5 : decode cX2_takesKind 5 = .ok (.iload_n 2, 1) := dk_28 (dk_at dksX2_takesKind_0 5 rfl rfl)
theorem dX2_takesKind_6 : decode cX2_takesKind 6 = .ok (.ldc 54, 2) := dk_18 54 (dk_at dksX2_takesKind_0 6 rfl rfl)
theorem dX2_takesKind_8 : decode cX2_takesKind 8 = .ok (.if_icmp .eq 14, 3) := dk_159 0 14 (dk_at dksX2_takesKind_0 8 rfl rfl)
theorem dX2_takesKind_11 : decode cX2_takesKind 11 = .ok (.iload_n 2, 1) := dk_28 (dk_at dksX2_takesKind_0 11 rfl rfl)
theorem dX2_takesKind_12 : decode cX2_takesKind 12 = .ok (.ifCond .eq 12, 3) := dk_153 0 12 (dk_at dksX2_takesKind_0 12 rfl rfl)
theorem dX2_takesKind_15 : decode cX2_takesKind 15 = .ok (.aload_n 0, 1) := dk_42 (dk_at dksX2_takesKind_0 15 rfl rfl)
theorem dX2_takesKind_16 : decode cX2_takesKind 16 = .ok (.getfield 77, 3) := dk_180 0 77 (dk_at dksX2_takesKind_0 16 rfl rfl)
theorem dX2_takesKind_19 : decode cX2_takesKind 19 = .ok (.ifCond .ne 5, 3) := dk_154 0 5 (dk_at dksX2_takesKind_0 19 rfl rfl)
theorem dX2_takesKind_22 : decode cX2_takesKind 22 = .ok (.iconst 0, 1) := dk_3 (dk_at dksX2_takesKind_0 22 rfl rfl)
theorem dX2_takesKind_23 : decode cX2_takesKind 23 = .ok (.ireturn, 1) := dk_172 (dk_at dksX2_takesKind_0 23 rfl rfl)
theorem dX2_takesKind_24 : decode cX2_takesKind 24 = .ok (.aload_n 0, 1) := dk_42 (dk_at dksX2_takesKind_1 0 rfl rfl)
theorem dX2_takesKind_25 : decode cX2_takesKind 25 = .ok (.getfield 23, 3) := dk_180 0 23 (dk_at dksX2_takesKind_1 1 rfl rfl)
theorem dX2_takesKind_28 : decode cX2_takesKind 28 = .ok (.aload_n 0, 1) := dk_42 (dk_at dksX2_takesKind_1 4 rfl rfl)
theorem dX2_takesKind_29 : decode cX2_takesKind 29 = .ok (.getfield 77, 3) := dk_180 0 77 (dk_at dksX2_takesKind_1 5 rfl rfl)
theorem dX2_takesKind_32 : decode cX2_takesKind 32 = .ok (.iload_n 2, 1) := dk_28 (dk_at dksX2_takesKind_1 8 rfl rfl)
theorem dX2_takesKind_33 : decode cX2_takesKind 33 = .ok (.iastore, 1) := dk_79 (dk_at dksX2_takesKind_1 9 rfl rfl)
theorem dX2_takesKind_34 : decode cX2_takesKind 34 = .ok (.iconst 0, 1) := dk_3 (dk_at dksX2_takesKind_1 10 rfl rfl)
theorem dX2_takesKind_35 : decode cX2_takesKind 35 = .ok (.istore_n 3, 1) := dk_62 (dk_at dksX2_takesKind_1 11 rfl rfl)
theorem dX2_takesKind_36 : decode cX2_takesKind 36 = .ok (.iload_n 3, 1) := dk_29 (dk_at dksX2_takesKind_1 12 rfl rfl)
theorem dX2_takesKind_37 : decode cX2_takesKind 37 = .ok (.iconst 4, 1) := dk_7 (dk_at dksX2_takesKind_1 13 rfl rfl)
theorem dX2_takesKind_38 : decode cX2_takesKind 38 = .ok (.if_icmp .ge 24, 3) := dk_162 0 24 (dk_at dksX2_takesKind_1 14 rfl rfl)
theorem dX2_takesKind_41 : decode cX2_takesKind 41 = .ok (.aload_n 0, 1) := dk_42 (dk_at dksX2_takesKind_1 17 rfl rfl)
theorem dX2_takesKind_42 : decode cX2_takesKind 42 = .ok (.getfield 26, 3) := dk_180 0 26 (dk_at dksX2_takesKind_1 18 rfl rfl)
theorem dX2_takesKind_45 : decode cX2_takesKind 45 = .ok (.iconst 4, 1) := dk_7 (dk_at dksX2_takesKind_1 21 rfl rfl)
theorem dX2_takesKind_46 : decode cX2_takesKind 46 = .ok (.aload_n 0, 1) := dk_42 (dk_at dksX2_takesKind_1 22 rfl rfl)
theorem dX2_takesKind_47 : decode cX2_takesKind 47 = .ok (.getfield 77, 3) := dk_180 0 77 (dk_at dksX2_takesKind_2 0 rfl rfl)
theorem dX2_takesKind_50 : decode cX2_takesKind 50 = .ok (.imul, 1) := dk_104 (dk_at dksX2_takesKind_2 3 rfl rfl)
theorem dX2_takesKind_51 : decode cX2_takesKind 51 = .ok (.iload_n 3, 1) := dk_29 (dk_at dksX2_takesKind_2 4 rfl rfl)
theorem dX2_takesKind_52 : decode cX2_takesKind 52 = .ok (.iadd, 1) := dk_96 (dk_at dksX2_takesKind_2 5 rfl rfl)
theorem dX2_takesKind_53 : decode cX2_takesKind 53 = .ok (.ldc 54, 2) := dk_18 54 (dk_at dksX2_takesKind_2 6 rfl rfl)
theorem dX2_takesKind_55 : decode cX2_takesKind 55 = .ok (.iastore, 1) := dk_79 (dk_at dksX2_takesKind_2 8 rfl rfl)
theorem dX2_takesKind_56 : decode cX2_takesKind 56 = .ok (.iinc 3 1, 3) := dk_132 3 1 (dk_at dksX2_takesKind_2 9 rfl rfl)
theorem dX2_takesKind_59 : decode cX2_takesKind 59 = .ok (.goto (-23), 3) := dk_167 255 233 (dk_at dksX2_takesKind_2 12 rfl rfl)
theorem dX2_takesKind_62 : decode cX2_takesKind 62 = .ok (.aload_n 0, 1) := dk_42 (dk_at dksX2_takesKind_2 15 rfl rfl)
theorem dX2_takesKind_63 : decode cX2_takesKind 63 = .ok (.dup, 1) := dk_89 (dk_at dksX2_takesKind_2 16 rfl rfl)
theorem dX2_takesKind_64 : decode cX2_takesKind 64 = .ok (.getfield 77, 3) := dk_180 0 77 (dk_at dksX2_takesKind_2 17 rfl rfl)
theorem dX2_takesKind_67 : decode cX2_takesKind 67 = .ok (.iconst 1, 1) := dk_4 (dk_at dksX2_takesKind_2 20 rfl rfl)
theorem dX2_takesKind_68 : decode cX2_takesKind 68 = .ok (.iadd, 1) := dk_96 (dk_at dksX2_takesKind_2 21 rfl rfl)
theorem dX2_takesKind_69 : decode cX2_takesKind 69 = .ok (.putfield 77, 3) := dk_181 0 77 (dk_at dksX2_takesKind_3 0 rfl rfl)
theorem dX2_takesKind_72 : decode cX2_takesKind 72 = .ok (.aload_n 0, 1) := dk_42 (dk_at dksX2_takesKind_3 3 rfl rfl)
theorem dX2_takesKind_73 : decode cX2_takesKind 73 = .ok (.iconst 0, 1) := dk_3 (dk_at dksX2_takesKind_3 4 rfl rfl)
theorem dX2_takesKind_74 : decode cX2_takesKind 74 = .ok (.putfield 84, 3) := dk_181 0 84 (dk_at dksX2_takesKind_3 5 rfl rfl)
theorem dX2_takesKind_77 : decode cX2_takesKind 77 = .ok (.aload_n 0, 1) := dk_42 (dk_at dksX2_takesKind_3 8 rfl rfl)
theorem dX2_takesKind_78 : decode cX2_takesKind 78 = .ok (.iconst 0, 1) := dk_3 (dk_at dksX2_takesKind_3 9 rfl rfl)
theorem dX2_takesKind_79 : decode cX2_takesKind 79 = .ok (.putfield 90, 3) := dk_181 0 90 (dk_at dksX2_takesKind_3 10 rfl rfl)
theorem dX2_takesKind_82 : decode cX2_takesKind 82 = .ok (.iconst 1, 1) := dk_4 (dk_at dksX2_takesKind_3 13 rfl rfl)
theorem dX2_takesKind_83 : decode cX2_takesKind 83 = .ok (.ireturn, 1) := dk_172 (dk_at dksX2_takesKind_3 14 rfl rfl)
abbrev cX2_kindBy : ByteArray := prog_17_method_6_code
def yX2_kindBy : MethodName := ⟨RX2, "kindBy", "(I)I"⟩
def dkwX2_kindBy_2 : List UInt8 := [3, 172, 4, 172, 5, 172, 6, 172, 7, 172, 18, 54, 172]
abbrev dktX2_kindBy_2 : List UInt8 := dkwX2_kindBy_2 ++ []
def dkwX2_kindBy_1 : List UInt8 := [171, 0, 0, 0, 0, 0, 61, 0, 0, 0, 5, 0, 0, 0, 42, 0, 0, 0, 55, 0, 0, 0, 43, 0, 0, 0, 53, 0, 0, 0, 100, 0, 0, 0, 59, 0, 0, 0, 101, 0, 0, 0, 57, 0, 0, 0, 116, 0, 0, 0, 51]
abbrev dktX2_kindBy_1 : List UInt8 := dkwX2_kindBy_1 ++ dktX2_kindBy_2
def dkwX2_kindBy_0 : List UInt8 := [26]
abbrev dktX2_kindBy_0 : List UInt8 := dkwX2_kindBy_0 ++ dktX2_kindBy_1
theorem dksX2_kindBy_0 : cX2_kindBy.data.toList.drop 0 = dktX2_kindBy_0 := by decide +kernel
theorem dksX2_kindBy_1 : cX2_kindBy.data.toList.drop 1 = dktX2_kindBy_1 := dk_seg dksX2_kindBy_0 1 rfl rfl
theorem dksX2_kindBy_2 : cX2_kindBy.data.toList.drop 52 = dktX2_kindBy_2 := dk_seg dksX2_kindBy_1 51 rfl rfl
theorem dX2_kindBy_0 : decode cX2_kindBy 0 = .ok (.iload_n 0, 1) := dk_26 (dk_at dksX2_kindBy_0 0 rfl rfl)
theorem dX2_kindBy_1 : decode cX2_kindBy 1 = .ok (.lookupswitch 61 #[(42, 55), (43, 53), (100, 59), (101, 57), (116, 51)], 51) := by decide +kernel
theorem dX2_kindBy_52 : decode cX2_kindBy 52 = .ok (.iconst 0, 1) := dk_3 (dk_at dksX2_kindBy_2 0 rfl rfl)
theorem dX2_kindBy_53 : decode cX2_kindBy 53 = .ok (.ireturn, 1) := dk_172 (dk_at dksX2_kindBy_2 1 rfl rfl)
theorem dX2_kindBy_54 : decode cX2_kindBy 54 = .ok (.iconst 1, 1) := dk_4 (dk_at dksX2_kindBy_2 2 rfl rfl)
theorem dX2_kindBy_55 : decode cX2_kindBy 55 = .ok (.ireturn, 1) := dk_172 (dk_at dksX2_kindBy_2 3 rfl rfl)
theorem dX2_kindBy_56 : decode cX2_kindBy 56 = .ok (.iconst 2, 1) := dk_5 (dk_at dksX2_kindBy_2 4 rfl rfl)
theorem dX2_kindBy_57 : decode cX2_kindBy 57 = .ok (.ireturn, 1) := dk_172 (dk_at dksX2_kindBy_2 5 rfl rfl)
theorem dX2_kindBy_58 : decode cX2_kindBy 58 = .ok (.iconst 3, 1) := dk_6 (dk_at dksX2_kindBy_2 6 rfl rfl)
theorem dX2_kindBy_59 : decode cX2_kindBy 59 = .ok (.ireturn, 1) := dk_172 (dk_at dksX2_kindBy_2 7 rfl rfl)
theorem dX2_kindBy_60 : decode cX2_kindBy 60 = .ok (.iconst 4, 1) := dk_7 (dk_at dksX2_kindBy_2 8 rfl rfl)
theorem dX2_kindBy_61 : decode cX2_kindBy 61 = .ok (.ireturn, 1) := dk_172 (dk_at dksX2_kindBy_2 9 rfl rfl)
theorem dX2_kindBy_62 : decode cX2_kindBy 62 = .ok (.ldc 54, 2) := dk_18 54 (dk_at dksX2_kindBy_2 10 rfl rfl)
theorem dX2_kindBy_64 : decode cX2_kindBy 64 = .ok (.ireturn, 1) := dk_172 (dk_at dksX2_kindBy_2 12 rfl rfl)
abbrev cX2_isDone : ByteArray := prog_17_method_10_code
def yX2_isDone : MethodName := ⟨RX2, "isDone", "()Z"⟩
def dkwX2_isDone_1 : List UInt8 := [184, 0, 87, 160, 0, 7, 4, 167, 0, 4, 3, 172]
abbrev dktX2_isDone_1 : List UInt8 := dkwX2_isDone_1 ++ []
def dkwX2_isDone_0 : List UInt8 := [42, 180, 0, 77, 158, 0, 28, 42, 180, 0, 84, 42, 180, 0, 23, 42, 180, 0, 77, 4, 100, 46]
abbrev dktX2_isDone_0 : List UInt8 := dkwX2_isDone_0 ++ dktX2_isDone_1
theorem dksX2_isDone_0 : cX2_isDone.data.toList.drop 0 = dktX2_isDone_0 := by decide +kernel
theorem dksX2_isDone_1 : cX2_isDone.data.toList.drop 22 = dktX2_isDone_1 := dk_seg dksX2_isDone_0 22 rfl rfl
theorem dX2_isDone_0 : decode cX2_isDone 0 = .ok (.aload_n 0, 1) := dk_42 (dk_at dksX2_isDone_0 0 rfl rfl)
theorem dX2_isDone_1 : decode cX2_isDone 1 = .ok (.getfield 77, 3) := dk_180 0 77 (dk_at dksX2_isDone_0 1 rfl rfl)
theorem dX2_isDone_4 : decode cX2_isDone 4 = .ok (.ifCond .le 28, 3) := dk_158 0 28 (dk_at dksX2_isDone_0 4 rfl rfl)
theorem dX2_isDone_7 : decode cX2_isDone 7 = .ok (.aload_n 0, 1) := dk_42 (dk_at dksX2_isDone_0 7 rfl rfl)
theorem dX2_isDone_8 : decode cX2_isDone 8 = .ok (.getfield 84, 3) := dk_180 0 84 (dk_at dksX2_isDone_0 8 rfl rfl)
theorem dX2_isDone_11 : decode cX2_isDone 11 = .ok (.aload_n 0, 1) := dk_42 (dk_at dksX2_isDone_0 11 rfl rfl)
theorem dX2_isDone_12 : decode cX2_isDone 12 = .ok (.getfield 23, 3) := dk_180 0 23 (dk_at dksX2_isDone_0 12 rfl rfl)
theorem dX2_isDone_15 : decode cX2_isDone 15 = .ok (.aload_n 0, 1) := dk_42 (dk_at dksX2_isDone_0 15 rfl rfl)
theorem dX2_isDone_16 : decode cX2_isDone 16 = .ok (.getfield 77, 3) := dk_180 0 77 (dk_at dksX2_isDone_0 16 rfl rfl)
theorem dX2_isDone_19 : decode cX2_isDone 19 = .ok (.iconst 1, 1) := dk_4 (dk_at dksX2_isDone_0 19 rfl rfl)
theorem dX2_isDone_20 : decode cX2_isDone 20 = .ok (.isub, 1) := dk_100 (dk_at dksX2_isDone_0 20 rfl rfl)
theorem dX2_isDone_21 : decode cX2_isDone 21 = .ok (.iaload, 1) := dk_46 (dk_at dksX2_isDone_0 21 rfl rfl)
theorem dX2_isDone_22 : decode cX2_isDone 22 = .ok (.invokestatic 87, 3) := dk_184 0 87 (dk_at dksX2_isDone_1 0 rfl rfl)
theorem dX2_isDone_25 : decode cX2_isDone 25 = .ok (.if_icmp .ne 7, 3) := dk_160 0 7 (dk_at dksX2_isDone_1 3 rfl rfl)
theorem dX2_isDone_28 : decode cX2_isDone 28 = .ok (.iconst 1, 1) := dk_4 (dk_at dksX2_isDone_1 6 rfl rfl)
theorem dX2_isDone_29 : decode cX2_isDone 29 = .ok (.goto 4, 3) := dk_167 0 4 (dk_at dksX2_isDone_1 7 rfl rfl)
theorem dX2_isDone_32 : decode cX2_isDone 32 = .ok (.iconst 0, 1) := dk_3 (dk_at dksX2_isDone_1 10 rfl rfl)
theorem dX2_isDone_33 : decode cX2_isDone 33 = .ok (.ireturn, 1) := dk_172 (dk_at dksX2_isDone_1 11 rfl rfl)
abbrev cX2_signsOf : ByteArray := prog_17_method_7_code
def yX2_signsOf : MethodName := ⟨RX2, "signsOf", "(I)I"⟩
def dkwX2_signsOf_2 : List UInt8 := [7, 172, 6, 172, 4, 172, 5, 172]
abbrev dktX2_signsOf_2 : List UInt8 := dkwX2_signsOf_2 ++ []
def dkwX2_signsOf_1 : List UInt8 := [170, 0, 0, 0, 0, 0, 41, 0, 0, 0, 0, 0, 0, 0, 4, 0, 0, 0, 35, 0, 0, 0, 41, 0, 0, 0, 41, 0, 0, 0, 37, 0, 0, 0, 39]
abbrev dktX2_signsOf_1 : List UInt8 := dkwX2_signsOf_1 ++ dktX2_signsOf_2
def dkwX2_signsOf_0 : List UInt8 := [26]
abbrev dktX2_signsOf_0 : List UInt8 := dkwX2_signsOf_0 ++ dktX2_signsOf_1
theorem dksX2_signsOf_0 : cX2_signsOf.data.toList.drop 0 = dktX2_signsOf_0 := by decide +kernel
theorem dksX2_signsOf_1 : cX2_signsOf.data.toList.drop 1 = dktX2_signsOf_1 := dk_seg dksX2_signsOf_0 1 rfl rfl
theorem dksX2_signsOf_2 : cX2_signsOf.data.toList.drop 36 = dktX2_signsOf_2 := dk_seg dksX2_signsOf_1 35 rfl rfl
theorem dX2_signsOf_0 : decode cX2_signsOf 0 = .ok (.iload_n 0, 1) := dk_26 (dk_at dksX2_signsOf_0 0 rfl rfl)
theorem dX2_signsOf_1 : decode cX2_signsOf 1 = .ok (.tableswitch 41 0 4 #[35, 41, 41, 37, 39], 35) := by decide +kernel
theorem dX2_signsOf_36 : decode cX2_signsOf 36 = .ok (.iconst 4, 1) := dk_7 (dk_at dksX2_signsOf_2 0 rfl rfl)
theorem dX2_signsOf_37 : decode cX2_signsOf 37 = .ok (.ireturn, 1) := dk_172 (dk_at dksX2_signsOf_2 1 rfl rfl)
theorem dX2_signsOf_38 : decode cX2_signsOf 38 = .ok (.iconst 3, 1) := dk_6 (dk_at dksX2_signsOf_2 2 rfl rfl)
theorem dX2_signsOf_39 : decode cX2_signsOf 39 = .ok (.ireturn, 1) := dk_172 (dk_at dksX2_signsOf_2 3 rfl rfl)
theorem dX2_signsOf_40 : decode cX2_signsOf 40 = .ok (.iconst 1, 1) := dk_4 (dk_at dksX2_signsOf_2 4 rfl rfl)
theorem dX2_signsOf_41 : decode cX2_signsOf 41 = .ok (.ireturn, 1) := dk_172 (dk_at dksX2_signsOf_2 5 rfl rfl)
theorem dX2_signsOf_42 : decode cX2_signsOf 42 = .ok (.iconst 2, 1) := dk_5 (dk_at dksX2_signsOf_2 6 rfl rfl)
theorem dX2_signsOf_43 : decode cX2_signsOf 43 = .ok (.ireturn, 1) := dk_172 (dk_at dksX2_signsOf_2 7 rfl rfl)
abbrev cX2_fitsSign : ByteArray := prog_17_method_9_code
def yX2_fitsSign : MethodName := ⟨RX2, "fitsSign", "(I)Z"⟩
def dkwX2_fitsSign_3 : List UInt8 := [16, 57, 184, 0, 68, 172, 27, 16, 48, 16, 48, 42, 180, 0, 77, 96, 5, 100, 184, 0, 68, 172]
abbrev dktX2_fitsSign_3 : List UInt8 := dkwX2_fitsSign_3 ++ []
def dkwX2_fitsSign_2 : List UInt8 := [16, 49, 16, 53, 184, 0, 68, 172, 28, 6, 160, 0, 20, 42, 180, 0, 84, 5, 160, 0, 12, 27, 16, 48]
abbrev dktX2_fitsSign_2 : List UInt8 := dkwX2_fitsSign_2 ++ dktX2_fitsSign_3
def dkwX2_fitsSign_1 : List UInt8 := [159, 0, 7, 4, 167, 0, 4, 3, 172, 28, 6, 160, 0, 20, 42, 180, 0, 84, 4, 160, 0, 12, 27]
abbrev dktX2_fitsSign_1 : List UInt8 := dkwX2_fitsSign_1 ++ dktX2_fitsSign_2
def dkwX2_fitsSign_0 : List UInt8 := [42, 180, 0, 23, 42, 180, 0, 77, 4, 100, 46, 61, 28, 154, 0, 18, 27, 184, 0, 80, 18, 54]
abbrev dktX2_fitsSign_0 : List UInt8 := dkwX2_fitsSign_0 ++ dktX2_fitsSign_1
theorem dksX2_fitsSign_0 : cX2_fitsSign.data.toList.drop 0 = dktX2_fitsSign_0 := by decide +kernel
theorem dksX2_fitsSign_1 : cX2_fitsSign.data.toList.drop 22 = dktX2_fitsSign_1 := dk_seg dksX2_fitsSign_0 22 rfl rfl
theorem dksX2_fitsSign_2 : cX2_fitsSign.data.toList.drop 45 = dktX2_fitsSign_2 := dk_seg dksX2_fitsSign_1 23 rfl rfl
theorem dksX2_fitsSign_3 : cX2_fitsSign.data.toList.drop 69 = dktX2_fitsSign_3 := dk_seg dksX2_fitsSign_2 24 rfl rfl
theorem dX2_fitsSign_0 : decode cX2_fitsSign 0 = .ok (.aload_n 0, 1) := dk_42 (dk_at dksX2_fitsSign_0 0 rfl rfl)
theorem dX2_fitsSign_1 : decode cX2_fitsSign 1 = .ok (.getfield 23, 3) := dk_180 0 23 (dk_at dksX2_fitsSign_0 1 rfl rfl)
theorem dX2_fitsSign_4 : decode cX2_fitsSign 4 = .ok (.aload_n 0, 1) := dk_42 (dk_at dksX2_fitsSign_0 4 rfl rfl)
theorem dX2_fitsSign_5 : decode cX2_fitsSign 5 = .ok (.getfield 77, 3) := dk_180 0 77 (dk_at dksX2_fitsSign_0 5 rfl rfl)
theorem dX2_fitsSign_8 : decode cX2_fitsSign 8 = .ok (.iconst 1, 1) := dk_4 (dk_at dksX2_fitsSign_0 8 rfl rfl)
theorem dX2_fitsSign_9 : decode cX2_fitsSign 9 = .ok (.isub, 1) := dk_100 (dk_at dksX2_fitsSign_0 9 rfl rfl)
theorem dX2_fitsSign_10 : decode cX2_fitsSign 10 = .ok (.iaload, 1) := dk_46 (dk_at dksX2_fitsSign_0 10 rfl rfl)
theorem dX2_fitsSign_11 : decode cX2_fitsSign 11 = .ok (.istore_n 2, 1) := dk_61 (dk_at dksX2_fitsSign_0 11 rfl rfl)
theorem dX2_fitsSign_12 : decode cX2_fitsSign 12 = .ok (.iload_n 2, 1) := dk_28 (dk_at dksX2_fitsSign_0 12 rfl rfl)
theorem dX2_fitsSign_13 : decode cX2_fitsSign 13 = .ok (.ifCond .ne 18, 3) := dk_154 0 18 (dk_at dksX2_fitsSign_0 13 rfl rfl)
theorem dX2_fitsSign_16 : decode cX2_fitsSign 16 = .ok (.iload_n 1, 1) := dk_27 (dk_at dksX2_fitsSign_0 16 rfl rfl)
theorem dX2_fitsSign_17 : decode cX2_fitsSign 17 = .ok (.invokestatic 80, 3) := dk_184 0 80 (dk_at dksX2_fitsSign_0 17 rfl rfl)
theorem dX2_fitsSign_20 : decode cX2_fitsSign 20 = .ok (.ldc 54, 2) := dk_18 54 (dk_at dksX2_fitsSign_0 20 rfl rfl)
theorem dX2_fitsSign_22 : decode cX2_fitsSign 22 = .ok (.if_icmp .eq 7, 3) := dk_159 0 7 (dk_at dksX2_fitsSign_1 0 rfl rfl)
theorem dX2_fitsSign_25 : decode cX2_fitsSign 25 = .ok (.iconst 1, 1) := dk_4 (dk_at dksX2_fitsSign_1 3 rfl rfl)
theorem dX2_fitsSign_26 : decode cX2_fitsSign 26 = .ok (.goto 4, 3) := dk_167 0 4 (dk_at dksX2_fitsSign_1 4 rfl rfl)
theorem dX2_fitsSign_29 : decode cX2_fitsSign 29 = .ok (.iconst 0, 1) := dk_3 (dk_at dksX2_fitsSign_1 7 rfl rfl)
theorem dX2_fitsSign_30 : decode cX2_fitsSign 30 = .ok (.ireturn, 1) := dk_172 (dk_at dksX2_fitsSign_1 8 rfl rfl)
theorem dX2_fitsSign_31 : decode cX2_fitsSign 31 = .ok (.iload_n 2, 1) := dk_28 (dk_at dksX2_fitsSign_1 9 rfl rfl)
theorem dX2_fitsSign_32 : decode cX2_fitsSign 32 = .ok (.iconst 3, 1) := dk_6 (dk_at dksX2_fitsSign_1 10 rfl rfl)
theorem dX2_fitsSign_33 : decode cX2_fitsSign 33 = .ok (.if_icmp .ne 20, 3) := dk_160 0 20 (dk_at dksX2_fitsSign_1 11 rfl rfl)
theorem dX2_fitsSign_36 : decode cX2_fitsSign 36 = .ok (.aload_n 0, 1) := dk_42 (dk_at dksX2_fitsSign_1 14 rfl rfl)
theorem dX2_fitsSign_37 : decode cX2_fitsSign 37 = .ok (.getfield 84, 3) := dk_180 0 84 (dk_at dksX2_fitsSign_1 15 rfl rfl)
theorem dX2_fitsSign_40 : decode cX2_fitsSign 40 = .ok (.iconst 1, 1) := dk_4 (dk_at dksX2_fitsSign_1 18 rfl rfl)
theorem dX2_fitsSign_41 : decode cX2_fitsSign 41 = .ok (.if_icmp .ne 12, 3) := dk_160 0 12 (dk_at dksX2_fitsSign_1 19 rfl rfl)
theorem dX2_fitsSign_44 : decode cX2_fitsSign 44 = .ok (.iload_n 1, 1) := dk_27 (dk_at dksX2_fitsSign_1 22 rfl rfl)
theorem dX2_fitsSign_45 : decode cX2_fitsSign 45 = .ok (.bipush 49, 2) := dk_16 49 (dk_at dksX2_fitsSign_2 0 rfl rfl)
theorem dX2_fitsSign_47 : decode cX2_fitsSign 47 = .ok (.bipush 53, 2) := dk_16 53 (dk_at dksX2_fitsSign_2 2 rfl rfl)
theorem dX2_fitsSign_49 : decode cX2_fitsSign 49 = .ok (.invokestatic 68, 3) := dk_184 0 68 (dk_at dksX2_fitsSign_2 4 rfl rfl)
theorem dX2_fitsSign_52 : decode cX2_fitsSign 52 = .ok (.ireturn, 1) := dk_172 (dk_at dksX2_fitsSign_2 7 rfl rfl)
theorem dX2_fitsSign_53 : decode cX2_fitsSign 53 = .ok (.iload_n 2, 1) := dk_28 (dk_at dksX2_fitsSign_2 8 rfl rfl)
theorem dX2_fitsSign_54 : decode cX2_fitsSign 54 = .ok (.iconst 3, 1) := dk_6 (dk_at dksX2_fitsSign_2 9 rfl rfl)
theorem dX2_fitsSign_55 : decode cX2_fitsSign 55 = .ok (.if_icmp .ne 20, 3) := dk_160 0 20 (dk_at dksX2_fitsSign_2 10 rfl rfl)
theorem dX2_fitsSign_58 : decode cX2_fitsSign 58 = .ok (.aload_n 0, 1) := dk_42 (dk_at dksX2_fitsSign_2 13 rfl rfl)
theorem dX2_fitsSign_59 : decode cX2_fitsSign 59 = .ok (.getfield 84, 3) := dk_180 0 84 (dk_at dksX2_fitsSign_2 14 rfl rfl)
theorem dX2_fitsSign_62 : decode cX2_fitsSign 62 = .ok (.iconst 2, 1) := dk_5 (dk_at dksX2_fitsSign_2 17 rfl rfl)
theorem dX2_fitsSign_63 : decode cX2_fitsSign 63 = .ok (.if_icmp .ne 12, 3) := dk_160 0 12 (dk_at dksX2_fitsSign_2 18 rfl rfl)
theorem dX2_fitsSign_66 : decode cX2_fitsSign 66 = .ok (.iload_n 1, 1) := dk_27 (dk_at dksX2_fitsSign_2 21 rfl rfl)
theorem dX2_fitsSign_67 : decode cX2_fitsSign 67 = .ok (.bipush 48, 2) := dk_16 48 (dk_at dksX2_fitsSign_2 22 rfl rfl)
theorem dX2_fitsSign_69 : decode cX2_fitsSign 69 = .ok (.bipush 57, 2) := dk_16 57 (dk_at dksX2_fitsSign_3 0 rfl rfl)
theorem dX2_fitsSign_71 : decode cX2_fitsSign 71 = .ok (.invokestatic 68, 3) := dk_184 0 68 (dk_at dksX2_fitsSign_3 2 rfl rfl)
theorem dX2_fitsSign_74 : decode cX2_fitsSign 74 = .ok (.ireturn, 1) := dk_172 (dk_at dksX2_fitsSign_3 5 rfl rfl)
theorem dX2_fitsSign_75 : decode cX2_fitsSign 75 = .ok (.iload_n 1, 1) := dk_27 (dk_at dksX2_fitsSign_3 6 rfl rfl)
theorem dX2_fitsSign_76 : decode cX2_fitsSign 76 = .ok (.bipush 48, 2) := dk_16 48 (dk_at dksX2_fitsSign_3 7 rfl rfl)
theorem dX2_fitsSign_78 : decode cX2_fitsSign 78 = .ok (.bipush 48, 2) := dk_16 48 (dk_at dksX2_fitsSign_3 9 rfl rfl)
theorem dX2_fitsSign_80 : decode cX2_fitsSign 80 = .ok (.aload_n 0, 1) := dk_42 (dk_at dksX2_fitsSign_3 11 rfl rfl)
theorem dX2_fitsSign_81 : decode cX2_fitsSign 81 = .ok (.getfield 77, 3) := dk_180 0 77 (dk_at dksX2_fitsSign_3 12 rfl rfl)
theorem dX2_fitsSign_84 : decode cX2_fitsSign 84 = .ok (.iadd, 1) := dk_96 (dk_at dksX2_fitsSign_3 15 rfl rfl)
theorem dX2_fitsSign_85 : decode cX2_fitsSign 85 = .ok (.iconst 2, 1) := dk_5 (dk_at dksX2_fitsSign_3 16 rfl rfl)
theorem dX2_fitsSign_86 : decode cX2_fitsSign 86 = .ok (.isub, 1) := dk_100 (dk_at dksX2_fitsSign_3 17 rfl rfl)
theorem dX2_fitsSign_87 : decode cX2_fitsSign 87 = .ok (.invokestatic 68, 3) := dk_184 0 68 (dk_at dksX2_fitsSign_3 18 rfl rfl)
theorem dX2_fitsSign_90 : decode cX2_fitsSign 90 = .ok (.ireturn, 1) := dk_172 (dk_at dksX2_fitsSign_3 21 rfl rfl)
abbrev cX2_valueOf : ByteArray := prog_17_method_8_code
def yX2_valueOf : MethodName := ⟨RX2, "valueOf", "(I)I"⟩
def dkwX2_valueOf_1 : List UInt8 := [184, 0, 68, 153, 0, 10, 16, 96, 26, 100, 167, 0, 5, 18, 54, 172]
abbrev dktX2_valueOf_1 : List UInt8 := dkwX2_valueOf_1 ++ []
def dkwX2_valueOf_0 : List UInt8 := [26, 16, 48, 16, 57, 184, 0, 68, 153, 0, 10, 26, 16, 48, 100, 167, 0, 23, 26, 16, 97, 16, 105]
abbrev dktX2_valueOf_0 : List UInt8 := dkwX2_valueOf_0 ++ dktX2_valueOf_1
theorem dksX2_valueOf_0 : cX2_valueOf.data.toList.drop 0 = dktX2_valueOf_0 := by decide +kernel
theorem dksX2_valueOf_1 : cX2_valueOf.data.toList.drop 23 = dktX2_valueOf_1 := dk_seg dksX2_valueOf_0 23 rfl rfl
theorem dX2_valueOf_0 : decode cX2_valueOf 0 = .ok (.iload_n 0, 1) := dk_26 (dk_at dksX2_valueOf_0 0 rfl rfl)
theorem dX2_valueOf_1 : decode cX2_valueOf 1 = .ok (.bipush 48, 2) := dk_16 48 (dk_at dksX2_valueOf_0 1 rfl rfl)
theorem dX2_valueOf_3 : decode cX2_valueOf 3 = .ok (.bipush 57, 2) := dk_16 57 (dk_at dksX2_valueOf_0 3 rfl rfl)
theorem dX2_valueOf_5 : decode cX2_valueOf 5 = .ok (.invokestatic 68, 3) := dk_184 0 68 (dk_at dksX2_valueOf_0 5 rfl rfl)
theorem dX2_valueOf_8 : decode cX2_valueOf 8 = .ok (.ifCond .eq 10, 3) := dk_153 0 10 (dk_at dksX2_valueOf_0 8 rfl rfl)
theorem dX2_valueOf_11 : decode cX2_valueOf 11 = .ok (.iload_n 0, 1) := dk_26 (dk_at dksX2_valueOf_0 11 rfl rfl)
theorem dX2_valueOf_12 : decode cX2_valueOf 12 = .ok (.bipush 48, 2) := dk_16 48 (dk_at dksX2_valueOf_0 12 rfl rfl)
theorem dX2_valueOf_14 : decode cX2_valueOf 14 = .ok (.isub, 1) := dk_100 (dk_at dksX2_valueOf_0 14 rfl rfl)
theorem dX2_valueOf_15 : decode cX2_valueOf 15 = .ok (.goto 23, 3) := dk_167 0 23 (dk_at dksX2_valueOf_0 15 rfl rfl)
theorem dX2_valueOf_18 : decode cX2_valueOf 18 = .ok (.iload_n 0, 1) := dk_26 (dk_at dksX2_valueOf_0 18 rfl rfl)
theorem dX2_valueOf_19 : decode cX2_valueOf 19 = .ok (.bipush 97, 2) := dk_16 97 (dk_at dksX2_valueOf_0 19 rfl rfl)
theorem dX2_valueOf_21 : decode cX2_valueOf 21 = .ok (.bipush 105, 2) := dk_16 105 (dk_at dksX2_valueOf_0 21 rfl rfl)
theorem dX2_valueOf_23 : decode cX2_valueOf 23 = .ok (.invokestatic 68, 3) := dk_184 0 68 (dk_at dksX2_valueOf_1 0 rfl rfl)
theorem dX2_valueOf_26 : decode cX2_valueOf 26 = .ok (.ifCond .eq 10, 3) := dk_153 0 10 (dk_at dksX2_valueOf_1 3 rfl rfl)
theorem dX2_valueOf_29 : decode cX2_valueOf 29 = .ok (.bipush 96, 2) := dk_16 96 (dk_at dksX2_valueOf_1 6 rfl rfl)
theorem dX2_valueOf_31 : decode cX2_valueOf 31 = .ok (.iload_n 0, 1) := dk_26 (dk_at dksX2_valueOf_1 8 rfl rfl)
theorem dX2_valueOf_32 : decode cX2_valueOf 32 = .ok (.isub, 1) := dk_100 (dk_at dksX2_valueOf_1 9 rfl rfl)
theorem dX2_valueOf_33 : decode cX2_valueOf 33 = .ok (.goto 5, 3) := dk_167 0 5 (dk_at dksX2_valueOf_1 10 rfl rfl)
theorem dX2_valueOf_36 : decode cX2_valueOf 36 = .ok (.ldc 54, 2) := dk_18 54 (dk_at dksX2_valueOf_1 13 rfl rfl)
theorem dX2_valueOf_38 : decode cX2_valueOf 38 = .ok (.ireturn, 1) := dk_172 (dk_at dksX2_valueOf_1 15 rfl rfl)
abbrev cX2_rows : ByteArray := prog_17_method_15_code
def yX2_rows : MethodName := ⟨RX2, "rows", "()I"⟩
def dkwX2_rows_5 : List UInt8 := [180, 0, 116, 172]
abbrev dktX2_rows_5 : List UInt8 := dkwX2_rows_5 ++ []
def dkwX2_rows_4 : List UInt8 := [167, 255, 231, 42, 89, 180, 0, 119, 4, 96, 181, 0, 119, 42, 3, 181, 0, 73, 42, 182, 0, 122, 42]
abbrev dktX2_rows_4 : List UInt8 := dkwX2_rows_4 ++ dktX2_rows_5
def dkwX2_rows_3 : List UInt8 := [180, 0, 77, 104, 162, 0, 21, 42, 180, 0, 13, 27, 42, 180, 0, 26, 27, 46, 79, 132, 1, 1]
abbrev dktX2_rows_3 : List UInt8 := dkwX2_rows_3 ++ dktX2_rows_4
def dkwX2_rows_2 : List UInt8 := [42, 180, 0, 7, 27, 42, 180, 0, 23, 27, 46, 79, 132, 1, 1, 167, 255, 233, 3, 60, 27, 7, 42]
abbrev dktX2_rows_2 : List UInt8 := dkwX2_rows_2 ++ dktX2_rows_3
def dkwX2_rows_1 : List UInt8 := [154, 0, 6, 18, 115, 172, 42, 42, 180, 0, 77, 181, 0, 116, 3, 60, 27, 42, 180, 0, 77, 162, 0, 21]
abbrev dktX2_rows_1 : List UInt8 := dkwX2_rows_1 ++ dktX2_rows_2
def dkwX2_rows_0 : List UInt8 := [42, 182, 0, 111, 42, 180, 0, 73, 161, 0, 17, 42, 180, 0, 90, 154, 0, 10, 42, 182, 0, 98]
abbrev dktX2_rows_0 : List UInt8 := dkwX2_rows_0 ++ dktX2_rows_1
theorem dksX2_rows_0 : cX2_rows.data.toList.drop 0 = dktX2_rows_0 := by decide +kernel
theorem dksX2_rows_1 : cX2_rows.data.toList.drop 22 = dktX2_rows_1 := dk_seg dksX2_rows_0 22 rfl rfl
theorem dksX2_rows_2 : cX2_rows.data.toList.drop 46 = dktX2_rows_2 := dk_seg dksX2_rows_1 24 rfl rfl
theorem dksX2_rows_3 : cX2_rows.data.toList.drop 69 = dktX2_rows_3 := dk_seg dksX2_rows_2 23 rfl rfl
theorem dksX2_rows_4 : cX2_rows.data.toList.drop 91 = dktX2_rows_4 := dk_seg dksX2_rows_3 22 rfl rfl
theorem dksX2_rows_5 : cX2_rows.data.toList.drop 114 = dktX2_rows_5 := dk_seg dksX2_rows_4 23 rfl rfl
theorem dX2_rows_0 : decode cX2_rows 0 = .ok (.aload_n 0, 1) := dk_42 (dk_at dksX2_rows_0 0 rfl rfl)
theorem dX2_rows_1 : decode cX2_rows 1 = .ok (.invokevirtual 111, 3) := dk_182 0 111 (dk_at dksX2_rows_0 1 rfl rfl)
theorem dX2_rows_4 : decode cX2_rows 4 = .ok (.aload_n 0, 1) := dk_42 (dk_at dksX2_rows_0 4 rfl rfl)
theorem dX2_rows_5 : decode cX2_rows 5 = .ok (.getfield 73, 3) := dk_180 0 73 (dk_at dksX2_rows_0 5 rfl rfl)
theorem dX2_rows_8 : decode cX2_rows 8 = .ok (.if_icmp .lt 17, 3) := dk_161 0 17 (dk_at dksX2_rows_0 8 rfl rfl)
theorem dX2_rows_11 : decode cX2_rows 11 = .ok (.aload_n 0, 1) := dk_42 (dk_at dksX2_rows_0 11 rfl rfl)
theorem dX2_rows_12 : decode cX2_rows 12 = .ok (.getfield 90, 3) := dk_180 0 90 (dk_at dksX2_rows_0 12 rfl rfl)
theorem dX2_rows_15 : decode cX2_rows 15 = .ok (.ifCond .ne 10, 3) := dk_154 0 10 (dk_at dksX2_rows_0 15 rfl rfl)
theorem dX2_rows_18 : decode cX2_rows 18 = .ok (.aload_n 0, 1) := dk_42 (dk_at dksX2_rows_0 18 rfl rfl)
theorem dX2_rows_19 : decode cX2_rows 19 = .ok (.invokevirtual 98, 3) := dk_182 0 98 (dk_at dksX2_rows_0 19 rfl rfl)
theorem dX2_rows_22 : decode cX2_rows 22 = .ok (.ifCond .ne 6, 3) := dk_154 0 6 (dk_at dksX2_rows_1 0 rfl rfl)
theorem dX2_rows_25 : decode cX2_rows 25 = .ok (.ldc 115, 2) := dk_18 115 (dk_at dksX2_rows_1 3 rfl rfl)
theorem dX2_rows_27 : decode cX2_rows 27 = .ok (.ireturn, 1) := dk_172 (dk_at dksX2_rows_1 5 rfl rfl)
theorem dX2_rows_28 : decode cX2_rows 28 = .ok (.aload_n 0, 1) := dk_42 (dk_at dksX2_rows_1 6 rfl rfl)
theorem dX2_rows_29 : decode cX2_rows 29 = .ok (.aload_n 0, 1) := dk_42 (dk_at dksX2_rows_1 7 rfl rfl)
theorem dX2_rows_30 : decode cX2_rows 30 = .ok (.getfield 77, 3) := dk_180 0 77 (dk_at dksX2_rows_1 8 rfl rfl)
theorem dX2_rows_33 : decode cX2_rows 33 = .ok (.putfield 116, 3) := dk_181 0 116 (dk_at dksX2_rows_1 11 rfl rfl)
theorem dX2_rows_36 : decode cX2_rows 36 = .ok (.iconst 0, 1) := dk_3 (dk_at dksX2_rows_1 14 rfl rfl)
theorem dX2_rows_37 : decode cX2_rows 37 = .ok (.istore_n 1, 1) := dk_60 (dk_at dksX2_rows_1 15 rfl rfl)
theorem dX2_rows_38 : decode cX2_rows 38 = .ok (.iload_n 1, 1) := dk_27 (dk_at dksX2_rows_1 16 rfl rfl)
theorem dX2_rows_39 : decode cX2_rows 39 = .ok (.aload_n 0, 1) := dk_42 (dk_at dksX2_rows_1 17 rfl rfl)
theorem dX2_rows_40 : decode cX2_rows 40 = .ok (.getfield 77, 3) := dk_180 0 77 (dk_at dksX2_rows_1 18 rfl rfl)
theorem dX2_rows_43 : decode cX2_rows 43 = .ok (.if_icmp .ge 21, 3) := dk_162 0 21 (dk_at dksX2_rows_1 21 rfl rfl)
theorem dX2_rows_46 : decode cX2_rows 46 = .ok (.aload_n 0, 1) := dk_42 (dk_at dksX2_rows_2 0 rfl rfl)
theorem dX2_rows_47 : decode cX2_rows 47 = .ok (.getfield 7, 3) := dk_180 0 7 (dk_at dksX2_rows_2 1 rfl rfl)
theorem dX2_rows_50 : decode cX2_rows 50 = .ok (.iload_n 1, 1) := dk_27 (dk_at dksX2_rows_2 4 rfl rfl)
theorem dX2_rows_51 : decode cX2_rows 51 = .ok (.aload_n 0, 1) := dk_42 (dk_at dksX2_rows_2 5 rfl rfl)
theorem dX2_rows_52 : decode cX2_rows 52 = .ok (.getfield 23, 3) := dk_180 0 23 (dk_at dksX2_rows_2 6 rfl rfl)
theorem dX2_rows_55 : decode cX2_rows 55 = .ok (.iload_n 1, 1) := dk_27 (dk_at dksX2_rows_2 9 rfl rfl)
theorem dX2_rows_56 : decode cX2_rows 56 = .ok (.iaload, 1) := dk_46 (dk_at dksX2_rows_2 10 rfl rfl)
theorem dX2_rows_57 : decode cX2_rows 57 = .ok (.iastore, 1) := dk_79 (dk_at dksX2_rows_2 11 rfl rfl)
theorem dX2_rows_58 : decode cX2_rows 58 = .ok (.iinc 1 1, 3) := dk_132 1 1 (dk_at dksX2_rows_2 12 rfl rfl)
theorem dX2_rows_61 : decode cX2_rows 61 = .ok (.goto (-23), 3) := dk_167 255 233 (dk_at dksX2_rows_2 15 rfl rfl)
theorem dX2_rows_64 : decode cX2_rows 64 = .ok (.iconst 0, 1) := dk_3 (dk_at dksX2_rows_2 18 rfl rfl)
theorem dX2_rows_65 : decode cX2_rows 65 = .ok (.istore_n 1, 1) := dk_60 (dk_at dksX2_rows_2 19 rfl rfl)
theorem dX2_rows_66 : decode cX2_rows 66 = .ok (.iload_n 1, 1) := dk_27 (dk_at dksX2_rows_2 20 rfl rfl)
theorem dX2_rows_67 : decode cX2_rows 67 = .ok (.iconst 4, 1) := dk_7 (dk_at dksX2_rows_2 21 rfl rfl)
theorem dX2_rows_68 : decode cX2_rows 68 = .ok (.aload_n 0, 1) := dk_42 (dk_at dksX2_rows_2 22 rfl rfl)
theorem dX2_rows_69 : decode cX2_rows 69 = .ok (.getfield 77, 3) := dk_180 0 77 (dk_at dksX2_rows_3 0 rfl rfl)
theorem dX2_rows_72 : decode cX2_rows 72 = .ok (.imul, 1) := dk_104 (dk_at dksX2_rows_3 3 rfl rfl)
theorem dX2_rows_73 : decode cX2_rows 73 = .ok (.if_icmp .ge 21, 3) := dk_162 0 21 (dk_at dksX2_rows_3 4 rfl rfl)
theorem dX2_rows_76 : decode cX2_rows 76 = .ok (.aload_n 0, 1) := dk_42 (dk_at dksX2_rows_3 7 rfl rfl)
theorem dX2_rows_77 : decode cX2_rows 77 = .ok (.getfield 13, 3) := dk_180 0 13 (dk_at dksX2_rows_3 8 rfl rfl)
theorem dX2_rows_80 : decode cX2_rows 80 = .ok (.iload_n 1, 1) := dk_27 (dk_at dksX2_rows_3 11 rfl rfl)
theorem dX2_rows_81 : decode cX2_rows 81 = .ok (.aload_n 0, 1) := dk_42 (dk_at dksX2_rows_3 12 rfl rfl)
theorem dX2_rows_82 : decode cX2_rows 82 = .ok (.getfield 26, 3) := dk_180 0 26 (dk_at dksX2_rows_3 13 rfl rfl)
theorem dX2_rows_85 : decode cX2_rows 85 = .ok (.iload_n 1, 1) := dk_27 (dk_at dksX2_rows_3 16 rfl rfl)
theorem dX2_rows_86 : decode cX2_rows 86 = .ok (.iaload, 1) := dk_46 (dk_at dksX2_rows_3 17 rfl rfl)
theorem dX2_rows_87 : decode cX2_rows 87 = .ok (.iastore, 1) := dk_79 (dk_at dksX2_rows_3 18 rfl rfl)
theorem dX2_rows_88 : decode cX2_rows 88 = .ok (.iinc 1 1, 3) := dk_132 1 1 (dk_at dksX2_rows_3 19 rfl rfl)
theorem dX2_rows_91 : decode cX2_rows 91 = .ok (.goto (-25), 3) := dk_167 255 231 (dk_at dksX2_rows_4 0 rfl rfl)
theorem dX2_rows_94 : decode cX2_rows 94 = .ok (.aload_n 0, 1) := dk_42 (dk_at dksX2_rows_4 3 rfl rfl)
theorem dX2_rows_95 : decode cX2_rows 95 = .ok (.dup, 1) := dk_89 (dk_at dksX2_rows_4 4 rfl rfl)
theorem dX2_rows_96 : decode cX2_rows 96 = .ok (.getfield 119, 3) := dk_180 0 119 (dk_at dksX2_rows_4 5 rfl rfl)
theorem dX2_rows_99 : decode cX2_rows 99 = .ok (.iconst 1, 1) := dk_4 (dk_at dksX2_rows_4 8 rfl rfl)
theorem dX2_rows_100 : decode cX2_rows 100 = .ok (.iadd, 1) := dk_96 (dk_at dksX2_rows_4 9 rfl rfl)
theorem dX2_rows_101 : decode cX2_rows 101 = .ok (.putfield 119, 3) := dk_181 0 119 (dk_at dksX2_rows_4 10 rfl rfl)
theorem dX2_rows_104 : decode cX2_rows 104 = .ok (.aload_n 0, 1) := dk_42 (dk_at dksX2_rows_4 13 rfl rfl)
theorem dX2_rows_105 : decode cX2_rows 105 = .ok (.iconst 0, 1) := dk_3 (dk_at dksX2_rows_4 14 rfl rfl)
theorem dX2_rows_106 : decode cX2_rows 106 = .ok (.putfield 73, 3) := dk_181 0 73 (dk_at dksX2_rows_4 15 rfl rfl)
theorem dX2_rows_109 : decode cX2_rows 109 = .ok (.aload_n 0, 1) := dk_42 (dk_at dksX2_rows_4 18 rfl rfl)
theorem dX2_rows_110 : decode cX2_rows 110 = .ok (.invokevirtual 122, 3) := dk_182 0 122 (dk_at dksX2_rows_4 19 rfl rfl)
theorem dX2_rows_113 : decode cX2_rows 113 = .ok (.aload_n 0, 1) := dk_42 (dk_at dksX2_rows_4 22 rfl rfl)
theorem dX2_rows_114 : decode cX2_rows 114 = .ok (.getfield 116, 3) := dk_180 0 116 (dk_at dksX2_rows_5 0 rfl rfl)
theorem dX2_rows_117 : decode cX2_rows 117 = .ok (.ireturn, 1) := dk_172 (dk_at dksX2_rows_5 3 rfl rfl)
abbrev cX2_changes : ByteArray := prog_17_method_16_code
def yX2_changes : MethodName := ⟨RX2, "changes", "()V"⟩
def dkwX2_changes_0 : List UInt8 := [42, 3, 181, 0, 125, 42, 3, 181, 0, 128, 177]
abbrev dktX2_changes_0 : List UInt8 := dkwX2_changes_0 ++ []
theorem dksX2_changes_0 : cX2_changes.data.toList.drop 0 = dktX2_changes_0 := by decide +kernel
theorem dX2_changes_0 : decode cX2_changes 0 = .ok (.aload_n 0, 1) := dk_42 (dk_at dksX2_changes_0 0 rfl rfl)
theorem dX2_changes_1 : decode cX2_changes 1 = .ok (.iconst 0, 1) := dk_3 (dk_at dksX2_changes_0 1 rfl rfl)
theorem dX2_changes_2 : decode cX2_changes 2 = .ok (.putfield 125, 3) := dk_181 0 125 (dk_at dksX2_changes_0 2 rfl rfl)
theorem dX2_changes_5 : decode cX2_changes 5 = .ok (.aload_n 0, 1) := dk_42 (dk_at dksX2_changes_0 5 rfl rfl)
theorem dX2_changes_6 : decode cX2_changes 6 = .ok (.iconst 0, 1) := dk_3 (dk_at dksX2_changes_0 6 rfl rfl)
theorem dX2_changes_7 : decode cX2_changes 7 = .ok (.putfield 128, 3) := dk_181 0 128 (dk_at dksX2_changes_0 7 rfl rfl)
theorem dX2_changes_10 : decode cX2_changes 10 = .ok (.return_, 1) := dk_177 (dk_at dksX2_changes_0 10 rfl rfl)
abbrev cX2_row : ByteArray := prog_17_method_38_code
def yX2_row : MethodName := ⟨RX2, "row", "(II)I"⟩
def dkwX2_row_2 : List UInt8 := [172]
abbrev dktX2_row_2 : List UInt8 := dkwX2_row_2 ++ []
def dkwX2_row_1 : List UInt8 := [154, 0, 12, 42, 180, 0, 7, 27, 46, 167, 0, 15, 42, 180, 0, 13, 7, 27, 104, 28, 96, 4, 100, 46]
abbrev dktX2_row_1 : List UInt8 := dkwX2_row_1 ++ dktX2_row_2
def dkwX2_row_0 : List UInt8 := [42, 27, 182, 0, 193, 154, 0, 6, 18, 196, 172, 28, 3, 7, 184, 0, 68, 154, 0, 6, 18, 72, 172, 28]
abbrev dktX2_row_0 : List UInt8 := dkwX2_row_0 ++ dktX2_row_1
theorem dksX2_row_0 : cX2_row.data.toList.drop 0 = dktX2_row_0 := by decide +kernel
theorem dksX2_row_1 : cX2_row.data.toList.drop 24 = dktX2_row_1 := dk_seg dksX2_row_0 24 rfl rfl
theorem dksX2_row_2 : cX2_row.data.toList.drop 48 = dktX2_row_2 := dk_seg dksX2_row_1 24 rfl rfl
theorem dX2_row_0 : decode cX2_row 0 = .ok (.aload_n 0, 1) := dk_42 (dk_at dksX2_row_0 0 rfl rfl)
theorem dX2_row_1 : decode cX2_row 1 = .ok (.iload_n 1, 1) := dk_27 (dk_at dksX2_row_0 1 rfl rfl)
theorem dX2_row_2 : decode cX2_row 2 = .ok (.invokevirtual 193, 3) := dk_182 0 193 (dk_at dksX2_row_0 2 rfl rfl)
theorem dX2_row_5 : decode cX2_row 5 = .ok (.ifCond .ne 6, 3) := dk_154 0 6 (dk_at dksX2_row_0 5 rfl rfl)
theorem dX2_row_8 : decode cX2_row 8 = .ok (.ldc 196, 2) := dk_18 196 (dk_at dksX2_row_0 8 rfl rfl)
theorem dX2_row_10 : decode cX2_row 10 = .ok (.ireturn, 1) := dk_172 (dk_at dksX2_row_0 10 rfl rfl)
theorem dX2_row_11 : decode cX2_row 11 = .ok (.iload_n 2, 1) := dk_28 (dk_at dksX2_row_0 11 rfl rfl)
theorem dX2_row_12 : decode cX2_row 12 = .ok (.iconst 0, 1) := dk_3 (dk_at dksX2_row_0 12 rfl rfl)
theorem dX2_row_13 : decode cX2_row 13 = .ok (.iconst 4, 1) := dk_7 (dk_at dksX2_row_0 13 rfl rfl)
theorem dX2_row_14 : decode cX2_row 14 = .ok (.invokestatic 68, 3) := dk_184 0 68 (dk_at dksX2_row_0 14 rfl rfl)
theorem dX2_row_17 : decode cX2_row 17 = .ok (.ifCond .ne 6, 3) := dk_154 0 6 (dk_at dksX2_row_0 17 rfl rfl)
theorem dX2_row_20 : decode cX2_row 20 = .ok (.ldc 72, 2) := dk_18 72 (dk_at dksX2_row_0 20 rfl rfl)
theorem dX2_row_22 : decode cX2_row 22 = .ok (.ireturn, 1) := dk_172 (dk_at dksX2_row_0 22 rfl rfl)
theorem dX2_row_23 : decode cX2_row 23 = .ok (.iload_n 2, 1) := dk_28 (dk_at dksX2_row_0 23 rfl rfl)
theorem dX2_row_24 : decode cX2_row 24 = .ok (.ifCond .ne 12, 3) := dk_154 0 12 (dk_at dksX2_row_1 0 rfl rfl)
theorem dX2_row_27 : decode cX2_row 27 = .ok (.aload_n 0, 1) := dk_42 (dk_at dksX2_row_1 3 rfl rfl)
theorem dX2_row_28 : decode cX2_row 28 = .ok (.getfield 7, 3) := dk_180 0 7 (dk_at dksX2_row_1 4 rfl rfl)
theorem dX2_row_31 : decode cX2_row 31 = .ok (.iload_n 1, 1) := dk_27 (dk_at dksX2_row_1 7 rfl rfl)
theorem dX2_row_32 : decode cX2_row 32 = .ok (.iaload, 1) := dk_46 (dk_at dksX2_row_1 8 rfl rfl)
theorem dX2_row_33 : decode cX2_row 33 = .ok (.goto 15, 3) := dk_167 0 15 (dk_at dksX2_row_1 9 rfl rfl)
theorem dX2_row_36 : decode cX2_row 36 = .ok (.aload_n 0, 1) := dk_42 (dk_at dksX2_row_1 12 rfl rfl)
theorem dX2_row_37 : decode cX2_row 37 = .ok (.getfield 13, 3) := dk_180 0 13 (dk_at dksX2_row_1 13 rfl rfl)
theorem dX2_row_40 : decode cX2_row 40 = .ok (.iconst 4, 1) := dk_7 (dk_at dksX2_row_1 16 rfl rfl)
theorem dX2_row_41 : decode cX2_row 41 = .ok (.iload_n 1, 1) := dk_27 (dk_at dksX2_row_1 17 rfl rfl)
theorem dX2_row_42 : decode cX2_row 42 = .ok (.imul, 1) := dk_104 (dk_at dksX2_row_1 18 rfl rfl)
theorem dX2_row_43 : decode cX2_row 43 = .ok (.iload_n 2, 1) := dk_28 (dk_at dksX2_row_1 19 rfl rfl)
theorem dX2_row_44 : decode cX2_row 44 = .ok (.iadd, 1) := dk_96 (dk_at dksX2_row_1 20 rfl rfl)
theorem dX2_row_45 : decode cX2_row 45 = .ok (.iconst 1, 1) := dk_4 (dk_at dksX2_row_1 21 rfl rfl)
theorem dX2_row_46 : decode cX2_row 46 = .ok (.isub, 1) := dk_100 (dk_at dksX2_row_1 22 rfl rfl)
theorem dX2_row_47 : decode cX2_row 47 = .ok (.iaload, 1) := dk_46 (dk_at dksX2_row_1 23 rfl rfl)
theorem dX2_row_48 : decode cX2_row 48 = .ok (.ireturn, 1) := dk_172 (dk_at dksX2_row_2 0 rfl rfl)
abbrev cX2_isRow : ByteArray := prog_17_method_37_code
def yX2_isRow : MethodName := ⟨RX2, "isRow", "(I)Z"⟩
def dkwX2_isRow_0 : List UInt8 := [27, 3, 42, 180, 0, 116, 4, 100, 184, 0, 68, 172]
abbrev dktX2_isRow_0 : List UInt8 := dkwX2_isRow_0 ++ []
theorem dksX2_isRow_0 : cX2_isRow.data.toList.drop 0 = dktX2_isRow_0 := by decide +kernel
theorem dX2_isRow_0 : decode cX2_isRow 0 = .ok (.iload_n 1, 1) := dk_27 (dk_at dksX2_isRow_0 0 rfl rfl)
theorem dX2_isRow_1 : decode cX2_isRow 1 = .ok (.iconst 0, 1) := dk_3 (dk_at dksX2_isRow_0 1 rfl rfl)
theorem dX2_isRow_2 : decode cX2_isRow 2 = .ok (.aload_n 0, 1) := dk_42 (dk_at dksX2_isRow_0 2 rfl rfl)
theorem dX2_isRow_3 : decode cX2_isRow 3 = .ok (.getfield 116, 3) := dk_180 0 116 (dk_at dksX2_isRow_0 3 rfl rfl)
theorem dX2_isRow_6 : decode cX2_isRow 6 = .ok (.iconst 1, 1) := dk_4 (dk_at dksX2_isRow_0 6 rfl rfl)
theorem dX2_isRow_7 : decode cX2_isRow 7 = .ok (.isub, 1) := dk_100 (dk_at dksX2_isRow_0 7 rfl rfl)
theorem dX2_isRow_8 : decode cX2_isRow 8 = .ok (.invokestatic 68, 3) := dk_184 0 68 (dk_at dksX2_isRow_0 8 rfl rfl)
theorem dX2_isRow_11 : decode cX2_isRow 11 = .ok (.ireturn, 1) := dk_172 (dk_at dksX2_isRow_0 11 rfl rfl)
abbrev cX2_as : ByteArray := prog_17_method_40_code
def yX2_as : MethodName := ⟨RX2, "as", "(II)I"⟩
def dkwX2_as_2 : List UInt8 := [167, 0, 5, 18, 54, 172]
abbrev dktX2_as_2 : List UInt8 := dkwX2_as_2 ++ []
def dkwX2_as_1 : List UInt8 := [167, 0, 27, 42, 180, 0, 7, 27, 46, 28, 184, 0, 197, 153, 0, 12, 42, 180, 0, 7, 27, 46]
abbrev dktX2_as_1 : List UInt8 := dkwX2_as_1 ++ dktX2_as_2
def dkwX2_as_0 : List UInt8 := [42, 27, 182, 0, 193, 154, 0, 6, 18, 196, 172, 28, 3, 16, 6, 184, 0, 68, 154, 0, 8, 18, 72]
abbrev dktX2_as_0 : List UInt8 := dkwX2_as_0 ++ dktX2_as_1
theorem dksX2_as_0 : cX2_as.data.toList.drop 0 = dktX2_as_0 := by decide +kernel
theorem dksX2_as_1 : cX2_as.data.toList.drop 23 = dktX2_as_1 := dk_seg dksX2_as_0 23 rfl rfl
theorem dksX2_as_2 : cX2_as.data.toList.drop 45 = dktX2_as_2 := dk_seg dksX2_as_1 22 rfl rfl
theorem dX2_as_0 : decode cX2_as 0 = .ok (.aload_n 0, 1) := dk_42 (dk_at dksX2_as_0 0 rfl rfl)
theorem dX2_as_1 : decode cX2_as 1 = .ok (.iload_n 1, 1) := dk_27 (dk_at dksX2_as_0 1 rfl rfl)
theorem dX2_as_2 : decode cX2_as 2 = .ok (.invokevirtual 193, 3) := dk_182 0 193 (dk_at dksX2_as_0 2 rfl rfl)
theorem dX2_as_5 : decode cX2_as 5 = .ok (.ifCond .ne 6, 3) := dk_154 0 6 (dk_at dksX2_as_0 5 rfl rfl)
theorem dX2_as_8 : decode cX2_as 8 = .ok (.ldc 196, 2) := dk_18 196 (dk_at dksX2_as_0 8 rfl rfl)
theorem dX2_as_10 : decode cX2_as 10 = .ok (.ireturn, 1) := dk_172 (dk_at dksX2_as_0 10 rfl rfl)
theorem dX2_as_11 : decode cX2_as 11 = .ok (.iload_n 2, 1) := dk_28 (dk_at dksX2_as_0 11 rfl rfl)
theorem dX2_as_12 : decode cX2_as 12 = .ok (.iconst 0, 1) := dk_3 (dk_at dksX2_as_0 12 rfl rfl)
theorem dX2_as_13 : decode cX2_as 13 = .ok (.bipush 6, 2) := dk_16 6 (dk_at dksX2_as_0 13 rfl rfl)
theorem dX2_as_15 : decode cX2_as 15 = .ok (.invokestatic 68, 3) := dk_184 0 68 (dk_at dksX2_as_0 15 rfl rfl)
theorem dX2_as_18 : decode cX2_as 18 = .ok (.ifCond .ne 8, 3) := dk_154 0 8 (dk_at dksX2_as_0 18 rfl rfl)
theorem dX2_as_21 : decode cX2_as 21 = .ok (.ldc 72, 2) := dk_18 72 (dk_at dksX2_as_0 21 rfl rfl)
theorem dX2_as_23 : decode cX2_as 23 = .ok (.goto 27, 3) := dk_167 0 27 (dk_at dksX2_as_1 0 rfl rfl)
theorem dX2_as_26 : decode cX2_as 26 = .ok (.aload_n 0, 1) := dk_42 (dk_at dksX2_as_1 3 rfl rfl)
theorem dX2_as_27 : decode cX2_as 27 = .ok (.getfield 7, 3) := dk_180 0 7 (dk_at dksX2_as_1 4 rfl rfl)
theorem dX2_as_30 : decode cX2_as 30 = .ok (.iload_n 1, 1) := dk_27 (dk_at dksX2_as_1 7 rfl rfl)
theorem dX2_as_31 : decode cX2_as 31 = .ok (.iaload, 1) := dk_46 (dk_at dksX2_as_1 8 rfl rfl)
theorem dX2_as_32 : decode cX2_as 32 = .ok (.iload_n 2, 1) := dk_28 (dk_at dksX2_as_1 9 rfl rfl)
theorem dX2_as_33 : decode cX2_as 33 = .ok (.invokestatic 197, 3) := dk_184 0 197 (dk_at dksX2_as_1 10 rfl rfl)
theorem dX2_as_36 : decode cX2_as 36 = .ok (.ifCond .eq 12, 3) := dk_153 0 12 (dk_at dksX2_as_1 13 rfl rfl)
theorem dX2_as_39 : decode cX2_as 39 = .ok (.aload_n 0, 1) := dk_42 (dk_at dksX2_as_1 16 rfl rfl)
theorem dX2_as_40 : decode cX2_as 40 = .ok (.getfield 7, 3) := dk_180 0 7 (dk_at dksX2_as_1 17 rfl rfl)
theorem dX2_as_43 : decode cX2_as 43 = .ok (.iload_n 1, 1) := dk_27 (dk_at dksX2_as_1 20 rfl rfl)
theorem dX2_as_44 : decode cX2_as 44 = .ok (.iaload, 1) := dk_46 (dk_at dksX2_as_1 21 rfl rfl)
theorem dX2_as_45 : decode cX2_as 45 = .ok (.goto 5, 3) := dk_167 0 5 (dk_at dksX2_as_2 0 rfl rfl)
theorem dX2_as_48 : decode cX2_as 48 = .ok (.ldc 54, 2) := dk_18 54 (dk_at dksX2_as_2 3 rfl rfl)
theorem dX2_as_50 : decode cX2_as 50 = .ok (.ireturn, 1) := dk_172 (dk_at dksX2_as_2 5 rfl rfl)
abbrev cX2_isSuch : ByteArray := prog_17_method_39_code
def yX2_isSuch : MethodName := ⟨RX2, "isSuch", "(II)Z"⟩
def dkwX2_isSuch_2 : List UInt8 := [27, 160, 0, 7, 4, 167, 0, 4, 3, 172]
abbrev dktX2_isSuch_2 : List UInt8 := dkwX2_isSuch_2 ++ []
def dkwX2_isSuch_1 : List UInt8 := [16, 6, 160, 0, 21, 26, 6, 159, 0, 8, 26, 7, 160, 0, 7, 4, 167, 0, 17, 3, 167, 0, 13, 26]
abbrev dktX2_isSuch_1 : List UInt8 := dkwX2_isSuch_1 ++ dktX2_isSuch_2
def dkwX2_isSuch_0 : List UInt8 := [27, 8, 160, 0, 21, 26, 4, 159, 0, 8, 26, 5, 160, 0, 7, 4, 167, 0, 41, 3, 167, 0, 37, 27]
abbrev dktX2_isSuch_0 : List UInt8 := dkwX2_isSuch_0 ++ dktX2_isSuch_1
theorem dksX2_isSuch_0 : cX2_isSuch.data.toList.drop 0 = dktX2_isSuch_0 := by decide +kernel
theorem dksX2_isSuch_1 : cX2_isSuch.data.toList.drop 24 = dktX2_isSuch_1 := dk_seg dksX2_isSuch_0 24 rfl rfl
theorem dksX2_isSuch_2 : cX2_isSuch.data.toList.drop 48 = dktX2_isSuch_2 := dk_seg dksX2_isSuch_1 24 rfl rfl
theorem dX2_isSuch_0 : decode cX2_isSuch 0 = .ok (.iload_n 1, 1) := dk_27 (dk_at dksX2_isSuch_0 0 rfl rfl)
theorem dX2_isSuch_1 : decode cX2_isSuch 1 = .ok (.iconst 5, 1) := dk_8 (dk_at dksX2_isSuch_0 1 rfl rfl)
theorem dX2_isSuch_2 : decode cX2_isSuch 2 = .ok (.if_icmp .ne 21, 3) := dk_160 0 21 (dk_at dksX2_isSuch_0 2 rfl rfl)
theorem dX2_isSuch_5 : decode cX2_isSuch 5 = .ok (.iload_n 0, 1) := dk_26 (dk_at dksX2_isSuch_0 5 rfl rfl)
theorem dX2_isSuch_6 : decode cX2_isSuch 6 = .ok (.iconst 1, 1) := dk_4 (dk_at dksX2_isSuch_0 6 rfl rfl)
theorem dX2_isSuch_7 : decode cX2_isSuch 7 = .ok (.if_icmp .eq 8, 3) := dk_159 0 8 (dk_at dksX2_isSuch_0 7 rfl rfl)
theorem dX2_isSuch_10 : decode cX2_isSuch 10 = .ok (.iload_n 0, 1) := dk_26 (dk_at dksX2_isSuch_0 10 rfl rfl)
theorem dX2_isSuch_11 : decode cX2_isSuch 11 = .ok (.iconst 2, 1) := dk_5 (dk_at dksX2_isSuch_0 11 rfl rfl)
theorem dX2_isSuch_12 : decode cX2_isSuch 12 = .ok (.if_icmp .ne 7, 3) := dk_160 0 7 (dk_at dksX2_isSuch_0 12 rfl rfl)
theorem dX2_isSuch_15 : decode cX2_isSuch 15 = .ok (.iconst 1, 1) := dk_4 (dk_at dksX2_isSuch_0 15 rfl rfl)
theorem dX2_isSuch_16 : decode cX2_isSuch 16 = .ok (.goto 41, 3) := dk_167 0 41 (dk_at dksX2_isSuch_0 16 rfl rfl)
theorem dX2_isSuch_19 : decode cX2_isSuch 19 = .ok (.iconst 0, 1) := dk_3 (dk_at dksX2_isSuch_0 19 rfl rfl)
theorem dX2_isSuch_20 : decode cX2_isSuch 20 = .ok (.goto 37, 3) := dk_167 0 37 (dk_at dksX2_isSuch_0 20 rfl rfl)
theorem dX2_isSuch_23 : decode cX2_isSuch 23 = .ok (.iload_n 1, 1) := dk_27 (dk_at dksX2_isSuch_0 23 rfl rfl)
theorem dX2_isSuch_24 : decode cX2_isSuch 24 = .ok (.bipush 6, 2) := dk_16 6 (dk_at dksX2_isSuch_1 0 rfl rfl)
theorem dX2_isSuch_26 : decode cX2_isSuch 26 = .ok (.if_icmp .ne 21, 3) := dk_160 0 21 (dk_at dksX2_isSuch_1 2 rfl rfl)
theorem dX2_isSuch_29 : decode cX2_isSuch 29 = .ok (.iload_n 0, 1) := dk_26 (dk_at dksX2_isSuch_1 5 rfl rfl)
theorem dX2_isSuch_30 : decode cX2_isSuch 30 = .ok (.iconst 3, 1) := dk_6 (dk_at dksX2_isSuch_1 6 rfl rfl)
theorem dX2_isSuch_31 : decode cX2_isSuch 31 = .ok (.if_icmp .eq 8, 3) := dk_159 0 8 (dk_at dksX2_isSuch_1 7 rfl rfl)
theorem dX2_isSuch_34 : decode cX2_isSuch 34 = .ok (.iload_n 0, 1) := dk_26 (dk_at dksX2_isSuch_1 10 rfl rfl)
theorem dX2_isSuch_35 : decode cX2_isSuch 35 = .ok (.iconst 4, 1) := dk_7 (dk_at dksX2_isSuch_1 11 rfl rfl)
theorem dX2_isSuch_36 : decode cX2_isSuch 36 = .ok (.if_icmp .ne 7, 3) := dk_160 0 7 (dk_at dksX2_isSuch_1 12 rfl rfl)
theorem dX2_isSuch_39 : decode cX2_isSuch 39 = .ok (.iconst 1, 1) := dk_4 (dk_at dksX2_isSuch_1 15 rfl rfl)
theorem dX2_isSuch_40 : decode cX2_isSuch 40 = .ok (.goto 17, 3) := dk_167 0 17 (dk_at dksX2_isSuch_1 16 rfl rfl)
theorem dX2_isSuch_43 : decode cX2_isSuch 43 = .ok (.iconst 0, 1) := dk_3 (dk_at dksX2_isSuch_1 19 rfl rfl)
theorem dX2_isSuch_44 : decode cX2_isSuch 44 = .ok (.goto 13, 3) := dk_167 0 13 (dk_at dksX2_isSuch_1 20 rfl rfl)
theorem dX2_isSuch_47 : decode cX2_isSuch 47 = .ok (.iload_n 0, 1) := dk_26 (dk_at dksX2_isSuch_1 23 rfl rfl)
theorem dX2_isSuch_48 : decode cX2_isSuch 48 = .ok (.iload_n 1, 1) := dk_27 (dk_at dksX2_isSuch_2 0 rfl rfl)
theorem dX2_isSuch_49 : decode cX2_isSuch 49 = .ok (.if_icmp .ne 7, 3) := dk_160 0 7 (dk_at dksX2_isSuch_2 1 rfl rfl)
theorem dX2_isSuch_52 : decode cX2_isSuch 52 = .ok (.iconst 1, 1) := dk_4 (dk_at dksX2_isSuch_2 4 rfl rfl)
theorem dX2_isSuch_53 : decode cX2_isSuch 53 = .ok (.goto 4, 3) := dk_167 0 4 (dk_at dksX2_isSuch_2 5 rfl rfl)
theorem dX2_isSuch_56 : decode cX2_isSuch 56 = .ok (.iconst 0, 1) := dk_3 (dk_at dksX2_isSuch_2 8 rfl rfl)
theorem dX2_isSuch_57 : decode cX2_isSuch 57 = .ok (.ireturn, 1) := dk_172 (dk_at dksX2_isSuch_2 9 rfl rfl)
abbrev cX2_term : ByteArray := prog_17_method_41_code
def yX2_term : MethodName := ⟨RX2, "term", "(II)I"⟩
def dkwX2_term_1 : List UInt8 := [28, 182, 0, 201, 167, 0, 5, 18, 72, 172]
abbrev dktX2_term_1 : List UInt8 := dkwX2_term_1 ++ []
def dkwX2_term_0 : List UInt8 := [42, 27, 182, 0, 193, 154, 0, 6, 18, 196, 172, 28, 3, 17, 0, 200, 184, 0, 68, 153, 0, 12, 42, 27]
abbrev dktX2_term_0 : List UInt8 := dkwX2_term_0 ++ dktX2_term_1
theorem dksX2_term_0 : cX2_term.data.toList.drop 0 = dktX2_term_0 := by decide +kernel
theorem dksX2_term_1 : cX2_term.data.toList.drop 24 = dktX2_term_1 := dk_seg dksX2_term_0 24 rfl rfl
theorem dX2_term_0 : decode cX2_term 0 = .ok (.aload_n 0, 1) := dk_42 (dk_at dksX2_term_0 0 rfl rfl)
theorem dX2_term_1 : decode cX2_term 1 = .ok (.iload_n 1, 1) := dk_27 (dk_at dksX2_term_0 1 rfl rfl)
theorem dX2_term_2 : decode cX2_term 2 = .ok (.invokevirtual 193, 3) := dk_182 0 193 (dk_at dksX2_term_0 2 rfl rfl)
theorem dX2_term_5 : decode cX2_term 5 = .ok (.ifCond .ne 6, 3) := dk_154 0 6 (dk_at dksX2_term_0 5 rfl rfl)
theorem dX2_term_8 : decode cX2_term 8 = .ok (.ldc 196, 2) := dk_18 196 (dk_at dksX2_term_0 8 rfl rfl)
theorem dX2_term_10 : decode cX2_term 10 = .ok (.ireturn, 1) := dk_172 (dk_at dksX2_term_0 10 rfl rfl)
theorem dX2_term_11 : decode cX2_term 11 = .ok (.iload_n 2, 1) := dk_28 (dk_at dksX2_term_0 11 rfl rfl)
theorem dX2_term_12 : decode cX2_term 12 = .ok (.iconst 0, 1) := dk_3 (dk_at dksX2_term_0 12 rfl rfl)
theorem dX2_term_13 : decode cX2_term 13 = .ok (.sipush 200, 3) := dk_17 0 200 (dk_at dksX2_term_0 13 rfl rfl)
theorem dX2_term_16 : decode cX2_term 16 = .ok (.invokestatic 68, 3) := dk_184 0 68 (dk_at dksX2_term_0 16 rfl rfl)
theorem dX2_term_19 : decode cX2_term 19 = .ok (.ifCond .eq 12, 3) := dk_153 0 12 (dk_at dksX2_term_0 19 rfl rfl)
theorem dX2_term_22 : decode cX2_term 22 = .ok (.aload_n 0, 1) := dk_42 (dk_at dksX2_term_0 22 rfl rfl)
theorem dX2_term_23 : decode cX2_term 23 = .ok (.iload_n 1, 1) := dk_27 (dk_at dksX2_term_0 23 rfl rfl)
theorem dX2_term_24 : decode cX2_term 24 = .ok (.iload_n 2, 1) := dk_28 (dk_at dksX2_term_1 0 rfl rfl)
theorem dX2_term_25 : decode cX2_term 25 = .ok (.invokevirtual 201, 3) := dk_182 0 201 (dk_at dksX2_term_1 1 rfl rfl)
theorem dX2_term_28 : decode cX2_term 28 = .ok (.goto 5, 3) := dk_167 0 5 (dk_at dksX2_term_1 4 rfl rfl)
theorem dX2_term_31 : decode cX2_term 31 = .ok (.ldc 72, 2) := dk_18 72 (dk_at dksX2_term_1 7 rfl rfl)
theorem dX2_term_33 : decode cX2_term 33 = .ok (.ireturn, 1) := dk_172 (dk_at dksX2_term_1 9 rfl rfl)
abbrev cX2_termOf : ByteArray := prog_17_method_24_code
def yX2_termOf : MethodName := ⟨RX2, "termOf", "(II)I"⟩
def dkwX2_termOf_0 : List UInt8 := [42, 182, 0, 156, 42, 27, 28, 182, 0, 136, 172]
abbrev dktX2_termOf_0 : List UInt8 := dkwX2_termOf_0 ++ []
theorem dksX2_termOf_0 : cX2_termOf.data.toList.drop 0 = dktX2_termOf_0 := by decide +kernel
theorem dX2_termOf_0 : decode cX2_termOf 0 = .ok (.aload_n 0, 1) := dk_42 (dk_at dksX2_termOf_0 0 rfl rfl)
theorem dX2_termOf_1 : decode cX2_termOf 1 = .ok (.invokevirtual 156, 3) := dk_182 0 156 (dk_at dksX2_termOf_0 1 rfl rfl)
theorem dX2_termOf_4 : decode cX2_termOf 4 = .ok (.aload_n 0, 1) := dk_42 (dk_at dksX2_termOf_0 4 rfl rfl)
theorem dX2_termOf_5 : decode cX2_termOf 5 = .ok (.iload_n 1, 1) := dk_27 (dk_at dksX2_termOf_0 5 rfl rfl)
theorem dX2_termOf_6 : decode cX2_termOf 6 = .ok (.iload_n 2, 1) := dk_28 (dk_at dksX2_termOf_0 6 rfl rfl)
theorem dX2_termOf_7 : decode cX2_termOf 7 = .ok (.invokevirtual 136, 3) := dk_182 0 136 (dk_at dksX2_termOf_0 7 rfl rfl)
theorem dX2_termOf_10 : decode cX2_termOf 10 = .ok (.ireturn, 1) := dk_172 (dk_at dksX2_termOf_0 10 rfl rfl)
abbrev cX2_layTerms : ByteArray := prog_17_method_23_code
def yX2_layTerms : MethodName := ⟨RX2, "layTerms", "()V"⟩
def dkwX2_layTerms_2 : List UInt8 := [167, 255, 214, 42, 4, 181, 0, 125, 177]
abbrev dktX2_layTerms_2 : List UInt8 := dkwX2_layTerms_2 ++ []
def dkwX2_layTerms_1 : List UInt8 := [180, 0, 29, 27, 42, 27, 17, 0, 201, 108, 27, 17, 0, 201, 112, 182, 0, 153, 79, 132, 1, 1]
abbrev dktX2_layTerms_1 : List UInt8 := dkwX2_layTerms_1 ++ dktX2_layTerms_2
def dkwX2_layTerms_0 : List UInt8 := [3, 60, 27, 42, 180, 0, 116, 17, 0, 201, 104, 162, 0, 36, 42, 180, 0, 125, 154, 0, 29, 42]
abbrev dktX2_layTerms_0 : List UInt8 := dkwX2_layTerms_0 ++ dktX2_layTerms_1
theorem dksX2_layTerms_0 : cX2_layTerms.data.toList.drop 0 = dktX2_layTerms_0 := by decide +kernel
theorem dksX2_layTerms_1 : cX2_layTerms.data.toList.drop 22 = dktX2_layTerms_1 := dk_seg dksX2_layTerms_0 22 rfl rfl
theorem dksX2_layTerms_2 : cX2_layTerms.data.toList.drop 44 = dktX2_layTerms_2 := dk_seg dksX2_layTerms_1 22 rfl rfl
theorem dX2_layTerms_0 : decode cX2_layTerms 0 = .ok (.iconst 0, 1) := dk_3 (dk_at dksX2_layTerms_0 0 rfl rfl)
theorem dX2_layTerms_1 : decode cX2_layTerms 1 = .ok (.istore_n 1, 1) := dk_60 (dk_at dksX2_layTerms_0 1 rfl rfl)
theorem dX2_layTerms_2 : decode cX2_layTerms 2 = .ok (.iload_n 1, 1) := dk_27 (dk_at dksX2_layTerms_0 2 rfl rfl)
theorem dX2_layTerms_3 : decode cX2_layTerms 3 = .ok (.aload_n 0, 1) := dk_42 (dk_at dksX2_layTerms_0 3 rfl rfl)
theorem dX2_layTerms_4 : decode cX2_layTerms 4 = .ok (.getfield 116, 3) := dk_180 0 116 (dk_at dksX2_layTerms_0 4 rfl rfl)
theorem dX2_layTerms_7 : decode cX2_layTerms 7 = .ok (.sipush 201, 3) := dk_17 0 201 (dk_at dksX2_layTerms_0 7 rfl rfl)
theorem dX2_layTerms_10 : decode cX2_layTerms 10 = .ok (.imul, 1) := dk_104 (dk_at dksX2_layTerms_0 10 rfl rfl)
theorem dX2_layTerms_11 : decode cX2_layTerms 11 = .ok (.if_icmp .ge 36, 3) := dk_162 0 36 (dk_at dksX2_layTerms_0 11 rfl rfl)
theorem dX2_layTerms_14 : decode cX2_layTerms 14 = .ok (.aload_n 0, 1) := dk_42 (dk_at dksX2_layTerms_0 14 rfl rfl)
theorem dX2_layTerms_15 : decode cX2_layTerms 15 = .ok (.getfield 125, 3) := dk_180 0 125 (dk_at dksX2_layTerms_0 15 rfl rfl)
theorem dX2_layTerms_18 : decode cX2_layTerms 18 = .ok (.ifCond .ne 29, 3) := dk_154 0 29 (dk_at dksX2_layTerms_0 18 rfl rfl)
theorem dX2_layTerms_21 : decode cX2_layTerms 21 = .ok (.aload_n 0, 1) := dk_42 (dk_at dksX2_layTerms_0 21 rfl rfl)
theorem dX2_layTerms_22 : decode cX2_layTerms 22 = .ok (.getfield 29, 3) := dk_180 0 29 (dk_at dksX2_layTerms_1 0 rfl rfl)
theorem dX2_layTerms_25 : decode cX2_layTerms 25 = .ok (.iload_n 1, 1) := dk_27 (dk_at dksX2_layTerms_1 3 rfl rfl)
theorem dX2_layTerms_26 : decode cX2_layTerms 26 = .ok (.aload_n 0, 1) := dk_42 (dk_at dksX2_layTerms_1 4 rfl rfl)
theorem dX2_layTerms_27 : decode cX2_layTerms 27 = .ok (.iload_n 1, 1) := dk_27 (dk_at dksX2_layTerms_1 5 rfl rfl)
theorem dX2_layTerms_28 : decode cX2_layTerms 28 = .ok (.sipush 201, 3) := dk_17 0 201 (dk_at dksX2_layTerms_1 6 rfl rfl)
theorem dX2_layTerms_31 : decode cX2_layTerms 31 = .ok (.idiv, 1) := dk_108 (dk_at dksX2_layTerms_1 9 rfl rfl)
theorem dX2_layTerms_32 : decode cX2_layTerms 32 = .ok (.iload_n 1, 1) := dk_27 (dk_at dksX2_layTerms_1 10 rfl rfl)
theorem dX2_layTerms_33 : decode cX2_layTerms 33 = .ok (.sipush 201, 3) := dk_17 0 201 (dk_at dksX2_layTerms_1 11 rfl rfl)
theorem dX2_layTerms_36 : decode cX2_layTerms 36 = .ok (.irem, 1) := dk_112 (dk_at dksX2_layTerms_1 14 rfl rfl)
theorem dX2_layTerms_37 : decode cX2_layTerms 37 = .ok (.invokevirtual 153, 3) := dk_182 0 153 (dk_at dksX2_layTerms_1 15 rfl rfl)
theorem dX2_layTerms_40 : decode cX2_layTerms 40 = .ok (.iastore, 1) := dk_79 (dk_at dksX2_layTerms_1 18 rfl rfl)
theorem dX2_layTerms_41 : decode cX2_layTerms 41 = .ok (.iinc 1 1, 3) := dk_132 1 1 (dk_at dksX2_layTerms_1 19 rfl rfl)
theorem dX2_layTerms_44 : decode cX2_layTerms 44 = .ok (.goto (-42), 3) := dk_167 255 214 (dk_at dksX2_layTerms_2 0 rfl rfl)
theorem dX2_layTerms_47 : decode cX2_layTerms 47 = .ok (.aload_n 0, 1) := dk_42 (dk_at dksX2_layTerms_2 3 rfl rfl)
theorem dX2_layTerms_48 : decode cX2_layTerms 48 = .ok (.iconst 1, 1) := dk_4 (dk_at dksX2_layTerms_2 4 rfl rfl)
theorem dX2_layTerms_49 : decode cX2_layTerms 49 = .ok (.putfield 125, 3) := dk_181 0 125 (dk_at dksX2_layTerms_2 5 rfl rfl)
theorem dX2_layTerms_52 : decode cX2_layTerms 52 = .ok (.return_, 1) := dk_177 (dk_at dksX2_layTerms_2 8 rfl rfl)
abbrev cX2_madeTerm : ByteArray := prog_17_method_22_code
def yX2_madeTerm : MethodName := ⟨RX2, "madeTerm", "(II)I"⟩
def dkwX2_madeTerm_4 : List UInt8 := [182, 0, 147, 172, 42, 27, 28, 182, 0, 150, 172]
abbrev dktX2_madeTerm_4 : List UInt8 := dkwX2_madeTerm_4 ++ []
def dkwX2_madeTerm_3 : List UInt8 := [96, 46, 28, 104, 42, 180, 0, 13, 7, 27, 104, 5, 96, 46, 96, 182, 0, 136, 172, 42, 27, 28]
abbrev dktX2_madeTerm_3 : List UInt8 := dkwX2_madeTerm_3 ++ dktX2_madeTerm_4
def dkwX2_madeTerm_2 : List UInt8 := [42, 27, 28, 182, 0, 144, 172, 42, 42, 180, 0, 13, 7, 27, 104, 46, 42, 180, 0, 13, 7, 27, 104, 4]
abbrev dktX2_madeTerm_2 : List UInt8 := dkwX2_madeTerm_2 ++ dktX2_madeTerm_3
def dkwX2_madeTerm_1 : List UInt8 := [170, 0, 0, 0, 0, 84, 0, 0, 0, 0, 0, 0, 0, 4, 0, 0, 0, 34, 0, 0, 0, 84, 0, 0, 0, 84, 0, 0, 0, 41, 0, 0, 0, 77]
abbrev dktX2_madeTerm_1 : List UInt8 := dkwX2_madeTerm_1 ++ dktX2_madeTerm_2
def dkwX2_madeTerm_0 : List UInt8 := [42, 180, 0, 7, 27, 46]
abbrev dktX2_madeTerm_0 : List UInt8 := dkwX2_madeTerm_0 ++ dktX2_madeTerm_1
theorem dksX2_madeTerm_0 : cX2_madeTerm.data.toList.drop 0 = dktX2_madeTerm_0 := by decide +kernel
theorem dksX2_madeTerm_1 : cX2_madeTerm.data.toList.drop 6 = dktX2_madeTerm_1 := dk_seg dksX2_madeTerm_0 6 rfl rfl
theorem dksX2_madeTerm_2 : cX2_madeTerm.data.toList.drop 40 = dktX2_madeTerm_2 := dk_seg dksX2_madeTerm_1 34 rfl rfl
theorem dksX2_madeTerm_3 : cX2_madeTerm.data.toList.drop 64 = dktX2_madeTerm_3 := dk_seg dksX2_madeTerm_2 24 rfl rfl
theorem dksX2_madeTerm_4 : cX2_madeTerm.data.toList.drop 86 = dktX2_madeTerm_4 := dk_seg dksX2_madeTerm_3 22 rfl rfl
theorem dX2_madeTerm_0 : decode cX2_madeTerm 0 = .ok (.aload_n 0, 1) := dk_42 (dk_at dksX2_madeTerm_0 0 rfl rfl)
theorem dX2_madeTerm_1 : decode cX2_madeTerm 1 = .ok (.getfield 7, 3) := dk_180 0 7 (dk_at dksX2_madeTerm_0 1 rfl rfl)
theorem dX2_madeTerm_4 : decode cX2_madeTerm 4 = .ok (.iload_n 1, 1) := dk_27 (dk_at dksX2_madeTerm_0 4 rfl rfl)
theorem dX2_madeTerm_5 : decode cX2_madeTerm 5 = .ok (.iaload, 1) := dk_46 (dk_at dksX2_madeTerm_0 5 rfl rfl)
theorem dX2_madeTerm_6 : decode cX2_madeTerm 6 = .ok (.tableswitch 84 0 4 #[34, 84, 84, 41, 77], 34) := by decide +kernel
theorem dX2_madeTerm_40 : decode cX2_madeTerm 40 = .ok (.aload_n 0, 1) := dk_42 (dk_at dksX2_madeTerm_2 0 rfl rfl)
theorem dX2_madeTerm_41 : decode cX2_madeTerm 41 = .ok (.iload_n 1, 1) := dk_27 (dk_at dksX2_madeTerm_2 1 rfl rfl)
theorem dX2_madeTerm_42 : decode cX2_madeTerm 42 = .ok (.iload_n 2, 1) := dk_28 (dk_at dksX2_madeTerm_2 2 rfl rfl)
theorem dX2_madeTerm_43 : decode cX2_madeTerm 43 = .ok (.invokevirtual 144, 3) := dk_182 0 144 (dk_at dksX2_madeTerm_2 3 rfl rfl)
theorem dX2_madeTerm_46 : decode cX2_madeTerm 46 = .ok (.ireturn, 1) := dk_172 (dk_at dksX2_madeTerm_2 6 rfl rfl)
theorem dX2_madeTerm_47 : decode cX2_madeTerm 47 = .ok (.aload_n 0, 1) := dk_42 (dk_at dksX2_madeTerm_2 7 rfl rfl)
theorem dX2_madeTerm_48 : decode cX2_madeTerm 48 = .ok (.aload_n 0, 1) := dk_42 (dk_at dksX2_madeTerm_2 8 rfl rfl)
theorem dX2_madeTerm_49 : decode cX2_madeTerm 49 = .ok (.getfield 13, 3) := dk_180 0 13 (dk_at dksX2_madeTerm_2 9 rfl rfl)
theorem dX2_madeTerm_52 : decode cX2_madeTerm 52 = .ok (.iconst 4, 1) := dk_7 (dk_at dksX2_madeTerm_2 12 rfl rfl)
theorem dX2_madeTerm_53 : decode cX2_madeTerm 53 = .ok (.iload_n 1, 1) := dk_27 (dk_at dksX2_madeTerm_2 13 rfl rfl)
theorem dX2_madeTerm_54 : decode cX2_madeTerm 54 = .ok (.imul, 1) := dk_104 (dk_at dksX2_madeTerm_2 14 rfl rfl)
theorem dX2_madeTerm_55 : decode cX2_madeTerm 55 = .ok (.iaload, 1) := dk_46 (dk_at dksX2_madeTerm_2 15 rfl rfl)
theorem dX2_madeTerm_56 : decode cX2_madeTerm 56 = .ok (.aload_n 0, 1) := dk_42 (dk_at dksX2_madeTerm_2 16 rfl rfl)
theorem dX2_madeTerm_57 : decode cX2_madeTerm 57 = .ok (.getfield 13, 3) := dk_180 0 13 (dk_at dksX2_madeTerm_2 17 rfl rfl)
theorem dX2_madeTerm_60 : decode cX2_madeTerm 60 = .ok (.iconst 4, 1) := dk_7 (dk_at dksX2_madeTerm_2 20 rfl rfl)
theorem dX2_madeTerm_61 : decode cX2_madeTerm 61 = .ok (.iload_n 1, 1) := dk_27 (dk_at dksX2_madeTerm_2 21 rfl rfl)
theorem dX2_madeTerm_62 : decode cX2_madeTerm 62 = .ok (.imul, 1) := dk_104 (dk_at dksX2_madeTerm_2 22 rfl rfl)
theorem dX2_madeTerm_63 : decode cX2_madeTerm 63 = .ok (.iconst 1, 1) := dk_4 (dk_at dksX2_madeTerm_2 23 rfl rfl)
theorem dX2_madeTerm_64 : decode cX2_madeTerm 64 = .ok (.iadd, 1) := dk_96 (dk_at dksX2_madeTerm_3 0 rfl rfl)
theorem dX2_madeTerm_65 : decode cX2_madeTerm 65 = .ok (.iaload, 1) := dk_46 (dk_at dksX2_madeTerm_3 1 rfl rfl)
theorem dX2_madeTerm_66 : decode cX2_madeTerm 66 = .ok (.iload_n 2, 1) := dk_28 (dk_at dksX2_madeTerm_3 2 rfl rfl)
theorem dX2_madeTerm_67 : decode cX2_madeTerm 67 = .ok (.imul, 1) := dk_104 (dk_at dksX2_madeTerm_3 3 rfl rfl)
theorem dX2_madeTerm_68 : decode cX2_madeTerm 68 = .ok (.aload_n 0, 1) := dk_42 (dk_at dksX2_madeTerm_3 4 rfl rfl)
theorem dX2_madeTerm_69 : decode cX2_madeTerm 69 = .ok (.getfield 13, 3) := dk_180 0 13 (dk_at dksX2_madeTerm_3 5 rfl rfl)
theorem dX2_madeTerm_72 : decode cX2_madeTerm 72 = .ok (.iconst 4, 1) := dk_7 (dk_at dksX2_madeTerm_3 8 rfl rfl)
theorem dX2_madeTerm_73 : decode cX2_madeTerm 73 = .ok (.iload_n 1, 1) := dk_27 (dk_at dksX2_madeTerm_3 9 rfl rfl)
theorem dX2_madeTerm_74 : decode cX2_madeTerm 74 = .ok (.imul, 1) := dk_104 (dk_at dksX2_madeTerm_3 10 rfl rfl)
theorem dX2_madeTerm_75 : decode cX2_madeTerm 75 = .ok (.iconst 2, 1) := dk_5 (dk_at dksX2_madeTerm_3 11 rfl rfl)
theorem dX2_madeTerm_76 : decode cX2_madeTerm 76 = .ok (.iadd, 1) := dk_96 (dk_at dksX2_madeTerm_3 12 rfl rfl)
theorem dX2_madeTerm_77 : decode cX2_madeTerm 77 = .ok (.iaload, 1) := dk_46 (dk_at dksX2_madeTerm_3 13 rfl rfl)
theorem dX2_madeTerm_78 : decode cX2_madeTerm 78 = .ok (.iadd, 1) := dk_96 (dk_at dksX2_madeTerm_3 14 rfl rfl)
theorem dX2_madeTerm_79 : decode cX2_madeTerm 79 = .ok (.invokevirtual 136, 3) := dk_182 0 136 (dk_at dksX2_madeTerm_3 15 rfl rfl)
theorem dX2_madeTerm_82 : decode cX2_madeTerm 82 = .ok (.ireturn, 1) := dk_172 (dk_at dksX2_madeTerm_3 18 rfl rfl)
theorem dX2_madeTerm_83 : decode cX2_madeTerm 83 = .ok (.aload_n 0, 1) := dk_42 (dk_at dksX2_madeTerm_3 19 rfl rfl)
theorem dX2_madeTerm_84 : decode cX2_madeTerm 84 = .ok (.iload_n 1, 1) := dk_27 (dk_at dksX2_madeTerm_3 20 rfl rfl)
theorem dX2_madeTerm_85 : decode cX2_madeTerm 85 = .ok (.iload_n 2, 1) := dk_28 (dk_at dksX2_madeTerm_3 21 rfl rfl)
theorem dX2_madeTerm_86 : decode cX2_madeTerm 86 = .ok (.invokevirtual 147, 3) := dk_182 0 147 (dk_at dksX2_madeTerm_4 0 rfl rfl)
theorem dX2_madeTerm_89 : decode cX2_madeTerm 89 = .ok (.ireturn, 1) := dk_172 (dk_at dksX2_madeTerm_4 3 rfl rfl)
theorem dX2_madeTerm_90 : decode cX2_madeTerm 90 = .ok (.aload_n 0, 1) := dk_42 (dk_at dksX2_madeTerm_4 4 rfl rfl)
theorem dX2_madeTerm_91 : decode cX2_madeTerm 91 = .ok (.iload_n 1, 1) := dk_27 (dk_at dksX2_madeTerm_4 5 rfl rfl)
theorem dX2_madeTerm_92 : decode cX2_madeTerm 92 = .ok (.iload_n 2, 1) := dk_28 (dk_at dksX2_madeTerm_4 6 rfl rfl)
theorem dX2_madeTerm_93 : decode cX2_madeTerm 93 = .ok (.invokevirtual 150, 3) := dk_182 0 150 (dk_at dksX2_madeTerm_4 7 rfl rfl)
theorem dX2_madeTerm_96 : decode cX2_madeTerm 96 = .ok (.ireturn, 1) := dk_172 (dk_at dksX2_madeTerm_4 10 rfl rfl)
abbrev cX2_toldTerm : ByteArray := prog_17_method_19_code
def yX2_toldTerm : MethodName := ⟨RX2, "toldTerm", "(II)I"⟩
def dkwX2_toldTerm_3 : List UInt8 := [7, 27, 104, 4, 96, 46, 133, 21, 4, 133, 105, 97, 184, 0, 140, 172]
abbrev dktX2_toldTerm_3 : List UInt8 := dkwX2_toldTerm_3 ++ []
def dkwX2_toldTerm_2 : List UInt8 := [160, 0, 8, 18, 131, 167, 0, 34, 42, 180, 0, 13, 7, 27, 104, 46, 133, 29, 133, 105, 42, 180, 0, 13]
abbrev dktX2_toldTerm_2 : List UInt8 := dkwX2_toldTerm_2 ++ dktX2_toldTerm_3
def dkwX2_toldTerm_1 : List UInt8 := [182, 0, 136, 62, 42, 27, 28, 5, 100, 182, 0, 136, 54, 4, 29, 18, 131, 159, 0, 10, 21, 4, 18, 131]
abbrev dktX2_toldTerm_1 : List UInt8 := dkwX2_toldTerm_1 ++ dktX2_toldTerm_2
def dkwX2_toldTerm_0 : List UInt8 := [28, 5, 162, 0, 16, 42, 180, 0, 13, 7, 27, 104, 5, 96, 28, 96, 46, 172, 42, 27, 28, 4, 100]
abbrev dktX2_toldTerm_0 : List UInt8 := dkwX2_toldTerm_0 ++ dktX2_toldTerm_1
theorem dksX2_toldTerm_0 : cX2_toldTerm.data.toList.drop 0 = dktX2_toldTerm_0 := by decide +kernel
theorem dksX2_toldTerm_1 : cX2_toldTerm.data.toList.drop 23 = dktX2_toldTerm_1 := dk_seg dksX2_toldTerm_0 23 rfl rfl
theorem dksX2_toldTerm_2 : cX2_toldTerm.data.toList.drop 47 = dktX2_toldTerm_2 := dk_seg dksX2_toldTerm_1 24 rfl rfl
theorem dksX2_toldTerm_3 : cX2_toldTerm.data.toList.drop 71 = dktX2_toldTerm_3 := dk_seg dksX2_toldTerm_2 24 rfl rfl
theorem dX2_toldTerm_0 : decode cX2_toldTerm 0 = .ok (.iload_n 2, 1) := dk_28 (dk_at dksX2_toldTerm_0 0 rfl rfl)
theorem dX2_toldTerm_1 : decode cX2_toldTerm 1 = .ok (.iconst 2, 1) := dk_5 (dk_at dksX2_toldTerm_0 1 rfl rfl)
theorem dX2_toldTerm_2 : decode cX2_toldTerm 2 = .ok (.if_icmp .ge 16, 3) := dk_162 0 16 (dk_at dksX2_toldTerm_0 2 rfl rfl)
theorem dX2_toldTerm_5 : decode cX2_toldTerm 5 = .ok (.aload_n 0, 1) := dk_42 (dk_at dksX2_toldTerm_0 5 rfl rfl)
theorem dX2_toldTerm_6 : decode cX2_toldTerm 6 = .ok (.getfield 13, 3) := dk_180 0 13 (dk_at dksX2_toldTerm_0 6 rfl rfl)
theorem dX2_toldTerm_9 : decode cX2_toldTerm 9 = .ok (.iconst 4, 1) := dk_7 (dk_at dksX2_toldTerm_0 9 rfl rfl)
theorem dX2_toldTerm_10 : decode cX2_toldTerm 10 = .ok (.iload_n 1, 1) := dk_27 (dk_at dksX2_toldTerm_0 10 rfl rfl)
theorem dX2_toldTerm_11 : decode cX2_toldTerm 11 = .ok (.imul, 1) := dk_104 (dk_at dksX2_toldTerm_0 11 rfl rfl)
theorem dX2_toldTerm_12 : decode cX2_toldTerm 12 = .ok (.iconst 2, 1) := dk_5 (dk_at dksX2_toldTerm_0 12 rfl rfl)
theorem dX2_toldTerm_13 : decode cX2_toldTerm 13 = .ok (.iadd, 1) := dk_96 (dk_at dksX2_toldTerm_0 13 rfl rfl)
theorem dX2_toldTerm_14 : decode cX2_toldTerm 14 = .ok (.iload_n 2, 1) := dk_28 (dk_at dksX2_toldTerm_0 14 rfl rfl)
theorem dX2_toldTerm_15 : decode cX2_toldTerm 15 = .ok (.iadd, 1) := dk_96 (dk_at dksX2_toldTerm_0 15 rfl rfl)
theorem dX2_toldTerm_16 : decode cX2_toldTerm 16 = .ok (.iaload, 1) := dk_46 (dk_at dksX2_toldTerm_0 16 rfl rfl)
theorem dX2_toldTerm_17 : decode cX2_toldTerm 17 = .ok (.ireturn, 1) := dk_172 (dk_at dksX2_toldTerm_0 17 rfl rfl)
theorem dX2_toldTerm_18 : decode cX2_toldTerm 18 = .ok (.aload_n 0, 1) := dk_42 (dk_at dksX2_toldTerm_0 18 rfl rfl)
theorem dX2_toldTerm_19 : decode cX2_toldTerm 19 = .ok (.iload_n 1, 1) := dk_27 (dk_at dksX2_toldTerm_0 19 rfl rfl)
theorem dX2_toldTerm_20 : decode cX2_toldTerm 20 = .ok (.iload_n 2, 1) := dk_28 (dk_at dksX2_toldTerm_0 20 rfl rfl)
theorem dX2_toldTerm_21 : decode cX2_toldTerm 21 = .ok (.iconst 1, 1) := dk_4 (dk_at dksX2_toldTerm_0 21 rfl rfl)
theorem dX2_toldTerm_22 : decode cX2_toldTerm 22 = .ok (.isub, 1) := dk_100 (dk_at dksX2_toldTerm_0 22 rfl rfl)
theorem dX2_toldTerm_23 : decode cX2_toldTerm 23 = .ok (.invokevirtual 136, 3) := dk_182 0 136 (dk_at dksX2_toldTerm_1 0 rfl rfl)
theorem dX2_toldTerm_26 : decode cX2_toldTerm 26 = .ok (.istore_n 3, 1) := dk_62 (dk_at dksX2_toldTerm_1 3 rfl rfl)
theorem dX2_toldTerm_27 : decode cX2_toldTerm 27 = .ok (.aload_n 0, 1) := dk_42 (dk_at dksX2_toldTerm_1 4 rfl rfl)
theorem dX2_toldTerm_28 : decode cX2_toldTerm 28 = .ok (.iload_n 1, 1) := dk_27 (dk_at dksX2_toldTerm_1 5 rfl rfl)
theorem dX2_toldTerm_29 : decode cX2_toldTerm 29 = .ok (.iload_n 2, 1) := dk_28 (dk_at dksX2_toldTerm_1 6 rfl rfl)
theorem dX2_toldTerm_30 : decode cX2_toldTerm 30 = .ok (.iconst 2, 1) := dk_5 (dk_at dksX2_toldTerm_1 7 rfl rfl)
theorem dX2_toldTerm_31 : decode cX2_toldTerm 31 = .ok (.isub, 1) := dk_100 (dk_at dksX2_toldTerm_1 8 rfl rfl)
theorem dX2_toldTerm_32 : decode cX2_toldTerm 32 = .ok (.invokevirtual 136, 3) := dk_182 0 136 (dk_at dksX2_toldTerm_1 9 rfl rfl)
theorem dX2_toldTerm_35 : decode cX2_toldTerm 35 = .ok (.istore 4, 2) := dk_54 4 (dk_at dksX2_toldTerm_1 12 rfl rfl)
theorem dX2_toldTerm_37 : decode cX2_toldTerm 37 = .ok (.iload_n 3, 1) := dk_29 (dk_at dksX2_toldTerm_1 14 rfl rfl)
theorem dX2_toldTerm_38 : decode cX2_toldTerm 38 = .ok (.ldc 131, 2) := dk_18 131 (dk_at dksX2_toldTerm_1 15 rfl rfl)
theorem dX2_toldTerm_40 : decode cX2_toldTerm 40 = .ok (.if_icmp .eq 10, 3) := dk_159 0 10 (dk_at dksX2_toldTerm_1 17 rfl rfl)
theorem dX2_toldTerm_43 : decode cX2_toldTerm 43 = .ok (.iload 4, 2) := dk_21 4 (dk_at dksX2_toldTerm_1 20 rfl rfl)
theorem dX2_toldTerm_45 : decode cX2_toldTerm 45 = .ok (.ldc 131, 2) := dk_18 131 (dk_at dksX2_toldTerm_1 22 rfl rfl)
theorem dX2_toldTerm_47 : decode cX2_toldTerm 47 = .ok (.if_icmp .ne 8, 3) := dk_160 0 8 (dk_at dksX2_toldTerm_2 0 rfl rfl)
theorem dX2_toldTerm_50 : decode cX2_toldTerm 50 = .ok (.ldc 131, 2) := dk_18 131 (dk_at dksX2_toldTerm_2 3 rfl rfl)
theorem dX2_toldTerm_52 : decode cX2_toldTerm 52 = .ok (.goto 34, 3) := dk_167 0 34 (dk_at dksX2_toldTerm_2 5 rfl rfl)
theorem dX2_toldTerm_55 : decode cX2_toldTerm 55 = .ok (.aload_n 0, 1) := dk_42 (dk_at dksX2_toldTerm_2 8 rfl rfl)
theorem dX2_toldTerm_56 : decode cX2_toldTerm 56 = .ok (.getfield 13, 3) := dk_180 0 13 (dk_at dksX2_toldTerm_2 9 rfl rfl)
theorem dX2_toldTerm_59 : decode cX2_toldTerm 59 = .ok (.iconst 4, 1) := dk_7 (dk_at dksX2_toldTerm_2 12 rfl rfl)
theorem dX2_toldTerm_60 : decode cX2_toldTerm 60 = .ok (.iload_n 1, 1) := dk_27 (dk_at dksX2_toldTerm_2 13 rfl rfl)
theorem dX2_toldTerm_61 : decode cX2_toldTerm 61 = .ok (.imul, 1) := dk_104 (dk_at dksX2_toldTerm_2 14 rfl rfl)
theorem dX2_toldTerm_62 : decode cX2_toldTerm 62 = .ok (.iaload, 1) := dk_46 (dk_at dksX2_toldTerm_2 15 rfl rfl)
theorem dX2_toldTerm_63 : decode cX2_toldTerm 63 = .ok (.i2l, 1) := dk_133 (dk_at dksX2_toldTerm_2 16 rfl rfl)
theorem dX2_toldTerm_64 : decode cX2_toldTerm 64 = .ok (.iload_n 3, 1) := dk_29 (dk_at dksX2_toldTerm_2 17 rfl rfl)
theorem dX2_toldTerm_65 : decode cX2_toldTerm 65 = .ok (.i2l, 1) := dk_133 (dk_at dksX2_toldTerm_2 18 rfl rfl)
theorem dX2_toldTerm_66 : decode cX2_toldTerm 66 = .ok (.lmul, 1) := dk_105 (dk_at dksX2_toldTerm_2 19 rfl rfl)
theorem dX2_toldTerm_67 : decode cX2_toldTerm 67 = .ok (.aload_n 0, 1) := dk_42 (dk_at dksX2_toldTerm_2 20 rfl rfl)
theorem dX2_toldTerm_68 : decode cX2_toldTerm 68 = .ok (.getfield 13, 3) := dk_180 0 13 (dk_at dksX2_toldTerm_2 21 rfl rfl)
theorem dX2_toldTerm_71 : decode cX2_toldTerm 71 = .ok (.iconst 4, 1) := dk_7 (dk_at dksX2_toldTerm_3 0 rfl rfl)
theorem dX2_toldTerm_72 : decode cX2_toldTerm 72 = .ok (.iload_n 1, 1) := dk_27 (dk_at dksX2_toldTerm_3 1 rfl rfl)
theorem dX2_toldTerm_73 : decode cX2_toldTerm 73 = .ok (.imul, 1) := dk_104 (dk_at dksX2_toldTerm_3 2 rfl rfl)
theorem dX2_toldTerm_74 : decode cX2_toldTerm 74 = .ok (.iconst 1, 1) := dk_4 (dk_at dksX2_toldTerm_3 3 rfl rfl)
theorem dX2_toldTerm_75 : decode cX2_toldTerm 75 = .ok (.iadd, 1) := dk_96 (dk_at dksX2_toldTerm_3 4 rfl rfl)
theorem dX2_toldTerm_76 : decode cX2_toldTerm 76 = .ok (.iaload, 1) := dk_46 (dk_at dksX2_toldTerm_3 5 rfl rfl)
theorem dX2_toldTerm_77 : decode cX2_toldTerm 77 = .ok (.i2l, 1) := dk_133 (dk_at dksX2_toldTerm_3 6 rfl rfl)
theorem dX2_toldTerm_78 : decode cX2_toldTerm 78 = .ok (.iload 4, 2) := dk_21 4 (dk_at dksX2_toldTerm_3 7 rfl rfl)
theorem dX2_toldTerm_80 : decode cX2_toldTerm 80 = .ok (.i2l, 1) := dk_133 (dk_at dksX2_toldTerm_3 9 rfl rfl)
theorem dX2_toldTerm_81 : decode cX2_toldTerm 81 = .ok (.lmul, 1) := dk_105 (dk_at dksX2_toldTerm_3 10 rfl rfl)
theorem dX2_toldTerm_82 : decode cX2_toldTerm 82 = .ok (.ladd, 1) := dk_97 (dk_at dksX2_toldTerm_3 11 rfl rfl)
theorem dX2_toldTerm_83 : decode cX2_toldTerm 83 = .ok (.invokestatic 140, 3) := dk_184 0 140 (dk_at dksX2_toldTerm_3 12 rfl rfl)
theorem dX2_toldTerm_86 : decode cX2_toldTerm 86 = .ok (.ireturn, 1) := dk_172 (dk_at dksX2_toldTerm_3 15 rfl rfl)
abbrev cX2_termAt : ByteArray := prog_17_method_17_code
def yX2_termAt : MethodName := ⟨RX2, "termAt", "(II)I"⟩
def dkwX2_termAt_1 : List UInt8 := [172]
abbrev dktX2_termAt_1 : List UInt8 := dkwX2_termAt_1 ++ []
def dkwX2_termAt_0 : List UInt8 := [28, 17, 0, 200, 164, 0, 8, 18, 131, 167, 0, 15, 42, 180, 0, 29, 17, 0, 201, 27, 104, 28, 96, 46]
abbrev dktX2_termAt_0 : List UInt8 := dkwX2_termAt_0 ++ dktX2_termAt_1
theorem dksX2_termAt_0 : cX2_termAt.data.toList.drop 0 = dktX2_termAt_0 := by decide +kernel
theorem dksX2_termAt_1 : cX2_termAt.data.toList.drop 24 = dktX2_termAt_1 := dk_seg dksX2_termAt_0 24 rfl rfl
theorem dX2_termAt_0 : decode cX2_termAt 0 = .ok (.iload_n 2, 1) := dk_28 (dk_at dksX2_termAt_0 0 rfl rfl)
theorem dX2_termAt_1 : decode cX2_termAt 1 = .ok (.sipush 200, 3) := dk_17 0 200 (dk_at dksX2_termAt_0 1 rfl rfl)
theorem dX2_termAt_4 : decode cX2_termAt 4 = .ok (.if_icmp .le 8, 3) := dk_164 0 8 (dk_at dksX2_termAt_0 4 rfl rfl)
theorem dX2_termAt_7 : decode cX2_termAt 7 = .ok (.ldc 131, 2) := dk_18 131 (dk_at dksX2_termAt_0 7 rfl rfl)
theorem dX2_termAt_9 : decode cX2_termAt 9 = .ok (.goto 15, 3) := dk_167 0 15 (dk_at dksX2_termAt_0 9 rfl rfl)
theorem dX2_termAt_12 : decode cX2_termAt 12 = .ok (.aload_n 0, 1) := dk_42 (dk_at dksX2_termAt_0 12 rfl rfl)
theorem dX2_termAt_13 : decode cX2_termAt 13 = .ok (.getfield 29, 3) := dk_180 0 29 (dk_at dksX2_termAt_0 13 rfl rfl)
theorem dX2_termAt_16 : decode cX2_termAt 16 = .ok (.sipush 201, 3) := dk_17 0 201 (dk_at dksX2_termAt_0 16 rfl rfl)
theorem dX2_termAt_19 : decode cX2_termAt 19 = .ok (.iload_n 1, 1) := dk_27 (dk_at dksX2_termAt_0 19 rfl rfl)
theorem dX2_termAt_20 : decode cX2_termAt 20 = .ok (.imul, 1) := dk_104 (dk_at dksX2_termAt_0 20 rfl rfl)
theorem dX2_termAt_21 : decode cX2_termAt 21 = .ok (.iload_n 2, 1) := dk_28 (dk_at dksX2_termAt_0 21 rfl rfl)
theorem dX2_termAt_22 : decode cX2_termAt 22 = .ok (.iadd, 1) := dk_96 (dk_at dksX2_termAt_0 22 rfl rfl)
theorem dX2_termAt_23 : decode cX2_termAt 23 = .ok (.iaload, 1) := dk_46 (dk_at dksX2_termAt_0 23 rfl rfl)
theorem dX2_termAt_24 : decode cX2_termAt 24 = .ok (.ireturn, 1) := dk_172 (dk_at dksX2_termAt_1 0 rfl rfl)
abbrev cX2_near : ByteArray := prog_17_method_18_code
def yX2_near : MethodName := ⟨RX2, "near", "(J)I"⟩
def dkwX2_near_0 : List UInt8 := [30, 20, 0, 132, 148, 157, 0, 11, 30, 20, 0, 134, 148, 156, 0, 8, 18, 131, 167, 0, 5, 30, 136, 172]
abbrev dktX2_near_0 : List UInt8 := dkwX2_near_0 ++ []
theorem dksX2_near_0 : cX2_near.data.toList.drop 0 = dktX2_near_0 := by decide +kernel
theorem dX2_near_0 : decode cX2_near 0 = .ok (.lload_n 0, 1) := dk_30 (dk_at dksX2_near_0 0 rfl rfl)
theorem dX2_near_1 : decode cX2_near 1 = .ok (.ldc2_w 132, 3) := dk_20 0 132 (dk_at dksX2_near_0 1 rfl rfl)
theorem dX2_near_4 : decode cX2_near 4 = .ok (.lcmp, 1) := dk_148 (dk_at dksX2_near_0 4 rfl rfl)
theorem dX2_near_5 : decode cX2_near 5 = .ok (.ifCond .gt 11, 3) := dk_157 0 11 (dk_at dksX2_near_0 5 rfl rfl)
theorem dX2_near_8 : decode cX2_near 8 = .ok (.lload_n 0, 1) := dk_30 (dk_at dksX2_near_0 8 rfl rfl)
theorem dX2_near_9 : decode cX2_near 9 = .ok (.ldc2_w 134, 3) := dk_20 0 134 (dk_at dksX2_near_0 9 rfl rfl)
theorem dX2_near_12 : decode cX2_near 12 = .ok (.lcmp, 1) := dk_148 (dk_at dksX2_near_0 12 rfl rfl)
theorem dX2_near_13 : decode cX2_near 13 = .ok (.ifCond .ge 8, 3) := dk_156 0 8 (dk_at dksX2_near_0 13 rfl rfl)
theorem dX2_near_16 : decode cX2_near 16 = .ok (.ldc 131, 2) := dk_18 131 (dk_at dksX2_near_0 16 rfl rfl)
theorem dX2_near_18 : decode cX2_near 18 = .ok (.goto 5, 3) := dk_167 0 5 (dk_at dksX2_near_0 18 rfl rfl)
theorem dX2_near_21 : decode cX2_near 21 = .ok (.lload_n 0, 1) := dk_30 (dk_at dksX2_near_0 21 rfl rfl)
theorem dX2_near_22 : decode cX2_near 22 = .ok (.l2i, 1) := dk_136 (dk_at dksX2_near_0 22 rfl rfl)
theorem dX2_near_23 : decode cX2_near 23 = .ok (.ireturn, 1) := dk_172 (dk_at dksX2_near_0 23 rfl rfl)
abbrev cX2_stepTerm : ByteArray := prog_17_method_21_code
def yX2_stepTerm : MethodName := ⟨RX2, "stepTerm", "(II)I"⟩
def dkwX2_stepTerm_2 : List UInt8 := [167, 0, 12, 21, 4, 133, 29, 133, 101, 184, 0, 140, 172]
abbrev dktX2_stepTerm_2 : List UInt8 := dkwX2_stepTerm_2 ++ []
def dkwX2_stepTerm_1 : List UInt8 := [4, 96, 182, 0, 136, 54, 4, 29, 18, 131, 159, 0, 10, 21, 4, 18, 131, 160, 0, 8, 18, 131]
abbrev dktX2_stepTerm_1 : List UInt8 := dkwX2_stepTerm_1 ++ dktX2_stepTerm_2
def dkwX2_stepTerm_0 : List UInt8 := [42, 42, 180, 0, 13, 7, 27, 104, 46, 28, 182, 0, 136, 62, 42, 42, 180, 0, 13, 7, 27, 104, 46, 28]
abbrev dktX2_stepTerm_0 : List UInt8 := dkwX2_stepTerm_0 ++ dktX2_stepTerm_1
theorem dksX2_stepTerm_0 : cX2_stepTerm.data.toList.drop 0 = dktX2_stepTerm_0 := by decide +kernel
theorem dksX2_stepTerm_1 : cX2_stepTerm.data.toList.drop 24 = dktX2_stepTerm_1 := dk_seg dksX2_stepTerm_0 24 rfl rfl
theorem dksX2_stepTerm_2 : cX2_stepTerm.data.toList.drop 46 = dktX2_stepTerm_2 := dk_seg dksX2_stepTerm_1 22 rfl rfl
theorem dX2_stepTerm_0 : decode cX2_stepTerm 0 = .ok (.aload_n 0, 1) := dk_42 (dk_at dksX2_stepTerm_0 0 rfl rfl)
theorem dX2_stepTerm_1 : decode cX2_stepTerm 1 = .ok (.aload_n 0, 1) := dk_42 (dk_at dksX2_stepTerm_0 1 rfl rfl)
theorem dX2_stepTerm_2 : decode cX2_stepTerm 2 = .ok (.getfield 13, 3) := dk_180 0 13 (dk_at dksX2_stepTerm_0 2 rfl rfl)
theorem dX2_stepTerm_5 : decode cX2_stepTerm 5 = .ok (.iconst 4, 1) := dk_7 (dk_at dksX2_stepTerm_0 5 rfl rfl)
theorem dX2_stepTerm_6 : decode cX2_stepTerm 6 = .ok (.iload_n 1, 1) := dk_27 (dk_at dksX2_stepTerm_0 6 rfl rfl)
theorem dX2_stepTerm_7 : decode cX2_stepTerm 7 = .ok (.imul, 1) := dk_104 (dk_at dksX2_stepTerm_0 7 rfl rfl)
theorem dX2_stepTerm_8 : decode cX2_stepTerm 8 = .ok (.iaload, 1) := dk_46 (dk_at dksX2_stepTerm_0 8 rfl rfl)
theorem dX2_stepTerm_9 : decode cX2_stepTerm 9 = .ok (.iload_n 2, 1) := dk_28 (dk_at dksX2_stepTerm_0 9 rfl rfl)
theorem dX2_stepTerm_10 : decode cX2_stepTerm 10 = .ok (.invokevirtual 136, 3) := dk_182 0 136 (dk_at dksX2_stepTerm_0 10 rfl rfl)
theorem dX2_stepTerm_13 : decode cX2_stepTerm 13 = .ok (.istore_n 3, 1) := dk_62 (dk_at dksX2_stepTerm_0 13 rfl rfl)
theorem dX2_stepTerm_14 : decode cX2_stepTerm 14 = .ok (.aload_n 0, 1) := dk_42 (dk_at dksX2_stepTerm_0 14 rfl rfl)
theorem dX2_stepTerm_15 : decode cX2_stepTerm 15 = .ok (.aload_n 0, 1) := dk_42 (dk_at dksX2_stepTerm_0 15 rfl rfl)
theorem dX2_stepTerm_16 : decode cX2_stepTerm 16 = .ok (.getfield 13, 3) := dk_180 0 13 (dk_at dksX2_stepTerm_0 16 rfl rfl)
theorem dX2_stepTerm_19 : decode cX2_stepTerm 19 = .ok (.iconst 4, 1) := dk_7 (dk_at dksX2_stepTerm_0 19 rfl rfl)
theorem dX2_stepTerm_20 : decode cX2_stepTerm 20 = .ok (.iload_n 1, 1) := dk_27 (dk_at dksX2_stepTerm_0 20 rfl rfl)
theorem dX2_stepTerm_21 : decode cX2_stepTerm 21 = .ok (.imul, 1) := dk_104 (dk_at dksX2_stepTerm_0 21 rfl rfl)
theorem dX2_stepTerm_22 : decode cX2_stepTerm 22 = .ok (.iaload, 1) := dk_46 (dk_at dksX2_stepTerm_0 22 rfl rfl)
theorem dX2_stepTerm_23 : decode cX2_stepTerm 23 = .ok (.iload_n 2, 1) := dk_28 (dk_at dksX2_stepTerm_0 23 rfl rfl)
theorem dX2_stepTerm_24 : decode cX2_stepTerm 24 = .ok (.iconst 1, 1) := dk_4 (dk_at dksX2_stepTerm_1 0 rfl rfl)
theorem dX2_stepTerm_25 : decode cX2_stepTerm 25 = .ok (.iadd, 1) := dk_96 (dk_at dksX2_stepTerm_1 1 rfl rfl)
theorem dX2_stepTerm_26 : decode cX2_stepTerm 26 = .ok (.invokevirtual 136, 3) := dk_182 0 136 (dk_at dksX2_stepTerm_1 2 rfl rfl)
theorem dX2_stepTerm_29 : decode cX2_stepTerm 29 = .ok (.istore 4, 2) := dk_54 4 (dk_at dksX2_stepTerm_1 5 rfl rfl)
theorem dX2_stepTerm_31 : decode cX2_stepTerm 31 = .ok (.iload_n 3, 1) := dk_29 (dk_at dksX2_stepTerm_1 7 rfl rfl)
theorem dX2_stepTerm_32 : decode cX2_stepTerm 32 = .ok (.ldc 131, 2) := dk_18 131 (dk_at dksX2_stepTerm_1 8 rfl rfl)
theorem dX2_stepTerm_34 : decode cX2_stepTerm 34 = .ok (.if_icmp .eq 10, 3) := dk_159 0 10 (dk_at dksX2_stepTerm_1 10 rfl rfl)
theorem dX2_stepTerm_37 : decode cX2_stepTerm 37 = .ok (.iload 4, 2) := dk_21 4 (dk_at dksX2_stepTerm_1 13 rfl rfl)
theorem dX2_stepTerm_39 : decode cX2_stepTerm 39 = .ok (.ldc 131, 2) := dk_18 131 (dk_at dksX2_stepTerm_1 15 rfl rfl)
theorem dX2_stepTerm_41 : decode cX2_stepTerm 41 = .ok (.if_icmp .ne 8, 3) := dk_160 0 8 (dk_at dksX2_stepTerm_1 17 rfl rfl)
theorem dX2_stepTerm_44 : decode cX2_stepTerm 44 = .ok (.ldc 131, 2) := dk_18 131 (dk_at dksX2_stepTerm_1 20 rfl rfl)
theorem dX2_stepTerm_46 : decode cX2_stepTerm 46 = .ok (.goto 12, 3) := dk_167 0 12 (dk_at dksX2_stepTerm_2 0 rfl rfl)
theorem dX2_stepTerm_49 : decode cX2_stepTerm 49 = .ok (.iload 4, 2) := dk_21 4 (dk_at dksX2_stepTerm_2 3 rfl rfl)
theorem dX2_stepTerm_51 : decode cX2_stepTerm 51 = .ok (.i2l, 1) := dk_133 (dk_at dksX2_stepTerm_2 5 rfl rfl)
theorem dX2_stepTerm_52 : decode cX2_stepTerm 52 = .ok (.iload_n 3, 1) := dk_29 (dk_at dksX2_stepTerm_2 6 rfl rfl)
theorem dX2_stepTerm_53 : decode cX2_stepTerm 53 = .ok (.i2l, 1) := dk_133 (dk_at dksX2_stepTerm_2 7 rfl rfl)
theorem dX2_stepTerm_54 : decode cX2_stepTerm 54 = .ok (.lsub, 1) := dk_101 (dk_at dksX2_stepTerm_2 8 rfl rfl)
theorem dX2_stepTerm_55 : decode cX2_stepTerm 55 = .ok (.invokestatic 140, 3) := dk_184 0 140 (dk_at dksX2_stepTerm_2 9 rfl rfl)
theorem dX2_stepTerm_58 : decode cX2_stepTerm 58 = .ok (.ireturn, 1) := dk_172 (dk_at dksX2_stepTerm_2 12 rfl rfl)
abbrev cX2_bothTerm : ByteArray := prog_17_method_20_code
def yX2_bothTerm : MethodName := ⟨RX2, "bothTerm", "(II)I"⟩
def dkwX2_bothTerm_3 : List UInt8 := [184, 0, 140, 172]
abbrev dktX2_bothTerm_3 : List UInt8 := dkwX2_bothTerm_3 ++ []
def dkwX2_bothTerm_2 : List UInt8 := [180, 0, 7, 27, 46, 4, 160, 0, 12, 29, 133, 21, 4, 133, 97, 167, 0, 9, 29, 133, 21, 4, 133, 105]
abbrev dktX2_bothTerm_2 : List UInt8 := dkwX2_bothTerm_2 ++ dktX2_bothTerm_3
def dkwX2_bothTerm_1 : List UInt8 := [46, 28, 182, 0, 136, 54, 4, 29, 18, 131, 159, 0, 10, 21, 4, 18, 131, 160, 0, 6, 18, 131, 172, 42]
abbrev dktX2_bothTerm_1 : List UInt8 := dkwX2_bothTerm_1 ++ dktX2_bothTerm_2
def dkwX2_bothTerm_0 : List UInt8 := [42, 42, 180, 0, 13, 7, 27, 104, 46, 28, 182, 0, 136, 62, 42, 42, 180, 0, 13, 7, 27, 104, 4, 96]
abbrev dktX2_bothTerm_0 : List UInt8 := dkwX2_bothTerm_0 ++ dktX2_bothTerm_1
theorem dksX2_bothTerm_0 : cX2_bothTerm.data.toList.drop 0 = dktX2_bothTerm_0 := by decide +kernel
theorem dksX2_bothTerm_1 : cX2_bothTerm.data.toList.drop 24 = dktX2_bothTerm_1 := dk_seg dksX2_bothTerm_0 24 rfl rfl
theorem dksX2_bothTerm_2 : cX2_bothTerm.data.toList.drop 48 = dktX2_bothTerm_2 := dk_seg dksX2_bothTerm_1 24 rfl rfl
theorem dksX2_bothTerm_3 : cX2_bothTerm.data.toList.drop 72 = dktX2_bothTerm_3 := dk_seg dksX2_bothTerm_2 24 rfl rfl
theorem dX2_bothTerm_0 : decode cX2_bothTerm 0 = .ok (.aload_n 0, 1) := dk_42 (dk_at dksX2_bothTerm_0 0 rfl rfl)
theorem dX2_bothTerm_1 : decode cX2_bothTerm 1 = .ok (.aload_n 0, 1) := dk_42 (dk_at dksX2_bothTerm_0 1 rfl rfl)
theorem dX2_bothTerm_2 : decode cX2_bothTerm 2 = .ok (.getfield 13, 3) := dk_180 0 13 (dk_at dksX2_bothTerm_0 2 rfl rfl)
theorem dX2_bothTerm_5 : decode cX2_bothTerm 5 = .ok (.iconst 4, 1) := dk_7 (dk_at dksX2_bothTerm_0 5 rfl rfl)
theorem dX2_bothTerm_6 : decode cX2_bothTerm 6 = .ok (.iload_n 1, 1) := dk_27 (dk_at dksX2_bothTerm_0 6 rfl rfl)
theorem dX2_bothTerm_7 : decode cX2_bothTerm 7 = .ok (.imul, 1) := dk_104 (dk_at dksX2_bothTerm_0 7 rfl rfl)
theorem dX2_bothTerm_8 : decode cX2_bothTerm 8 = .ok (.iaload, 1) := dk_46 (dk_at dksX2_bothTerm_0 8 rfl rfl)
theorem dX2_bothTerm_9 : decode cX2_bothTerm 9 = .ok (.iload_n 2, 1) := dk_28 (dk_at dksX2_bothTerm_0 9 rfl rfl)
theorem dX2_bothTerm_10 : decode cX2_bothTerm 10 = .ok (.invokevirtual 136, 3) := dk_182 0 136 (dk_at dksX2_bothTerm_0 10 rfl rfl)
theorem dX2_bothTerm_13 : decode cX2_bothTerm 13 = .ok (.istore_n 3, 1) := dk_62 (dk_at dksX2_bothTerm_0 13 rfl rfl)
theorem dX2_bothTerm_14 : decode cX2_bothTerm 14 = .ok (.aload_n 0, 1) := dk_42 (dk_at dksX2_bothTerm_0 14 rfl rfl)
theorem dX2_bothTerm_15 : decode cX2_bothTerm 15 = .ok (.aload_n 0, 1) := dk_42 (dk_at dksX2_bothTerm_0 15 rfl rfl)
theorem dX2_bothTerm_16 : decode cX2_bothTerm 16 = .ok (.getfield 13, 3) := dk_180 0 13 (dk_at dksX2_bothTerm_0 16 rfl rfl)
theorem dX2_bothTerm_19 : decode cX2_bothTerm 19 = .ok (.iconst 4, 1) := dk_7 (dk_at dksX2_bothTerm_0 19 rfl rfl)
theorem dX2_bothTerm_20 : decode cX2_bothTerm 20 = .ok (.iload_n 1, 1) := dk_27 (dk_at dksX2_bothTerm_0 20 rfl rfl)
theorem dX2_bothTerm_21 : decode cX2_bothTerm 21 = .ok (.imul, 1) := dk_104 (dk_at dksX2_bothTerm_0 21 rfl rfl)
theorem dX2_bothTerm_22 : decode cX2_bothTerm 22 = .ok (.iconst 1, 1) := dk_4 (dk_at dksX2_bothTerm_0 22 rfl rfl)
theorem dX2_bothTerm_23 : decode cX2_bothTerm 23 = .ok (.iadd, 1) := dk_96 (dk_at dksX2_bothTerm_0 23 rfl rfl)
theorem dX2_bothTerm_24 : decode cX2_bothTerm 24 = .ok (.iaload, 1) := dk_46 (dk_at dksX2_bothTerm_1 0 rfl rfl)
theorem dX2_bothTerm_25 : decode cX2_bothTerm 25 = .ok (.iload_n 2, 1) := dk_28 (dk_at dksX2_bothTerm_1 1 rfl rfl)
theorem dX2_bothTerm_26 : decode cX2_bothTerm 26 = .ok (.invokevirtual 136, 3) := dk_182 0 136 (dk_at dksX2_bothTerm_1 2 rfl rfl)
theorem dX2_bothTerm_29 : decode cX2_bothTerm 29 = .ok (.istore 4, 2) := dk_54 4 (dk_at dksX2_bothTerm_1 5 rfl rfl)
theorem dX2_bothTerm_31 : decode cX2_bothTerm 31 = .ok (.iload_n 3, 1) := dk_29 (dk_at dksX2_bothTerm_1 7 rfl rfl)
theorem dX2_bothTerm_32 : decode cX2_bothTerm 32 = .ok (.ldc 131, 2) := dk_18 131 (dk_at dksX2_bothTerm_1 8 rfl rfl)
theorem dX2_bothTerm_34 : decode cX2_bothTerm 34 = .ok (.if_icmp .eq 10, 3) := dk_159 0 10 (dk_at dksX2_bothTerm_1 10 rfl rfl)
theorem dX2_bothTerm_37 : decode cX2_bothTerm 37 = .ok (.iload 4, 2) := dk_21 4 (dk_at dksX2_bothTerm_1 13 rfl rfl)
theorem dX2_bothTerm_39 : decode cX2_bothTerm 39 = .ok (.ldc 131, 2) := dk_18 131 (dk_at dksX2_bothTerm_1 15 rfl rfl)
theorem dX2_bothTerm_41 : decode cX2_bothTerm 41 = .ok (.if_icmp .ne 6, 3) := dk_160 0 6 (dk_at dksX2_bothTerm_1 17 rfl rfl)
theorem dX2_bothTerm_44 : decode cX2_bothTerm 44 = .ok (.ldc 131, 2) := dk_18 131 (dk_at dksX2_bothTerm_1 20 rfl rfl)
theorem dX2_bothTerm_46 : decode cX2_bothTerm 46 = .ok (.ireturn, 1) := dk_172 (dk_at dksX2_bothTerm_1 22 rfl rfl)
theorem dX2_bothTerm_47 : decode cX2_bothTerm 47 = .ok (.aload_n 0, 1) := dk_42 (dk_at dksX2_bothTerm_1 23 rfl rfl)
theorem dX2_bothTerm_48 : decode cX2_bothTerm 48 = .ok (.getfield 7, 3) := dk_180 0 7 (dk_at dksX2_bothTerm_2 0 rfl rfl)
theorem dX2_bothTerm_51 : decode cX2_bothTerm 51 = .ok (.iload_n 1, 1) := dk_27 (dk_at dksX2_bothTerm_2 3 rfl rfl)
theorem dX2_bothTerm_52 : decode cX2_bothTerm 52 = .ok (.iaload, 1) := dk_46 (dk_at dksX2_bothTerm_2 4 rfl rfl)
theorem dX2_bothTerm_53 : decode cX2_bothTerm 53 = .ok (.iconst 1, 1) := dk_4 (dk_at dksX2_bothTerm_2 5 rfl rfl)
theorem dX2_bothTerm_54 : decode cX2_bothTerm 54 = .ok (.if_icmp .ne 12, 3) := dk_160 0 12 (dk_at dksX2_bothTerm_2 6 rfl rfl)
theorem dX2_bothTerm_57 : decode cX2_bothTerm 57 = .ok (.iload_n 3, 1) := dk_29 (dk_at dksX2_bothTerm_2 9 rfl rfl)
theorem dX2_bothTerm_58 : decode cX2_bothTerm 58 = .ok (.i2l, 1) := dk_133 (dk_at dksX2_bothTerm_2 10 rfl rfl)
theorem dX2_bothTerm_59 : decode cX2_bothTerm 59 = .ok (.iload 4, 2) := dk_21 4 (dk_at dksX2_bothTerm_2 11 rfl rfl)
theorem dX2_bothTerm_61 : decode cX2_bothTerm 61 = .ok (.i2l, 1) := dk_133 (dk_at dksX2_bothTerm_2 13 rfl rfl)
theorem dX2_bothTerm_62 : decode cX2_bothTerm 62 = .ok (.ladd, 1) := dk_97 (dk_at dksX2_bothTerm_2 14 rfl rfl)
theorem dX2_bothTerm_63 : decode cX2_bothTerm 63 = .ok (.goto 9, 3) := dk_167 0 9 (dk_at dksX2_bothTerm_2 15 rfl rfl)
theorem dX2_bothTerm_66 : decode cX2_bothTerm 66 = .ok (.iload_n 3, 1) := dk_29 (dk_at dksX2_bothTerm_2 18 rfl rfl)
theorem dX2_bothTerm_67 : decode cX2_bothTerm 67 = .ok (.i2l, 1) := dk_133 (dk_at dksX2_bothTerm_2 19 rfl rfl)
theorem dX2_bothTerm_68 : decode cX2_bothTerm 68 = .ok (.iload 4, 2) := dk_21 4 (dk_at dksX2_bothTerm_2 20 rfl rfl)
theorem dX2_bothTerm_70 : decode cX2_bothTerm 70 = .ok (.i2l, 1) := dk_133 (dk_at dksX2_bothTerm_2 22 rfl rfl)
theorem dX2_bothTerm_71 : decode cX2_bothTerm 71 = .ok (.lmul, 1) := dk_105 (dk_at dksX2_bothTerm_2 23 rfl rfl)
theorem dX2_bothTerm_72 : decode cX2_bothTerm 72 = .ok (.invokestatic 140, 3) := dk_184 0 140 (dk_at dksX2_bothTerm_3 0 rfl rfl)
theorem dX2_bothTerm_75 : decode cX2_bothTerm 75 = .ok (.ireturn, 1) := dk_172 (dk_at dksX2_bothTerm_3 3 rfl rfl)
abbrev cX2_by : ByteArray := prog_17_method_43_code
def yX2_by : MethodName := ⟨RX2, "by", "(III)I"⟩
def dkwX2_by_1 : List UInt8 := [153, 0, 13, 42, 27, 28, 29, 182, 0, 207, 167, 0, 5, 18, 72, 172]
abbrev dktX2_by_1 : List UInt8 := dkwX2_by_1 ++ []
def dkwX2_by_0 : List UInt8 := [42, 27, 182, 0, 193, 154, 0, 6, 18, 196, 172, 28, 155, 0, 23, 29, 5, 16, 10, 184, 0, 68]
abbrev dktX2_by_0 : List UInt8 := dkwX2_by_0 ++ dktX2_by_1
theorem dksX2_by_0 : cX2_by.data.toList.drop 0 = dktX2_by_0 := by decide +kernel
theorem dksX2_by_1 : cX2_by.data.toList.drop 22 = dktX2_by_1 := dk_seg dksX2_by_0 22 rfl rfl
theorem dX2_by_0 : decode cX2_by 0 = .ok (.aload_n 0, 1) := dk_42 (dk_at dksX2_by_0 0 rfl rfl)
theorem dX2_by_1 : decode cX2_by 1 = .ok (.iload_n 1, 1) := dk_27 (dk_at dksX2_by_0 1 rfl rfl)
theorem dX2_by_2 : decode cX2_by 2 = .ok (.invokevirtual 193, 3) := dk_182 0 193 (dk_at dksX2_by_0 2 rfl rfl)
theorem dX2_by_5 : decode cX2_by 5 = .ok (.ifCond .ne 6, 3) := dk_154 0 6 (dk_at dksX2_by_0 5 rfl rfl)
theorem dX2_by_8 : decode cX2_by 8 = .ok (.ldc 196, 2) := dk_18 196 (dk_at dksX2_by_0 8 rfl rfl)
theorem dX2_by_10 : decode cX2_by 10 = .ok (.ireturn, 1) := dk_172 (dk_at dksX2_by_0 10 rfl rfl)
theorem dX2_by_11 : decode cX2_by 11 = .ok (.iload_n 2, 1) := dk_28 (dk_at dksX2_by_0 11 rfl rfl)
theorem dX2_by_12 : decode cX2_by 12 = .ok (.ifCond .lt 23, 3) := dk_155 0 23 (dk_at dksX2_by_0 12 rfl rfl)
theorem dX2_by_15 : decode cX2_by 15 = .ok (.iload_n 3, 1) := dk_29 (dk_at dksX2_by_0 15 rfl rfl)
theorem dX2_by_16 : decode cX2_by 16 = .ok (.iconst 2, 1) := dk_5 (dk_at dksX2_by_0 16 rfl rfl)
theorem dX2_by_17 : decode cX2_by 17 = .ok (.bipush 10, 2) := dk_16 10 (dk_at dksX2_by_0 17 rfl rfl)
theorem dX2_by_19 : decode cX2_by 19 = .ok (.invokestatic 68, 3) := dk_184 0 68 (dk_at dksX2_by_0 19 rfl rfl)
theorem dX2_by_22 : decode cX2_by 22 = .ok (.ifCond .eq 13, 3) := dk_153 0 13 (dk_at dksX2_by_1 0 rfl rfl)
theorem dX2_by_25 : decode cX2_by 25 = .ok (.aload_n 0, 1) := dk_42 (dk_at dksX2_by_1 3 rfl rfl)
theorem dX2_by_26 : decode cX2_by 26 = .ok (.iload_n 1, 1) := dk_27 (dk_at dksX2_by_1 4 rfl rfl)
theorem dX2_by_27 : decode cX2_by 27 = .ok (.iload_n 2, 1) := dk_28 (dk_at dksX2_by_1 5 rfl rfl)
theorem dX2_by_28 : decode cX2_by 28 = .ok (.iload_n 3, 1) := dk_29 (dk_at dksX2_by_1 6 rfl rfl)
theorem dX2_by_29 : decode cX2_by 29 = .ok (.invokevirtual 207, 3) := dk_182 0 207 (dk_at dksX2_by_1 7 rfl rfl)
theorem dX2_by_32 : decode cX2_by 32 = .ok (.goto 5, 3) := dk_167 0 5 (dk_at dksX2_by_1 10 rfl rfl)
theorem dX2_by_35 : decode cX2_by 35 = .ok (.ldc 72, 2) := dk_18 72 (dk_at dksX2_by_1 13 rfl rfl)
theorem dX2_by_37 : decode cX2_by 37 = .ok (.ireturn, 1) := dk_172 (dk_at dksX2_by_1 15 rfl rfl)
abbrev cX2_byNow : ByteArray := prog_17_method_42_code
def yX2_byNow : MethodName := ⟨RX2, "byNow", "(III)I"⟩
def dkwX2_byNow_0 : List UInt8 := [42, 29, 182, 0, 204, 42, 27, 28, 133, 182, 0, 162, 172]
abbrev dktX2_byNow_0 : List UInt8 := dkwX2_byNow_0 ++ []
theorem dksX2_byNow_0 : cX2_byNow.data.toList.drop 0 = dktX2_byNow_0 := by decide +kernel
theorem dX2_byNow_0 : decode cX2_byNow 0 = .ok (.aload_n 0, 1) := dk_42 (dk_at dksX2_byNow_0 0 rfl rfl)
theorem dX2_byNow_1 : decode cX2_byNow 1 = .ok (.iload_n 3, 1) := dk_29 (dk_at dksX2_byNow_0 1 rfl rfl)
theorem dX2_byNow_2 : decode cX2_byNow 2 = .ok (.invokevirtual 204, 3) := dk_182 0 204 (dk_at dksX2_byNow_0 2 rfl rfl)
theorem dX2_byNow_5 : decode cX2_byNow 5 = .ok (.aload_n 0, 1) := dk_42 (dk_at dksX2_byNow_0 5 rfl rfl)
theorem dX2_byNow_6 : decode cX2_byNow 6 = .ok (.iload_n 1, 1) := dk_27 (dk_at dksX2_byNow_0 6 rfl rfl)
theorem dX2_byNow_7 : decode cX2_byNow 7 = .ok (.iload_n 2, 1) := dk_28 (dk_at dksX2_byNow_0 7 rfl rfl)
theorem dX2_byNow_8 : decode cX2_byNow 8 = .ok (.i2l, 1) := dk_133 (dk_at dksX2_byNow_0 8 rfl rfl)
theorem dX2_byNow_9 : decode cX2_byNow 9 = .ok (.invokevirtual 162, 3) := dk_182 0 162 (dk_at dksX2_byNow_0 9 rfl rfl)
theorem dX2_byNow_12 : decode cX2_byNow 12 = .ok (.ireturn, 1) := dk_172 (dk_at dksX2_byNow_0 12 rfl rfl)
abbrev cX2_layRests : ByteArray := prog_17_method_32_code
def yX2_layRests : MethodName := ⟨RX2, "layRests", "(I)V"⟩
def dkwX2_layRests_1 : List UInt8 := [42, 28, 27, 182, 0, 181, 132, 2, 1, 167, 255, 239, 177]
abbrev dktX2_layRests_1 : List UInt8 := dkwX2_layRests_1 ++ []
def dkwX2_layRests_0 : List UInt8 := [42, 180, 0, 128, 27, 160, 0, 4, 177, 42, 27, 181, 0, 128, 3, 61, 28, 42, 180, 0, 116, 162, 0, 15]
abbrev dktX2_layRests_0 : List UInt8 := dkwX2_layRests_0 ++ dktX2_layRests_1
theorem dksX2_layRests_0 : cX2_layRests.data.toList.drop 0 = dktX2_layRests_0 := by decide +kernel
theorem dksX2_layRests_1 : cX2_layRests.data.toList.drop 24 = dktX2_layRests_1 := dk_seg dksX2_layRests_0 24 rfl rfl
theorem dX2_layRests_0 : decode cX2_layRests 0 = .ok (.aload_n 0, 1) := dk_42 (dk_at dksX2_layRests_0 0 rfl rfl)
theorem dX2_layRests_1 : decode cX2_layRests 1 = .ok (.getfield 128, 3) := dk_180 0 128 (dk_at dksX2_layRests_0 1 rfl rfl)
theorem dX2_layRests_4 : decode cX2_layRests 4 = .ok (.iload_n 1, 1) := dk_27 (dk_at dksX2_layRests_0 4 rfl rfl)
theorem dX2_layRests_5 : decode cX2_layRests 5 = .ok (.if_icmp .ne 4, 3) := dk_160 0 4 (dk_at dksX2_layRests_0 5 rfl rfl)
theorem dX2_layRests_8 : decode cX2_layRests 8 = .ok (.return_, 1) := dk_177 (dk_at dksX2_layRests_0 8 rfl rfl)
theorem dX2_layRests_9 : decode cX2_layRests 9 = .ok (.aload_n 0, 1) := dk_42 (dk_at dksX2_layRests_0 9 rfl rfl)
theorem dX2_layRests_10 : decode cX2_layRests 10 = .ok (.iload_n 1, 1) := dk_27 (dk_at dksX2_layRests_0 10 rfl rfl)
theorem dX2_layRests_11 : decode cX2_layRests 11 = .ok (.putfield 128, 3) := dk_181 0 128 (dk_at dksX2_layRests_0 11 rfl rfl)
theorem dX2_layRests_14 : decode cX2_layRests 14 = .ok (.iconst 0, 1) := dk_3 (dk_at dksX2_layRests_0 14 rfl rfl)
theorem dX2_layRests_15 : decode cX2_layRests 15 = .ok (.istore_n 2, 1) := dk_61 (dk_at dksX2_layRests_0 15 rfl rfl)
theorem dX2_layRests_16 : decode cX2_layRests 16 = .ok (.iload_n 2, 1) := dk_28 (dk_at dksX2_layRests_0 16 rfl rfl)
theorem dX2_layRests_17 : decode cX2_layRests 17 = .ok (.aload_n 0, 1) := dk_42 (dk_at dksX2_layRests_0 17 rfl rfl)
theorem dX2_layRests_18 : decode cX2_layRests 18 = .ok (.getfield 116, 3) := dk_180 0 116 (dk_at dksX2_layRests_0 18 rfl rfl)
theorem dX2_layRests_21 : decode cX2_layRests 21 = .ok (.if_icmp .ge 15, 3) := dk_162 0 15 (dk_at dksX2_layRests_0 21 rfl rfl)
theorem dX2_layRests_24 : decode cX2_layRests 24 = .ok (.aload_n 0, 1) := dk_42 (dk_at dksX2_layRests_1 0 rfl rfl)
theorem dX2_layRests_25 : decode cX2_layRests 25 = .ok (.iload_n 2, 1) := dk_28 (dk_at dksX2_layRests_1 1 rfl rfl)
theorem dX2_layRests_26 : decode cX2_layRests 26 = .ok (.iload_n 1, 1) := dk_27 (dk_at dksX2_layRests_1 2 rfl rfl)
theorem dX2_layRests_27 : decode cX2_layRests 27 = .ok (.invokevirtual 181, 3) := dk_182 0 181 (dk_at dksX2_layRests_1 3 rfl rfl)
theorem dX2_layRests_30 : decode cX2_layRests 30 = .ok (.iinc 2 1, 3) := dk_132 2 1 (dk_at dksX2_layRests_1 6 rfl rfl)
theorem dX2_layRests_33 : decode cX2_layRests 33 = .ok (.goto (-17), 3) := dk_167 255 239 (dk_at dksX2_layRests_1 9 rfl rfl)
theorem dX2_layRests_36 : decode cX2_layRests 36 = .ok (.return_, 1) := dk_177 (dk_at dksX2_layRests_1 12 rfl rfl)
abbrev cX2_layRest : ByteArray := prog_17_method_31_code
def yX2_layRest : MethodName := ⟨RX2, "layRest", "(II)V"⟩
def dkwX2_layRest_2 : List UInt8 := [104, 29, 96, 42, 27, 29, 28, 182, 0, 177, 145, 84, 132, 3, 1, 167, 255, 216, 177]
abbrev dktX2_layRest_2 : List UInt8 := dkwX2_layRest_2 ++ []
def dkwX2_layRest_1 : List UInt8 := [42, 180, 0, 32, 27, 46, 42, 180, 0, 35, 27, 46, 96, 162, 0, 29, 42, 180, 0, 38, 17, 2, 0, 27]
abbrev dktX2_layRest_1 : List UInt8 := dkwX2_layRest_1 ++ dktX2_layRest_2
def dkwX2_layRest_0 : List UInt8 := [42, 180, 0, 7, 27, 46, 154, 0, 10, 42, 27, 28, 182, 0, 169, 177, 42, 27, 182, 0, 173, 3, 62, 29]
abbrev dktX2_layRest_0 : List UInt8 := dkwX2_layRest_0 ++ dktX2_layRest_1
theorem dksX2_layRest_0 : cX2_layRest.data.toList.drop 0 = dktX2_layRest_0 := by decide +kernel
theorem dksX2_layRest_1 : cX2_layRest.data.toList.drop 24 = dktX2_layRest_1 := dk_seg dksX2_layRest_0 24 rfl rfl
theorem dksX2_layRest_2 : cX2_layRest.data.toList.drop 48 = dktX2_layRest_2 := dk_seg dksX2_layRest_1 24 rfl rfl
theorem dX2_layRest_0 : decode cX2_layRest 0 = .ok (.aload_n 0, 1) := dk_42 (dk_at dksX2_layRest_0 0 rfl rfl)
theorem dX2_layRest_1 : decode cX2_layRest 1 = .ok (.getfield 7, 3) := dk_180 0 7 (dk_at dksX2_layRest_0 1 rfl rfl)
theorem dX2_layRest_4 : decode cX2_layRest 4 = .ok (.iload_n 1, 1) := dk_27 (dk_at dksX2_layRest_0 4 rfl rfl)
theorem dX2_layRest_5 : decode cX2_layRest 5 = .ok (.iaload, 1) := dk_46 (dk_at dksX2_layRest_0 5 rfl rfl)
theorem dX2_layRest_6 : decode cX2_layRest 6 = .ok (.ifCond .ne 10, 3) := dk_154 0 10 (dk_at dksX2_layRest_0 6 rfl rfl)
theorem dX2_layRest_9 : decode cX2_layRest 9 = .ok (.aload_n 0, 1) := dk_42 (dk_at dksX2_layRest_0 9 rfl rfl)
theorem dX2_layRest_10 : decode cX2_layRest 10 = .ok (.iload_n 1, 1) := dk_27 (dk_at dksX2_layRest_0 10 rfl rfl)
theorem dX2_layRest_11 : decode cX2_layRest 11 = .ok (.iload_n 2, 1) := dk_28 (dk_at dksX2_layRest_0 11 rfl rfl)
theorem dX2_layRest_12 : decode cX2_layRest 12 = .ok (.invokevirtual 169, 3) := dk_182 0 169 (dk_at dksX2_layRest_0 12 rfl rfl)
theorem dX2_layRest_15 : decode cX2_layRest 15 = .ok (.return_, 1) := dk_177 (dk_at dksX2_layRest_0 15 rfl rfl)
theorem dX2_layRest_16 : decode cX2_layRest 16 = .ok (.aload_n 0, 1) := dk_42 (dk_at dksX2_layRest_0 16 rfl rfl)
theorem dX2_layRest_17 : decode cX2_layRest 17 = .ok (.iload_n 1, 1) := dk_27 (dk_at dksX2_layRest_0 17 rfl rfl)
theorem dX2_layRest_18 : decode cX2_layRest 18 = .ok (.invokevirtual 173, 3) := dk_182 0 173 (dk_at dksX2_layRest_0 18 rfl rfl)
theorem dX2_layRest_21 : decode cX2_layRest 21 = .ok (.iconst 0, 1) := dk_3 (dk_at dksX2_layRest_0 21 rfl rfl)
theorem dX2_layRest_22 : decode cX2_layRest 22 = .ok (.istore_n 3, 1) := dk_62 (dk_at dksX2_layRest_0 22 rfl rfl)
theorem dX2_layRest_23 : decode cX2_layRest 23 = .ok (.iload_n 3, 1) := dk_29 (dk_at dksX2_layRest_0 23 rfl rfl)
theorem dX2_layRest_24 : decode cX2_layRest 24 = .ok (.aload_n 0, 1) := dk_42 (dk_at dksX2_layRest_1 0 rfl rfl)
theorem dX2_layRest_25 : decode cX2_layRest 25 = .ok (.getfield 32, 3) := dk_180 0 32 (dk_at dksX2_layRest_1 1 rfl rfl)
theorem dX2_layRest_28 : decode cX2_layRest 28 = .ok (.iload_n 1, 1) := dk_27 (dk_at dksX2_layRest_1 4 rfl rfl)
theorem dX2_layRest_29 : decode cX2_layRest 29 = .ok (.iaload, 1) := dk_46 (dk_at dksX2_layRest_1 5 rfl rfl)
theorem dX2_layRest_30 : decode cX2_layRest 30 = .ok (.aload_n 0, 1) := dk_42 (dk_at dksX2_layRest_1 6 rfl rfl)
theorem dX2_layRest_31 : decode cX2_layRest 31 = .ok (.getfield 35, 3) := dk_180 0 35 (dk_at dksX2_layRest_1 7 rfl rfl)
theorem dX2_layRest_34 : decode cX2_layRest 34 = .ok (.iload_n 1, 1) := dk_27 (dk_at dksX2_layRest_1 10 rfl rfl)
theorem dX2_layRest_35 : decode cX2_layRest 35 = .ok (.iaload, 1) := dk_46 (dk_at dksX2_layRest_1 11 rfl rfl)
theorem dX2_layRest_36 : decode cX2_layRest 36 = .ok (.iadd, 1) := dk_96 (dk_at dksX2_layRest_1 12 rfl rfl)
theorem dX2_layRest_37 : decode cX2_layRest 37 = .ok (.if_icmp .ge 29, 3) := dk_162 0 29 (dk_at dksX2_layRest_1 13 rfl rfl)
theorem dX2_layRest_40 : decode cX2_layRest 40 = .ok (.aload_n 0, 1) := dk_42 (dk_at dksX2_layRest_1 16 rfl rfl)
theorem dX2_layRest_41 : decode cX2_layRest 41 = .ok (.getfield 38, 3) := dk_180 0 38 (dk_at dksX2_layRest_1 17 rfl rfl)
theorem dX2_layRest_44 : decode cX2_layRest 44 = .ok (.sipush 512, 3) := dk_17 2 0 (dk_at dksX2_layRest_1 20 rfl rfl)
theorem dX2_layRest_47 : decode cX2_layRest 47 = .ok (.iload_n 1, 1) := dk_27 (dk_at dksX2_layRest_1 23 rfl rfl)
theorem dX2_layRest_48 : decode cX2_layRest 48 = .ok (.imul, 1) := dk_104 (dk_at dksX2_layRest_2 0 rfl rfl)
theorem dX2_layRest_49 : decode cX2_layRest 49 = .ok (.iload_n 3, 1) := dk_29 (dk_at dksX2_layRest_2 1 rfl rfl)
theorem dX2_layRest_50 : decode cX2_layRest 50 = .ok (.iadd, 1) := dk_96 (dk_at dksX2_layRest_2 2 rfl rfl)
theorem dX2_layRest_51 : decode cX2_layRest 51 = .ok (.aload_n 0, 1) := dk_42 (dk_at dksX2_layRest_2 3 rfl rfl)
theorem dX2_layRest_52 : decode cX2_layRest 52 = .ok (.iload_n 1, 1) := dk_27 (dk_at dksX2_layRest_2 4 rfl rfl)
theorem dX2_layRest_53 : decode cX2_layRest 53 = .ok (.iload_n 3, 1) := dk_29 (dk_at dksX2_layRest_2 5 rfl rfl)
theorem dX2_layRest_54 : decode cX2_layRest 54 = .ok (.iload_n 2, 1) := dk_28 (dk_at dksX2_layRest_2 6 rfl rfl)
theorem dX2_layRest_55 : decode cX2_layRest 55 = .ok (.invokevirtual 177, 3) := dk_182 0 177 (dk_at dksX2_layRest_2 7 rfl rfl)
theorem dX2_layRest_58 : decode cX2_layRest 58 = .ok (.i2b, 1) := dk_145 (dk_at dksX2_layRest_2 10 rfl rfl)
theorem dX2_layRest_59 : decode cX2_layRest 59 = .ok (.bastore, 1) := dk_84 (dk_at dksX2_layRest_2 11 rfl rfl)
theorem dX2_layRest_60 : decode cX2_layRest 60 = .ok (.iinc 3 1, 3) := dk_132 3 1 (dk_at dksX2_layRest_2 12 rfl rfl)
theorem dX2_layRest_63 : decode cX2_layRest 63 = .ok (.goto (-40), 3) := dk_167 255 216 (dk_at dksX2_layRest_2 15 rfl rfl)
theorem dX2_layRest_66 : decode cX2_layRest 66 = .ok (.return_, 1) := dk_177 (dk_at dksX2_layRest_2 18 rfl rfl)
abbrev cX2_layTold : ByteArray := prog_17_method_28_code
def yX2_layTold : MethodName := ⟨RX2, "layTold", "(II)V"⟩
def dkwX2_layTold_7 : List UInt8 := [27, 21, 5, 42, 180, 0, 32, 27, 46, 100, 79, 177]
abbrev dktX2_layTold_7 : List UInt8 := dkwX2_layTold_7 ++ []
def dkwX2_layTold_6 : List UInt8 := [167, 255, 172, 42, 180, 0, 32, 27, 42, 180, 0, 41, 28, 29, 104, 21, 4, 96, 46, 79, 42, 180, 0, 35]
abbrev dktX2_layTold_6 : List UInt8 := dkwX2_layTold_6 ++ dktX2_layTold_7
def dkwX2_layTold_5 : List UInt8 := [104, 4, 96, 46, 29, 104, 96, 28, 184, 0, 159, 54, 6, 21, 4, 62, 21, 6, 54, 4, 132, 5, 1]
abbrev dktX2_layTold_5 : List UInt8 := dkwX2_layTold_5 ++ dktX2_layTold_6
def dkwX2_layTold_4 : List UInt8 := [104, 21, 5, 96, 29, 145, 84, 42, 180, 0, 13, 7, 27, 104, 46, 21, 4, 104, 42, 180, 0, 13, 7, 27]
abbrev dktX2_layTold_4 : List UInt8 := dkwX2_layTold_4 ++ dktX2_layTold_5
def dkwX2_layTold_3 : List UInt8 := [160, 0, 74, 42, 180, 0, 41, 28, 29, 104, 21, 4, 96, 21, 5, 79, 42, 180, 0, 38, 17, 2, 0, 27]
abbrev dktX2_layTold_3 : List UInt8 := dkwX2_layTold_3 ++ dktX2_layTold_4
def dkwX2_layTold_2 : List UInt8 := [28, 184, 0, 159, 54, 4, 3, 54, 5, 42, 180, 0, 41, 28, 29, 104, 21, 4, 96, 46, 18, 54]
abbrev dktX2_layTold_2 : List UInt8 := dkwX2_layTold_2 ++ dktX2_layTold_3
def dkwX2_layTold_1 : List UInt8 := [180, 0, 13, 7, 27, 104, 5, 96, 46, 28, 184, 0, 159, 62, 42, 180, 0, 13, 7, 27, 104, 6, 96, 46]
abbrev dktX2_layTold_1 : List UInt8 := dkwX2_layTold_1 ++ dktX2_layTold_2
def dkwX2_layTold_0 : List UInt8 := [3, 62, 29, 28, 28, 104, 162, 0, 17, 42, 180, 0, 41, 29, 18, 54, 79, 132, 3, 1, 167, 255, 238, 42]
abbrev dktX2_layTold_0 : List UInt8 := dkwX2_layTold_0 ++ dktX2_layTold_1
theorem dksX2_layTold_0 : cX2_layTold.data.toList.drop 0 = dktX2_layTold_0 := by decide +kernel
theorem dksX2_layTold_1 : cX2_layTold.data.toList.drop 24 = dktX2_layTold_1 := dk_seg dksX2_layTold_0 24 rfl rfl
theorem dksX2_layTold_2 : cX2_layTold.data.toList.drop 48 = dktX2_layTold_2 := dk_seg dksX2_layTold_1 24 rfl rfl
theorem dksX2_layTold_3 : cX2_layTold.data.toList.drop 70 = dktX2_layTold_3 := dk_seg dksX2_layTold_2 22 rfl rfl
theorem dksX2_layTold_4 : cX2_layTold.data.toList.drop 94 = dktX2_layTold_4 := dk_seg dksX2_layTold_3 24 rfl rfl
theorem dksX2_layTold_5 : cX2_layTold.data.toList.drop 118 = dktX2_layTold_5 := dk_seg dksX2_layTold_4 24 rfl rfl
theorem dksX2_layTold_6 : cX2_layTold.data.toList.drop 141 = dktX2_layTold_6 := dk_seg dksX2_layTold_5 23 rfl rfl
theorem dksX2_layTold_7 : cX2_layTold.data.toList.drop 165 = dktX2_layTold_7 := dk_seg dksX2_layTold_6 24 rfl rfl
theorem dX2_layTold_0 : decode cX2_layTold 0 = .ok (.iconst 0, 1) := dk_3 (dk_at dksX2_layTold_0 0 rfl rfl)
theorem dX2_layTold_1 : decode cX2_layTold 1 = .ok (.istore_n 3, 1) := dk_62 (dk_at dksX2_layTold_0 1 rfl rfl)
theorem dX2_layTold_2 : decode cX2_layTold 2 = .ok (.iload_n 3, 1) := dk_29 (dk_at dksX2_layTold_0 2 rfl rfl)
theorem dX2_layTold_3 : decode cX2_layTold 3 = .ok (.iload_n 2, 1) := dk_28 (dk_at dksX2_layTold_0 3 rfl rfl)
theorem dX2_layTold_4 : decode cX2_layTold 4 = .ok (.iload_n 2, 1) := dk_28 (dk_at dksX2_layTold_0 4 rfl rfl)
theorem dX2_layTold_5 : decode cX2_layTold 5 = .ok (.imul, 1) := dk_104 (dk_at dksX2_layTold_0 5 rfl rfl)
theorem dX2_layTold_6 : decode cX2_layTold 6 = .ok (.if_icmp .ge 17, 3) := dk_162 0 17 (dk_at dksX2_layTold_0 6 rfl rfl)
theorem dX2_layTold_9 : decode cX2_layTold 9 = .ok (.aload_n 0, 1) := dk_42 (dk_at dksX2_layTold_0 9 rfl rfl)
theorem dX2_layTold_10 : decode cX2_layTold 10 = .ok (.getfield 41, 3) := dk_180 0 41 (dk_at dksX2_layTold_0 10 rfl rfl)
theorem dX2_layTold_13 : decode cX2_layTold 13 = .ok (.iload_n 3, 1) := dk_29 (dk_at dksX2_layTold_0 13 rfl rfl)
theorem dX2_layTold_14 : decode cX2_layTold 14 = .ok (.ldc 54, 2) := dk_18 54 (dk_at dksX2_layTold_0 14 rfl rfl)
theorem dX2_layTold_16 : decode cX2_layTold 16 = .ok (.iastore, 1) := dk_79 (dk_at dksX2_layTold_0 16 rfl rfl)
theorem dX2_layTold_17 : decode cX2_layTold 17 = .ok (.iinc 3 1, 3) := dk_132 3 1 (dk_at dksX2_layTold_0 17 rfl rfl)
theorem dX2_layTold_20 : decode cX2_layTold 20 = .ok (.goto (-18), 3) := dk_167 255 238 (dk_at dksX2_layTold_0 20 rfl rfl)
theorem dX2_layTold_23 : decode cX2_layTold 23 = .ok (.aload_n 0, 1) := dk_42 (dk_at dksX2_layTold_0 23 rfl rfl)
theorem dX2_layTold_24 : decode cX2_layTold 24 = .ok (.getfield 13, 3) := dk_180 0 13 (dk_at dksX2_layTold_1 0 rfl rfl)
theorem dX2_layTold_27 : decode cX2_layTold 27 = .ok (.iconst 4, 1) := dk_7 (dk_at dksX2_layTold_1 3 rfl rfl)
theorem dX2_layTold_28 : decode cX2_layTold 28 = .ok (.iload_n 1, 1) := dk_27 (dk_at dksX2_layTold_1 4 rfl rfl)
theorem dX2_layTold_29 : decode cX2_layTold 29 = .ok (.imul, 1) := dk_104 (dk_at dksX2_layTold_1 5 rfl rfl)
theorem dX2_layTold_30 : decode cX2_layTold 30 = .ok (.iconst 2, 1) := dk_5 (dk_at dksX2_layTold_1 6 rfl rfl)
theorem dX2_layTold_31 : decode cX2_layTold 31 = .ok (.iadd, 1) := dk_96 (dk_at dksX2_layTold_1 7 rfl rfl)
theorem dX2_layTold_32 : decode cX2_layTold 32 = .ok (.iaload, 1) := dk_46 (dk_at dksX2_layTold_1 8 rfl rfl)
theorem dX2_layTold_33 : decode cX2_layTold 33 = .ok (.iload_n 2, 1) := dk_28 (dk_at dksX2_layTold_1 9 rfl rfl)
theorem dX2_layTold_34 : decode cX2_layTold 34 = .ok (.invokestatic 159, 3) := dk_184 0 159 (dk_at dksX2_layTold_1 10 rfl rfl)
theorem dX2_layTold_37 : decode cX2_layTold 37 = .ok (.istore_n 3, 1) := dk_62 (dk_at dksX2_layTold_1 13 rfl rfl)
theorem dX2_layTold_38 : decode cX2_layTold 38 = .ok (.aload_n 0, 1) := dk_42 (dk_at dksX2_layTold_1 14 rfl rfl)
theorem dX2_layTold_39 : decode cX2_layTold 39 = .ok (.getfield 13, 3) := dk_180 0 13 (dk_at dksX2_layTold_1 15 rfl rfl)
theorem dX2_layTold_42 : decode cX2_layTold 42 = .ok (.iconst 4, 1) := dk_7 (dk_at dksX2_layTold_1 18 rfl rfl)
theorem dX2_layTold_43 : decode cX2_layTold 43 = .ok (.iload_n 1, 1) := dk_27 (dk_at dksX2_layTold_1 19 rfl rfl)
theorem dX2_layTold_44 : decode cX2_layTold 44 = .ok (.imul, 1) := dk_104 (dk_at dksX2_layTold_1 20 rfl rfl)
theorem dX2_layTold_45 : decode cX2_layTold 45 = .ok (.iconst 3, 1) := dk_6 (dk_at dksX2_layTold_1 21 rfl rfl)
theorem dX2_layTold_46 : decode cX2_layTold 46 = .ok (.iadd, 1) := dk_96 (dk_at dksX2_layTold_1 22 rfl rfl)
theorem dX2_layTold_47 : decode cX2_layTold 47 = .ok (.iaload, 1) := dk_46 (dk_at dksX2_layTold_1 23 rfl rfl)
theorem dX2_layTold_48 : decode cX2_layTold 48 = .ok (.iload_n 2, 1) := dk_28 (dk_at dksX2_layTold_2 0 rfl rfl)
theorem dX2_layTold_49 : decode cX2_layTold 49 = .ok (.invokestatic 159, 3) := dk_184 0 159 (dk_at dksX2_layTold_2 1 rfl rfl)
theorem dX2_layTold_52 : decode cX2_layTold 52 = .ok (.istore 4, 2) := dk_54 4 (dk_at dksX2_layTold_2 4 rfl rfl)
theorem dX2_layTold_54 : decode cX2_layTold 54 = .ok (.iconst 0, 1) := dk_3 (dk_at dksX2_layTold_2 6 rfl rfl)
theorem dX2_layTold_55 : decode cX2_layTold 55 = .ok (.istore 5, 2) := dk_54 5 (dk_at dksX2_layTold_2 7 rfl rfl)
theorem dX2_layTold_57 : decode cX2_layTold 57 = .ok (.aload_n 0, 1) := dk_42 (dk_at dksX2_layTold_2 9 rfl rfl)
theorem dX2_layTold_58 : decode cX2_layTold 58 = .ok (.getfield 41, 3) := dk_180 0 41 (dk_at dksX2_layTold_2 10 rfl rfl)
theorem dX2_layTold_61 : decode cX2_layTold 61 = .ok (.iload_n 2, 1) := dk_28 (dk_at dksX2_layTold_2 13 rfl rfl)
theorem dX2_layTold_62 : decode cX2_layTold 62 = .ok (.iload_n 3, 1) := dk_29 (dk_at dksX2_layTold_2 14 rfl rfl)
theorem dX2_layTold_63 : decode cX2_layTold 63 = .ok (.imul, 1) := dk_104 (dk_at dksX2_layTold_2 15 rfl rfl)
theorem dX2_layTold_64 : decode cX2_layTold 64 = .ok (.iload 4, 2) := dk_21 4 (dk_at dksX2_layTold_2 16 rfl rfl)
theorem dX2_layTold_66 : decode cX2_layTold 66 = .ok (.iadd, 1) := dk_96 (dk_at dksX2_layTold_2 18 rfl rfl)
theorem dX2_layTold_67 : decode cX2_layTold 67 = .ok (.iaload, 1) := dk_46 (dk_at dksX2_layTold_2 19 rfl rfl)
theorem dX2_layTold_68 : decode cX2_layTold 68 = .ok (.ldc 54, 2) := dk_18 54 (dk_at dksX2_layTold_2 20 rfl rfl)
theorem dX2_layTold_70 : decode cX2_layTold 70 = .ok (.if_icmp .ne 74, 3) := dk_160 0 74 (dk_at dksX2_layTold_3 0 rfl rfl)
theorem dX2_layTold_73 : decode cX2_layTold 73 = .ok (.aload_n 0, 1) := dk_42 (dk_at dksX2_layTold_3 3 rfl rfl)
theorem dX2_layTold_74 : decode cX2_layTold 74 = .ok (.getfield 41, 3) := dk_180 0 41 (dk_at dksX2_layTold_3 4 rfl rfl)
theorem dX2_layTold_77 : decode cX2_layTold 77 = .ok (.iload_n 2, 1) := dk_28 (dk_at dksX2_layTold_3 7 rfl rfl)
theorem dX2_layTold_78 : decode cX2_layTold 78 = .ok (.iload_n 3, 1) := dk_29 (dk_at dksX2_layTold_3 8 rfl rfl)
theorem dX2_layTold_79 : decode cX2_layTold 79 = .ok (.imul, 1) := dk_104 (dk_at dksX2_layTold_3 9 rfl rfl)
theorem dX2_layTold_80 : decode cX2_layTold 80 = .ok (.iload 4, 2) := dk_21 4 (dk_at dksX2_layTold_3 10 rfl rfl)
theorem dX2_layTold_82 : decode cX2_layTold 82 = .ok (.iadd, 1) := dk_96 (dk_at dksX2_layTold_3 12 rfl rfl)
theorem dX2_layTold_83 : decode cX2_layTold 83 = .ok (.iload 5, 2) := dk_21 5 (dk_at dksX2_layTold_3 13 rfl rfl)
theorem dX2_layTold_85 : decode cX2_layTold 85 = .ok (.iastore, 1) := dk_79 (dk_at dksX2_layTold_3 15 rfl rfl)
theorem dX2_layTold_86 : decode cX2_layTold 86 = .ok (.aload_n 0, 1) := dk_42 (dk_at dksX2_layTold_3 16 rfl rfl)
theorem dX2_layTold_87 : decode cX2_layTold 87 = .ok (.getfield 38, 3) := dk_180 0 38 (dk_at dksX2_layTold_3 17 rfl rfl)
theorem dX2_layTold_90 : decode cX2_layTold 90 = .ok (.sipush 512, 3) := dk_17 2 0 (dk_at dksX2_layTold_3 20 rfl rfl)
theorem dX2_layTold_93 : decode cX2_layTold 93 = .ok (.iload_n 1, 1) := dk_27 (dk_at dksX2_layTold_3 23 rfl rfl)
theorem dX2_layTold_94 : decode cX2_layTold 94 = .ok (.imul, 1) := dk_104 (dk_at dksX2_layTold_4 0 rfl rfl)
theorem dX2_layTold_95 : decode cX2_layTold 95 = .ok (.iload 5, 2) := dk_21 5 (dk_at dksX2_layTold_4 1 rfl rfl)
theorem dX2_layTold_97 : decode cX2_layTold 97 = .ok (.iadd, 1) := dk_96 (dk_at dksX2_layTold_4 3 rfl rfl)
theorem dX2_layTold_98 : decode cX2_layTold 98 = .ok (.iload_n 3, 1) := dk_29 (dk_at dksX2_layTold_4 4 rfl rfl)
theorem dX2_layTold_99 : decode cX2_layTold 99 = .ok (.i2b, 1) := dk_145 (dk_at dksX2_layTold_4 5 rfl rfl)
theorem dX2_layTold_100 : decode cX2_layTold 100 = .ok (.bastore, 1) := dk_84 (dk_at dksX2_layTold_4 6 rfl rfl)
theorem dX2_layTold_101 : decode cX2_layTold 101 = .ok (.aload_n 0, 1) := dk_42 (dk_at dksX2_layTold_4 7 rfl rfl)
theorem dX2_layTold_102 : decode cX2_layTold 102 = .ok (.getfield 13, 3) := dk_180 0 13 (dk_at dksX2_layTold_4 8 rfl rfl)
theorem dX2_layTold_105 : decode cX2_layTold 105 = .ok (.iconst 4, 1) := dk_7 (dk_at dksX2_layTold_4 11 rfl rfl)
theorem dX2_layTold_106 : decode cX2_layTold 106 = .ok (.iload_n 1, 1) := dk_27 (dk_at dksX2_layTold_4 12 rfl rfl)
theorem dX2_layTold_107 : decode cX2_layTold 107 = .ok (.imul, 1) := dk_104 (dk_at dksX2_layTold_4 13 rfl rfl)
theorem dX2_layTold_108 : decode cX2_layTold 108 = .ok (.iaload, 1) := dk_46 (dk_at dksX2_layTold_4 14 rfl rfl)
theorem dX2_layTold_109 : decode cX2_layTold 109 = .ok (.iload 4, 2) := dk_21 4 (dk_at dksX2_layTold_4 15 rfl rfl)
theorem dX2_layTold_111 : decode cX2_layTold 111 = .ok (.imul, 1) := dk_104 (dk_at dksX2_layTold_4 17 rfl rfl)
theorem dX2_layTold_112 : decode cX2_layTold 112 = .ok (.aload_n 0, 1) := dk_42 (dk_at dksX2_layTold_4 18 rfl rfl)
theorem dX2_layTold_113 : decode cX2_layTold 113 = .ok (.getfield 13, 3) := dk_180 0 13 (dk_at dksX2_layTold_4 19 rfl rfl)
theorem dX2_layTold_116 : decode cX2_layTold 116 = .ok (.iconst 4, 1) := dk_7 (dk_at dksX2_layTold_4 22 rfl rfl)
theorem dX2_layTold_117 : decode cX2_layTold 117 = .ok (.iload_n 1, 1) := dk_27 (dk_at dksX2_layTold_4 23 rfl rfl)
theorem dX2_layTold_118 : decode cX2_layTold 118 = .ok (.imul, 1) := dk_104 (dk_at dksX2_layTold_5 0 rfl rfl)
theorem dX2_layTold_119 : decode cX2_layTold 119 = .ok (.iconst 1, 1) := dk_4 (dk_at dksX2_layTold_5 1 rfl rfl)
theorem dX2_layTold_120 : decode cX2_layTold 120 = .ok (.iadd, 1) := dk_96 (dk_at dksX2_layTold_5 2 rfl rfl)
theorem dX2_layTold_121 : decode cX2_layTold 121 = .ok (.iaload, 1) := dk_46 (dk_at dksX2_layTold_5 3 rfl rfl)
theorem dX2_layTold_122 : decode cX2_layTold 122 = .ok (.iload_n 3, 1) := dk_29 (dk_at dksX2_layTold_5 4 rfl rfl)
theorem dX2_layTold_123 : decode cX2_layTold 123 = .ok (.imul, 1) := dk_104 (dk_at dksX2_layTold_5 5 rfl rfl)
theorem dX2_layTold_124 : decode cX2_layTold 124 = .ok (.iadd, 1) := dk_96 (dk_at dksX2_layTold_5 6 rfl rfl)
theorem dX2_layTold_125 : decode cX2_layTold 125 = .ok (.iload_n 2, 1) := dk_28 (dk_at dksX2_layTold_5 7 rfl rfl)
theorem dX2_layTold_126 : decode cX2_layTold 126 = .ok (.invokestatic 159, 3) := dk_184 0 159 (dk_at dksX2_layTold_5 8 rfl rfl)
theorem dX2_layTold_129 : decode cX2_layTold 129 = .ok (.istore 6, 2) := dk_54 6 (dk_at dksX2_layTold_5 11 rfl rfl)
theorem dX2_layTold_131 : decode cX2_layTold 131 = .ok (.iload 4, 2) := dk_21 4 (dk_at dksX2_layTold_5 13 rfl rfl)
theorem dX2_layTold_133 : decode cX2_layTold 133 = .ok (.istore_n 3, 1) := dk_62 (dk_at dksX2_layTold_5 15 rfl rfl)
theorem dX2_layTold_134 : decode cX2_layTold 134 = .ok (.iload 6, 2) := dk_21 6 (dk_at dksX2_layTold_5 16 rfl rfl)
theorem dX2_layTold_136 : decode cX2_layTold 136 = .ok (.istore 4, 2) := dk_54 4 (dk_at dksX2_layTold_5 18 rfl rfl)
theorem dX2_layTold_138 : decode cX2_layTold 138 = .ok (.iinc 5 1, 3) := dk_132 5 1 (dk_at dksX2_layTold_5 20 rfl rfl)
theorem dX2_layTold_141 : decode cX2_layTold 141 = .ok (.goto (-84), 3) := dk_167 255 172 (dk_at dksX2_layTold_6 0 rfl rfl)
theorem dX2_layTold_144 : decode cX2_layTold 144 = .ok (.aload_n 0, 1) := dk_42 (dk_at dksX2_layTold_6 3 rfl rfl)
theorem dX2_layTold_145 : decode cX2_layTold 145 = .ok (.getfield 32, 3) := dk_180 0 32 (dk_at dksX2_layTold_6 4 rfl rfl)
theorem dX2_layTold_148 : decode cX2_layTold 148 = .ok (.iload_n 1, 1) := dk_27 (dk_at dksX2_layTold_6 7 rfl rfl)
theorem dX2_layTold_149 : decode cX2_layTold 149 = .ok (.aload_n 0, 1) := dk_42 (dk_at dksX2_layTold_6 8 rfl rfl)
theorem dX2_layTold_150 : decode cX2_layTold 150 = .ok (.getfield 41, 3) := dk_180 0 41 (dk_at dksX2_layTold_6 9 rfl rfl)
theorem dX2_layTold_153 : decode cX2_layTold 153 = .ok (.iload_n 2, 1) := dk_28 (dk_at dksX2_layTold_6 12 rfl rfl)
theorem dX2_layTold_154 : decode cX2_layTold 154 = .ok (.iload_n 3, 1) := dk_29 (dk_at dksX2_layTold_6 13 rfl rfl)
theorem dX2_layTold_155 : decode cX2_layTold 155 = .ok (.imul, 1) := dk_104 (dk_at dksX2_layTold_6 14 rfl rfl)
theorem dX2_layTold_156 : decode cX2_layTold 156 = .ok (.iload 4, 2) := dk_21 4 (dk_at dksX2_layTold_6 15 rfl rfl)
theorem dX2_layTold_158 : decode cX2_layTold 158 = .ok (.iadd, 1) := dk_96 (dk_at dksX2_layTold_6 17 rfl rfl)
theorem dX2_layTold_159 : decode cX2_layTold 159 = .ok (.iaload, 1) := dk_46 (dk_at dksX2_layTold_6 18 rfl rfl)
theorem dX2_layTold_160 : decode cX2_layTold 160 = .ok (.iastore, 1) := dk_79 (dk_at dksX2_layTold_6 19 rfl rfl)
theorem dX2_layTold_161 : decode cX2_layTold 161 = .ok (.aload_n 0, 1) := dk_42 (dk_at dksX2_layTold_6 20 rfl rfl)
theorem dX2_layTold_162 : decode cX2_layTold 162 = .ok (.getfield 35, 3) := dk_180 0 35 (dk_at dksX2_layTold_6 21 rfl rfl)
theorem dX2_layTold_165 : decode cX2_layTold 165 = .ok (.iload_n 1, 1) := dk_27 (dk_at dksX2_layTold_7 0 rfl rfl)
theorem dX2_layTold_166 : decode cX2_layTold 166 = .ok (.iload 5, 2) := dk_21 5 (dk_at dksX2_layTold_7 1 rfl rfl)
theorem dX2_layTold_168 : decode cX2_layTold 168 = .ok (.aload_n 0, 1) := dk_42 (dk_at dksX2_layTold_7 3 rfl rfl)
theorem dX2_layTold_169 : decode cX2_layTold 169 = .ok (.getfield 32, 3) := dk_180 0 32 (dk_at dksX2_layTold_7 4 rfl rfl)
theorem dX2_layTold_172 : decode cX2_layTold 172 = .ok (.iload_n 1, 1) := dk_27 (dk_at dksX2_layTold_7 7 rfl rfl)
theorem dX2_layTold_173 : decode cX2_layTold 173 = .ok (.iaload, 1) := dk_46 (dk_at dksX2_layTold_7 8 rfl rfl)
theorem dX2_layTold_174 : decode cX2_layTold 174 = .ok (.isub, 1) := dk_100 (dk_at dksX2_layTold_7 9 rfl rfl)
theorem dX2_layTold_175 : decode cX2_layTold 175 = .ok (.iastore, 1) := dk_79 (dk_at dksX2_layTold_7 10 rfl rfl)
theorem dX2_layTold_176 : decode cX2_layTold 176 = .ok (.return_, 1) := dk_177 (dk_at dksX2_layTold_7 11 rfl rfl)
abbrev cX2_mod : ByteArray := prog_17_method_27_code
def yX2_mod : MethodName := ⟨RX2, "mod", "(II)I"⟩
def dkwX2_mod_0 : List UInt8 := [26, 27, 112, 27, 96, 27, 112, 172]
abbrev dktX2_mod_0 : List UInt8 := dkwX2_mod_0 ++ []
theorem dksX2_mod_0 : cX2_mod.data.toList.drop 0 = dktX2_mod_0 := by decide +kernel
theorem dX2_mod_0 : decode cX2_mod 0 = .ok (.iload_n 0, 1) := dk_26 (dk_at dksX2_mod_0 0 rfl rfl)
theorem dX2_mod_1 : decode cX2_mod 1 = .ok (.iload_n 1, 1) := dk_27 (dk_at dksX2_mod_0 1 rfl rfl)
theorem dX2_mod_2 : decode cX2_mod 2 = .ok (.irem, 1) := dk_112 (dk_at dksX2_mod_0 2 rfl rfl)
theorem dX2_mod_3 : decode cX2_mod 3 = .ok (.iload_n 1, 1) := dk_27 (dk_at dksX2_mod_0 3 rfl rfl)
theorem dX2_mod_4 : decode cX2_mod 4 = .ok (.iadd, 1) := dk_96 (dk_at dksX2_mod_0 4 rfl rfl)
theorem dX2_mod_5 : decode cX2_mod 5 = .ok (.iload_n 1, 1) := dk_27 (dk_at dksX2_mod_0 5 rfl rfl)
theorem dX2_mod_6 : decode cX2_mod 6 = .ok (.irem, 1) := dk_112 (dk_at dksX2_mod_0 6 rfl rfl)
theorem dX2_mod_7 : decode cX2_mod 7 = .ok (.ireturn, 1) := dk_172 (dk_at dksX2_mod_0 7 rfl rfl)
abbrev cX2_layTurn : ByteArray := prog_17_method_30_code
def yX2_layTurn : MethodName := ⟨RX2, "layTurn", "(I)V"⟩
def dkwX2_layTurn_9 : List UInt8 := [96, 46, 184, 0, 166, 108, 79, 177]
abbrev dktX2_layTurn_9 : List UInt8 := dkwX2_layTurn_9 ++ []
def dkwX2_layTurn_8 : List UInt8 := [180, 0, 35, 27, 42, 180, 0, 35, 28, 46, 42, 180, 0, 35, 28, 46, 42, 180, 0, 13, 7, 27, 104, 4]
abbrev dktX2_layTurn_8 : List UInt8 := dkwX2_layTurn_8 ++ dktX2_layTurn_9
def dkwX2_layTurn_7 : List UInt8 := [7, 27, 104, 4, 96, 46, 96, 4, 100, 42, 180, 0, 13, 7, 27, 104, 4, 96, 46, 108, 79, 42]
abbrev dktX2_layTurn_7 : List UInt8 := dkwX2_layTurn_7 ++ dktX2_layTurn_8
def dkwX2_layTurn_6 : List UInt8 := [46, 100, 54, 4, 42, 180, 0, 32, 27, 21, 4, 157, 0, 7, 3, 167, 0, 29, 21, 4, 42, 180, 0, 13]
abbrev dktX2_layTurn_6 : List UInt8 := dkwX2_layTurn_6 ++ dktX2_layTurn_7
def dkwX2_layTurn_5 : List UInt8 := [180, 0, 7, 27, 46, 6, 160, 0, 95, 42, 180, 0, 32, 28, 46, 42, 180, 0, 13, 7, 27, 104, 5, 96]
abbrev dktX2_layTurn_5 : List UInt8 := dkwX2_layTurn_5 ++ dktX2_layTurn_6
def dkwX2_layTurn_4 : List UInt8 := [180, 0, 35, 28, 46, 42, 180, 0, 35, 29, 46, 184, 0, 166, 108, 42, 180, 0, 35, 29, 46, 104, 79, 42]
abbrev dktX2_layTurn_4 : List UInt8 := dkwX2_layTurn_4 ++ dktX2_layTurn_5
def dkwX2_layTurn_3 : List UInt8 := [167, 0, 9, 42, 180, 0, 32, 29, 46, 79, 42, 180, 0, 35, 27, 42, 180, 0, 35, 28, 46, 42]
abbrev dktX2_layTurn_3 : List UInt8 := dkwX2_layTurn_3 ++ dktX2_layTurn_4
def dkwX2_layTurn_2 : List UInt8 := [27, 42, 180, 0, 32, 28, 46, 42, 180, 0, 32, 29, 46, 164, 0, 12, 42, 180, 0, 32, 28, 46]
abbrev dktX2_layTurn_2 : List UInt8 := dkwX2_layTurn_2 ++ dktX2_layTurn_3
def dkwX2_layTurn_1 : List UInt8 := [46, 5, 160, 0, 16, 42, 180, 0, 13, 7, 27, 104, 4, 96, 46, 167, 0, 4, 28, 62, 42, 180, 0, 32]
abbrev dktX2_layTurn_1 : List UInt8 := dkwX2_layTurn_1 ++ dktX2_layTurn_2
def dkwX2_layTurn_0 : List UInt8 := [42, 180, 0, 13, 7, 27, 104, 46, 61, 42, 180, 0, 7, 27, 46, 4, 159, 0, 13, 42, 180, 0, 7, 27]
abbrev dktX2_layTurn_0 : List UInt8 := dkwX2_layTurn_0 ++ dktX2_layTurn_1
theorem dksX2_layTurn_0 : cX2_layTurn.data.toList.drop 0 = dktX2_layTurn_0 := by decide +kernel
theorem dksX2_layTurn_1 : cX2_layTurn.data.toList.drop 24 = dktX2_layTurn_1 := dk_seg dksX2_layTurn_0 24 rfl rfl
theorem dksX2_layTurn_2 : cX2_layTurn.data.toList.drop 48 = dktX2_layTurn_2 := dk_seg dksX2_layTurn_1 24 rfl rfl
theorem dksX2_layTurn_3 : cX2_layTurn.data.toList.drop 70 = dktX2_layTurn_3 := dk_seg dksX2_layTurn_2 22 rfl rfl
theorem dksX2_layTurn_4 : cX2_layTurn.data.toList.drop 92 = dktX2_layTurn_4 := dk_seg dksX2_layTurn_3 22 rfl rfl
theorem dksX2_layTurn_5 : cX2_layTurn.data.toList.drop 116 = dktX2_layTurn_5 := dk_seg dksX2_layTurn_4 24 rfl rfl
theorem dksX2_layTurn_6 : cX2_layTurn.data.toList.drop 140 = dktX2_layTurn_6 := dk_seg dksX2_layTurn_5 24 rfl rfl
theorem dksX2_layTurn_7 : cX2_layTurn.data.toList.drop 164 = dktX2_layTurn_7 := dk_seg dksX2_layTurn_6 24 rfl rfl
theorem dksX2_layTurn_8 : cX2_layTurn.data.toList.drop 186 = dktX2_layTurn_8 := dk_seg dksX2_layTurn_7 22 rfl rfl
theorem dksX2_layTurn_9 : cX2_layTurn.data.toList.drop 210 = dktX2_layTurn_9 := dk_seg dksX2_layTurn_8 24 rfl rfl
theorem dX2_layTurn_0 : decode cX2_layTurn 0 = .ok (.aload_n 0, 1) := dk_42 (dk_at dksX2_layTurn_0 0 rfl rfl)
theorem dX2_layTurn_1 : decode cX2_layTurn 1 = .ok (.getfield 13, 3) := dk_180 0 13 (dk_at dksX2_layTurn_0 1 rfl rfl)
theorem dX2_layTurn_4 : decode cX2_layTurn 4 = .ok (.iconst 4, 1) := dk_7 (dk_at dksX2_layTurn_0 4 rfl rfl)
theorem dX2_layTurn_5 : decode cX2_layTurn 5 = .ok (.iload_n 1, 1) := dk_27 (dk_at dksX2_layTurn_0 5 rfl rfl)
theorem dX2_layTurn_6 : decode cX2_layTurn 6 = .ok (.imul, 1) := dk_104 (dk_at dksX2_layTurn_0 6 rfl rfl)
theorem dX2_layTurn_7 : decode cX2_layTurn 7 = .ok (.iaload, 1) := dk_46 (dk_at dksX2_layTurn_0 7 rfl rfl)
theorem dX2_layTurn_8 : decode cX2_layTurn 8 = .ok (.istore_n 2, 1) := dk_61 (dk_at dksX2_layTurn_0 8 rfl rfl)
theorem dX2_layTurn_9 : decode cX2_layTurn 9 = .ok (.aload_n 0, 1) := dk_42 (dk_at dksX2_layTurn_0 9 rfl rfl)
theorem dX2_layTurn_10 : decode cX2_layTurn 10 = .ok (.getfield 7, 3) := dk_180 0 7 (dk_at dksX2_layTurn_0 10 rfl rfl)
theorem dX2_layTurn_13 : decode cX2_layTurn 13 = .ok (.iload_n 1, 1) := dk_27 (dk_at dksX2_layTurn_0 13 rfl rfl)
theorem dX2_layTurn_14 : decode cX2_layTurn 14 = .ok (.iaload, 1) := dk_46 (dk_at dksX2_layTurn_0 14 rfl rfl)
theorem dX2_layTurn_15 : decode cX2_layTurn 15 = .ok (.iconst 1, 1) := dk_4 (dk_at dksX2_layTurn_0 15 rfl rfl)
theorem dX2_layTurn_16 : decode cX2_layTurn 16 = .ok (.if_icmp .eq 13, 3) := dk_159 0 13 (dk_at dksX2_layTurn_0 16 rfl rfl)
theorem dX2_layTurn_19 : decode cX2_layTurn 19 = .ok (.aload_n 0, 1) := dk_42 (dk_at dksX2_layTurn_0 19 rfl rfl)
theorem dX2_layTurn_20 : decode cX2_layTurn 20 = .ok (.getfield 7, 3) := dk_180 0 7 (dk_at dksX2_layTurn_0 20 rfl rfl)
theorem dX2_layTurn_23 : decode cX2_layTurn 23 = .ok (.iload_n 1, 1) := dk_27 (dk_at dksX2_layTurn_0 23 rfl rfl)
theorem dX2_layTurn_24 : decode cX2_layTurn 24 = .ok (.iaload, 1) := dk_46 (dk_at dksX2_layTurn_1 0 rfl rfl)
theorem dX2_layTurn_25 : decode cX2_layTurn 25 = .ok (.iconst 2, 1) := dk_5 (dk_at dksX2_layTurn_1 1 rfl rfl)
theorem dX2_layTurn_26 : decode cX2_layTurn 26 = .ok (.if_icmp .ne 16, 3) := dk_160 0 16 (dk_at dksX2_layTurn_1 2 rfl rfl)
theorem dX2_layTurn_29 : decode cX2_layTurn 29 = .ok (.aload_n 0, 1) := dk_42 (dk_at dksX2_layTurn_1 5 rfl rfl)
theorem dX2_layTurn_30 : decode cX2_layTurn 30 = .ok (.getfield 13, 3) := dk_180 0 13 (dk_at dksX2_layTurn_1 6 rfl rfl)
theorem dX2_layTurn_33 : decode cX2_layTurn 33 = .ok (.iconst 4, 1) := dk_7 (dk_at dksX2_layTurn_1 9 rfl rfl)
theorem dX2_layTurn_34 : decode cX2_layTurn 34 = .ok (.iload_n 1, 1) := dk_27 (dk_at dksX2_layTurn_1 10 rfl rfl)
theorem dX2_layTurn_35 : decode cX2_layTurn 35 = .ok (.imul, 1) := dk_104 (dk_at dksX2_layTurn_1 11 rfl rfl)
theorem dX2_layTurn_36 : decode cX2_layTurn 36 = .ok (.iconst 1, 1) := dk_4 (dk_at dksX2_layTurn_1 12 rfl rfl)
theorem dX2_layTurn_37 : decode cX2_layTurn 37 = .ok (.iadd, 1) := dk_96 (dk_at dksX2_layTurn_1 13 rfl rfl)
theorem dX2_layTurn_38 : decode cX2_layTurn 38 = .ok (.iaload, 1) := dk_46 (dk_at dksX2_layTurn_1 14 rfl rfl)
theorem dX2_layTurn_39 : decode cX2_layTurn 39 = .ok (.goto 4, 3) := dk_167 0 4 (dk_at dksX2_layTurn_1 15 rfl rfl)
theorem dX2_layTurn_42 : decode cX2_layTurn 42 = .ok (.iload_n 2, 1) := dk_28 (dk_at dksX2_layTurn_1 18 rfl rfl)
theorem dX2_layTurn_43 : decode cX2_layTurn 43 = .ok (.istore_n 3, 1) := dk_62 (dk_at dksX2_layTurn_1 19 rfl rfl)
theorem dX2_layTurn_44 : decode cX2_layTurn 44 = .ok (.aload_n 0, 1) := dk_42 (dk_at dksX2_layTurn_1 20 rfl rfl)
theorem dX2_layTurn_45 : decode cX2_layTurn 45 = .ok (.getfield 32, 3) := dk_180 0 32 (dk_at dksX2_layTurn_1 21 rfl rfl)
theorem dX2_layTurn_48 : decode cX2_layTurn 48 = .ok (.iload_n 1, 1) := dk_27 (dk_at dksX2_layTurn_2 0 rfl rfl)
theorem dX2_layTurn_49 : decode cX2_layTurn 49 = .ok (.aload_n 0, 1) := dk_42 (dk_at dksX2_layTurn_2 1 rfl rfl)
theorem dX2_layTurn_50 : decode cX2_layTurn 50 = .ok (.getfield 32, 3) := dk_180 0 32 (dk_at dksX2_layTurn_2 2 rfl rfl)
theorem dX2_layTurn_53 : decode cX2_layTurn 53 = .ok (.iload_n 2, 1) := dk_28 (dk_at dksX2_layTurn_2 5 rfl rfl)
theorem dX2_layTurn_54 : decode cX2_layTurn 54 = .ok (.iaload, 1) := dk_46 (dk_at dksX2_layTurn_2 6 rfl rfl)
theorem dX2_layTurn_55 : decode cX2_layTurn 55 = .ok (.aload_n 0, 1) := dk_42 (dk_at dksX2_layTurn_2 7 rfl rfl)
theorem dX2_layTurn_56 : decode cX2_layTurn 56 = .ok (.getfield 32, 3) := dk_180 0 32 (dk_at dksX2_layTurn_2 8 rfl rfl)
theorem dX2_layTurn_59 : decode cX2_layTurn 59 = .ok (.iload_n 3, 1) := dk_29 (dk_at dksX2_layTurn_2 11 rfl rfl)
theorem dX2_layTurn_60 : decode cX2_layTurn 60 = .ok (.iaload, 1) := dk_46 (dk_at dksX2_layTurn_2 12 rfl rfl)
theorem dX2_layTurn_61 : decode cX2_layTurn 61 = .ok (.if_icmp .le 12, 3) := dk_164 0 12 (dk_at dksX2_layTurn_2 13 rfl rfl)
theorem dX2_layTurn_64 : decode cX2_layTurn 64 = .ok (.aload_n 0, 1) := dk_42 (dk_at dksX2_layTurn_2 16 rfl rfl)
theorem dX2_layTurn_65 : decode cX2_layTurn 65 = .ok (.getfield 32, 3) := dk_180 0 32 (dk_at dksX2_layTurn_2 17 rfl rfl)
theorem dX2_layTurn_68 : decode cX2_layTurn 68 = .ok (.iload_n 2, 1) := dk_28 (dk_at dksX2_layTurn_2 20 rfl rfl)
theorem dX2_layTurn_69 : decode cX2_layTurn 69 = .ok (.iaload, 1) := dk_46 (dk_at dksX2_layTurn_2 21 rfl rfl)
theorem dX2_layTurn_70 : decode cX2_layTurn 70 = .ok (.goto 9, 3) := dk_167 0 9 (dk_at dksX2_layTurn_3 0 rfl rfl)
theorem dX2_layTurn_73 : decode cX2_layTurn 73 = .ok (.aload_n 0, 1) := dk_42 (dk_at dksX2_layTurn_3 3 rfl rfl)
theorem dX2_layTurn_74 : decode cX2_layTurn 74 = .ok (.getfield 32, 3) := dk_180 0 32 (dk_at dksX2_layTurn_3 4 rfl rfl)
theorem dX2_layTurn_77 : decode cX2_layTurn 77 = .ok (.iload_n 3, 1) := dk_29 (dk_at dksX2_layTurn_3 7 rfl rfl)
theorem dX2_layTurn_78 : decode cX2_layTurn 78 = .ok (.iaload, 1) := dk_46 (dk_at dksX2_layTurn_3 8 rfl rfl)
theorem dX2_layTurn_79 : decode cX2_layTurn 79 = .ok (.iastore, 1) := dk_79 (dk_at dksX2_layTurn_3 9 rfl rfl)
theorem dX2_layTurn_80 : decode cX2_layTurn 80 = .ok (.aload_n 0, 1) := dk_42 (dk_at dksX2_layTurn_3 10 rfl rfl)
theorem dX2_layTurn_81 : decode cX2_layTurn 81 = .ok (.getfield 35, 3) := dk_180 0 35 (dk_at dksX2_layTurn_3 11 rfl rfl)
theorem dX2_layTurn_84 : decode cX2_layTurn 84 = .ok (.iload_n 1, 1) := dk_27 (dk_at dksX2_layTurn_3 14 rfl rfl)
theorem dX2_layTurn_85 : decode cX2_layTurn 85 = .ok (.aload_n 0, 1) := dk_42 (dk_at dksX2_layTurn_3 15 rfl rfl)
theorem dX2_layTurn_86 : decode cX2_layTurn 86 = .ok (.getfield 35, 3) := dk_180 0 35 (dk_at dksX2_layTurn_3 16 rfl rfl)
theorem dX2_layTurn_89 : decode cX2_layTurn 89 = .ok (.iload_n 2, 1) := dk_28 (dk_at dksX2_layTurn_3 19 rfl rfl)
theorem dX2_layTurn_90 : decode cX2_layTurn 90 = .ok (.iaload, 1) := dk_46 (dk_at dksX2_layTurn_3 20 rfl rfl)
theorem dX2_layTurn_91 : decode cX2_layTurn 91 = .ok (.aload_n 0, 1) := dk_42 (dk_at dksX2_layTurn_3 21 rfl rfl)
theorem dX2_layTurn_92 : decode cX2_layTurn 92 = .ok (.getfield 35, 3) := dk_180 0 35 (dk_at dksX2_layTurn_4 0 rfl rfl)
theorem dX2_layTurn_95 : decode cX2_layTurn 95 = .ok (.iload_n 2, 1) := dk_28 (dk_at dksX2_layTurn_4 3 rfl rfl)
theorem dX2_layTurn_96 : decode cX2_layTurn 96 = .ok (.iaload, 1) := dk_46 (dk_at dksX2_layTurn_4 4 rfl rfl)
theorem dX2_layTurn_97 : decode cX2_layTurn 97 = .ok (.aload_n 0, 1) := dk_42 (dk_at dksX2_layTurn_4 5 rfl rfl)
theorem dX2_layTurn_98 : decode cX2_layTurn 98 = .ok (.getfield 35, 3) := dk_180 0 35 (dk_at dksX2_layTurn_4 6 rfl rfl)
theorem dX2_layTurn_101 : decode cX2_layTurn 101 = .ok (.iload_n 3, 1) := dk_29 (dk_at dksX2_layTurn_4 9 rfl rfl)
theorem dX2_layTurn_102 : decode cX2_layTurn 102 = .ok (.iaload, 1) := dk_46 (dk_at dksX2_layTurn_4 10 rfl rfl)
theorem dX2_layTurn_103 : decode cX2_layTurn 103 = .ok (.invokestatic 166, 3) := dk_184 0 166 (dk_at dksX2_layTurn_4 11 rfl rfl)
theorem dX2_layTurn_106 : decode cX2_layTurn 106 = .ok (.idiv, 1) := dk_108 (dk_at dksX2_layTurn_4 14 rfl rfl)
theorem dX2_layTurn_107 : decode cX2_layTurn 107 = .ok (.aload_n 0, 1) := dk_42 (dk_at dksX2_layTurn_4 15 rfl rfl)
theorem dX2_layTurn_108 : decode cX2_layTurn 108 = .ok (.getfield 35, 3) := dk_180 0 35 (dk_at dksX2_layTurn_4 16 rfl rfl)
theorem dX2_layTurn_111 : decode cX2_layTurn 111 = .ok (.iload_n 3, 1) := dk_29 (dk_at dksX2_layTurn_4 19 rfl rfl)
theorem dX2_layTurn_112 : decode cX2_layTurn 112 = .ok (.iaload, 1) := dk_46 (dk_at dksX2_layTurn_4 20 rfl rfl)
theorem dX2_layTurn_113 : decode cX2_layTurn 113 = .ok (.imul, 1) := dk_104 (dk_at dksX2_layTurn_4 21 rfl rfl)
theorem dX2_layTurn_114 : decode cX2_layTurn 114 = .ok (.iastore, 1) := dk_79 (dk_at dksX2_layTurn_4 22 rfl rfl)
theorem dX2_layTurn_115 : decode cX2_layTurn 115 = .ok (.aload_n 0, 1) := dk_42 (dk_at dksX2_layTurn_4 23 rfl rfl)
theorem dX2_layTurn_116 : decode cX2_layTurn 116 = .ok (.getfield 7, 3) := dk_180 0 7 (dk_at dksX2_layTurn_5 0 rfl rfl)
theorem dX2_layTurn_119 : decode cX2_layTurn 119 = .ok (.iload_n 1, 1) := dk_27 (dk_at dksX2_layTurn_5 3 rfl rfl)
theorem dX2_layTurn_120 : decode cX2_layTurn 120 = .ok (.iaload, 1) := dk_46 (dk_at dksX2_layTurn_5 4 rfl rfl)
theorem dX2_layTurn_121 : decode cX2_layTurn 121 = .ok (.iconst 3, 1) := dk_6 (dk_at dksX2_layTurn_5 5 rfl rfl)
theorem dX2_layTurn_122 : decode cX2_layTurn 122 = .ok (.if_icmp .ne 95, 3) := dk_160 0 95 (dk_at dksX2_layTurn_5 6 rfl rfl)
theorem dX2_layTurn_125 : decode cX2_layTurn 125 = .ok (.aload_n 0, 1) := dk_42 (dk_at dksX2_layTurn_5 9 rfl rfl)
theorem dX2_layTurn_126 : decode cX2_layTurn 126 = .ok (.getfield 32, 3) := dk_180 0 32 (dk_at dksX2_layTurn_5 10 rfl rfl)
theorem dX2_layTurn_129 : decode cX2_layTurn 129 = .ok (.iload_n 2, 1) := dk_28 (dk_at dksX2_layTurn_5 13 rfl rfl)
theorem dX2_layTurn_130 : decode cX2_layTurn 130 = .ok (.iaload, 1) := dk_46 (dk_at dksX2_layTurn_5 14 rfl rfl)
theorem dX2_layTurn_131 : decode cX2_layTurn 131 = .ok (.aload_n 0, 1) := dk_42 (dk_at dksX2_layTurn_5 15 rfl rfl)
theorem dX2_layTurn_132 : decode cX2_layTurn 132 = .ok (.getfield 13, 3) := dk_180 0 13 (dk_at dksX2_layTurn_5 16 rfl rfl)
theorem dX2_layTurn_135 : decode cX2_layTurn 135 = .ok (.iconst 4, 1) := dk_7 (dk_at dksX2_layTurn_5 19 rfl rfl)
theorem dX2_layTurn_136 : decode cX2_layTurn 136 = .ok (.iload_n 1, 1) := dk_27 (dk_at dksX2_layTurn_5 20 rfl rfl)
theorem dX2_layTurn_137 : decode cX2_layTurn 137 = .ok (.imul, 1) := dk_104 (dk_at dksX2_layTurn_5 21 rfl rfl)
theorem dX2_layTurn_138 : decode cX2_layTurn 138 = .ok (.iconst 2, 1) := dk_5 (dk_at dksX2_layTurn_5 22 rfl rfl)
theorem dX2_layTurn_139 : decode cX2_layTurn 139 = .ok (.iadd, 1) := dk_96 (dk_at dksX2_layTurn_5 23 rfl rfl)
theorem dX2_layTurn_140 : decode cX2_layTurn 140 = .ok (.iaload, 1) := dk_46 (dk_at dksX2_layTurn_6 0 rfl rfl)
theorem dX2_layTurn_141 : decode cX2_layTurn 141 = .ok (.isub, 1) := dk_100 (dk_at dksX2_layTurn_6 1 rfl rfl)
theorem dX2_layTurn_142 : decode cX2_layTurn 142 = .ok (.istore 4, 2) := dk_54 4 (dk_at dksX2_layTurn_6 2 rfl rfl)
theorem dX2_layTurn_144 : decode cX2_layTurn 144 = .ok (.aload_n 0, 1) := dk_42 (dk_at dksX2_layTurn_6 4 rfl rfl)
theorem dX2_layTurn_145 : decode cX2_layTurn 145 = .ok (.getfield 32, 3) := dk_180 0 32 (dk_at dksX2_layTurn_6 5 rfl rfl)
theorem dX2_layTurn_148 : decode cX2_layTurn 148 = .ok (.iload_n 1, 1) := dk_27 (dk_at dksX2_layTurn_6 8 rfl rfl)
theorem dX2_layTurn_149 : decode cX2_layTurn 149 = .ok (.iload 4, 2) := dk_21 4 (dk_at dksX2_layTurn_6 9 rfl rfl)
theorem dX2_layTurn_151 : decode cX2_layTurn 151 = .ok (.ifCond .gt 7, 3) := dk_157 0 7 (dk_at dksX2_layTurn_6 11 rfl rfl)
theorem dX2_layTurn_154 : decode cX2_layTurn 154 = .ok (.iconst 0, 1) := dk_3 (dk_at dksX2_layTurn_6 14 rfl rfl)
theorem dX2_layTurn_155 : decode cX2_layTurn 155 = .ok (.goto 29, 3) := dk_167 0 29 (dk_at dksX2_layTurn_6 15 rfl rfl)
theorem dX2_layTurn_158 : decode cX2_layTurn 158 = .ok (.iload 4, 2) := dk_21 4 (dk_at dksX2_layTurn_6 18 rfl rfl)
theorem dX2_layTurn_160 : decode cX2_layTurn 160 = .ok (.aload_n 0, 1) := dk_42 (dk_at dksX2_layTurn_6 20 rfl rfl)
theorem dX2_layTurn_161 : decode cX2_layTurn 161 = .ok (.getfield 13, 3) := dk_180 0 13 (dk_at dksX2_layTurn_6 21 rfl rfl)
theorem dX2_layTurn_164 : decode cX2_layTurn 164 = .ok (.iconst 4, 1) := dk_7 (dk_at dksX2_layTurn_7 0 rfl rfl)
theorem dX2_layTurn_165 : decode cX2_layTurn 165 = .ok (.iload_n 1, 1) := dk_27 (dk_at dksX2_layTurn_7 1 rfl rfl)
theorem dX2_layTurn_166 : decode cX2_layTurn 166 = .ok (.imul, 1) := dk_104 (dk_at dksX2_layTurn_7 2 rfl rfl)
theorem dX2_layTurn_167 : decode cX2_layTurn 167 = .ok (.iconst 1, 1) := dk_4 (dk_at dksX2_layTurn_7 3 rfl rfl)
theorem dX2_layTurn_168 : decode cX2_layTurn 168 = .ok (.iadd, 1) := dk_96 (dk_at dksX2_layTurn_7 4 rfl rfl)
theorem dX2_layTurn_169 : decode cX2_layTurn 169 = .ok (.iaload, 1) := dk_46 (dk_at dksX2_layTurn_7 5 rfl rfl)
theorem dX2_layTurn_170 : decode cX2_layTurn 170 = .ok (.iadd, 1) := dk_96 (dk_at dksX2_layTurn_7 6 rfl rfl)
theorem dX2_layTurn_171 : decode cX2_layTurn 171 = .ok (.iconst 1, 1) := dk_4 (dk_at dksX2_layTurn_7 7 rfl rfl)
theorem dX2_layTurn_172 : decode cX2_layTurn 172 = .ok (.isub, 1) := dk_100 (dk_at dksX2_layTurn_7 8 rfl rfl)
theorem dX2_layTurn_173 : decode cX2_layTurn 173 = .ok (.aload_n 0, 1) := dk_42 (dk_at dksX2_layTurn_7 9 rfl rfl)
theorem dX2_layTurn_174 : decode cX2_layTurn 174 = .ok (.getfield 13, 3) := dk_180 0 13 (dk_at dksX2_layTurn_7 10 rfl rfl)
theorem dX2_layTurn_177 : decode cX2_layTurn 177 = .ok (.iconst 4, 1) := dk_7 (dk_at dksX2_layTurn_7 13 rfl rfl)
theorem dX2_layTurn_178 : decode cX2_layTurn 178 = .ok (.iload_n 1, 1) := dk_27 (dk_at dksX2_layTurn_7 14 rfl rfl)
theorem dX2_layTurn_179 : decode cX2_layTurn 179 = .ok (.imul, 1) := dk_104 (dk_at dksX2_layTurn_7 15 rfl rfl)
theorem dX2_layTurn_180 : decode cX2_layTurn 180 = .ok (.iconst 1, 1) := dk_4 (dk_at dksX2_layTurn_7 16 rfl rfl)
theorem dX2_layTurn_181 : decode cX2_layTurn 181 = .ok (.iadd, 1) := dk_96 (dk_at dksX2_layTurn_7 17 rfl rfl)
theorem dX2_layTurn_182 : decode cX2_layTurn 182 = .ok (.iaload, 1) := dk_46 (dk_at dksX2_layTurn_7 18 rfl rfl)
theorem dX2_layTurn_183 : decode cX2_layTurn 183 = .ok (.idiv, 1) := dk_108 (dk_at dksX2_layTurn_7 19 rfl rfl)
theorem dX2_layTurn_184 : decode cX2_layTurn 184 = .ok (.iastore, 1) := dk_79 (dk_at dksX2_layTurn_7 20 rfl rfl)
theorem dX2_layTurn_185 : decode cX2_layTurn 185 = .ok (.aload_n 0, 1) := dk_42 (dk_at dksX2_layTurn_7 21 rfl rfl)
theorem dX2_layTurn_186 : decode cX2_layTurn 186 = .ok (.getfield 35, 3) := dk_180 0 35 (dk_at dksX2_layTurn_8 0 rfl rfl)
theorem dX2_layTurn_189 : decode cX2_layTurn 189 = .ok (.iload_n 1, 1) := dk_27 (dk_at dksX2_layTurn_8 3 rfl rfl)
theorem dX2_layTurn_190 : decode cX2_layTurn 190 = .ok (.aload_n 0, 1) := dk_42 (dk_at dksX2_layTurn_8 4 rfl rfl)
theorem dX2_layTurn_191 : decode cX2_layTurn 191 = .ok (.getfield 35, 3) := dk_180 0 35 (dk_at dksX2_layTurn_8 5 rfl rfl)
theorem dX2_layTurn_194 : decode cX2_layTurn 194 = .ok (.iload_n 2, 1) := dk_28 (dk_at dksX2_layTurn_8 8 rfl rfl)
theorem dX2_layTurn_195 : decode cX2_layTurn 195 = .ok (.iaload, 1) := dk_46 (dk_at dksX2_layTurn_8 9 rfl rfl)
theorem dX2_layTurn_196 : decode cX2_layTurn 196 = .ok (.aload_n 0, 1) := dk_42 (dk_at dksX2_layTurn_8 10 rfl rfl)
theorem dX2_layTurn_197 : decode cX2_layTurn 197 = .ok (.getfield 35, 3) := dk_180 0 35 (dk_at dksX2_layTurn_8 11 rfl rfl)
theorem dX2_layTurn_200 : decode cX2_layTurn 200 = .ok (.iload_n 2, 1) := dk_28 (dk_at dksX2_layTurn_8 14 rfl rfl)
theorem dX2_layTurn_201 : decode cX2_layTurn 201 = .ok (.iaload, 1) := dk_46 (dk_at dksX2_layTurn_8 15 rfl rfl)
theorem dX2_layTurn_202 : decode cX2_layTurn 202 = .ok (.aload_n 0, 1) := dk_42 (dk_at dksX2_layTurn_8 16 rfl rfl)
theorem dX2_layTurn_203 : decode cX2_layTurn 203 = .ok (.getfield 13, 3) := dk_180 0 13 (dk_at dksX2_layTurn_8 17 rfl rfl)
theorem dX2_layTurn_206 : decode cX2_layTurn 206 = .ok (.iconst 4, 1) := dk_7 (dk_at dksX2_layTurn_8 20 rfl rfl)
theorem dX2_layTurn_207 : decode cX2_layTurn 207 = .ok (.iload_n 1, 1) := dk_27 (dk_at dksX2_layTurn_8 21 rfl rfl)
theorem dX2_layTurn_208 : decode cX2_layTurn 208 = .ok (.imul, 1) := dk_104 (dk_at dksX2_layTurn_8 22 rfl rfl)
theorem dX2_layTurn_209 : decode cX2_layTurn 209 = .ok (.iconst 1, 1) := dk_4 (dk_at dksX2_layTurn_8 23 rfl rfl)
theorem dX2_layTurn_210 : decode cX2_layTurn 210 = .ok (.iadd, 1) := dk_96 (dk_at dksX2_layTurn_9 0 rfl rfl)
theorem dX2_layTurn_211 : decode cX2_layTurn 211 = .ok (.iaload, 1) := dk_46 (dk_at dksX2_layTurn_9 1 rfl rfl)
theorem dX2_layTurn_212 : decode cX2_layTurn 212 = .ok (.invokestatic 166, 3) := dk_184 0 166 (dk_at dksX2_layTurn_9 2 rfl rfl)
theorem dX2_layTurn_215 : decode cX2_layTurn 215 = .ok (.idiv, 1) := dk_108 (dk_at dksX2_layTurn_9 5 rfl rfl)
theorem dX2_layTurn_216 : decode cX2_layTurn 216 = .ok (.iastore, 1) := dk_79 (dk_at dksX2_layTurn_9 6 rfl rfl)
theorem dX2_layTurn_217 : decode cX2_layTurn 217 = .ok (.return_, 1) := dk_177 (dk_at dksX2_layTurn_9 7 rfl rfl)
abbrev cX2_common : ByteArray := prog_17_method_26_code
def yX2_common : MethodName := ⟨RX2, "common", "(II)I"⟩
def dkwX2_common_0 : List UInt8 := [26, 61, 27, 62, 29, 153, 0, 16, 28, 29, 112, 54, 4, 29, 61, 21, 4, 62, 167, 255, 242, 28, 172]
abbrev dktX2_common_0 : List UInt8 := dkwX2_common_0 ++ []
theorem dksX2_common_0 : cX2_common.data.toList.drop 0 = dktX2_common_0 := by decide +kernel
theorem dX2_common_0 : decode cX2_common 0 = .ok (.iload_n 0, 1) := dk_26 (dk_at dksX2_common_0 0 rfl rfl)
theorem dX2_common_1 : decode cX2_common 1 = .ok (.istore_n 2, 1) := dk_61 (dk_at dksX2_common_0 1 rfl rfl)
theorem dX2_common_2 : decode cX2_common 2 = .ok (.iload_n 1, 1) := dk_27 (dk_at dksX2_common_0 2 rfl rfl)
theorem dX2_common_3 : decode cX2_common 3 = .ok (.istore_n 3, 1) := dk_62 (dk_at dksX2_common_0 3 rfl rfl)
theorem dX2_common_4 : decode cX2_common 4 = .ok (.iload_n 3, 1) := dk_29 (dk_at dksX2_common_0 4 rfl rfl)
theorem dX2_common_5 : decode cX2_common 5 = .ok (.ifCond .eq 16, 3) := dk_153 0 16 (dk_at dksX2_common_0 5 rfl rfl)
theorem dX2_common_8 : decode cX2_common 8 = .ok (.iload_n 2, 1) := dk_28 (dk_at dksX2_common_0 8 rfl rfl)
theorem dX2_common_9 : decode cX2_common 9 = .ok (.iload_n 3, 1) := dk_29 (dk_at dksX2_common_0 9 rfl rfl)
theorem dX2_common_10 : decode cX2_common 10 = .ok (.irem, 1) := dk_112 (dk_at dksX2_common_0 10 rfl rfl)
theorem dX2_common_11 : decode cX2_common 11 = .ok (.istore 4, 2) := dk_54 4 (dk_at dksX2_common_0 11 rfl rfl)
theorem dX2_common_13 : decode cX2_common 13 = .ok (.iload_n 3, 1) := dk_29 (dk_at dksX2_common_0 13 rfl rfl)
theorem dX2_common_14 : decode cX2_common 14 = .ok (.istore_n 2, 1) := dk_61 (dk_at dksX2_common_0 14 rfl rfl)
theorem dX2_common_15 : decode cX2_common 15 = .ok (.iload 4, 2) := dk_21 4 (dk_at dksX2_common_0 15 rfl rfl)
theorem dX2_common_17 : decode cX2_common 17 = .ok (.istore_n 3, 1) := dk_62 (dk_at dksX2_common_0 17 rfl rfl)
theorem dX2_common_18 : decode cX2_common 18 = .ok (.goto (-14), 3) := dk_167 255 242 (dk_at dksX2_common_0 18 rfl rfl)
theorem dX2_common_21 : decode cX2_common 21 = .ok (.iload_n 2, 1) := dk_28 (dk_at dksX2_common_0 21 rfl rfl)
theorem dX2_common_22 : decode cX2_common 22 = .ok (.ireturn, 1) := dk_172 (dk_at dksX2_common_0 22 rfl rfl)
abbrev cX2_madeRest : ByteArray := prog_17_method_29_code
def yX2_madeRest : MethodName := ⟨RX2, "madeRest", "(III)I"⟩
def dkwX2_madeRest_6 : List UInt8 := [182, 0, 162, 42, 21, 4, 28, 133, 182, 0, 162, 100, 29, 184, 0, 159, 172]
abbrev dktX2_madeRest_6 : List UInt8 := dkwX2_madeRest_6 ++ []
def dkwX2_madeRest_5 : List UInt8 := [180, 0, 13, 7, 27, 104, 5, 96, 46, 96, 133, 182, 0, 162, 172, 42, 21, 4, 28, 4, 96, 133]
abbrev dktX2_madeRest_5 : List UInt8 := dkwX2_madeRest_5 ++ dktX2_madeRest_6
def dkwX2_madeRest_4 : List UInt8 := [133, 182, 0, 162, 104, 29, 112, 172, 42, 21, 4, 42, 180, 0, 13, 7, 27, 104, 4, 96, 46, 28, 104, 42]
abbrev dktX2_madeRest_4 : List UInt8 := dkwX2_madeRest_4 ++ dktX2_madeRest_5
def dkwX2_madeRest_3 : List UInt8 := [96, 29, 112, 172, 42, 21, 4, 28, 133, 182, 0, 162, 42, 42, 180, 0, 13, 7, 27, 104, 4, 96, 46, 28]
abbrev dktX2_madeRest_3 : List UInt8 := dkwX2_madeRest_3 ++ dktX2_madeRest_4
def dkwX2_madeRest_2 : List UInt8 := [42, 21, 4, 28, 133, 182, 0, 162, 42, 42, 180, 0, 13, 7, 27, 104, 4, 96, 46, 28, 133, 182, 0, 162]
abbrev dktX2_madeRest_2 : List UInt8 := dkwX2_madeRest_2 ++ dktX2_madeRest_3
def dkwX2_madeRest_1 : List UInt8 := [170, 0, 0, 0, 0, 0, 0, 115, 0, 0, 0, 1, 0, 0, 0, 3, 0, 0, 0, 28, 0, 0, 0, 56, 0, 0, 0, 84]
abbrev dktX2_madeRest_1 : List UInt8 := dkwX2_madeRest_1 ++ dktX2_madeRest_2
def dkwX2_madeRest_0 : List UInt8 := [42, 180, 0, 13, 7, 27, 104, 46, 54, 4, 42, 180, 0, 7, 27, 46]
abbrev dktX2_madeRest_0 : List UInt8 := dkwX2_madeRest_0 ++ dktX2_madeRest_1
theorem dksX2_madeRest_0 : cX2_madeRest.data.toList.drop 0 = dktX2_madeRest_0 := by decide +kernel
theorem dksX2_madeRest_1 : cX2_madeRest.data.toList.drop 16 = dktX2_madeRest_1 := dk_seg dksX2_madeRest_0 16 rfl rfl
theorem dksX2_madeRest_2 : cX2_madeRest.data.toList.drop 44 = dktX2_madeRest_2 := dk_seg dksX2_madeRest_1 28 rfl rfl
theorem dksX2_madeRest_3 : cX2_madeRest.data.toList.drop 68 = dktX2_madeRest_3 := dk_seg dksX2_madeRest_2 24 rfl rfl
theorem dksX2_madeRest_4 : cX2_madeRest.data.toList.drop 92 = dktX2_madeRest_4 := dk_seg dksX2_madeRest_3 24 rfl rfl
theorem dksX2_madeRest_5 : cX2_madeRest.data.toList.drop 116 = dktX2_madeRest_5 := dk_seg dksX2_madeRest_4 24 rfl rfl
theorem dksX2_madeRest_6 : cX2_madeRest.data.toList.drop 138 = dktX2_madeRest_6 := dk_seg dksX2_madeRest_5 22 rfl rfl
theorem dX2_madeRest_0 : decode cX2_madeRest 0 = .ok (.aload_n 0, 1) := dk_42 (dk_at dksX2_madeRest_0 0 rfl rfl)
theorem dX2_madeRest_1 : decode cX2_madeRest 1 = .ok (.getfield 13, 3) := dk_180 0 13 (dk_at dksX2_madeRest_0 1 rfl rfl)
theorem dX2_madeRest_4 : decode cX2_madeRest 4 = .ok (.iconst 4, 1) := dk_7 (dk_at dksX2_madeRest_0 4 rfl rfl)
theorem dX2_madeRest_5 : decode cX2_madeRest 5 = .ok (.iload_n 1, 1) := dk_27 (dk_at dksX2_madeRest_0 5 rfl rfl)
theorem dX2_madeRest_6 : decode cX2_madeRest 6 = .ok (.imul, 1) := dk_104 (dk_at dksX2_madeRest_0 6 rfl rfl)
theorem dX2_madeRest_7 : decode cX2_madeRest 7 = .ok (.iaload, 1) := dk_46 (dk_at dksX2_madeRest_0 7 rfl rfl)
theorem dX2_madeRest_8 : decode cX2_madeRest 8 = .ok (.istore 4, 2) := dk_54 4 (dk_at dksX2_madeRest_0 8 rfl rfl)
theorem dX2_madeRest_10 : decode cX2_madeRest 10 = .ok (.aload_n 0, 1) := dk_42 (dk_at dksX2_madeRest_0 10 rfl rfl)
theorem dX2_madeRest_11 : decode cX2_madeRest 11 = .ok (.getfield 7, 3) := dk_180 0 7 (dk_at dksX2_madeRest_0 11 rfl rfl)
theorem dX2_madeRest_14 : decode cX2_madeRest 14 = .ok (.iload_n 1, 1) := dk_27 (dk_at dksX2_madeRest_0 14 rfl rfl)
theorem dX2_madeRest_15 : decode cX2_madeRest 15 = .ok (.iaload, 1) := dk_46 (dk_at dksX2_madeRest_0 15 rfl rfl)
theorem dX2_madeRest_16 : decode cX2_madeRest 16 = .ok (.tableswitch 115 1 3 #[28, 56, 84], 28) := by decide +kernel
theorem dX2_madeRest_44 : decode cX2_madeRest 44 = .ok (.aload_n 0, 1) := dk_42 (dk_at dksX2_madeRest_2 0 rfl rfl)
theorem dX2_madeRest_45 : decode cX2_madeRest 45 = .ok (.iload 4, 2) := dk_21 4 (dk_at dksX2_madeRest_2 1 rfl rfl)
theorem dX2_madeRest_47 : decode cX2_madeRest 47 = .ok (.iload_n 2, 1) := dk_28 (dk_at dksX2_madeRest_2 3 rfl rfl)
theorem dX2_madeRest_48 : decode cX2_madeRest 48 = .ok (.i2l, 1) := dk_133 (dk_at dksX2_madeRest_2 4 rfl rfl)
theorem dX2_madeRest_49 : decode cX2_madeRest 49 = .ok (.invokevirtual 162, 3) := dk_182 0 162 (dk_at dksX2_madeRest_2 5 rfl rfl)
theorem dX2_madeRest_52 : decode cX2_madeRest 52 = .ok (.aload_n 0, 1) := dk_42 (dk_at dksX2_madeRest_2 8 rfl rfl)
theorem dX2_madeRest_53 : decode cX2_madeRest 53 = .ok (.aload_n 0, 1) := dk_42 (dk_at dksX2_madeRest_2 9 rfl rfl)
theorem dX2_madeRest_54 : decode cX2_madeRest 54 = .ok (.getfield 13, 3) := dk_180 0 13 (dk_at dksX2_madeRest_2 10 rfl rfl)
theorem dX2_madeRest_57 : decode cX2_madeRest 57 = .ok (.iconst 4, 1) := dk_7 (dk_at dksX2_madeRest_2 13 rfl rfl)
theorem dX2_madeRest_58 : decode cX2_madeRest 58 = .ok (.iload_n 1, 1) := dk_27 (dk_at dksX2_madeRest_2 14 rfl rfl)
theorem dX2_madeRest_59 : decode cX2_madeRest 59 = .ok (.imul, 1) := dk_104 (dk_at dksX2_madeRest_2 15 rfl rfl)
theorem dX2_madeRest_60 : decode cX2_madeRest 60 = .ok (.iconst 1, 1) := dk_4 (dk_at dksX2_madeRest_2 16 rfl rfl)
theorem dX2_madeRest_61 : decode cX2_madeRest 61 = .ok (.iadd, 1) := dk_96 (dk_at dksX2_madeRest_2 17 rfl rfl)
theorem dX2_madeRest_62 : decode cX2_madeRest 62 = .ok (.iaload, 1) := dk_46 (dk_at dksX2_madeRest_2 18 rfl rfl)
theorem dX2_madeRest_63 : decode cX2_madeRest 63 = .ok (.iload_n 2, 1) := dk_28 (dk_at dksX2_madeRest_2 19 rfl rfl)
theorem dX2_madeRest_64 : decode cX2_madeRest 64 = .ok (.i2l, 1) := dk_133 (dk_at dksX2_madeRest_2 20 rfl rfl)
theorem dX2_madeRest_65 : decode cX2_madeRest 65 = .ok (.invokevirtual 162, 3) := dk_182 0 162 (dk_at dksX2_madeRest_2 21 rfl rfl)
theorem dX2_madeRest_68 : decode cX2_madeRest 68 = .ok (.iadd, 1) := dk_96 (dk_at dksX2_madeRest_3 0 rfl rfl)
theorem dX2_madeRest_69 : decode cX2_madeRest 69 = .ok (.iload_n 3, 1) := dk_29 (dk_at dksX2_madeRest_3 1 rfl rfl)
theorem dX2_madeRest_70 : decode cX2_madeRest 70 = .ok (.irem, 1) := dk_112 (dk_at dksX2_madeRest_3 2 rfl rfl)
theorem dX2_madeRest_71 : decode cX2_madeRest 71 = .ok (.ireturn, 1) := dk_172 (dk_at dksX2_madeRest_3 3 rfl rfl)
theorem dX2_madeRest_72 : decode cX2_madeRest 72 = .ok (.aload_n 0, 1) := dk_42 (dk_at dksX2_madeRest_3 4 rfl rfl)
theorem dX2_madeRest_73 : decode cX2_madeRest 73 = .ok (.iload 4, 2) := dk_21 4 (dk_at dksX2_madeRest_3 5 rfl rfl)
theorem dX2_madeRest_75 : decode cX2_madeRest 75 = .ok (.iload_n 2, 1) := dk_28 (dk_at dksX2_madeRest_3 7 rfl rfl)
theorem dX2_madeRest_76 : decode cX2_madeRest 76 = .ok (.i2l, 1) := dk_133 (dk_at dksX2_madeRest_3 8 rfl rfl)
theorem dX2_madeRest_77 : decode cX2_madeRest 77 = .ok (.invokevirtual 162, 3) := dk_182 0 162 (dk_at dksX2_madeRest_3 9 rfl rfl)
theorem dX2_madeRest_80 : decode cX2_madeRest 80 = .ok (.aload_n 0, 1) := dk_42 (dk_at dksX2_madeRest_3 12 rfl rfl)
theorem dX2_madeRest_81 : decode cX2_madeRest 81 = .ok (.aload_n 0, 1) := dk_42 (dk_at dksX2_madeRest_3 13 rfl rfl)
theorem dX2_madeRest_82 : decode cX2_madeRest 82 = .ok (.getfield 13, 3) := dk_180 0 13 (dk_at dksX2_madeRest_3 14 rfl rfl)
theorem dX2_madeRest_85 : decode cX2_madeRest 85 = .ok (.iconst 4, 1) := dk_7 (dk_at dksX2_madeRest_3 17 rfl rfl)
theorem dX2_madeRest_86 : decode cX2_madeRest 86 = .ok (.iload_n 1, 1) := dk_27 (dk_at dksX2_madeRest_3 18 rfl rfl)
theorem dX2_madeRest_87 : decode cX2_madeRest 87 = .ok (.imul, 1) := dk_104 (dk_at dksX2_madeRest_3 19 rfl rfl)
theorem dX2_madeRest_88 : decode cX2_madeRest 88 = .ok (.iconst 1, 1) := dk_4 (dk_at dksX2_madeRest_3 20 rfl rfl)
theorem dX2_madeRest_89 : decode cX2_madeRest 89 = .ok (.iadd, 1) := dk_96 (dk_at dksX2_madeRest_3 21 rfl rfl)
theorem dX2_madeRest_90 : decode cX2_madeRest 90 = .ok (.iaload, 1) := dk_46 (dk_at dksX2_madeRest_3 22 rfl rfl)
theorem dX2_madeRest_91 : decode cX2_madeRest 91 = .ok (.iload_n 2, 1) := dk_28 (dk_at dksX2_madeRest_3 23 rfl rfl)
theorem dX2_madeRest_92 : decode cX2_madeRest 92 = .ok (.i2l, 1) := dk_133 (dk_at dksX2_madeRest_4 0 rfl rfl)
theorem dX2_madeRest_93 : decode cX2_madeRest 93 = .ok (.invokevirtual 162, 3) := dk_182 0 162 (dk_at dksX2_madeRest_4 1 rfl rfl)
theorem dX2_madeRest_96 : decode cX2_madeRest 96 = .ok (.imul, 1) := dk_104 (dk_at dksX2_madeRest_4 4 rfl rfl)
theorem dX2_madeRest_97 : decode cX2_madeRest 97 = .ok (.iload_n 3, 1) := dk_29 (dk_at dksX2_madeRest_4 5 rfl rfl)
theorem dX2_madeRest_98 : decode cX2_madeRest 98 = .ok (.irem, 1) := dk_112 (dk_at dksX2_madeRest_4 6 rfl rfl)
theorem dX2_madeRest_99 : decode cX2_madeRest 99 = .ok (.ireturn, 1) := dk_172 (dk_at dksX2_madeRest_4 7 rfl rfl)
theorem dX2_madeRest_100 : decode cX2_madeRest 100 = .ok (.aload_n 0, 1) := dk_42 (dk_at dksX2_madeRest_4 8 rfl rfl)
theorem dX2_madeRest_101 : decode cX2_madeRest 101 = .ok (.iload 4, 2) := dk_21 4 (dk_at dksX2_madeRest_4 9 rfl rfl)
theorem dX2_madeRest_103 : decode cX2_madeRest 103 = .ok (.aload_n 0, 1) := dk_42 (dk_at dksX2_madeRest_4 11 rfl rfl)
theorem dX2_madeRest_104 : decode cX2_madeRest 104 = .ok (.getfield 13, 3) := dk_180 0 13 (dk_at dksX2_madeRest_4 12 rfl rfl)
theorem dX2_madeRest_107 : decode cX2_madeRest 107 = .ok (.iconst 4, 1) := dk_7 (dk_at dksX2_madeRest_4 15 rfl rfl)
theorem dX2_madeRest_108 : decode cX2_madeRest 108 = .ok (.iload_n 1, 1) := dk_27 (dk_at dksX2_madeRest_4 16 rfl rfl)
theorem dX2_madeRest_109 : decode cX2_madeRest 109 = .ok (.imul, 1) := dk_104 (dk_at dksX2_madeRest_4 17 rfl rfl)
theorem dX2_madeRest_110 : decode cX2_madeRest 110 = .ok (.iconst 1, 1) := dk_4 (dk_at dksX2_madeRest_4 18 rfl rfl)
theorem dX2_madeRest_111 : decode cX2_madeRest 111 = .ok (.iadd, 1) := dk_96 (dk_at dksX2_madeRest_4 19 rfl rfl)
theorem dX2_madeRest_112 : decode cX2_madeRest 112 = .ok (.iaload, 1) := dk_46 (dk_at dksX2_madeRest_4 20 rfl rfl)
theorem dX2_madeRest_113 : decode cX2_madeRest 113 = .ok (.iload_n 2, 1) := dk_28 (dk_at dksX2_madeRest_4 21 rfl rfl)
theorem dX2_madeRest_114 : decode cX2_madeRest 114 = .ok (.imul, 1) := dk_104 (dk_at dksX2_madeRest_4 22 rfl rfl)
theorem dX2_madeRest_115 : decode cX2_madeRest 115 = .ok (.aload_n 0, 1) := dk_42 (dk_at dksX2_madeRest_4 23 rfl rfl)
theorem dX2_madeRest_116 : decode cX2_madeRest 116 = .ok (.getfield 13, 3) := dk_180 0 13 (dk_at dksX2_madeRest_5 0 rfl rfl)
theorem dX2_madeRest_119 : decode cX2_madeRest 119 = .ok (.iconst 4, 1) := dk_7 (dk_at dksX2_madeRest_5 3 rfl rfl)
theorem dX2_madeRest_120 : decode cX2_madeRest 120 = .ok (.iload_n 1, 1) := dk_27 (dk_at dksX2_madeRest_5 4 rfl rfl)
theorem dX2_madeRest_121 : decode cX2_madeRest 121 = .ok (.imul, 1) := dk_104 (dk_at dksX2_madeRest_5 5 rfl rfl)
theorem dX2_madeRest_122 : decode cX2_madeRest 122 = .ok (.iconst 2, 1) := dk_5 (dk_at dksX2_madeRest_5 6 rfl rfl)
theorem dX2_madeRest_123 : decode cX2_madeRest 123 = .ok (.iadd, 1) := dk_96 (dk_at dksX2_madeRest_5 7 rfl rfl)
theorem dX2_madeRest_124 : decode cX2_madeRest 124 = .ok (.iaload, 1) := dk_46 (dk_at dksX2_madeRest_5 8 rfl rfl)
theorem dX2_madeRest_125 : decode cX2_madeRest 125 = .ok (.iadd, 1) := dk_96 (dk_at dksX2_madeRest_5 9 rfl rfl)
theorem dX2_madeRest_126 : decode cX2_madeRest 126 = .ok (.i2l, 1) := dk_133 (dk_at dksX2_madeRest_5 10 rfl rfl)
theorem dX2_madeRest_127 : decode cX2_madeRest 127 = .ok (.invokevirtual 162, 3) := dk_182 0 162 (dk_at dksX2_madeRest_5 11 rfl rfl)
theorem dX2_madeRest_130 : decode cX2_madeRest 130 = .ok (.ireturn, 1) := dk_172 (dk_at dksX2_madeRest_5 14 rfl rfl)
theorem dX2_madeRest_131 : decode cX2_madeRest 131 = .ok (.aload_n 0, 1) := dk_42 (dk_at dksX2_madeRest_5 15 rfl rfl)
theorem dX2_madeRest_132 : decode cX2_madeRest 132 = .ok (.iload 4, 2) := dk_21 4 (dk_at dksX2_madeRest_5 16 rfl rfl)
theorem dX2_madeRest_134 : decode cX2_madeRest 134 = .ok (.iload_n 2, 1) := dk_28 (dk_at dksX2_madeRest_5 18 rfl rfl)
theorem dX2_madeRest_135 : decode cX2_madeRest 135 = .ok (.iconst 1, 1) := dk_4 (dk_at dksX2_madeRest_5 19 rfl rfl)
theorem dX2_madeRest_136 : decode cX2_madeRest 136 = .ok (.iadd, 1) := dk_96 (dk_at dksX2_madeRest_5 20 rfl rfl)
theorem dX2_madeRest_137 : decode cX2_madeRest 137 = .ok (.i2l, 1) := dk_133 (dk_at dksX2_madeRest_5 21 rfl rfl)
theorem dX2_madeRest_138 : decode cX2_madeRest 138 = .ok (.invokevirtual 162, 3) := dk_182 0 162 (dk_at dksX2_madeRest_6 0 rfl rfl)
theorem dX2_madeRest_141 : decode cX2_madeRest 141 = .ok (.aload_n 0, 1) := dk_42 (dk_at dksX2_madeRest_6 3 rfl rfl)
theorem dX2_madeRest_142 : decode cX2_madeRest 142 = .ok (.iload 4, 2) := dk_21 4 (dk_at dksX2_madeRest_6 4 rfl rfl)
theorem dX2_madeRest_144 : decode cX2_madeRest 144 = .ok (.iload_n 2, 1) := dk_28 (dk_at dksX2_madeRest_6 6 rfl rfl)
theorem dX2_madeRest_145 : decode cX2_madeRest 145 = .ok (.i2l, 1) := dk_133 (dk_at dksX2_madeRest_6 7 rfl rfl)
theorem dX2_madeRest_146 : decode cX2_madeRest 146 = .ok (.invokevirtual 162, 3) := dk_182 0 162 (dk_at dksX2_madeRest_6 8 rfl rfl)
theorem dX2_madeRest_149 : decode cX2_madeRest 149 = .ok (.isub, 1) := dk_100 (dk_at dksX2_madeRest_6 11 rfl rfl)
theorem dX2_madeRest_150 : decode cX2_madeRest 150 = .ok (.iload_n 3, 1) := dk_29 (dk_at dksX2_madeRest_6 12 rfl rfl)
theorem dX2_madeRest_151 : decode cX2_madeRest 151 = .ok (.invokestatic 159, 3) := dk_184 0 159 (dk_at dksX2_madeRest_6 13 rfl rfl)
theorem dX2_madeRest_154 : decode cX2_madeRest 154 = .ok (.ireturn, 1) := dk_172 (dk_at dksX2_madeRest_6 16 rfl rfl)
abbrev cX2_restAt : ByteArray := prog_17_method_25_code
def yX2_restAt : MethodName := ⟨RX2, "restAt", "(IJ)I"⟩
def dkwX2_restAt_2 : List UInt8 := [17, 2, 0, 27, 104, 22, 4, 136, 96, 51, 172]
abbrev dktX2_restAt_2 : List UInt8 := dkwX2_restAt_2 ++ []
def dkwX2_restAt_1 : List UInt8 := [42, 180, 0, 32, 27, 46, 133, 101, 42, 180, 0, 35, 27, 46, 133, 113, 97, 55, 4, 42, 180, 0, 38]
abbrev dktX2_restAt_1 : List UInt8 := dkwX2_restAt_1 ++ dktX2_restAt_2
def dkwX2_restAt_0 : List UInt8 := [32, 42, 180, 0, 32, 27, 46, 133, 148, 156, 0, 7, 32, 167, 0, 28, 42, 180, 0, 32, 27, 46, 133, 32]
abbrev dktX2_restAt_0 : List UInt8 := dkwX2_restAt_0 ++ dktX2_restAt_1
theorem dksX2_restAt_0 : cX2_restAt.data.toList.drop 0 = dktX2_restAt_0 := by decide +kernel
theorem dksX2_restAt_1 : cX2_restAt.data.toList.drop 24 = dktX2_restAt_1 := dk_seg dksX2_restAt_0 24 rfl rfl
theorem dksX2_restAt_2 : cX2_restAt.data.toList.drop 47 = dktX2_restAt_2 := dk_seg dksX2_restAt_1 23 rfl rfl
theorem dX2_restAt_0 : decode cX2_restAt 0 = .ok (.lload_n 2, 1) := dk_32 (dk_at dksX2_restAt_0 0 rfl rfl)
theorem dX2_restAt_1 : decode cX2_restAt 1 = .ok (.aload_n 0, 1) := dk_42 (dk_at dksX2_restAt_0 1 rfl rfl)
theorem dX2_restAt_2 : decode cX2_restAt 2 = .ok (.getfield 32, 3) := dk_180 0 32 (dk_at dksX2_restAt_0 2 rfl rfl)
theorem dX2_restAt_5 : decode cX2_restAt 5 = .ok (.iload_n 1, 1) := dk_27 (dk_at dksX2_restAt_0 5 rfl rfl)
theorem dX2_restAt_6 : decode cX2_restAt 6 = .ok (.iaload, 1) := dk_46 (dk_at dksX2_restAt_0 6 rfl rfl)
theorem dX2_restAt_7 : decode cX2_restAt 7 = .ok (.i2l, 1) := dk_133 (dk_at dksX2_restAt_0 7 rfl rfl)
theorem dX2_restAt_8 : decode cX2_restAt 8 = .ok (.lcmp, 1) := dk_148 (dk_at dksX2_restAt_0 8 rfl rfl)
theorem dX2_restAt_9 : decode cX2_restAt 9 = .ok (.ifCond .ge 7, 3) := dk_156 0 7 (dk_at dksX2_restAt_0 9 rfl rfl)
theorem dX2_restAt_12 : decode cX2_restAt 12 = .ok (.lload_n 2, 1) := dk_32 (dk_at dksX2_restAt_0 12 rfl rfl)
theorem dX2_restAt_13 : decode cX2_restAt 13 = .ok (.goto 28, 3) := dk_167 0 28 (dk_at dksX2_restAt_0 13 rfl rfl)
theorem dX2_restAt_16 : decode cX2_restAt 16 = .ok (.aload_n 0, 1) := dk_42 (dk_at dksX2_restAt_0 16 rfl rfl)
theorem dX2_restAt_17 : decode cX2_restAt 17 = .ok (.getfield 32, 3) := dk_180 0 32 (dk_at dksX2_restAt_0 17 rfl rfl)
theorem dX2_restAt_20 : decode cX2_restAt 20 = .ok (.iload_n 1, 1) := dk_27 (dk_at dksX2_restAt_0 20 rfl rfl)
theorem dX2_restAt_21 : decode cX2_restAt 21 = .ok (.iaload, 1) := dk_46 (dk_at dksX2_restAt_0 21 rfl rfl)
theorem dX2_restAt_22 : decode cX2_restAt 22 = .ok (.i2l, 1) := dk_133 (dk_at dksX2_restAt_0 22 rfl rfl)
theorem dX2_restAt_23 : decode cX2_restAt 23 = .ok (.lload_n 2, 1) := dk_32 (dk_at dksX2_restAt_0 23 rfl rfl)
theorem dX2_restAt_24 : decode cX2_restAt 24 = .ok (.aload_n 0, 1) := dk_42 (dk_at dksX2_restAt_1 0 rfl rfl)
theorem dX2_restAt_25 : decode cX2_restAt 25 = .ok (.getfield 32, 3) := dk_180 0 32 (dk_at dksX2_restAt_1 1 rfl rfl)
theorem dX2_restAt_28 : decode cX2_restAt 28 = .ok (.iload_n 1, 1) := dk_27 (dk_at dksX2_restAt_1 4 rfl rfl)
theorem dX2_restAt_29 : decode cX2_restAt 29 = .ok (.iaload, 1) := dk_46 (dk_at dksX2_restAt_1 5 rfl rfl)
theorem dX2_restAt_30 : decode cX2_restAt 30 = .ok (.i2l, 1) := dk_133 (dk_at dksX2_restAt_1 6 rfl rfl)
theorem dX2_restAt_31 : decode cX2_restAt 31 = .ok (.lsub, 1) := dk_101 (dk_at dksX2_restAt_1 7 rfl rfl)
theorem dX2_restAt_32 : decode cX2_restAt 32 = .ok (.aload_n 0, 1) := dk_42 (dk_at dksX2_restAt_1 8 rfl rfl)
theorem dX2_restAt_33 : decode cX2_restAt 33 = .ok (.getfield 35, 3) := dk_180 0 35 (dk_at dksX2_restAt_1 9 rfl rfl)
theorem dX2_restAt_36 : decode cX2_restAt 36 = .ok (.iload_n 1, 1) := dk_27 (dk_at dksX2_restAt_1 12 rfl rfl)
theorem dX2_restAt_37 : decode cX2_restAt 37 = .ok (.iaload, 1) := dk_46 (dk_at dksX2_restAt_1 13 rfl rfl)
theorem dX2_restAt_38 : decode cX2_restAt 38 = .ok (.i2l, 1) := dk_133 (dk_at dksX2_restAt_1 14 rfl rfl)
theorem dX2_restAt_39 : decode cX2_restAt 39 = .ok (.lrem, 1) := dk_113 (dk_at dksX2_restAt_1 15 rfl rfl)
theorem dX2_restAt_40 : decode cX2_restAt 40 = .ok (.ladd, 1) := dk_97 (dk_at dksX2_restAt_1 16 rfl rfl)
theorem dX2_restAt_41 : decode cX2_restAt 41 = .ok (.lstore 4, 2) := dk_55 4 (dk_at dksX2_restAt_1 17 rfl rfl)
theorem dX2_restAt_43 : decode cX2_restAt 43 = .ok (.aload_n 0, 1) := dk_42 (dk_at dksX2_restAt_1 19 rfl rfl)
theorem dX2_restAt_44 : decode cX2_restAt 44 = .ok (.getfield 38, 3) := dk_180 0 38 (dk_at dksX2_restAt_1 20 rfl rfl)
theorem dX2_restAt_47 : decode cX2_restAt 47 = .ok (.sipush 512, 3) := dk_17 2 0 (dk_at dksX2_restAt_2 0 rfl rfl)
theorem dX2_restAt_50 : decode cX2_restAt 50 = .ok (.iload_n 1, 1) := dk_27 (dk_at dksX2_restAt_2 3 rfl rfl)
theorem dX2_restAt_51 : decode cX2_restAt 51 = .ok (.imul, 1) := dk_104 (dk_at dksX2_restAt_2 4 rfl rfl)
theorem dX2_restAt_52 : decode cX2_restAt 52 = .ok (.lload 4, 2) := dk_22 4 (dk_at dksX2_restAt_2 5 rfl rfl)
theorem dX2_restAt_54 : decode cX2_restAt 54 = .ok (.l2i, 1) := dk_136 (dk_at dksX2_restAt_2 7 rfl rfl)
theorem dX2_restAt_55 : decode cX2_restAt 55 = .ok (.iadd, 1) := dk_96 (dk_at dksX2_restAt_2 8 rfl rfl)
theorem dX2_restAt_56 : decode cX2_restAt 56 = .ok (.baload, 1) := dk_51 (dk_at dksX2_restAt_2 9 rfl rfl)
theorem dX2_restAt_57 : decode cX2_restAt 57 = .ok (.ireturn, 1) := dk_172 (dk_at dksX2_restAt_2 10 rfl rfl)
abbrev cX2_lap : ByteArray := prog_17_method_45_code
def yX2_lap : MethodName := ⟨RX2, "lap", "(III)I"⟩
def dkwX2_lap_1 : List UInt8 := [184, 0, 68, 153, 0, 13, 42, 27, 28, 29, 182, 0, 213, 167, 0, 5, 18, 72, 172]
abbrev dktX2_lap_1 : List UInt8 := dkwX2_lap_1 ++ []
def dkwX2_lap_0 : List UInt8 := [42, 27, 182, 0, 193, 154, 0, 6, 18, 196, 172, 28, 5, 16, 10, 184, 0, 68, 153, 0, 22, 29, 3, 5]
abbrev dktX2_lap_0 : List UInt8 := dkwX2_lap_0 ++ dktX2_lap_1
theorem dksX2_lap_0 : cX2_lap.data.toList.drop 0 = dktX2_lap_0 := by decide +kernel
theorem dksX2_lap_1 : cX2_lap.data.toList.drop 24 = dktX2_lap_1 := dk_seg dksX2_lap_0 24 rfl rfl
theorem dX2_lap_0 : decode cX2_lap 0 = .ok (.aload_n 0, 1) := dk_42 (dk_at dksX2_lap_0 0 rfl rfl)
theorem dX2_lap_1 : decode cX2_lap 1 = .ok (.iload_n 1, 1) := dk_27 (dk_at dksX2_lap_0 1 rfl rfl)
theorem dX2_lap_2 : decode cX2_lap 2 = .ok (.invokevirtual 193, 3) := dk_182 0 193 (dk_at dksX2_lap_0 2 rfl rfl)
theorem dX2_lap_5 : decode cX2_lap 5 = .ok (.ifCond .ne 6, 3) := dk_154 0 6 (dk_at dksX2_lap_0 5 rfl rfl)
theorem dX2_lap_8 : decode cX2_lap 8 = .ok (.ldc 196, 2) := dk_18 196 (dk_at dksX2_lap_0 8 rfl rfl)
theorem dX2_lap_10 : decode cX2_lap 10 = .ok (.ireturn, 1) := dk_172 (dk_at dksX2_lap_0 10 rfl rfl)
theorem dX2_lap_11 : decode cX2_lap 11 = .ok (.iload_n 2, 1) := dk_28 (dk_at dksX2_lap_0 11 rfl rfl)
theorem dX2_lap_12 : decode cX2_lap 12 = .ok (.iconst 2, 1) := dk_5 (dk_at dksX2_lap_0 12 rfl rfl)
theorem dX2_lap_13 : decode cX2_lap 13 = .ok (.bipush 10, 2) := dk_16 10 (dk_at dksX2_lap_0 13 rfl rfl)
theorem dX2_lap_15 : decode cX2_lap 15 = .ok (.invokestatic 68, 3) := dk_184 0 68 (dk_at dksX2_lap_0 15 rfl rfl)
theorem dX2_lap_18 : decode cX2_lap 18 = .ok (.ifCond .eq 22, 3) := dk_153 0 22 (dk_at dksX2_lap_0 18 rfl rfl)
theorem dX2_lap_21 : decode cX2_lap 21 = .ok (.iload_n 3, 1) := dk_29 (dk_at dksX2_lap_0 21 rfl rfl)
theorem dX2_lap_22 : decode cX2_lap 22 = .ok (.iconst 0, 1) := dk_3 (dk_at dksX2_lap_0 22 rfl rfl)
theorem dX2_lap_23 : decode cX2_lap 23 = .ok (.iconst 2, 1) := dk_5 (dk_at dksX2_lap_0 23 rfl rfl)
theorem dX2_lap_24 : decode cX2_lap 24 = .ok (.invokestatic 68, 3) := dk_184 0 68 (dk_at dksX2_lap_1 0 rfl rfl)
theorem dX2_lap_27 : decode cX2_lap 27 = .ok (.ifCond .eq 13, 3) := dk_153 0 13 (dk_at dksX2_lap_1 3 rfl rfl)
theorem dX2_lap_30 : decode cX2_lap 30 = .ok (.aload_n 0, 1) := dk_42 (dk_at dksX2_lap_1 6 rfl rfl)
theorem dX2_lap_31 : decode cX2_lap 31 = .ok (.iload_n 1, 1) := dk_27 (dk_at dksX2_lap_1 7 rfl rfl)
theorem dX2_lap_32 : decode cX2_lap 32 = .ok (.iload_n 2, 1) := dk_28 (dk_at dksX2_lap_1 8 rfl rfl)
theorem dX2_lap_33 : decode cX2_lap 33 = .ok (.iload_n 3, 1) := dk_29 (dk_at dksX2_lap_1 9 rfl rfl)
theorem dX2_lap_34 : decode cX2_lap 34 = .ok (.invokevirtual 213, 3) := dk_182 0 213 (dk_at dksX2_lap_1 10 rfl rfl)
theorem dX2_lap_37 : decode cX2_lap 37 = .ok (.goto 5, 3) := dk_167 0 5 (dk_at dksX2_lap_1 13 rfl rfl)
theorem dX2_lap_40 : decode cX2_lap 40 = .ok (.ldc 72, 2) := dk_18 72 (dk_at dksX2_lap_1 16 rfl rfl)
theorem dX2_lap_42 : decode cX2_lap 42 = .ok (.ireturn, 1) := dk_172 (dk_at dksX2_lap_1 18 rfl rfl)
abbrev cX2_lapNow : ByteArray := prog_17_method_44_code
def yX2_lapNow : MethodName := ⟨RX2, "lapNow", "(III)I"⟩
def dkwX2_lapNow_1 : List UInt8 := [182, 0, 190, 167, 0, 8, 42, 27, 182, 0, 210, 172]
abbrev dktX2_lapNow_1 : List UInt8 := dkwX2_lapNow_1 ++ []
def dkwX2_lapNow_0 : List UInt8 := [42, 28, 182, 0, 204, 29, 154, 0, 11, 42, 27, 182, 0, 187, 167, 0, 21, 29, 4, 160, 0, 11, 42, 27]
abbrev dktX2_lapNow_0 : List UInt8 := dkwX2_lapNow_0 ++ dktX2_lapNow_1
theorem dksX2_lapNow_0 : cX2_lapNow.data.toList.drop 0 = dktX2_lapNow_0 := by decide +kernel
theorem dksX2_lapNow_1 : cX2_lapNow.data.toList.drop 24 = dktX2_lapNow_1 := dk_seg dksX2_lapNow_0 24 rfl rfl
theorem dX2_lapNow_0 : decode cX2_lapNow 0 = .ok (.aload_n 0, 1) := dk_42 (dk_at dksX2_lapNow_0 0 rfl rfl)
theorem dX2_lapNow_1 : decode cX2_lapNow 1 = .ok (.iload_n 2, 1) := dk_28 (dk_at dksX2_lapNow_0 1 rfl rfl)
theorem dX2_lapNow_2 : decode cX2_lapNow 2 = .ok (.invokevirtual 204, 3) := dk_182 0 204 (dk_at dksX2_lapNow_0 2 rfl rfl)
theorem dX2_lapNow_5 : decode cX2_lapNow 5 = .ok (.iload_n 3, 1) := dk_29 (dk_at dksX2_lapNow_0 5 rfl rfl)
theorem dX2_lapNow_6 : decode cX2_lapNow 6 = .ok (.ifCond .ne 11, 3) := dk_154 0 11 (dk_at dksX2_lapNow_0 6 rfl rfl)
theorem dX2_lapNow_9 : decode cX2_lapNow 9 = .ok (.aload_n 0, 1) := dk_42 (dk_at dksX2_lapNow_0 9 rfl rfl)
theorem dX2_lapNow_10 : decode cX2_lapNow 10 = .ok (.iload_n 1, 1) := dk_27 (dk_at dksX2_lapNow_0 10 rfl rfl)
theorem dX2_lapNow_11 : decode cX2_lapNow 11 = .ok (.invokevirtual 187, 3) := dk_182 0 187 (dk_at dksX2_lapNow_0 11 rfl rfl)
theorem dX2_lapNow_14 : decode cX2_lapNow 14 = .ok (.goto 21, 3) := dk_167 0 21 (dk_at dksX2_lapNow_0 14 rfl rfl)
theorem dX2_lapNow_17 : decode cX2_lapNow 17 = .ok (.iload_n 3, 1) := dk_29 (dk_at dksX2_lapNow_0 17 rfl rfl)
theorem dX2_lapNow_18 : decode cX2_lapNow 18 = .ok (.iconst 1, 1) := dk_4 (dk_at dksX2_lapNow_0 18 rfl rfl)
theorem dX2_lapNow_19 : decode cX2_lapNow 19 = .ok (.if_icmp .ne 11, 3) := dk_160 0 11 (dk_at dksX2_lapNow_0 19 rfl rfl)
theorem dX2_lapNow_22 : decode cX2_lapNow 22 = .ok (.aload_n 0, 1) := dk_42 (dk_at dksX2_lapNow_0 22 rfl rfl)
theorem dX2_lapNow_23 : decode cX2_lapNow 23 = .ok (.iload_n 1, 1) := dk_27 (dk_at dksX2_lapNow_0 23 rfl rfl)
theorem dX2_lapNow_24 : decode cX2_lapNow 24 = .ok (.invokevirtual 190, 3) := dk_182 0 190 (dk_at dksX2_lapNow_1 0 rfl rfl)
theorem dX2_lapNow_27 : decode cX2_lapNow 27 = .ok (.goto 8, 3) := dk_167 0 8 (dk_at dksX2_lapNow_1 3 rfl rfl)
theorem dX2_lapNow_30 : decode cX2_lapNow 30 = .ok (.aload_n 0, 1) := dk_42 (dk_at dksX2_lapNow_1 6 rfl rfl)
theorem dX2_lapNow_31 : decode cX2_lapNow 31 = .ok (.iload_n 1, 1) := dk_27 (dk_at dksX2_lapNow_1 7 rfl rfl)
theorem dX2_lapNow_32 : decode cX2_lapNow 32 = .ok (.invokevirtual 210, 3) := dk_182 0 210 (dk_at dksX2_lapNow_1 8 rfl rfl)
theorem dX2_lapNow_35 : decode cX2_lapNow 35 = .ok (.ireturn, 1) := dk_172 (dk_at dksX2_lapNow_1 11 rfl rfl)
abbrev cX2_lapOf : ByteArray := prog_17_method_34_code
def yX2_lapOf : MethodName := ⟨RX2, "lapOf", "(I)I"⟩
def dkwX2_lapOf_1 : List UInt8 := [172]
abbrev dktX2_lapOf_1 : List UInt8 := dkwX2_lapOf_1 ++ []
def dkwX2_lapOf_0 : List UInt8 := [4, 61, 42, 27, 42, 180, 0, 32, 27, 46, 28, 182, 0, 184, 154, 0, 9, 132, 2, 1, 167, 255, 238, 28]
abbrev dktX2_lapOf_0 : List UInt8 := dkwX2_lapOf_0 ++ dktX2_lapOf_1
theorem dksX2_lapOf_0 : cX2_lapOf.data.toList.drop 0 = dktX2_lapOf_0 := by decide +kernel
theorem dksX2_lapOf_1 : cX2_lapOf.data.toList.drop 24 = dktX2_lapOf_1 := dk_seg dksX2_lapOf_0 24 rfl rfl
theorem dX2_lapOf_0 : decode cX2_lapOf 0 = .ok (.iconst 1, 1) := dk_4 (dk_at dksX2_lapOf_0 0 rfl rfl)
theorem dX2_lapOf_1 : decode cX2_lapOf 1 = .ok (.istore_n 2, 1) := dk_61 (dk_at dksX2_lapOf_0 1 rfl rfl)
theorem dX2_lapOf_2 : decode cX2_lapOf 2 = .ok (.aload_n 0, 1) := dk_42 (dk_at dksX2_lapOf_0 2 rfl rfl)
theorem dX2_lapOf_3 : decode cX2_lapOf 3 = .ok (.iload_n 1, 1) := dk_27 (dk_at dksX2_lapOf_0 3 rfl rfl)
theorem dX2_lapOf_4 : decode cX2_lapOf 4 = .ok (.aload_n 0, 1) := dk_42 (dk_at dksX2_lapOf_0 4 rfl rfl)
theorem dX2_lapOf_5 : decode cX2_lapOf 5 = .ok (.getfield 32, 3) := dk_180 0 32 (dk_at dksX2_lapOf_0 5 rfl rfl)
theorem dX2_lapOf_8 : decode cX2_lapOf 8 = .ok (.iload_n 1, 1) := dk_27 (dk_at dksX2_lapOf_0 8 rfl rfl)
theorem dX2_lapOf_9 : decode cX2_lapOf 9 = .ok (.iaload, 1) := dk_46 (dk_at dksX2_lapOf_0 9 rfl rfl)
theorem dX2_lapOf_10 : decode cX2_lapOf 10 = .ok (.iload_n 2, 1) := dk_28 (dk_at dksX2_lapOf_0 10 rfl rfl)
theorem dX2_lapOf_11 : decode cX2_lapOf 11 = .ok (.invokevirtual 184, 3) := dk_182 0 184 (dk_at dksX2_lapOf_0 11 rfl rfl)
theorem dX2_lapOf_14 : decode cX2_lapOf 14 = .ok (.ifCond .ne 9, 3) := dk_154 0 9 (dk_at dksX2_lapOf_0 14 rfl rfl)
theorem dX2_lapOf_17 : decode cX2_lapOf 17 = .ok (.iinc 2 1, 3) := dk_132 2 1 (dk_at dksX2_lapOf_0 17 rfl rfl)
theorem dX2_lapOf_20 : decode cX2_lapOf 20 = .ok (.goto (-18), 3) := dk_167 255 238 (dk_at dksX2_lapOf_0 20 rfl rfl)
theorem dX2_lapOf_23 : decode cX2_lapOf 23 = .ok (.iload_n 2, 1) := dk_28 (dk_at dksX2_lapOf_0 23 rfl rfl)
theorem dX2_lapOf_24 : decode cX2_lapOf 24 = .ok (.ireturn, 1) := dk_172 (dk_at dksX2_lapOf_1 0 rfl rfl)
abbrev cX2_comesAgain : ByteArray := prog_17_method_33_code
def yX2_comesAgain : MethodName := ⟨RX2, "comesAgain", "(III)Z"⟩
def dkwX2_comesAgain_2 : List UInt8 := [160, 0, 7, 4, 167, 0, 4, 3, 54, 4, 132, 5, 1, 167, 255, 202, 21, 4, 172]
abbrev dktX2_comesAgain_2 : List UInt8 := dkwX2_comesAgain_2 ++ []
def dkwX2_comesAgain_1 : List UInt8 := [21, 4, 153, 0, 28, 42, 27, 21, 5, 133, 182, 0, 162, 42, 27, 21, 5, 29, 96, 133, 182, 0, 162]
abbrev dktX2_comesAgain_1 : List UInt8 := dkwX2_comesAgain_1 ++ dktX2_comesAgain_2
def dkwX2_comesAgain_0 : List UInt8 := [4, 54, 4, 28, 54, 5, 21, 5, 42, 180, 0, 32, 27, 46, 42, 180, 0, 35, 27, 46, 96, 162, 0, 42]
abbrev dktX2_comesAgain_0 : List UInt8 := dkwX2_comesAgain_0 ++ dktX2_comesAgain_1
theorem dksX2_comesAgain_0 : cX2_comesAgain.data.toList.drop 0 = dktX2_comesAgain_0 := by decide +kernel
theorem dksX2_comesAgain_1 : cX2_comesAgain.data.toList.drop 24 = dktX2_comesAgain_1 := dk_seg dksX2_comesAgain_0 24 rfl rfl
theorem dksX2_comesAgain_2 : cX2_comesAgain.data.toList.drop 47 = dktX2_comesAgain_2 := dk_seg dksX2_comesAgain_1 23 rfl rfl
theorem dX2_comesAgain_0 : decode cX2_comesAgain 0 = .ok (.iconst 1, 1) := dk_4 (dk_at dksX2_comesAgain_0 0 rfl rfl)
theorem dX2_comesAgain_1 : decode cX2_comesAgain 1 = .ok (.istore 4, 2) := dk_54 4 (dk_at dksX2_comesAgain_0 1 rfl rfl)
theorem dX2_comesAgain_3 : decode cX2_comesAgain 3 = .ok (.iload_n 2, 1) := dk_28 (dk_at dksX2_comesAgain_0 3 rfl rfl)
theorem dX2_comesAgain_4 : decode cX2_comesAgain 4 = .ok (.istore 5, 2) := dk_54 5 (dk_at dksX2_comesAgain_0 4 rfl rfl)
theorem dX2_comesAgain_6 : decode cX2_comesAgain 6 = .ok (.iload 5, 2) := dk_21 5 (dk_at dksX2_comesAgain_0 6 rfl rfl)
theorem dX2_comesAgain_8 : decode cX2_comesAgain 8 = .ok (.aload_n 0, 1) := dk_42 (dk_at dksX2_comesAgain_0 8 rfl rfl)
theorem dX2_comesAgain_9 : decode cX2_comesAgain 9 = .ok (.getfield 32, 3) := dk_180 0 32 (dk_at dksX2_comesAgain_0 9 rfl rfl)
theorem dX2_comesAgain_12 : decode cX2_comesAgain 12 = .ok (.iload_n 1, 1) := dk_27 (dk_at dksX2_comesAgain_0 12 rfl rfl)
theorem dX2_comesAgain_13 : decode cX2_comesAgain 13 = .ok (.iaload, 1) := dk_46 (dk_at dksX2_comesAgain_0 13 rfl rfl)
theorem dX2_comesAgain_14 : decode cX2_comesAgain 14 = .ok (.aload_n 0, 1) := dk_42 (dk_at dksX2_comesAgain_0 14 rfl rfl)
theorem dX2_comesAgain_15 : decode cX2_comesAgain 15 = .ok (.getfield 35, 3) := dk_180 0 35 (dk_at dksX2_comesAgain_0 15 rfl rfl)
theorem dX2_comesAgain_18 : decode cX2_comesAgain 18 = .ok (.iload_n 1, 1) := dk_27 (dk_at dksX2_comesAgain_0 18 rfl rfl)
theorem dX2_comesAgain_19 : decode cX2_comesAgain 19 = .ok (.iaload, 1) := dk_46 (dk_at dksX2_comesAgain_0 19 rfl rfl)
theorem dX2_comesAgain_20 : decode cX2_comesAgain 20 = .ok (.iadd, 1) := dk_96 (dk_at dksX2_comesAgain_0 20 rfl rfl)
theorem dX2_comesAgain_21 : decode cX2_comesAgain 21 = .ok (.if_icmp .ge 42, 3) := dk_162 0 42 (dk_at dksX2_comesAgain_0 21 rfl rfl)
theorem dX2_comesAgain_24 : decode cX2_comesAgain 24 = .ok (.iload 4, 2) := dk_21 4 (dk_at dksX2_comesAgain_1 0 rfl rfl)
theorem dX2_comesAgain_26 : decode cX2_comesAgain 26 = .ok (.ifCond .eq 28, 3) := dk_153 0 28 (dk_at dksX2_comesAgain_1 2 rfl rfl)
theorem dX2_comesAgain_29 : decode cX2_comesAgain 29 = .ok (.aload_n 0, 1) := dk_42 (dk_at dksX2_comesAgain_1 5 rfl rfl)
theorem dX2_comesAgain_30 : decode cX2_comesAgain 30 = .ok (.iload_n 1, 1) := dk_27 (dk_at dksX2_comesAgain_1 6 rfl rfl)
theorem dX2_comesAgain_31 : decode cX2_comesAgain 31 = .ok (.iload 5, 2) := dk_21 5 (dk_at dksX2_comesAgain_1 7 rfl rfl)
theorem dX2_comesAgain_33 : decode cX2_comesAgain 33 = .ok (.i2l, 1) := dk_133 (dk_at dksX2_comesAgain_1 9 rfl rfl)
theorem dX2_comesAgain_34 : decode cX2_comesAgain 34 = .ok (.invokevirtual 162, 3) := dk_182 0 162 (dk_at dksX2_comesAgain_1 10 rfl rfl)
theorem dX2_comesAgain_37 : decode cX2_comesAgain 37 = .ok (.aload_n 0, 1) := dk_42 (dk_at dksX2_comesAgain_1 13 rfl rfl)
theorem dX2_comesAgain_38 : decode cX2_comesAgain 38 = .ok (.iload_n 1, 1) := dk_27 (dk_at dksX2_comesAgain_1 14 rfl rfl)
theorem dX2_comesAgain_39 : decode cX2_comesAgain 39 = .ok (.iload 5, 2) := dk_21 5 (dk_at dksX2_comesAgain_1 15 rfl rfl)
theorem dX2_comesAgain_41 : decode cX2_comesAgain 41 = .ok (.iload_n 3, 1) := dk_29 (dk_at dksX2_comesAgain_1 17 rfl rfl)
theorem dX2_comesAgain_42 : decode cX2_comesAgain 42 = .ok (.iadd, 1) := dk_96 (dk_at dksX2_comesAgain_1 18 rfl rfl)
theorem dX2_comesAgain_43 : decode cX2_comesAgain 43 = .ok (.i2l, 1) := dk_133 (dk_at dksX2_comesAgain_1 19 rfl rfl)
theorem dX2_comesAgain_44 : decode cX2_comesAgain 44 = .ok (.invokevirtual 162, 3) := dk_182 0 162 (dk_at dksX2_comesAgain_1 20 rfl rfl)
theorem dX2_comesAgain_47 : decode cX2_comesAgain 47 = .ok (.if_icmp .ne 7, 3) := dk_160 0 7 (dk_at dksX2_comesAgain_2 0 rfl rfl)
theorem dX2_comesAgain_50 : decode cX2_comesAgain 50 = .ok (.iconst 1, 1) := dk_4 (dk_at dksX2_comesAgain_2 3 rfl rfl)
theorem dX2_comesAgain_51 : decode cX2_comesAgain 51 = .ok (.goto 4, 3) := dk_167 0 4 (dk_at dksX2_comesAgain_2 4 rfl rfl)
theorem dX2_comesAgain_54 : decode cX2_comesAgain 54 = .ok (.iconst 0, 1) := dk_3 (dk_at dksX2_comesAgain_2 7 rfl rfl)
theorem dX2_comesAgain_55 : decode cX2_comesAgain 55 = .ok (.istore 4, 2) := dk_54 4 (dk_at dksX2_comesAgain_2 8 rfl rfl)
theorem dX2_comesAgain_57 : decode cX2_comesAgain 57 = .ok (.iinc 5 1, 3) := dk_132 5 1 (dk_at dksX2_comesAgain_2 10 rfl rfl)
theorem dX2_comesAgain_60 : decode cX2_comesAgain 60 = .ok (.goto (-54), 3) := dk_167 255 202 (dk_at dksX2_comesAgain_2 13 rfl rfl)
theorem dX2_comesAgain_63 : decode cX2_comesAgain 63 = .ok (.iload 4, 2) := dk_21 4 (dk_at dksX2_comesAgain_2 16 rfl rfl)
theorem dX2_comesAgain_65 : decode cX2_comesAgain 65 = .ok (.ireturn, 1) := dk_172 (dk_at dksX2_comesAgain_2 18 rfl rfl)
abbrev cX2_headOf : ByteArray := prog_17_method_35_code
def yX2_headOf : MethodName := ⟨RX2, "headOf", "(I)I"⟩
def dkwX2_headOf_1 : List UInt8 := [29, 172]
abbrev dktX2_headOf_1 : List UInt8 := dkwX2_headOf_1 ++ []
def dkwX2_headOf_0 : List UInt8 := [42, 27, 182, 0, 187, 61, 3, 62, 42, 27, 29, 28, 182, 0, 184, 154, 0, 9, 132, 3, 1, 167, 255, 243]
abbrev dktX2_headOf_0 : List UInt8 := dkwX2_headOf_0 ++ dktX2_headOf_1
theorem dksX2_headOf_0 : cX2_headOf.data.toList.drop 0 = dktX2_headOf_0 := by decide +kernel
theorem dksX2_headOf_1 : cX2_headOf.data.toList.drop 24 = dktX2_headOf_1 := dk_seg dksX2_headOf_0 24 rfl rfl
theorem dX2_headOf_0 : decode cX2_headOf 0 = .ok (.aload_n 0, 1) := dk_42 (dk_at dksX2_headOf_0 0 rfl rfl)
theorem dX2_headOf_1 : decode cX2_headOf 1 = .ok (.iload_n 1, 1) := dk_27 (dk_at dksX2_headOf_0 1 rfl rfl)
theorem dX2_headOf_2 : decode cX2_headOf 2 = .ok (.invokevirtual 187, 3) := dk_182 0 187 (dk_at dksX2_headOf_0 2 rfl rfl)
theorem dX2_headOf_5 : decode cX2_headOf 5 = .ok (.istore_n 2, 1) := dk_61 (dk_at dksX2_headOf_0 5 rfl rfl)
theorem dX2_headOf_6 : decode cX2_headOf 6 = .ok (.iconst 0, 1) := dk_3 (dk_at dksX2_headOf_0 6 rfl rfl)
theorem dX2_headOf_7 : decode cX2_headOf 7 = .ok (.istore_n 3, 1) := dk_62 (dk_at dksX2_headOf_0 7 rfl rfl)
theorem dX2_headOf_8 : decode cX2_headOf 8 = .ok (.aload_n 0, 1) := dk_42 (dk_at dksX2_headOf_0 8 rfl rfl)
theorem dX2_headOf_9 : decode cX2_headOf 9 = .ok (.iload_n 1, 1) := dk_27 (dk_at dksX2_headOf_0 9 rfl rfl)
theorem dX2_headOf_10 : decode cX2_headOf 10 = .ok (.iload_n 3, 1) := dk_29 (dk_at dksX2_headOf_0 10 rfl rfl)
theorem dX2_headOf_11 : decode cX2_headOf 11 = .ok (.iload_n 2, 1) := dk_28 (dk_at dksX2_headOf_0 11 rfl rfl)
theorem dX2_headOf_12 : decode cX2_headOf 12 = .ok (.invokevirtual 184, 3) := dk_182 0 184 (dk_at dksX2_headOf_0 12 rfl rfl)
theorem dX2_headOf_15 : decode cX2_headOf 15 = .ok (.ifCond .ne 9, 3) := dk_154 0 9 (dk_at dksX2_headOf_0 15 rfl rfl)
theorem dX2_headOf_18 : decode cX2_headOf 18 = .ok (.iinc 3 1, 3) := dk_132 3 1 (dk_at dksX2_headOf_0 18 rfl rfl)
theorem dX2_headOf_21 : decode cX2_headOf 21 = .ok (.goto (-13), 3) := dk_167 255 243 (dk_at dksX2_headOf_0 21 rfl rfl)
theorem dX2_headOf_24 : decode cX2_headOf 24 = .ok (.iload_n 3, 1) := dk_29 (dk_at dksX2_headOf_1 0 rfl rfl)
theorem dX2_headOf_25 : decode cX2_headOf 25 = .ok (.ireturn, 1) := dk_172 (dk_at dksX2_headOf_1 1 rfl rfl)
abbrev cX2_zerosOf : ByteArray := prog_17_method_36_code
def yX2_zerosOf : MethodName := ⟨RX2, "zerosOf", "(I)I"⟩
def dkwX2_zerosOf_2 : List UInt8 := [132, 5, 1, 167, 255, 224, 21, 4, 172]
abbrev dktX2_zerosOf_2 : List UInt8 := dkwX2_zerosOf_2 ++ []
def dkwX2_zerosOf_1 : List UInt8 := [162, 0, 30, 21, 4, 42, 27, 21, 5, 133, 182, 0, 162, 154, 0, 7, 4, 167, 0, 4, 3, 96, 54, 4]
abbrev dktX2_zerosOf_1 : List UInt8 := dkwX2_zerosOf_1 ++ dktX2_zerosOf_2
def dkwX2_zerosOf_0 : List UInt8 := [42, 27, 182, 0, 190, 61, 42, 27, 182, 0, 187, 62, 3, 54, 4, 28, 54, 5, 21, 5, 28, 29, 96]
abbrev dktX2_zerosOf_0 : List UInt8 := dkwX2_zerosOf_0 ++ dktX2_zerosOf_1
theorem dksX2_zerosOf_0 : cX2_zerosOf.data.toList.drop 0 = dktX2_zerosOf_0 := by decide +kernel
theorem dksX2_zerosOf_1 : cX2_zerosOf.data.toList.drop 23 = dktX2_zerosOf_1 := dk_seg dksX2_zerosOf_0 23 rfl rfl
theorem dksX2_zerosOf_2 : cX2_zerosOf.data.toList.drop 47 = dktX2_zerosOf_2 := dk_seg dksX2_zerosOf_1 24 rfl rfl
theorem dX2_zerosOf_0 : decode cX2_zerosOf 0 = .ok (.aload_n 0, 1) := dk_42 (dk_at dksX2_zerosOf_0 0 rfl rfl)
theorem dX2_zerosOf_1 : decode cX2_zerosOf 1 = .ok (.iload_n 1, 1) := dk_27 (dk_at dksX2_zerosOf_0 1 rfl rfl)
theorem dX2_zerosOf_2 : decode cX2_zerosOf 2 = .ok (.invokevirtual 190, 3) := dk_182 0 190 (dk_at dksX2_zerosOf_0 2 rfl rfl)
theorem dX2_zerosOf_5 : decode cX2_zerosOf 5 = .ok (.istore_n 2, 1) := dk_61 (dk_at dksX2_zerosOf_0 5 rfl rfl)
theorem dX2_zerosOf_6 : decode cX2_zerosOf 6 = .ok (.aload_n 0, 1) := dk_42 (dk_at dksX2_zerosOf_0 6 rfl rfl)
theorem dX2_zerosOf_7 : decode cX2_zerosOf 7 = .ok (.iload_n 1, 1) := dk_27 (dk_at dksX2_zerosOf_0 7 rfl rfl)
theorem dX2_zerosOf_8 : decode cX2_zerosOf 8 = .ok (.invokevirtual 187, 3) := dk_182 0 187 (dk_at dksX2_zerosOf_0 8 rfl rfl)
theorem dX2_zerosOf_11 : decode cX2_zerosOf 11 = .ok (.istore_n 3, 1) := dk_62 (dk_at dksX2_zerosOf_0 11 rfl rfl)
theorem dX2_zerosOf_12 : decode cX2_zerosOf 12 = .ok (.iconst 0, 1) := dk_3 (dk_at dksX2_zerosOf_0 12 rfl rfl)
theorem dX2_zerosOf_13 : decode cX2_zerosOf 13 = .ok (.istore 4, 2) := dk_54 4 (dk_at dksX2_zerosOf_0 13 rfl rfl)
theorem dX2_zerosOf_15 : decode cX2_zerosOf 15 = .ok (.iload_n 2, 1) := dk_28 (dk_at dksX2_zerosOf_0 15 rfl rfl)
theorem dX2_zerosOf_16 : decode cX2_zerosOf 16 = .ok (.istore 5, 2) := dk_54 5 (dk_at dksX2_zerosOf_0 16 rfl rfl)
theorem dX2_zerosOf_18 : decode cX2_zerosOf 18 = .ok (.iload 5, 2) := dk_21 5 (dk_at dksX2_zerosOf_0 18 rfl rfl)
theorem dX2_zerosOf_20 : decode cX2_zerosOf 20 = .ok (.iload_n 2, 1) := dk_28 (dk_at dksX2_zerosOf_0 20 rfl rfl)
theorem dX2_zerosOf_21 : decode cX2_zerosOf 21 = .ok (.iload_n 3, 1) := dk_29 (dk_at dksX2_zerosOf_0 21 rfl rfl)
theorem dX2_zerosOf_22 : decode cX2_zerosOf 22 = .ok (.iadd, 1) := dk_96 (dk_at dksX2_zerosOf_0 22 rfl rfl)
theorem dX2_zerosOf_23 : decode cX2_zerosOf 23 = .ok (.if_icmp .ge 30, 3) := dk_162 0 30 (dk_at dksX2_zerosOf_1 0 rfl rfl)
theorem dX2_zerosOf_26 : decode cX2_zerosOf 26 = .ok (.iload 4, 2) := dk_21 4 (dk_at dksX2_zerosOf_1 3 rfl rfl)
theorem dX2_zerosOf_28 : decode cX2_zerosOf 28 = .ok (.aload_n 0, 1) := dk_42 (dk_at dksX2_zerosOf_1 5 rfl rfl)
theorem dX2_zerosOf_29 : decode cX2_zerosOf 29 = .ok (.iload_n 1, 1) := dk_27 (dk_at dksX2_zerosOf_1 6 rfl rfl)
theorem dX2_zerosOf_30 : decode cX2_zerosOf 30 = .ok (.iload 5, 2) := dk_21 5 (dk_at dksX2_zerosOf_1 7 rfl rfl)
theorem dX2_zerosOf_32 : decode cX2_zerosOf 32 = .ok (.i2l, 1) := dk_133 (dk_at dksX2_zerosOf_1 9 rfl rfl)
theorem dX2_zerosOf_33 : decode cX2_zerosOf 33 = .ok (.invokevirtual 162, 3) := dk_182 0 162 (dk_at dksX2_zerosOf_1 10 rfl rfl)
theorem dX2_zerosOf_36 : decode cX2_zerosOf 36 = .ok (.ifCond .ne 7, 3) := dk_154 0 7 (dk_at dksX2_zerosOf_1 13 rfl rfl)
theorem dX2_zerosOf_39 : decode cX2_zerosOf 39 = .ok (.iconst 1, 1) := dk_4 (dk_at dksX2_zerosOf_1 16 rfl rfl)
theorem dX2_zerosOf_40 : decode cX2_zerosOf 40 = .ok (.goto 4, 3) := dk_167 0 4 (dk_at dksX2_zerosOf_1 17 rfl rfl)
theorem dX2_zerosOf_43 : decode cX2_zerosOf 43 = .ok (.iconst 0, 1) := dk_3 (dk_at dksX2_zerosOf_1 20 rfl rfl)
theorem dX2_zerosOf_44 : decode cX2_zerosOf 44 = .ok (.iadd, 1) := dk_96 (dk_at dksX2_zerosOf_1 21 rfl rfl)
theorem dX2_zerosOf_45 : decode cX2_zerosOf 45 = .ok (.istore 4, 2) := dk_54 4 (dk_at dksX2_zerosOf_1 22 rfl rfl)
theorem dX2_zerosOf_47 : decode cX2_zerosOf 47 = .ok (.iinc 5 1, 3) := dk_132 5 1 (dk_at dksX2_zerosOf_2 0 rfl rfl)
theorem dX2_zerosOf_50 : decode cX2_zerosOf 50 = .ok (.goto (-32), 3) := dk_167 255 224 (dk_at dksX2_zerosOf_2 3 rfl rfl)
theorem dX2_zerosOf_53 : decode cX2_zerosOf 53 = .ok (.iload 4, 2) := dk_21 4 (dk_at dksX2_zerosOf_2 6 rfl rfl)
theorem dX2_zerosOf_55 : decode cX2_zerosOf 55 = .ok (.ireturn, 1) := dk_172 (dk_at dksX2_zerosOf_2 8 rfl rfl)
abbrev cX2_least : ByteArray := prog_17_method_55_code
def yX2_least : MethodName := ⟨RX2, "least", "(III)I"⟩
def dkwX2_least_1 : List UInt8 := [184, 0, 68, 153, 0, 13, 42, 27, 28, 29, 182, 0, 242, 167, 0, 5, 18, 72, 172]
abbrev dktX2_least_1 : List UInt8 := dkwX2_least_1 ++ []
def dkwX2_least_0 : List UInt8 := [42, 27, 182, 0, 193, 154, 0, 6, 18, 196, 172, 28, 184, 0, 239, 153, 0, 23, 29, 3, 16, 8]
abbrev dktX2_least_0 : List UInt8 := dkwX2_least_0 ++ dktX2_least_1
theorem dksX2_least_0 : cX2_least.data.toList.drop 0 = dktX2_least_0 := by decide +kernel
theorem dksX2_least_1 : cX2_least.data.toList.drop 22 = dktX2_least_1 := dk_seg dksX2_least_0 22 rfl rfl
theorem dX2_least_0 : decode cX2_least 0 = .ok (.aload_n 0, 1) := dk_42 (dk_at dksX2_least_0 0 rfl rfl)
theorem dX2_least_1 : decode cX2_least 1 = .ok (.iload_n 1, 1) := dk_27 (dk_at dksX2_least_0 1 rfl rfl)
theorem dX2_least_2 : decode cX2_least 2 = .ok (.invokevirtual 193, 3) := dk_182 0 193 (dk_at dksX2_least_0 2 rfl rfl)
theorem dX2_least_5 : decode cX2_least 5 = .ok (.ifCond .ne 6, 3) := dk_154 0 6 (dk_at dksX2_least_0 5 rfl rfl)
theorem dX2_least_8 : decode cX2_least 8 = .ok (.ldc 196, 2) := dk_18 196 (dk_at dksX2_least_0 8 rfl rfl)
theorem dX2_least_10 : decode cX2_least 10 = .ok (.ireturn, 1) := dk_172 (dk_at dksX2_least_0 10 rfl rfl)
theorem dX2_least_11 : decode cX2_least 11 = .ok (.iload_n 2, 1) := dk_28 (dk_at dksX2_least_0 11 rfl rfl)
theorem dX2_least_12 : decode cX2_least 12 = .ok (.invokestatic 239, 3) := dk_184 0 239 (dk_at dksX2_least_0 12 rfl rfl)
theorem dX2_least_15 : decode cX2_least 15 = .ok (.ifCond .eq 23, 3) := dk_153 0 23 (dk_at dksX2_least_0 15 rfl rfl)
theorem dX2_least_18 : decode cX2_least 18 = .ok (.iload_n 3, 1) := dk_29 (dk_at dksX2_least_0 18 rfl rfl)
theorem dX2_least_19 : decode cX2_least 19 = .ok (.iconst 0, 1) := dk_3 (dk_at dksX2_least_0 19 rfl rfl)
theorem dX2_least_20 : decode cX2_least 20 = .ok (.bipush 8, 2) := dk_16 8 (dk_at dksX2_least_0 20 rfl rfl)
theorem dX2_least_22 : decode cX2_least 22 = .ok (.invokestatic 68, 3) := dk_184 0 68 (dk_at dksX2_least_1 0 rfl rfl)
theorem dX2_least_25 : decode cX2_least 25 = .ok (.ifCond .eq 13, 3) := dk_153 0 13 (dk_at dksX2_least_1 3 rfl rfl)
theorem dX2_least_28 : decode cX2_least 28 = .ok (.aload_n 0, 1) := dk_42 (dk_at dksX2_least_1 6 rfl rfl)
theorem dX2_least_29 : decode cX2_least 29 = .ok (.iload_n 1, 1) := dk_27 (dk_at dksX2_least_1 7 rfl rfl)
theorem dX2_least_30 : decode cX2_least 30 = .ok (.iload_n 2, 1) := dk_28 (dk_at dksX2_least_1 8 rfl rfl)
theorem dX2_least_31 : decode cX2_least 31 = .ok (.iload_n 3, 1) := dk_29 (dk_at dksX2_least_1 9 rfl rfl)
theorem dX2_least_32 : decode cX2_least 32 = .ok (.invokevirtual 242, 3) := dk_182 0 242 (dk_at dksX2_least_1 10 rfl rfl)
theorem dX2_least_35 : decode cX2_least 35 = .ok (.goto 5, 3) := dk_167 0 5 (dk_at dksX2_least_1 13 rfl rfl)
theorem dX2_least_38 : decode cX2_least 38 = .ok (.ldc 72, 2) := dk_18 72 (dk_at dksX2_least_1 16 rfl rfl)
theorem dX2_least_40 : decode cX2_least 40 = .ok (.ireturn, 1) := dk_172 (dk_at dksX2_least_1 18 rfl rfl)
abbrev cX2_isPrime : ByteArray := prog_17_method_54_code
def yX2_isPrime : MethodName := ⟨RX2, "isPrime", "(I)Z"⟩
def dkwX2_isPrime_1 : List UInt8 := [167, 0, 4, 3, 172]
abbrev dktX2_isPrime_1 : List UInt8 := dkwX2_isPrime_1 ++ []
def dkwX2_isPrime_0 : List UInt8 := [26, 5, 159, 0, 19, 26, 6, 159, 0, 14, 26, 8, 159, 0, 9, 26, 16, 7, 160, 0, 7, 4]
abbrev dktX2_isPrime_0 : List UInt8 := dkwX2_isPrime_0 ++ dktX2_isPrime_1
theorem dksX2_isPrime_0 : cX2_isPrime.data.toList.drop 0 = dktX2_isPrime_0 := by decide +kernel
theorem dksX2_isPrime_1 : cX2_isPrime.data.toList.drop 22 = dktX2_isPrime_1 := dk_seg dksX2_isPrime_0 22 rfl rfl
theorem dX2_isPrime_0 : decode cX2_isPrime 0 = .ok (.iload_n 0, 1) := dk_26 (dk_at dksX2_isPrime_0 0 rfl rfl)
theorem dX2_isPrime_1 : decode cX2_isPrime 1 = .ok (.iconst 2, 1) := dk_5 (dk_at dksX2_isPrime_0 1 rfl rfl)
theorem dX2_isPrime_2 : decode cX2_isPrime 2 = .ok (.if_icmp .eq 19, 3) := dk_159 0 19 (dk_at dksX2_isPrime_0 2 rfl rfl)
theorem dX2_isPrime_5 : decode cX2_isPrime 5 = .ok (.iload_n 0, 1) := dk_26 (dk_at dksX2_isPrime_0 5 rfl rfl)
theorem dX2_isPrime_6 : decode cX2_isPrime 6 = .ok (.iconst 3, 1) := dk_6 (dk_at dksX2_isPrime_0 6 rfl rfl)
theorem dX2_isPrime_7 : decode cX2_isPrime 7 = .ok (.if_icmp .eq 14, 3) := dk_159 0 14 (dk_at dksX2_isPrime_0 7 rfl rfl)
theorem dX2_isPrime_10 : decode cX2_isPrime 10 = .ok (.iload_n 0, 1) := dk_26 (dk_at dksX2_isPrime_0 10 rfl rfl)
theorem dX2_isPrime_11 : decode cX2_isPrime 11 = .ok (.iconst 5, 1) := dk_8 (dk_at dksX2_isPrime_0 11 rfl rfl)
theorem dX2_isPrime_12 : decode cX2_isPrime 12 = .ok (.if_icmp .eq 9, 3) := dk_159 0 9 (dk_at dksX2_isPrime_0 12 rfl rfl)
theorem dX2_isPrime_15 : decode cX2_isPrime 15 = .ok (.iload_n 0, 1) := dk_26 (dk_at dksX2_isPrime_0 15 rfl rfl)
theorem dX2_isPrime_16 : decode cX2_isPrime 16 = .ok (.bipush 7, 2) := dk_16 7 (dk_at dksX2_isPrime_0 16 rfl rfl)
theorem dX2_isPrime_18 : decode cX2_isPrime 18 = .ok (.if_icmp .ne 7, 3) := dk_160 0 7 (dk_at dksX2_isPrime_0 18 rfl rfl)
theorem dX2_isPrime_21 : decode cX2_isPrime 21 = .ok (.iconst 1, 1) := dk_4 (dk_at dksX2_isPrime_0 21 rfl rfl)
theorem dX2_isPrime_22 : decode cX2_isPrime 22 = .ok (.goto 4, 3) := dk_167 0 4 (dk_at dksX2_isPrime_1 0 rfl rfl)
theorem dX2_isPrime_25 : decode cX2_isPrime 25 = .ok (.iconst 0, 1) := dk_3 (dk_at dksX2_isPrime_1 3 rfl rfl)
theorem dX2_isPrime_26 : decode cX2_isPrime 26 = .ok (.ireturn, 1) := dk_172 (dk_at dksX2_isPrime_1 4 rfl rfl)
abbrev cX2_leastNow : ByteArray := prog_17_method_53_code
def yX2_leastNow : MethodName := ⟨RX2, "leastNow", "(III)I"⟩
def dkwX2_leastNow_2 : List UInt8 := [21, 4, 164, 0, 7, 3, 167, 0, 11, 42, 180, 0, 47, 29, 4, 100, 46, 172]
abbrev dktX2_leastNow_2 : List UInt8 := dkwX2_leastNow_2 ++ []
def dkwX2_leastNow_1 : List UInt8 := [167, 255, 242, 29, 154, 0, 6, 21, 4, 172, 21, 4, 16, 8, 164, 0, 8, 18, 54, 167, 0, 21, 29]
abbrev dktX2_leastNow_1 : List UInt8 := dkwX2_leastNow_1 ++ dktX2_leastNow_2
def dkwX2_leastNow_0 : List UInt8 := [42, 28, 182, 0, 204, 3, 54, 4, 42, 27, 21, 4, 28, 182, 0, 236, 154, 0, 9, 132, 4, 1]
abbrev dktX2_leastNow_0 : List UInt8 := dkwX2_leastNow_0 ++ dktX2_leastNow_1
theorem dksX2_leastNow_0 : cX2_leastNow.data.toList.drop 0 = dktX2_leastNow_0 := by decide +kernel
theorem dksX2_leastNow_1 : cX2_leastNow.data.toList.drop 22 = dktX2_leastNow_1 := dk_seg dksX2_leastNow_0 22 rfl rfl
theorem dksX2_leastNow_2 : cX2_leastNow.data.toList.drop 45 = dktX2_leastNow_2 := dk_seg dksX2_leastNow_1 23 rfl rfl
theorem dX2_leastNow_0 : decode cX2_leastNow 0 = .ok (.aload_n 0, 1) := dk_42 (dk_at dksX2_leastNow_0 0 rfl rfl)
theorem dX2_leastNow_1 : decode cX2_leastNow 1 = .ok (.iload_n 2, 1) := dk_28 (dk_at dksX2_leastNow_0 1 rfl rfl)
theorem dX2_leastNow_2 : decode cX2_leastNow 2 = .ok (.invokevirtual 204, 3) := dk_182 0 204 (dk_at dksX2_leastNow_0 2 rfl rfl)
theorem dX2_leastNow_5 : decode cX2_leastNow 5 = .ok (.iconst 0, 1) := dk_3 (dk_at dksX2_leastNow_0 5 rfl rfl)
theorem dX2_leastNow_6 : decode cX2_leastNow 6 = .ok (.istore 4, 2) := dk_54 4 (dk_at dksX2_leastNow_0 6 rfl rfl)
theorem dX2_leastNow_8 : decode cX2_leastNow 8 = .ok (.aload_n 0, 1) := dk_42 (dk_at dksX2_leastNow_0 8 rfl rfl)
theorem dX2_leastNow_9 : decode cX2_leastNow 9 = .ok (.iload_n 1, 1) := dk_27 (dk_at dksX2_leastNow_0 9 rfl rfl)
theorem dX2_leastNow_10 : decode cX2_leastNow 10 = .ok (.iload 4, 2) := dk_21 4 (dk_at dksX2_leastNow_0 10 rfl rfl)
theorem dX2_leastNow_12 : decode cX2_leastNow 12 = .ok (.iload_n 2, 1) := dk_28 (dk_at dksX2_leastNow_0 12 rfl rfl)
theorem dX2_leastNow_13 : decode cX2_leastNow 13 = .ok (.invokevirtual 236, 3) := dk_182 0 236 (dk_at dksX2_leastNow_0 13 rfl rfl)
theorem dX2_leastNow_16 : decode cX2_leastNow 16 = .ok (.ifCond .ne 9, 3) := dk_154 0 9 (dk_at dksX2_leastNow_0 16 rfl rfl)
theorem dX2_leastNow_19 : decode cX2_leastNow 19 = .ok (.iinc 4 1, 3) := dk_132 4 1 (dk_at dksX2_leastNow_0 19 rfl rfl)
theorem dX2_leastNow_22 : decode cX2_leastNow 22 = .ok (.goto (-14), 3) := dk_167 255 242 (dk_at dksX2_leastNow_1 0 rfl rfl)
theorem dX2_leastNow_25 : decode cX2_leastNow 25 = .ok (.iload_n 3, 1) := dk_29 (dk_at dksX2_leastNow_1 3 rfl rfl)
theorem dX2_leastNow_26 : decode cX2_leastNow 26 = .ok (.ifCond .ne 6, 3) := dk_154 0 6 (dk_at dksX2_leastNow_1 4 rfl rfl)
theorem dX2_leastNow_29 : decode cX2_leastNow 29 = .ok (.iload 4, 2) := dk_21 4 (dk_at dksX2_leastNow_1 7 rfl rfl)
theorem dX2_leastNow_31 : decode cX2_leastNow 31 = .ok (.ireturn, 1) := dk_172 (dk_at dksX2_leastNow_1 9 rfl rfl)
theorem dX2_leastNow_32 : decode cX2_leastNow 32 = .ok (.iload 4, 2) := dk_21 4 (dk_at dksX2_leastNow_1 10 rfl rfl)
theorem dX2_leastNow_34 : decode cX2_leastNow 34 = .ok (.bipush 8, 2) := dk_16 8 (dk_at dksX2_leastNow_1 12 rfl rfl)
theorem dX2_leastNow_36 : decode cX2_leastNow 36 = .ok (.if_icmp .le 8, 3) := dk_164 0 8 (dk_at dksX2_leastNow_1 14 rfl rfl)
theorem dX2_leastNow_39 : decode cX2_leastNow 39 = .ok (.ldc 54, 2) := dk_18 54 (dk_at dksX2_leastNow_1 17 rfl rfl)
theorem dX2_leastNow_41 : decode cX2_leastNow 41 = .ok (.goto 21, 3) := dk_167 0 21 (dk_at dksX2_leastNow_1 19 rfl rfl)
theorem dX2_leastNow_44 : decode cX2_leastNow 44 = .ok (.iload_n 3, 1) := dk_29 (dk_at dksX2_leastNow_1 22 rfl rfl)
theorem dX2_leastNow_45 : decode cX2_leastNow 45 = .ok (.iload 4, 2) := dk_21 4 (dk_at dksX2_leastNow_2 0 rfl rfl)
theorem dX2_leastNow_47 : decode cX2_leastNow 47 = .ok (.if_icmp .le 7, 3) := dk_164 0 7 (dk_at dksX2_leastNow_2 2 rfl rfl)
theorem dX2_leastNow_50 : decode cX2_leastNow 50 = .ok (.iconst 0, 1) := dk_3 (dk_at dksX2_leastNow_2 5 rfl rfl)
theorem dX2_leastNow_51 : decode cX2_leastNow 51 = .ok (.goto 11, 3) := dk_167 0 11 (dk_at dksX2_leastNow_2 6 rfl rfl)
theorem dX2_leastNow_54 : decode cX2_leastNow 54 = .ok (.aload_n 0, 1) := dk_42 (dk_at dksX2_leastNow_2 9 rfl rfl)
theorem dX2_leastNow_55 : decode cX2_leastNow 55 = .ok (.getfield 47, 3) := dk_180 0 47 (dk_at dksX2_leastNow_2 10 rfl rfl)
theorem dX2_leastNow_58 : decode cX2_leastNow 58 = .ok (.iload_n 3, 1) := dk_29 (dk_at dksX2_leastNow_2 13 rfl rfl)
theorem dX2_leastNow_59 : decode cX2_leastNow 59 = .ok (.iconst 1, 1) := dk_4 (dk_at dksX2_leastNow_2 14 rfl rfl)
theorem dX2_leastNow_60 : decode cX2_leastNow 60 = .ok (.isub, 1) := dk_100 (dk_at dksX2_leastNow_2 15 rfl rfl)
theorem dX2_leastNow_61 : decode cX2_leastNow 61 = .ok (.iaload, 1) := dk_46 (dk_at dksX2_leastNow_2 16 rfl rfl)
theorem dX2_leastNow_62 : decode cX2_leastNow 62 = .ok (.ireturn, 1) := dk_172 (dk_at dksX2_leastNow_2 17 rfl rfl)
abbrev cX2_isSolved : ByteArray := prog_17_method_51_code
def yX2_isSolved : MethodName := ⟨RX2, "isSolved", "(III)Z"⟩
def dkwX2_isSolved_6 : List UInt8 := [28, 182, 0, 233, 172]
abbrev dktX2_isSolved_6 : List UInt8 := dkwX2_isSolved_6 ++ []
def dkwX2_isSolved_5 : List UInt8 := [29, 182, 0, 229, 132, 8, 1, 167, 255, 228, 132, 5, 1, 132, 6, 1, 167, 255, 166, 42, 21, 5, 21, 4]
abbrev dktX2_isSolved_5 : List UInt8 := dkwX2_isSolved_5 ++ dktX2_isSolved_6
def dkwX2_isSolved_4 : List UInt8 := [3, 54, 8, 21, 8, 21, 4, 162, 0, 27, 21, 8, 21, 5, 159, 0, 14, 42, 21, 8, 21, 5, 21, 6]
abbrev dktX2_isSolved_4 : List UInt8 := dkwX2_isSolved_4 ++ dktX2_isSolved_5
def dkwX2_isSolved_3 : List UInt8 := [21, 7, 21, 4, 162, 0, 57, 42, 21, 5, 21, 7, 182, 0, 222, 42, 21, 5, 21, 6, 29, 182, 0, 225]
abbrev dktX2_isSolved_3 : List UInt8 := dkwX2_isSolved_3 ++ dktX2_isSolved_4
def dkwX2_isSolved_2 : List UInt8 := [162, 0, 90, 42, 180, 0, 47, 21, 6, 3, 79, 42, 21, 5, 21, 4, 21, 6, 182, 0, 219, 54, 7]
abbrev dktX2_isSolved_2 : List UInt8 := dkwX2_isSolved_2 ++ dktX2_isSolved_3
def dkwX2_isSolved_1 : List UInt8 := [79, 132, 5, 1, 167, 255, 237, 42, 27, 28, 182, 0, 216, 3, 54, 5, 3, 54, 6, 21, 6, 28]
abbrev dktX2_isSolved_1 : List UInt8 := dkwX2_isSolved_1 ++ dktX2_isSolved_2
def dkwX2_isSolved_0 : List UInt8 := [16, 16, 28, 100, 54, 4, 3, 54, 5, 21, 5, 17, 1, 16, 162, 0, 17, 42, 180, 0, 44, 21, 5, 3]
abbrev dktX2_isSolved_0 : List UInt8 := dkwX2_isSolved_0 ++ dktX2_isSolved_1
theorem dksX2_isSolved_0 : cX2_isSolved.data.toList.drop 0 = dktX2_isSolved_0 := by decide +kernel
theorem dksX2_isSolved_1 : cX2_isSolved.data.toList.drop 24 = dktX2_isSolved_1 := dk_seg dksX2_isSolved_0 24 rfl rfl
theorem dksX2_isSolved_2 : cX2_isSolved.data.toList.drop 46 = dktX2_isSolved_2 := dk_seg dksX2_isSolved_1 22 rfl rfl
theorem dksX2_isSolved_3 : cX2_isSolved.data.toList.drop 69 = dktX2_isSolved_3 := dk_seg dksX2_isSolved_2 23 rfl rfl
theorem dksX2_isSolved_4 : cX2_isSolved.data.toList.drop 93 = dktX2_isSolved_4 := dk_seg dksX2_isSolved_3 24 rfl rfl
theorem dksX2_isSolved_5 : cX2_isSolved.data.toList.drop 117 = dktX2_isSolved_5 := dk_seg dksX2_isSolved_4 24 rfl rfl
theorem dksX2_isSolved_6 : cX2_isSolved.data.toList.drop 141 = dktX2_isSolved_6 := dk_seg dksX2_isSolved_5 24 rfl rfl
theorem dX2_isSolved_0 : decode cX2_isSolved 0 = .ok (.bipush 16, 2) := dk_16 16 (dk_at dksX2_isSolved_0 0 rfl rfl)
theorem dX2_isSolved_2 : decode cX2_isSolved 2 = .ok (.iload_n 2, 1) := dk_28 (dk_at dksX2_isSolved_0 2 rfl rfl)
theorem dX2_isSolved_3 : decode cX2_isSolved 3 = .ok (.isub, 1) := dk_100 (dk_at dksX2_isSolved_0 3 rfl rfl)
theorem dX2_isSolved_4 : decode cX2_isSolved 4 = .ok (.istore 4, 2) := dk_54 4 (dk_at dksX2_isSolved_0 4 rfl rfl)
theorem dX2_isSolved_6 : decode cX2_isSolved 6 = .ok (.iconst 0, 1) := dk_3 (dk_at dksX2_isSolved_0 6 rfl rfl)
theorem dX2_isSolved_7 : decode cX2_isSolved 7 = .ok (.istore 5, 2) := dk_54 5 (dk_at dksX2_isSolved_0 7 rfl rfl)
theorem dX2_isSolved_9 : decode cX2_isSolved 9 = .ok (.iload 5, 2) := dk_21 5 (dk_at dksX2_isSolved_0 9 rfl rfl)
theorem dX2_isSolved_11 : decode cX2_isSolved 11 = .ok (.sipush 272, 3) := dk_17 1 16 (dk_at dksX2_isSolved_0 11 rfl rfl)
theorem dX2_isSolved_14 : decode cX2_isSolved 14 = .ok (.if_icmp .ge 17, 3) := dk_162 0 17 (dk_at dksX2_isSolved_0 14 rfl rfl)
theorem dX2_isSolved_17 : decode cX2_isSolved 17 = .ok (.aload_n 0, 1) := dk_42 (dk_at dksX2_isSolved_0 17 rfl rfl)
theorem dX2_isSolved_18 : decode cX2_isSolved 18 = .ok (.getfield 44, 3) := dk_180 0 44 (dk_at dksX2_isSolved_0 18 rfl rfl)
theorem dX2_isSolved_21 : decode cX2_isSolved 21 = .ok (.iload 5, 2) := dk_21 5 (dk_at dksX2_isSolved_0 21 rfl rfl)
theorem dX2_isSolved_23 : decode cX2_isSolved 23 = .ok (.iconst 0, 1) := dk_3 (dk_at dksX2_isSolved_0 23 rfl rfl)
theorem dX2_isSolved_24 : decode cX2_isSolved 24 = .ok (.iastore, 1) := dk_79 (dk_at dksX2_isSolved_1 0 rfl rfl)
theorem dX2_isSolved_25 : decode cX2_isSolved 25 = .ok (.iinc 5 1, 3) := dk_132 5 1 (dk_at dksX2_isSolved_1 1 rfl rfl)
theorem dX2_isSolved_28 : decode cX2_isSolved 28 = .ok (.goto (-19), 3) := dk_167 255 237 (dk_at dksX2_isSolved_1 4 rfl rfl)
theorem dX2_isSolved_31 : decode cX2_isSolved 31 = .ok (.aload_n 0, 1) := dk_42 (dk_at dksX2_isSolved_1 7 rfl rfl)
theorem dX2_isSolved_32 : decode cX2_isSolved 32 = .ok (.iload_n 1, 1) := dk_27 (dk_at dksX2_isSolved_1 8 rfl rfl)
theorem dX2_isSolved_33 : decode cX2_isSolved 33 = .ok (.iload_n 2, 1) := dk_28 (dk_at dksX2_isSolved_1 9 rfl rfl)
theorem dX2_isSolved_34 : decode cX2_isSolved 34 = .ok (.invokevirtual 216, 3) := dk_182 0 216 (dk_at dksX2_isSolved_1 10 rfl rfl)
theorem dX2_isSolved_37 : decode cX2_isSolved 37 = .ok (.iconst 0, 1) := dk_3 (dk_at dksX2_isSolved_1 13 rfl rfl)
theorem dX2_isSolved_38 : decode cX2_isSolved 38 = .ok (.istore 5, 2) := dk_54 5 (dk_at dksX2_isSolved_1 14 rfl rfl)
theorem dX2_isSolved_40 : decode cX2_isSolved 40 = .ok (.iconst 0, 1) := dk_3 (dk_at dksX2_isSolved_1 16 rfl rfl)
theorem dX2_isSolved_41 : decode cX2_isSolved 41 = .ok (.istore 6, 2) := dk_54 6 (dk_at dksX2_isSolved_1 17 rfl rfl)
theorem dX2_isSolved_43 : decode cX2_isSolved 43 = .ok (.iload 6, 2) := dk_21 6 (dk_at dksX2_isSolved_1 19 rfl rfl)
theorem dX2_isSolved_45 : decode cX2_isSolved 45 = .ok (.iload_n 2, 1) := dk_28 (dk_at dksX2_isSolved_1 21 rfl rfl)
theorem dX2_isSolved_46 : decode cX2_isSolved 46 = .ok (.if_icmp .ge 90, 3) := dk_162 0 90 (dk_at dksX2_isSolved_2 0 rfl rfl)
theorem dX2_isSolved_49 : decode cX2_isSolved 49 = .ok (.aload_n 0, 1) := dk_42 (dk_at dksX2_isSolved_2 3 rfl rfl)
theorem dX2_isSolved_50 : decode cX2_isSolved 50 = .ok (.getfield 47, 3) := dk_180 0 47 (dk_at dksX2_isSolved_2 4 rfl rfl)
theorem dX2_isSolved_53 : decode cX2_isSolved 53 = .ok (.iload 6, 2) := dk_21 6 (dk_at dksX2_isSolved_2 7 rfl rfl)
theorem dX2_isSolved_55 : decode cX2_isSolved 55 = .ok (.iconst 0, 1) := dk_3 (dk_at dksX2_isSolved_2 9 rfl rfl)
theorem dX2_isSolved_56 : decode cX2_isSolved 56 = .ok (.iastore, 1) := dk_79 (dk_at dksX2_isSolved_2 10 rfl rfl)
theorem dX2_isSolved_57 : decode cX2_isSolved 57 = .ok (.aload_n 0, 1) := dk_42 (dk_at dksX2_isSolved_2 11 rfl rfl)
theorem dX2_isSolved_58 : decode cX2_isSolved 58 = .ok (.iload 5, 2) := dk_21 5 (dk_at dksX2_isSolved_2 12 rfl rfl)
theorem dX2_isSolved_60 : decode cX2_isSolved 60 = .ok (.iload 4, 2) := dk_21 4 (dk_at dksX2_isSolved_2 14 rfl rfl)
theorem dX2_isSolved_62 : decode cX2_isSolved 62 = .ok (.iload 6, 2) := dk_21 6 (dk_at dksX2_isSolved_2 16 rfl rfl)
theorem dX2_isSolved_64 : decode cX2_isSolved 64 = .ok (.invokevirtual 219, 3) := dk_182 0 219 (dk_at dksX2_isSolved_2 18 rfl rfl)
theorem dX2_isSolved_67 : decode cX2_isSolved 67 = .ok (.istore 7, 2) := dk_54 7 (dk_at dksX2_isSolved_2 21 rfl rfl)
theorem dX2_isSolved_69 : decode cX2_isSolved 69 = .ok (.iload 7, 2) := dk_21 7 (dk_at dksX2_isSolved_3 0 rfl rfl)
theorem dX2_isSolved_71 : decode cX2_isSolved 71 = .ok (.iload 4, 2) := dk_21 4 (dk_at dksX2_isSolved_3 2 rfl rfl)
theorem dX2_isSolved_73 : decode cX2_isSolved 73 = .ok (.if_icmp .ge 57, 3) := dk_162 0 57 (dk_at dksX2_isSolved_3 4 rfl rfl)
theorem dX2_isSolved_76 : decode cX2_isSolved 76 = .ok (.aload_n 0, 1) := dk_42 (dk_at dksX2_isSolved_3 7 rfl rfl)
theorem dX2_isSolved_77 : decode cX2_isSolved 77 = .ok (.iload 5, 2) := dk_21 5 (dk_at dksX2_isSolved_3 8 rfl rfl)
theorem dX2_isSolved_79 : decode cX2_isSolved 79 = .ok (.iload 7, 2) := dk_21 7 (dk_at dksX2_isSolved_3 10 rfl rfl)
theorem dX2_isSolved_81 : decode cX2_isSolved 81 = .ok (.invokevirtual 222, 3) := dk_182 0 222 (dk_at dksX2_isSolved_3 12 rfl rfl)
theorem dX2_isSolved_84 : decode cX2_isSolved 84 = .ok (.aload_n 0, 1) := dk_42 (dk_at dksX2_isSolved_3 15 rfl rfl)
theorem dX2_isSolved_85 : decode cX2_isSolved 85 = .ok (.iload 5, 2) := dk_21 5 (dk_at dksX2_isSolved_3 16 rfl rfl)
theorem dX2_isSolved_87 : decode cX2_isSolved 87 = .ok (.iload 6, 2) := dk_21 6 (dk_at dksX2_isSolved_3 18 rfl rfl)
theorem dX2_isSolved_89 : decode cX2_isSolved 89 = .ok (.iload_n 3, 1) := dk_29 (dk_at dksX2_isSolved_3 20 rfl rfl)
theorem dX2_isSolved_90 : decode cX2_isSolved 90 = .ok (.invokevirtual 225, 3) := dk_182 0 225 (dk_at dksX2_isSolved_3 21 rfl rfl)
theorem dX2_isSolved_93 : decode cX2_isSolved 93 = .ok (.iconst 0, 1) := dk_3 (dk_at dksX2_isSolved_4 0 rfl rfl)
theorem dX2_isSolved_94 : decode cX2_isSolved 94 = .ok (.istore 8, 2) := dk_54 8 (dk_at dksX2_isSolved_4 1 rfl rfl)
theorem dX2_isSolved_96 : decode cX2_isSolved 96 = .ok (.iload 8, 2) := dk_21 8 (dk_at dksX2_isSolved_4 3 rfl rfl)
theorem dX2_isSolved_98 : decode cX2_isSolved 98 = .ok (.iload 4, 2) := dk_21 4 (dk_at dksX2_isSolved_4 5 rfl rfl)
theorem dX2_isSolved_100 : decode cX2_isSolved 100 = .ok (.if_icmp .ge 27, 3) := dk_162 0 27 (dk_at dksX2_isSolved_4 7 rfl rfl)
theorem dX2_isSolved_103 : decode cX2_isSolved 103 = .ok (.iload 8, 2) := dk_21 8 (dk_at dksX2_isSolved_4 10 rfl rfl)
theorem dX2_isSolved_105 : decode cX2_isSolved 105 = .ok (.iload 5, 2) := dk_21 5 (dk_at dksX2_isSolved_4 12 rfl rfl)
theorem dX2_isSolved_107 : decode cX2_isSolved 107 = .ok (.if_icmp .eq 14, 3) := dk_159 0 14 (dk_at dksX2_isSolved_4 14 rfl rfl)
theorem dX2_isSolved_110 : decode cX2_isSolved 110 = .ok (.aload_n 0, 1) := dk_42 (dk_at dksX2_isSolved_4 17 rfl rfl)
theorem dX2_isSolved_111 : decode cX2_isSolved 111 = .ok (.iload 8, 2) := dk_21 8 (dk_at dksX2_isSolved_4 18 rfl rfl)
theorem dX2_isSolved_113 : decode cX2_isSolved 113 = .ok (.iload 5, 2) := dk_21 5 (dk_at dksX2_isSolved_4 20 rfl rfl)
theorem dX2_isSolved_115 : decode cX2_isSolved 115 = .ok (.iload 6, 2) := dk_21 6 (dk_at dksX2_isSolved_4 22 rfl rfl)
theorem dX2_isSolved_117 : decode cX2_isSolved 117 = .ok (.iload_n 3, 1) := dk_29 (dk_at dksX2_isSolved_5 0 rfl rfl)
theorem dX2_isSolved_118 : decode cX2_isSolved 118 = .ok (.invokevirtual 229, 3) := dk_182 0 229 (dk_at dksX2_isSolved_5 1 rfl rfl)
theorem dX2_isSolved_121 : decode cX2_isSolved 121 = .ok (.iinc 8 1, 3) := dk_132 8 1 (dk_at dksX2_isSolved_5 4 rfl rfl)
theorem dX2_isSolved_124 : decode cX2_isSolved 124 = .ok (.goto (-28), 3) := dk_167 255 228 (dk_at dksX2_isSolved_5 7 rfl rfl)
theorem dX2_isSolved_127 : decode cX2_isSolved 127 = .ok (.iinc 5 1, 3) := dk_132 5 1 (dk_at dksX2_isSolved_5 10 rfl rfl)
theorem dX2_isSolved_130 : decode cX2_isSolved 130 = .ok (.iinc 6 1, 3) := dk_132 6 1 (dk_at dksX2_isSolved_5 13 rfl rfl)
theorem dX2_isSolved_133 : decode cX2_isSolved 133 = .ok (.goto (-90), 3) := dk_167 255 166 (dk_at dksX2_isSolved_5 16 rfl rfl)
theorem dX2_isSolved_136 : decode cX2_isSolved 136 = .ok (.aload_n 0, 1) := dk_42 (dk_at dksX2_isSolved_5 19 rfl rfl)
theorem dX2_isSolved_137 : decode cX2_isSolved 137 = .ok (.iload 5, 2) := dk_21 5 (dk_at dksX2_isSolved_5 20 rfl rfl)
theorem dX2_isSolved_139 : decode cX2_isSolved 139 = .ok (.iload 4, 2) := dk_21 4 (dk_at dksX2_isSolved_5 22 rfl rfl)
theorem dX2_isSolved_141 : decode cX2_isSolved 141 = .ok (.iload_n 2, 1) := dk_28 (dk_at dksX2_isSolved_6 0 rfl rfl)
theorem dX2_isSolved_142 : decode cX2_isSolved 142 = .ok (.invokevirtual 233, 3) := dk_182 0 233 (dk_at dksX2_isSolved_6 1 rfl rfl)
theorem dX2_isSolved_145 : decode cX2_isSolved 145 = .ok (.ireturn, 1) := dk_172 (dk_at dksX2_isSolved_6 4 rfl rfl)
abbrev cX2_layTable : ByteArray := prog_17_method_46_code
def yX2_layTable : MethodName := ⟨RX2, "layTable", "(II)V"⟩
def dkwX2_layTable_3 : List UInt8 := [182, 0, 162, 79, 132, 3, 1, 167, 255, 184, 177]
abbrev dktX2_layTable_3 : List UInt8 := dkwX2_layTable_3 ++ []
def dkwX2_layTable_2 : List UInt8 := [132, 4, 1, 167, 255, 221, 42, 180, 0, 44, 16, 17, 29, 104, 28, 96, 42, 27, 28, 29, 96, 133]
abbrev dktX2_layTable_2 : List UInt8 := dkwX2_layTable_2 ++ dktX2_layTable_3
def dkwX2_layTable_1 : List UInt8 := [16, 17, 29, 104, 21, 4, 96, 42, 27, 28, 29, 96, 4, 100, 21, 4, 100, 133, 182, 0, 162, 79]
abbrev dktX2_layTable_1 : List UInt8 := dkwX2_layTable_1 ++ dktX2_layTable_2
def dkwX2_layTable_0 : List UInt8 := [3, 62, 29, 16, 16, 28, 100, 162, 0, 70, 3, 54, 4, 21, 4, 28, 162, 0, 35, 42, 180, 0, 44]
abbrev dktX2_layTable_0 : List UInt8 := dkwX2_layTable_0 ++ dktX2_layTable_1
theorem dksX2_layTable_0 : cX2_layTable.data.toList.drop 0 = dktX2_layTable_0 := by decide +kernel
theorem dksX2_layTable_1 : cX2_layTable.data.toList.drop 23 = dktX2_layTable_1 := dk_seg dksX2_layTable_0 23 rfl rfl
theorem dksX2_layTable_2 : cX2_layTable.data.toList.drop 45 = dktX2_layTable_2 := dk_seg dksX2_layTable_1 22 rfl rfl
theorem dksX2_layTable_3 : cX2_layTable.data.toList.drop 67 = dktX2_layTable_3 := dk_seg dksX2_layTable_2 22 rfl rfl
theorem dX2_layTable_0 : decode cX2_layTable 0 = .ok (.iconst 0, 1) := dk_3 (dk_at dksX2_layTable_0 0 rfl rfl)
theorem dX2_layTable_1 : decode cX2_layTable 1 = .ok (.istore_n 3, 1) := dk_62 (dk_at dksX2_layTable_0 1 rfl rfl)
theorem dX2_layTable_2 : decode cX2_layTable 2 = .ok (.iload_n 3, 1) := dk_29 (dk_at dksX2_layTable_0 2 rfl rfl)
theorem dX2_layTable_3 : decode cX2_layTable 3 = .ok (.bipush 16, 2) := dk_16 16 (dk_at dksX2_layTable_0 3 rfl rfl)
theorem dX2_layTable_5 : decode cX2_layTable 5 = .ok (.iload_n 2, 1) := dk_28 (dk_at dksX2_layTable_0 5 rfl rfl)
theorem dX2_layTable_6 : decode cX2_layTable 6 = .ok (.isub, 1) := dk_100 (dk_at dksX2_layTable_0 6 rfl rfl)
theorem dX2_layTable_7 : decode cX2_layTable 7 = .ok (.if_icmp .ge 70, 3) := dk_162 0 70 (dk_at dksX2_layTable_0 7 rfl rfl)
theorem dX2_layTable_10 : decode cX2_layTable 10 = .ok (.iconst 0, 1) := dk_3 (dk_at dksX2_layTable_0 10 rfl rfl)
theorem dX2_layTable_11 : decode cX2_layTable 11 = .ok (.istore 4, 2) := dk_54 4 (dk_at dksX2_layTable_0 11 rfl rfl)
theorem dX2_layTable_13 : decode cX2_layTable 13 = .ok (.iload 4, 2) := dk_21 4 (dk_at dksX2_layTable_0 13 rfl rfl)
theorem dX2_layTable_15 : decode cX2_layTable 15 = .ok (.iload_n 2, 1) := dk_28 (dk_at dksX2_layTable_0 15 rfl rfl)
theorem dX2_layTable_16 : decode cX2_layTable 16 = .ok (.if_icmp .ge 35, 3) := dk_162 0 35 (dk_at dksX2_layTable_0 16 rfl rfl)
theorem dX2_layTable_19 : decode cX2_layTable 19 = .ok (.aload_n 0, 1) := dk_42 (dk_at dksX2_layTable_0 19 rfl rfl)
theorem dX2_layTable_20 : decode cX2_layTable 20 = .ok (.getfield 44, 3) := dk_180 0 44 (dk_at dksX2_layTable_0 20 rfl rfl)
theorem dX2_layTable_23 : decode cX2_layTable 23 = .ok (.bipush 17, 2) := dk_16 17 (dk_at dksX2_layTable_1 0 rfl rfl)
theorem dX2_layTable_25 : decode cX2_layTable 25 = .ok (.iload_n 3, 1) := dk_29 (dk_at dksX2_layTable_1 2 rfl rfl)
theorem dX2_layTable_26 : decode cX2_layTable 26 = .ok (.imul, 1) := dk_104 (dk_at dksX2_layTable_1 3 rfl rfl)
theorem dX2_layTable_27 : decode cX2_layTable 27 = .ok (.iload 4, 2) := dk_21 4 (dk_at dksX2_layTable_1 4 rfl rfl)
theorem dX2_layTable_29 : decode cX2_layTable 29 = .ok (.iadd, 1) := dk_96 (dk_at dksX2_layTable_1 6 rfl rfl)
theorem dX2_layTable_30 : decode cX2_layTable 30 = .ok (.aload_n 0, 1) := dk_42 (dk_at dksX2_layTable_1 7 rfl rfl)
theorem dX2_layTable_31 : decode cX2_layTable 31 = .ok (.iload_n 1, 1) := dk_27 (dk_at dksX2_layTable_1 8 rfl rfl)
theorem dX2_layTable_32 : decode cX2_layTable 32 = .ok (.iload_n 2, 1) := dk_28 (dk_at dksX2_layTable_1 9 rfl rfl)
theorem dX2_layTable_33 : decode cX2_layTable 33 = .ok (.iload_n 3, 1) := dk_29 (dk_at dksX2_layTable_1 10 rfl rfl)
theorem dX2_layTable_34 : decode cX2_layTable 34 = .ok (.iadd, 1) := dk_96 (dk_at dksX2_layTable_1 11 rfl rfl)
theorem dX2_layTable_35 : decode cX2_layTable 35 = .ok (.iconst 1, 1) := dk_4 (dk_at dksX2_layTable_1 12 rfl rfl)
theorem dX2_layTable_36 : decode cX2_layTable 36 = .ok (.isub, 1) := dk_100 (dk_at dksX2_layTable_1 13 rfl rfl)
theorem dX2_layTable_37 : decode cX2_layTable 37 = .ok (.iload 4, 2) := dk_21 4 (dk_at dksX2_layTable_1 14 rfl rfl)
theorem dX2_layTable_39 : decode cX2_layTable 39 = .ok (.isub, 1) := dk_100 (dk_at dksX2_layTable_1 16 rfl rfl)
theorem dX2_layTable_40 : decode cX2_layTable 40 = .ok (.i2l, 1) := dk_133 (dk_at dksX2_layTable_1 17 rfl rfl)
theorem dX2_layTable_41 : decode cX2_layTable 41 = .ok (.invokevirtual 162, 3) := dk_182 0 162 (dk_at dksX2_layTable_1 18 rfl rfl)
theorem dX2_layTable_44 : decode cX2_layTable 44 = .ok (.iastore, 1) := dk_79 (dk_at dksX2_layTable_1 21 rfl rfl)
theorem dX2_layTable_45 : decode cX2_layTable 45 = .ok (.iinc 4 1, 3) := dk_132 4 1 (dk_at dksX2_layTable_2 0 rfl rfl)
theorem dX2_layTable_48 : decode cX2_layTable 48 = .ok (.goto (-35), 3) := dk_167 255 221 (dk_at dksX2_layTable_2 3 rfl rfl)
theorem dX2_layTable_51 : decode cX2_layTable 51 = .ok (.aload_n 0, 1) := dk_42 (dk_at dksX2_layTable_2 6 rfl rfl)
theorem dX2_layTable_52 : decode cX2_layTable 52 = .ok (.getfield 44, 3) := dk_180 0 44 (dk_at dksX2_layTable_2 7 rfl rfl)
theorem dX2_layTable_55 : decode cX2_layTable 55 = .ok (.bipush 17, 2) := dk_16 17 (dk_at dksX2_layTable_2 10 rfl rfl)
theorem dX2_layTable_57 : decode cX2_layTable 57 = .ok (.iload_n 3, 1) := dk_29 (dk_at dksX2_layTable_2 12 rfl rfl)
theorem dX2_layTable_58 : decode cX2_layTable 58 = .ok (.imul, 1) := dk_104 (dk_at dksX2_layTable_2 13 rfl rfl)
theorem dX2_layTable_59 : decode cX2_layTable 59 = .ok (.iload_n 2, 1) := dk_28 (dk_at dksX2_layTable_2 14 rfl rfl)
theorem dX2_layTable_60 : decode cX2_layTable 60 = .ok (.iadd, 1) := dk_96 (dk_at dksX2_layTable_2 15 rfl rfl)
theorem dX2_layTable_61 : decode cX2_layTable 61 = .ok (.aload_n 0, 1) := dk_42 (dk_at dksX2_layTable_2 16 rfl rfl)
theorem dX2_layTable_62 : decode cX2_layTable 62 = .ok (.iload_n 1, 1) := dk_27 (dk_at dksX2_layTable_2 17 rfl rfl)
theorem dX2_layTable_63 : decode cX2_layTable 63 = .ok (.iload_n 2, 1) := dk_28 (dk_at dksX2_layTable_2 18 rfl rfl)
theorem dX2_layTable_64 : decode cX2_layTable 64 = .ok (.iload_n 3, 1) := dk_29 (dk_at dksX2_layTable_2 19 rfl rfl)
theorem dX2_layTable_65 : decode cX2_layTable 65 = .ok (.iadd, 1) := dk_96 (dk_at dksX2_layTable_2 20 rfl rfl)
theorem dX2_layTable_66 : decode cX2_layTable 66 = .ok (.i2l, 1) := dk_133 (dk_at dksX2_layTable_2 21 rfl rfl)
theorem dX2_layTable_67 : decode cX2_layTable 67 = .ok (.invokevirtual 162, 3) := dk_182 0 162 (dk_at dksX2_layTable_3 0 rfl rfl)
theorem dX2_layTable_70 : decode cX2_layTable 70 = .ok (.iastore, 1) := dk_79 (dk_at dksX2_layTable_3 3 rfl rfl)
theorem dX2_layTable_71 : decode cX2_layTable 71 = .ok (.iinc 3 1, 3) := dk_132 3 1 (dk_at dksX2_layTable_3 4 rfl rfl)
theorem dX2_layTable_74 : decode cX2_layTable 74 = .ok (.goto (-72), 3) := dk_167 255 184 (dk_at dksX2_layTable_3 7 rfl rfl)
theorem dX2_layTable_77 : decode cX2_layTable 77 = .ok (.return_, 1) := dk_177 (dk_at dksX2_layTable_3 10 rfl rfl)
abbrev cX2_lineWith : ByteArray := prog_17_method_50_code
def yX2_lineWith : MethodName := ⟨RX2, "lineWith", "(III)I"⟩
def dkwX2_lineWith_1 : List UInt8 := [132, 4, 1, 167, 255, 232, 21, 4, 172]
abbrev dktX2_lineWith_1 : List UInt8 := dkwX2_lineWith_1 ++ []
def dkwX2_lineWith_0 : List UInt8 := [27, 54, 4, 21, 4, 28, 162, 0, 24, 42, 180, 0, 44, 16, 17, 21, 4, 104, 29, 96, 46, 154, 0, 9]
abbrev dktX2_lineWith_0 : List UInt8 := dkwX2_lineWith_0 ++ dktX2_lineWith_1
theorem dksX2_lineWith_0 : cX2_lineWith.data.toList.drop 0 = dktX2_lineWith_0 := by decide +kernel
theorem dksX2_lineWith_1 : cX2_lineWith.data.toList.drop 24 = dktX2_lineWith_1 := dk_seg dksX2_lineWith_0 24 rfl rfl
theorem dX2_lineWith_0 : decode cX2_lineWith 0 = .ok (.iload_n 1, 1) := dk_27 (dk_at dksX2_lineWith_0 0 rfl rfl)
theorem dX2_lineWith_1 : decode cX2_lineWith 1 = .ok (.istore 4, 2) := dk_54 4 (dk_at dksX2_lineWith_0 1 rfl rfl)
theorem dX2_lineWith_3 : decode cX2_lineWith 3 = .ok (.iload 4, 2) := dk_21 4 (dk_at dksX2_lineWith_0 3 rfl rfl)
theorem dX2_lineWith_5 : decode cX2_lineWith 5 = .ok (.iload_n 2, 1) := dk_28 (dk_at dksX2_lineWith_0 5 rfl rfl)
theorem dX2_lineWith_6 : decode cX2_lineWith 6 = .ok (.if_icmp .ge 24, 3) := dk_162 0 24 (dk_at dksX2_lineWith_0 6 rfl rfl)
theorem dX2_lineWith_9 : decode cX2_lineWith 9 = .ok (.aload_n 0, 1) := dk_42 (dk_at dksX2_lineWith_0 9 rfl rfl)
theorem dX2_lineWith_10 : decode cX2_lineWith 10 = .ok (.getfield 44, 3) := dk_180 0 44 (dk_at dksX2_lineWith_0 10 rfl rfl)
theorem dX2_lineWith_13 : decode cX2_lineWith 13 = .ok (.bipush 17, 2) := dk_16 17 (dk_at dksX2_lineWith_0 13 rfl rfl)
theorem dX2_lineWith_15 : decode cX2_lineWith 15 = .ok (.iload 4, 2) := dk_21 4 (dk_at dksX2_lineWith_0 15 rfl rfl)
theorem dX2_lineWith_17 : decode cX2_lineWith 17 = .ok (.imul, 1) := dk_104 (dk_at dksX2_lineWith_0 17 rfl rfl)
theorem dX2_lineWith_18 : decode cX2_lineWith 18 = .ok (.iload_n 3, 1) := dk_29 (dk_at dksX2_lineWith_0 18 rfl rfl)
theorem dX2_lineWith_19 : decode cX2_lineWith 19 = .ok (.iadd, 1) := dk_96 (dk_at dksX2_lineWith_0 19 rfl rfl)
theorem dX2_lineWith_20 : decode cX2_lineWith 20 = .ok (.iaload, 1) := dk_46 (dk_at dksX2_lineWith_0 20 rfl rfl)
theorem dX2_lineWith_21 : decode cX2_lineWith 21 = .ok (.ifCond .ne 9, 3) := dk_154 0 9 (dk_at dksX2_lineWith_0 21 rfl rfl)
theorem dX2_lineWith_24 : decode cX2_lineWith 24 = .ok (.iinc 4 1, 3) := dk_132 4 1 (dk_at dksX2_lineWith_1 0 rfl rfl)
theorem dX2_lineWith_27 : decode cX2_lineWith 27 = .ok (.goto (-24), 3) := dk_167 255 232 (dk_at dksX2_lineWith_1 3 rfl rfl)
theorem dX2_lineWith_30 : decode cX2_lineWith 30 = .ok (.iload 4, 2) := dk_21 4 (dk_at dksX2_lineWith_1 6 rfl rfl)
theorem dX2_lineWith_32 : decode cX2_lineWith 32 = .ok (.ireturn, 1) := dk_172 (dk_at dksX2_lineWith_1 8 rfl rfl)
abbrev cX2_swapLines : ByteArray := prog_17_method_47_code
def yX2_swapLines : MethodName := ⟨RX2, "swapLines", "(II)V"⟩
def dkwX2_swapLines_2 : List UInt8 := [180, 0, 44, 16, 17, 28, 104, 29, 96, 21, 4, 79, 132, 3, 1, 167, 255, 199, 177]
abbrev dktX2_swapLines_2 : List UInt8 := dkwX2_swapLines_2 ++ []
def dkwX2_swapLines_1 : List UInt8 := [180, 0, 44, 16, 17, 27, 104, 29, 96, 42, 180, 0, 44, 16, 17, 28, 104, 29, 96, 46, 79, 42]
abbrev dktX2_swapLines_1 : List UInt8 := dkwX2_swapLines_1 ++ dktX2_swapLines_2
def dkwX2_swapLines_0 : List UInt8 := [3, 62, 29, 16, 17, 162, 0, 57, 42, 180, 0, 44, 16, 17, 27, 104, 29, 96, 46, 54, 4, 42]
abbrev dktX2_swapLines_0 : List UInt8 := dkwX2_swapLines_0 ++ dktX2_swapLines_1
theorem dksX2_swapLines_0 : cX2_swapLines.data.toList.drop 0 = dktX2_swapLines_0 := by decide +kernel
theorem dksX2_swapLines_1 : cX2_swapLines.data.toList.drop 22 = dktX2_swapLines_1 := dk_seg dksX2_swapLines_0 22 rfl rfl
theorem dksX2_swapLines_2 : cX2_swapLines.data.toList.drop 44 = dktX2_swapLines_2 := dk_seg dksX2_swapLines_1 22 rfl rfl
theorem dX2_swapLines_0 : decode cX2_swapLines 0 = .ok (.iconst 0, 1) := dk_3 (dk_at dksX2_swapLines_0 0 rfl rfl)
theorem dX2_swapLines_1 : decode cX2_swapLines 1 = .ok (.istore_n 3, 1) := dk_62 (dk_at dksX2_swapLines_0 1 rfl rfl)
theorem dX2_swapLines_2 : decode cX2_swapLines 2 = .ok (.iload_n 3, 1) := dk_29 (dk_at dksX2_swapLines_0 2 rfl rfl)
theorem dX2_swapLines_3 : decode cX2_swapLines 3 = .ok (.bipush 17, 2) := dk_16 17 (dk_at dksX2_swapLines_0 3 rfl rfl)
theorem dX2_swapLines_5 : decode cX2_swapLines 5 = .ok (.if_icmp .ge 57, 3) := dk_162 0 57 (dk_at dksX2_swapLines_0 5 rfl rfl)
theorem dX2_swapLines_8 : decode cX2_swapLines 8 = .ok (.aload_n 0, 1) := dk_42 (dk_at dksX2_swapLines_0 8 rfl rfl)
theorem dX2_swapLines_9 : decode cX2_swapLines 9 = .ok (.getfield 44, 3) := dk_180 0 44 (dk_at dksX2_swapLines_0 9 rfl rfl)
theorem dX2_swapLines_12 : decode cX2_swapLines 12 = .ok (.bipush 17, 2) := dk_16 17 (dk_at dksX2_swapLines_0 12 rfl rfl)
theorem dX2_swapLines_14 : decode cX2_swapLines 14 = .ok (.iload_n 1, 1) := dk_27 (dk_at dksX2_swapLines_0 14 rfl rfl)
theorem dX2_swapLines_15 : decode cX2_swapLines 15 = .ok (.imul, 1) := dk_104 (dk_at dksX2_swapLines_0 15 rfl rfl)
theorem dX2_swapLines_16 : decode cX2_swapLines 16 = .ok (.iload_n 3, 1) := dk_29 (dk_at dksX2_swapLines_0 16 rfl rfl)
theorem dX2_swapLines_17 : decode cX2_swapLines 17 = .ok (.iadd, 1) := dk_96 (dk_at dksX2_swapLines_0 17 rfl rfl)
theorem dX2_swapLines_18 : decode cX2_swapLines 18 = .ok (.iaload, 1) := dk_46 (dk_at dksX2_swapLines_0 18 rfl rfl)
theorem dX2_swapLines_19 : decode cX2_swapLines 19 = .ok (.istore 4, 2) := dk_54 4 (dk_at dksX2_swapLines_0 19 rfl rfl)
theorem dX2_swapLines_21 : decode cX2_swapLines 21 = .ok (.aload_n 0, 1) := dk_42 (dk_at dksX2_swapLines_0 21 rfl rfl)
theorem dX2_swapLines_22 : decode cX2_swapLines 22 = .ok (.getfield 44, 3) := dk_180 0 44 (dk_at dksX2_swapLines_1 0 rfl rfl)
theorem dX2_swapLines_25 : decode cX2_swapLines 25 = .ok (.bipush 17, 2) := dk_16 17 (dk_at dksX2_swapLines_1 3 rfl rfl)
theorem dX2_swapLines_27 : decode cX2_swapLines 27 = .ok (.iload_n 1, 1) := dk_27 (dk_at dksX2_swapLines_1 5 rfl rfl)
theorem dX2_swapLines_28 : decode cX2_swapLines 28 = .ok (.imul, 1) := dk_104 (dk_at dksX2_swapLines_1 6 rfl rfl)
theorem dX2_swapLines_29 : decode cX2_swapLines 29 = .ok (.iload_n 3, 1) := dk_29 (dk_at dksX2_swapLines_1 7 rfl rfl)
theorem dX2_swapLines_30 : decode cX2_swapLines 30 = .ok (.iadd, 1) := dk_96 (dk_at dksX2_swapLines_1 8 rfl rfl)
theorem dX2_swapLines_31 : decode cX2_swapLines 31 = .ok (.aload_n 0, 1) := dk_42 (dk_at dksX2_swapLines_1 9 rfl rfl)
theorem dX2_swapLines_32 : decode cX2_swapLines 32 = .ok (.getfield 44, 3) := dk_180 0 44 (dk_at dksX2_swapLines_1 10 rfl rfl)
theorem dX2_swapLines_35 : decode cX2_swapLines 35 = .ok (.bipush 17, 2) := dk_16 17 (dk_at dksX2_swapLines_1 13 rfl rfl)
theorem dX2_swapLines_37 : decode cX2_swapLines 37 = .ok (.iload_n 2, 1) := dk_28 (dk_at dksX2_swapLines_1 15 rfl rfl)
theorem dX2_swapLines_38 : decode cX2_swapLines 38 = .ok (.imul, 1) := dk_104 (dk_at dksX2_swapLines_1 16 rfl rfl)
theorem dX2_swapLines_39 : decode cX2_swapLines 39 = .ok (.iload_n 3, 1) := dk_29 (dk_at dksX2_swapLines_1 17 rfl rfl)
theorem dX2_swapLines_40 : decode cX2_swapLines 40 = .ok (.iadd, 1) := dk_96 (dk_at dksX2_swapLines_1 18 rfl rfl)
theorem dX2_swapLines_41 : decode cX2_swapLines 41 = .ok (.iaload, 1) := dk_46 (dk_at dksX2_swapLines_1 19 rfl rfl)
theorem dX2_swapLines_42 : decode cX2_swapLines 42 = .ok (.iastore, 1) := dk_79 (dk_at dksX2_swapLines_1 20 rfl rfl)
theorem dX2_swapLines_43 : decode cX2_swapLines 43 = .ok (.aload_n 0, 1) := dk_42 (dk_at dksX2_swapLines_1 21 rfl rfl)
theorem dX2_swapLines_44 : decode cX2_swapLines 44 = .ok (.getfield 44, 3) := dk_180 0 44 (dk_at dksX2_swapLines_2 0 rfl rfl)
theorem dX2_swapLines_47 : decode cX2_swapLines 47 = .ok (.bipush 17, 2) := dk_16 17 (dk_at dksX2_swapLines_2 3 rfl rfl)
theorem dX2_swapLines_49 : decode cX2_swapLines 49 = .ok (.iload_n 2, 1) := dk_28 (dk_at dksX2_swapLines_2 5 rfl rfl)
theorem dX2_swapLines_50 : decode cX2_swapLines 50 = .ok (.imul, 1) := dk_104 (dk_at dksX2_swapLines_2 6 rfl rfl)
theorem dX2_swapLines_51 : decode cX2_swapLines 51 = .ok (.iload_n 3, 1) := dk_29 (dk_at dksX2_swapLines_2 7 rfl rfl)
theorem dX2_swapLines_52 : decode cX2_swapLines 52 = .ok (.iadd, 1) := dk_96 (dk_at dksX2_swapLines_2 8 rfl rfl)
theorem dX2_swapLines_53 : decode cX2_swapLines 53 = .ok (.iload 4, 2) := dk_21 4 (dk_at dksX2_swapLines_2 9 rfl rfl)
theorem dX2_swapLines_55 : decode cX2_swapLines 55 = .ok (.iastore, 1) := dk_79 (dk_at dksX2_swapLines_2 11 rfl rfl)
theorem dX2_swapLines_56 : decode cX2_swapLines 56 = .ok (.iinc 3 1, 3) := dk_132 3 1 (dk_at dksX2_swapLines_2 12 rfl rfl)
theorem dX2_swapLines_59 : decode cX2_swapLines 59 = .ok (.goto (-57), 3) := dk_167 255 199 (dk_at dksX2_swapLines_2 15 rfl rfl)
theorem dX2_swapLines_62 : decode cX2_swapLines 62 = .ok (.return_, 1) := dk_177 (dk_at dksX2_swapLines_2 18 rfl rfl)
abbrev cX2_makeOne : ByteArray := prog_17_method_48_code
def yX2_makeOne : MethodName := ⟨RX2, "makeOne", "(III)V"⟩
def dkwX2_makeOne_3 : List UInt8 := [167, 255, 217, 177]
abbrev dktX2_makeOne_3 : List UInt8 := dkwX2_makeOne_3 ++ []
def dkwX2_makeOne_2 : List UInt8 := [21, 5, 96, 42, 180, 0, 44, 16, 17, 27, 104, 21, 5, 96, 46, 21, 4, 104, 29, 112, 79, 132, 5, 1]
abbrev dktX2_makeOne_2 : List UInt8 := dkwX2_makeOne_2 ++ dktX2_makeOne_3
def dkwX2_makeOne_1 : List UInt8 := [132, 4, 1, 167, 255, 233, 3, 54, 5, 21, 5, 16, 17, 162, 0, 38, 42, 180, 0, 44, 16, 17, 27, 104]
abbrev dktX2_makeOne_1 : List UInt8 := dkwX2_makeOne_1 ++ dktX2_makeOne_2
def dkwX2_makeOne_0 : List UInt8 := [4, 54, 4, 42, 180, 0, 44, 16, 17, 27, 104, 28, 96, 46, 21, 4, 104, 29, 112, 4, 159, 0, 9]
abbrev dktX2_makeOne_0 : List UInt8 := dkwX2_makeOne_0 ++ dktX2_makeOne_1
theorem dksX2_makeOne_0 : cX2_makeOne.data.toList.drop 0 = dktX2_makeOne_0 := by decide +kernel
theorem dksX2_makeOne_1 : cX2_makeOne.data.toList.drop 23 = dktX2_makeOne_1 := dk_seg dksX2_makeOne_0 23 rfl rfl
theorem dksX2_makeOne_2 : cX2_makeOne.data.toList.drop 47 = dktX2_makeOne_2 := dk_seg dksX2_makeOne_1 24 rfl rfl
theorem dksX2_makeOne_3 : cX2_makeOne.data.toList.drop 71 = dktX2_makeOne_3 := dk_seg dksX2_makeOne_2 24 rfl rfl
theorem dX2_makeOne_0 : decode cX2_makeOne 0 = .ok (.iconst 1, 1) := dk_4 (dk_at dksX2_makeOne_0 0 rfl rfl)
theorem dX2_makeOne_1 : decode cX2_makeOne 1 = .ok (.istore 4, 2) := dk_54 4 (dk_at dksX2_makeOne_0 1 rfl rfl)
theorem dX2_makeOne_3 : decode cX2_makeOne 3 = .ok (.aload_n 0, 1) := dk_42 (dk_at dksX2_makeOne_0 3 rfl rfl)
theorem dX2_makeOne_4 : decode cX2_makeOne 4 = .ok (.getfield 44, 3) := dk_180 0 44 (dk_at dksX2_makeOne_0 4 rfl rfl)
theorem dX2_makeOne_7 : decode cX2_makeOne 7 = .ok (.bipush 17, 2) := dk_16 17 (dk_at dksX2_makeOne_0 7 rfl rfl)
theorem dX2_makeOne_9 : decode cX2_makeOne 9 = .ok (.iload_n 1, 1) := dk_27 (dk_at dksX2_makeOne_0 9 rfl rfl)
theorem dX2_makeOne_10 : decode cX2_makeOne 10 = .ok (.imul, 1) := dk_104 (dk_at dksX2_makeOne_0 10 rfl rfl)
theorem dX2_makeOne_11 : decode cX2_makeOne 11 = .ok (.iload_n 2, 1) := dk_28 (dk_at dksX2_makeOne_0 11 rfl rfl)
theorem dX2_makeOne_12 : decode cX2_makeOne 12 = .ok (.iadd, 1) := dk_96 (dk_at dksX2_makeOne_0 12 rfl rfl)
theorem dX2_makeOne_13 : decode cX2_makeOne 13 = .ok (.iaload, 1) := dk_46 (dk_at dksX2_makeOne_0 13 rfl rfl)
theorem dX2_makeOne_14 : decode cX2_makeOne 14 = .ok (.iload 4, 2) := dk_21 4 (dk_at dksX2_makeOne_0 14 rfl rfl)
theorem dX2_makeOne_16 : decode cX2_makeOne 16 = .ok (.imul, 1) := dk_104 (dk_at dksX2_makeOne_0 16 rfl rfl)
theorem dX2_makeOne_17 : decode cX2_makeOne 17 = .ok (.iload_n 3, 1) := dk_29 (dk_at dksX2_makeOne_0 17 rfl rfl)
theorem dX2_makeOne_18 : decode cX2_makeOne 18 = .ok (.irem, 1) := dk_112 (dk_at dksX2_makeOne_0 18 rfl rfl)
theorem dX2_makeOne_19 : decode cX2_makeOne 19 = .ok (.iconst 1, 1) := dk_4 (dk_at dksX2_makeOne_0 19 rfl rfl)
theorem dX2_makeOne_20 : decode cX2_makeOne 20 = .ok (.if_icmp .eq 9, 3) := dk_159 0 9 (dk_at dksX2_makeOne_0 20 rfl rfl)
theorem dX2_makeOne_23 : decode cX2_makeOne 23 = .ok (.iinc 4 1, 3) := dk_132 4 1 (dk_at dksX2_makeOne_1 0 rfl rfl)
theorem dX2_makeOne_26 : decode cX2_makeOne 26 = .ok (.goto (-23), 3) := dk_167 255 233 (dk_at dksX2_makeOne_1 3 rfl rfl)
theorem dX2_makeOne_29 : decode cX2_makeOne 29 = .ok (.iconst 0, 1) := dk_3 (dk_at dksX2_makeOne_1 6 rfl rfl)
theorem dX2_makeOne_30 : decode cX2_makeOne 30 = .ok (.istore 5, 2) := dk_54 5 (dk_at dksX2_makeOne_1 7 rfl rfl)
theorem dX2_makeOne_32 : decode cX2_makeOne 32 = .ok (.iload 5, 2) := dk_21 5 (dk_at dksX2_makeOne_1 9 rfl rfl)
theorem dX2_makeOne_34 : decode cX2_makeOne 34 = .ok (.bipush 17, 2) := dk_16 17 (dk_at dksX2_makeOne_1 11 rfl rfl)
theorem dX2_makeOne_36 : decode cX2_makeOne 36 = .ok (.if_icmp .ge 38, 3) := dk_162 0 38 (dk_at dksX2_makeOne_1 13 rfl rfl)
theorem dX2_makeOne_39 : decode cX2_makeOne 39 = .ok (.aload_n 0, 1) := dk_42 (dk_at dksX2_makeOne_1 16 rfl rfl)
theorem dX2_makeOne_40 : decode cX2_makeOne 40 = .ok (.getfield 44, 3) := dk_180 0 44 (dk_at dksX2_makeOne_1 17 rfl rfl)
theorem dX2_makeOne_43 : decode cX2_makeOne 43 = .ok (.bipush 17, 2) := dk_16 17 (dk_at dksX2_makeOne_1 20 rfl rfl)
theorem dX2_makeOne_45 : decode cX2_makeOne 45 = .ok (.iload_n 1, 1) := dk_27 (dk_at dksX2_makeOne_1 22 rfl rfl)
theorem dX2_makeOne_46 : decode cX2_makeOne 46 = .ok (.imul, 1) := dk_104 (dk_at dksX2_makeOne_1 23 rfl rfl)
theorem dX2_makeOne_47 : decode cX2_makeOne 47 = .ok (.iload 5, 2) := dk_21 5 (dk_at dksX2_makeOne_2 0 rfl rfl)
theorem dX2_makeOne_49 : decode cX2_makeOne 49 = .ok (.iadd, 1) := dk_96 (dk_at dksX2_makeOne_2 2 rfl rfl)
theorem dX2_makeOne_50 : decode cX2_makeOne 50 = .ok (.aload_n 0, 1) := dk_42 (dk_at dksX2_makeOne_2 3 rfl rfl)
theorem dX2_makeOne_51 : decode cX2_makeOne 51 = .ok (.getfield 44, 3) := dk_180 0 44 (dk_at dksX2_makeOne_2 4 rfl rfl)
theorem dX2_makeOne_54 : decode cX2_makeOne 54 = .ok (.bipush 17, 2) := dk_16 17 (dk_at dksX2_makeOne_2 7 rfl rfl)
theorem dX2_makeOne_56 : decode cX2_makeOne 56 = .ok (.iload_n 1, 1) := dk_27 (dk_at dksX2_makeOne_2 9 rfl rfl)
theorem dX2_makeOne_57 : decode cX2_makeOne 57 = .ok (.imul, 1) := dk_104 (dk_at dksX2_makeOne_2 10 rfl rfl)
theorem dX2_makeOne_58 : decode cX2_makeOne 58 = .ok (.iload 5, 2) := dk_21 5 (dk_at dksX2_makeOne_2 11 rfl rfl)
theorem dX2_makeOne_60 : decode cX2_makeOne 60 = .ok (.iadd, 1) := dk_96 (dk_at dksX2_makeOne_2 13 rfl rfl)
theorem dX2_makeOne_61 : decode cX2_makeOne 61 = .ok (.iaload, 1) := dk_46 (dk_at dksX2_makeOne_2 14 rfl rfl)
theorem dX2_makeOne_62 : decode cX2_makeOne 62 = .ok (.iload 4, 2) := dk_21 4 (dk_at dksX2_makeOne_2 15 rfl rfl)
theorem dX2_makeOne_64 : decode cX2_makeOne 64 = .ok (.imul, 1) := dk_104 (dk_at dksX2_makeOne_2 17 rfl rfl)
theorem dX2_makeOne_65 : decode cX2_makeOne 65 = .ok (.iload_n 3, 1) := dk_29 (dk_at dksX2_makeOne_2 18 rfl rfl)
theorem dX2_makeOne_66 : decode cX2_makeOne 66 = .ok (.irem, 1) := dk_112 (dk_at dksX2_makeOne_2 19 rfl rfl)
theorem dX2_makeOne_67 : decode cX2_makeOne 67 = .ok (.iastore, 1) := dk_79 (dk_at dksX2_makeOne_2 20 rfl rfl)
theorem dX2_makeOne_68 : decode cX2_makeOne 68 = .ok (.iinc 5 1, 3) := dk_132 5 1 (dk_at dksX2_makeOne_2 21 rfl rfl)
theorem dX2_makeOne_71 : decode cX2_makeOne 71 = .ok (.goto (-39), 3) := dk_167 255 217 (dk_at dksX2_makeOne_3 0 rfl rfl)
theorem dX2_makeOne_74 : decode cX2_makeOne 74 = .ok (.return_, 1) := dk_177 (dk_at dksX2_makeOne_3 3 rfl rfl)
abbrev cX2_takeAway : ByteArray := prog_17_method_49_code
def yX2_takeAway : MethodName := ⟨RX2, "takeAway", "(IIII)V"⟩
def dkwX2_takeAway_3 : List UInt8 := [167, 255, 201, 177]
abbrev dktX2_takeAway_3 : List UInt8 := dkwX2_takeAway_3 ++ []
def dkwX2_takeAway_2 : List UInt8 := [42, 180, 0, 44, 16, 17, 28, 104, 21, 6, 96, 46, 104, 100, 21, 4, 184, 0, 159, 79, 132, 6, 1]
abbrev dktX2_takeAway_2 : List UInt8 := dkwX2_takeAway_2 ++ dktX2_takeAway_3
def dkwX2_takeAway_1 : List UInt8 := [180, 0, 44, 16, 17, 27, 104, 21, 6, 96, 42, 180, 0, 44, 16, 17, 27, 104, 21, 6, 96, 46, 21, 5]
abbrev dktX2_takeAway_1 : List UInt8 := dkwX2_takeAway_1 ++ dktX2_takeAway_2
def dkwX2_takeAway_0 : List UInt8 := [42, 180, 0, 44, 16, 17, 27, 104, 29, 96, 46, 54, 5, 3, 54, 6, 21, 6, 16, 17, 162, 0, 54, 42]
abbrev dktX2_takeAway_0 : List UInt8 := dkwX2_takeAway_0 ++ dktX2_takeAway_1
theorem dksX2_takeAway_0 : cX2_takeAway.data.toList.drop 0 = dktX2_takeAway_0 := by decide +kernel
theorem dksX2_takeAway_1 : cX2_takeAway.data.toList.drop 24 = dktX2_takeAway_1 := dk_seg dksX2_takeAway_0 24 rfl rfl
theorem dksX2_takeAway_2 : cX2_takeAway.data.toList.drop 48 = dktX2_takeAway_2 := dk_seg dksX2_takeAway_1 24 rfl rfl
theorem dksX2_takeAway_3 : cX2_takeAway.data.toList.drop 71 = dktX2_takeAway_3 := dk_seg dksX2_takeAway_2 23 rfl rfl
theorem dX2_takeAway_0 : decode cX2_takeAway 0 = .ok (.aload_n 0, 1) := dk_42 (dk_at dksX2_takeAway_0 0 rfl rfl)
theorem dX2_takeAway_1 : decode cX2_takeAway 1 = .ok (.getfield 44, 3) := dk_180 0 44 (dk_at dksX2_takeAway_0 1 rfl rfl)
theorem dX2_takeAway_4 : decode cX2_takeAway 4 = .ok (.bipush 17, 2) := dk_16 17 (dk_at dksX2_takeAway_0 4 rfl rfl)
theorem dX2_takeAway_6 : decode cX2_takeAway 6 = .ok (.iload_n 1, 1) := dk_27 (dk_at dksX2_takeAway_0 6 rfl rfl)
theorem dX2_takeAway_7 : decode cX2_takeAway 7 = .ok (.imul, 1) := dk_104 (dk_at dksX2_takeAway_0 7 rfl rfl)
theorem dX2_takeAway_8 : decode cX2_takeAway 8 = .ok (.iload_n 3, 1) := dk_29 (dk_at dksX2_takeAway_0 8 rfl rfl)
theorem dX2_takeAway_9 : decode cX2_takeAway 9 = .ok (.iadd, 1) := dk_96 (dk_at dksX2_takeAway_0 9 rfl rfl)
theorem dX2_takeAway_10 : decode cX2_takeAway 10 = .ok (.iaload, 1) := dk_46 (dk_at dksX2_takeAway_0 10 rfl rfl)
theorem dX2_takeAway_11 : decode cX2_takeAway 11 = .ok (.istore 5, 2) := dk_54 5 (dk_at dksX2_takeAway_0 11 rfl rfl)
theorem dX2_takeAway_13 : decode cX2_takeAway 13 = .ok (.iconst 0, 1) := dk_3 (dk_at dksX2_takeAway_0 13 rfl rfl)
theorem dX2_takeAway_14 : decode cX2_takeAway 14 = .ok (.istore 6, 2) := dk_54 6 (dk_at dksX2_takeAway_0 14 rfl rfl)
theorem dX2_takeAway_16 : decode cX2_takeAway 16 = .ok (.iload 6, 2) := dk_21 6 (dk_at dksX2_takeAway_0 16 rfl rfl)
theorem dX2_takeAway_18 : decode cX2_takeAway 18 = .ok (.bipush 17, 2) := dk_16 17 (dk_at dksX2_takeAway_0 18 rfl rfl)
theorem dX2_takeAway_20 : decode cX2_takeAway 20 = .ok (.if_icmp .ge 54, 3) := dk_162 0 54 (dk_at dksX2_takeAway_0 20 rfl rfl)
theorem dX2_takeAway_23 : decode cX2_takeAway 23 = .ok (.aload_n 0, 1) := dk_42 (dk_at dksX2_takeAway_0 23 rfl rfl)
theorem dX2_takeAway_24 : decode cX2_takeAway 24 = .ok (.getfield 44, 3) := dk_180 0 44 (dk_at dksX2_takeAway_1 0 rfl rfl)
theorem dX2_takeAway_27 : decode cX2_takeAway 27 = .ok (.bipush 17, 2) := dk_16 17 (dk_at dksX2_takeAway_1 3 rfl rfl)
theorem dX2_takeAway_29 : decode cX2_takeAway 29 = .ok (.iload_n 1, 1) := dk_27 (dk_at dksX2_takeAway_1 5 rfl rfl)
theorem dX2_takeAway_30 : decode cX2_takeAway 30 = .ok (.imul, 1) := dk_104 (dk_at dksX2_takeAway_1 6 rfl rfl)
theorem dX2_takeAway_31 : decode cX2_takeAway 31 = .ok (.iload 6, 2) := dk_21 6 (dk_at dksX2_takeAway_1 7 rfl rfl)
theorem dX2_takeAway_33 : decode cX2_takeAway 33 = .ok (.iadd, 1) := dk_96 (dk_at dksX2_takeAway_1 9 rfl rfl)
theorem dX2_takeAway_34 : decode cX2_takeAway 34 = .ok (.aload_n 0, 1) := dk_42 (dk_at dksX2_takeAway_1 10 rfl rfl)
theorem dX2_takeAway_35 : decode cX2_takeAway 35 = .ok (.getfield 44, 3) := dk_180 0 44 (dk_at dksX2_takeAway_1 11 rfl rfl)
theorem dX2_takeAway_38 : decode cX2_takeAway 38 = .ok (.bipush 17, 2) := dk_16 17 (dk_at dksX2_takeAway_1 14 rfl rfl)
theorem dX2_takeAway_40 : decode cX2_takeAway 40 = .ok (.iload_n 1, 1) := dk_27 (dk_at dksX2_takeAway_1 16 rfl rfl)
theorem dX2_takeAway_41 : decode cX2_takeAway 41 = .ok (.imul, 1) := dk_104 (dk_at dksX2_takeAway_1 17 rfl rfl)
theorem dX2_takeAway_42 : decode cX2_takeAway 42 = .ok (.iload 6, 2) := dk_21 6 (dk_at dksX2_takeAway_1 18 rfl rfl)
theorem dX2_takeAway_44 : decode cX2_takeAway 44 = .ok (.iadd, 1) := dk_96 (dk_at dksX2_takeAway_1 20 rfl rfl)
theorem dX2_takeAway_45 : decode cX2_takeAway 45 = .ok (.iaload, 1) := dk_46 (dk_at dksX2_takeAway_1 21 rfl rfl)
theorem dX2_takeAway_46 : decode cX2_takeAway 46 = .ok (.iload 5, 2) := dk_21 5 (dk_at dksX2_takeAway_1 22 rfl rfl)
theorem dX2_takeAway_48 : decode cX2_takeAway 48 = .ok (.aload_n 0, 1) := dk_42 (dk_at dksX2_takeAway_2 0 rfl rfl)
theorem dX2_takeAway_49 : decode cX2_takeAway 49 = .ok (.getfield 44, 3) := dk_180 0 44 (dk_at dksX2_takeAway_2 1 rfl rfl)
theorem dX2_takeAway_52 : decode cX2_takeAway 52 = .ok (.bipush 17, 2) := dk_16 17 (dk_at dksX2_takeAway_2 4 rfl rfl)
theorem dX2_takeAway_54 : decode cX2_takeAway 54 = .ok (.iload_n 2, 1) := dk_28 (dk_at dksX2_takeAway_2 6 rfl rfl)
theorem dX2_takeAway_55 : decode cX2_takeAway 55 = .ok (.imul, 1) := dk_104 (dk_at dksX2_takeAway_2 7 rfl rfl)
theorem dX2_takeAway_56 : decode cX2_takeAway 56 = .ok (.iload 6, 2) := dk_21 6 (dk_at dksX2_takeAway_2 8 rfl rfl)
theorem dX2_takeAway_58 : decode cX2_takeAway 58 = .ok (.iadd, 1) := dk_96 (dk_at dksX2_takeAway_2 10 rfl rfl)
theorem dX2_takeAway_59 : decode cX2_takeAway 59 = .ok (.iaload, 1) := dk_46 (dk_at dksX2_takeAway_2 11 rfl rfl)
theorem dX2_takeAway_60 : decode cX2_takeAway 60 = .ok (.imul, 1) := dk_104 (dk_at dksX2_takeAway_2 12 rfl rfl)
theorem dX2_takeAway_61 : decode cX2_takeAway 61 = .ok (.isub, 1) := dk_100 (dk_at dksX2_takeAway_2 13 rfl rfl)
theorem dX2_takeAway_62 : decode cX2_takeAway 62 = .ok (.iload 4, 2) := dk_21 4 (dk_at dksX2_takeAway_2 14 rfl rfl)
theorem dX2_takeAway_64 : decode cX2_takeAway 64 = .ok (.invokestatic 159, 3) := dk_184 0 159 (dk_at dksX2_takeAway_2 16 rfl rfl)
theorem dX2_takeAway_67 : decode cX2_takeAway 67 = .ok (.iastore, 1) := dk_79 (dk_at dksX2_takeAway_2 19 rfl rfl)
theorem dX2_takeAway_68 : decode cX2_takeAway 68 = .ok (.iinc 6 1, 3) := dk_132 6 1 (dk_at dksX2_takeAway_2 20 rfl rfl)
theorem dX2_takeAway_71 : decode cX2_takeAway 71 = .ok (.goto (-55), 3) := dk_167 255 201 (dk_at dksX2_takeAway_3 0 rfl rfl)
theorem dX2_takeAway_74 : decode cX2_takeAway 74 = .ok (.return_, 1) := dk_177 (dk_at dksX2_takeAway_3 3 rfl rfl)
abbrev cX2_isMet : ByteArray := prog_17_method_52_code
def yX2_isMet : MethodName := ⟨RX2, "isMet", "(III)Z"⟩
def dkwX2_isMet_4 : List UInt8 := [29, 96, 46, 79, 132, 5, 1, 167, 255, 203, 21, 4, 172]
abbrev dktX2_isMet_4 : List UInt8 := dkwX2_isMet_4 ++ []
def dkwX2_isMet_3 : List UInt8 := [154, 0, 9, 132, 6, 1, 167, 255, 237, 42, 180, 0, 47, 21, 6, 42, 180, 0, 44, 16, 17, 21, 5, 104]
abbrev dktX2_isMet_3 : List UInt8 := dkwX2_isMet_3 ++ dktX2_isMet_4
def dkwX2_isMet_2 : List UInt8 := [54, 5, 21, 5, 27, 162, 0, 53, 3, 54, 6, 42, 180, 0, 44, 16, 17, 21, 5, 104, 21, 6, 96, 46]
abbrev dktX2_isMet_2 : List UInt8 := dkwX2_isMet_2 ++ dktX2_isMet_3
def dkwX2_isMet_1 : List UInt8 := [21, 5, 104, 29, 96, 46, 154, 0, 7, 4, 167, 0, 4, 3, 54, 4, 132, 5, 1, 167, 255, 220, 3]
abbrev dktX2_isMet_1 : List UInt8 := dkwX2_isMet_1 ++ dktX2_isMet_2
def dkwX2_isMet_0 : List UInt8 := [4, 54, 4, 27, 54, 5, 21, 5, 28, 162, 0, 36, 21, 4, 153, 0, 22, 42, 180, 0, 44, 16, 17]
abbrev dktX2_isMet_0 : List UInt8 := dkwX2_isMet_0 ++ dktX2_isMet_1
theorem dksX2_isMet_0 : cX2_isMet.data.toList.drop 0 = dktX2_isMet_0 := by decide +kernel
theorem dksX2_isMet_1 : cX2_isMet.data.toList.drop 23 = dktX2_isMet_1 := dk_seg dksX2_isMet_0 23 rfl rfl
theorem dksX2_isMet_2 : cX2_isMet.data.toList.drop 46 = dktX2_isMet_2 := dk_seg dksX2_isMet_1 23 rfl rfl
theorem dksX2_isMet_3 : cX2_isMet.data.toList.drop 70 = dktX2_isMet_3 := dk_seg dksX2_isMet_2 24 rfl rfl
theorem dksX2_isMet_4 : cX2_isMet.data.toList.drop 94 = dktX2_isMet_4 := dk_seg dksX2_isMet_3 24 rfl rfl
theorem dX2_isMet_0 : decode cX2_isMet 0 = .ok (.iconst 1, 1) := dk_4 (dk_at dksX2_isMet_0 0 rfl rfl)
theorem dX2_isMet_1 : decode cX2_isMet 1 = .ok (.istore 4, 2) := dk_54 4 (dk_at dksX2_isMet_0 1 rfl rfl)
theorem dX2_isMet_3 : decode cX2_isMet 3 = .ok (.iload_n 1, 1) := dk_27 (dk_at dksX2_isMet_0 3 rfl rfl)
theorem dX2_isMet_4 : decode cX2_isMet 4 = .ok (.istore 5, 2) := dk_54 5 (dk_at dksX2_isMet_0 4 rfl rfl)
theorem dX2_isMet_6 : decode cX2_isMet 6 = .ok (.iload 5, 2) := dk_21 5 (dk_at dksX2_isMet_0 6 rfl rfl)
theorem dX2_isMet_8 : decode cX2_isMet 8 = .ok (.iload_n 2, 1) := dk_28 (dk_at dksX2_isMet_0 8 rfl rfl)
theorem dX2_isMet_9 : decode cX2_isMet 9 = .ok (.if_icmp .ge 36, 3) := dk_162 0 36 (dk_at dksX2_isMet_0 9 rfl rfl)
theorem dX2_isMet_12 : decode cX2_isMet 12 = .ok (.iload 4, 2) := dk_21 4 (dk_at dksX2_isMet_0 12 rfl rfl)
theorem dX2_isMet_14 : decode cX2_isMet 14 = .ok (.ifCond .eq 22, 3) := dk_153 0 22 (dk_at dksX2_isMet_0 14 rfl rfl)
theorem dX2_isMet_17 : decode cX2_isMet 17 = .ok (.aload_n 0, 1) := dk_42 (dk_at dksX2_isMet_0 17 rfl rfl)
theorem dX2_isMet_18 : decode cX2_isMet 18 = .ok (.getfield 44, 3) := dk_180 0 44 (dk_at dksX2_isMet_0 18 rfl rfl)
theorem dX2_isMet_21 : decode cX2_isMet 21 = .ok (.bipush 17, 2) := dk_16 17 (dk_at dksX2_isMet_0 21 rfl rfl)
theorem dX2_isMet_23 : decode cX2_isMet 23 = .ok (.iload 5, 2) := dk_21 5 (dk_at dksX2_isMet_1 0 rfl rfl)
theorem dX2_isMet_25 : decode cX2_isMet 25 = .ok (.imul, 1) := dk_104 (dk_at dksX2_isMet_1 2 rfl rfl)
theorem dX2_isMet_26 : decode cX2_isMet 26 = .ok (.iload_n 3, 1) := dk_29 (dk_at dksX2_isMet_1 3 rfl rfl)
theorem dX2_isMet_27 : decode cX2_isMet 27 = .ok (.iadd, 1) := dk_96 (dk_at dksX2_isMet_1 4 rfl rfl)
theorem dX2_isMet_28 : decode cX2_isMet 28 = .ok (.iaload, 1) := dk_46 (dk_at dksX2_isMet_1 5 rfl rfl)
theorem dX2_isMet_29 : decode cX2_isMet 29 = .ok (.ifCond .ne 7, 3) := dk_154 0 7 (dk_at dksX2_isMet_1 6 rfl rfl)
theorem dX2_isMet_32 : decode cX2_isMet 32 = .ok (.iconst 1, 1) := dk_4 (dk_at dksX2_isMet_1 9 rfl rfl)
theorem dX2_isMet_33 : decode cX2_isMet 33 = .ok (.goto 4, 3) := dk_167 0 4 (dk_at dksX2_isMet_1 10 rfl rfl)
theorem dX2_isMet_36 : decode cX2_isMet 36 = .ok (.iconst 0, 1) := dk_3 (dk_at dksX2_isMet_1 13 rfl rfl)
theorem dX2_isMet_37 : decode cX2_isMet 37 = .ok (.istore 4, 2) := dk_54 4 (dk_at dksX2_isMet_1 14 rfl rfl)
theorem dX2_isMet_39 : decode cX2_isMet 39 = .ok (.iinc 5 1, 3) := dk_132 5 1 (dk_at dksX2_isMet_1 16 rfl rfl)
theorem dX2_isMet_42 : decode cX2_isMet 42 = .ok (.goto (-36), 3) := dk_167 255 220 (dk_at dksX2_isMet_1 19 rfl rfl)
theorem dX2_isMet_45 : decode cX2_isMet 45 = .ok (.iconst 0, 1) := dk_3 (dk_at dksX2_isMet_1 22 rfl rfl)
theorem dX2_isMet_46 : decode cX2_isMet 46 = .ok (.istore 5, 2) := dk_54 5 (dk_at dksX2_isMet_2 0 rfl rfl)
theorem dX2_isMet_48 : decode cX2_isMet 48 = .ok (.iload 5, 2) := dk_21 5 (dk_at dksX2_isMet_2 2 rfl rfl)
theorem dX2_isMet_50 : decode cX2_isMet 50 = .ok (.iload_n 1, 1) := dk_27 (dk_at dksX2_isMet_2 4 rfl rfl)
theorem dX2_isMet_51 : decode cX2_isMet 51 = .ok (.if_icmp .ge 53, 3) := dk_162 0 53 (dk_at dksX2_isMet_2 5 rfl rfl)
theorem dX2_isMet_54 : decode cX2_isMet 54 = .ok (.iconst 0, 1) := dk_3 (dk_at dksX2_isMet_2 8 rfl rfl)
theorem dX2_isMet_55 : decode cX2_isMet 55 = .ok (.istore 6, 2) := dk_54 6 (dk_at dksX2_isMet_2 9 rfl rfl)
theorem dX2_isMet_57 : decode cX2_isMet 57 = .ok (.aload_n 0, 1) := dk_42 (dk_at dksX2_isMet_2 11 rfl rfl)
theorem dX2_isMet_58 : decode cX2_isMet 58 = .ok (.getfield 44, 3) := dk_180 0 44 (dk_at dksX2_isMet_2 12 rfl rfl)
theorem dX2_isMet_61 : decode cX2_isMet 61 = .ok (.bipush 17, 2) := dk_16 17 (dk_at dksX2_isMet_2 15 rfl rfl)
theorem dX2_isMet_63 : decode cX2_isMet 63 = .ok (.iload 5, 2) := dk_21 5 (dk_at dksX2_isMet_2 17 rfl rfl)
theorem dX2_isMet_65 : decode cX2_isMet 65 = .ok (.imul, 1) := dk_104 (dk_at dksX2_isMet_2 19 rfl rfl)
theorem dX2_isMet_66 : decode cX2_isMet 66 = .ok (.iload 6, 2) := dk_21 6 (dk_at dksX2_isMet_2 20 rfl rfl)
theorem dX2_isMet_68 : decode cX2_isMet 68 = .ok (.iadd, 1) := dk_96 (dk_at dksX2_isMet_2 22 rfl rfl)
theorem dX2_isMet_69 : decode cX2_isMet 69 = .ok (.iaload, 1) := dk_46 (dk_at dksX2_isMet_2 23 rfl rfl)
theorem dX2_isMet_70 : decode cX2_isMet 70 = .ok (.ifCond .ne 9, 3) := dk_154 0 9 (dk_at dksX2_isMet_3 0 rfl rfl)
theorem dX2_isMet_73 : decode cX2_isMet 73 = .ok (.iinc 6 1, 3) := dk_132 6 1 (dk_at dksX2_isMet_3 3 rfl rfl)
theorem dX2_isMet_76 : decode cX2_isMet 76 = .ok (.goto (-19), 3) := dk_167 255 237 (dk_at dksX2_isMet_3 6 rfl rfl)
theorem dX2_isMet_79 : decode cX2_isMet 79 = .ok (.aload_n 0, 1) := dk_42 (dk_at dksX2_isMet_3 9 rfl rfl)
theorem dX2_isMet_80 : decode cX2_isMet 80 = .ok (.getfield 47, 3) := dk_180 0 47 (dk_at dksX2_isMet_3 10 rfl rfl)
theorem dX2_isMet_83 : decode cX2_isMet 83 = .ok (.iload 6, 2) := dk_21 6 (dk_at dksX2_isMet_3 13 rfl rfl)
theorem dX2_isMet_85 : decode cX2_isMet 85 = .ok (.aload_n 0, 1) := dk_42 (dk_at dksX2_isMet_3 15 rfl rfl)
theorem dX2_isMet_86 : decode cX2_isMet 86 = .ok (.getfield 44, 3) := dk_180 0 44 (dk_at dksX2_isMet_3 16 rfl rfl)
theorem dX2_isMet_89 : decode cX2_isMet 89 = .ok (.bipush 17, 2) := dk_16 17 (dk_at dksX2_isMet_3 19 rfl rfl)
theorem dX2_isMet_91 : decode cX2_isMet 91 = .ok (.iload 5, 2) := dk_21 5 (dk_at dksX2_isMet_3 21 rfl rfl)
theorem dX2_isMet_93 : decode cX2_isMet 93 = .ok (.imul, 1) := dk_104 (dk_at dksX2_isMet_3 23 rfl rfl)
theorem dX2_isMet_94 : decode cX2_isMet 94 = .ok (.iload_n 3, 1) := dk_29 (dk_at dksX2_isMet_4 0 rfl rfl)
theorem dX2_isMet_95 : decode cX2_isMet 95 = .ok (.iadd, 1) := dk_96 (dk_at dksX2_isMet_4 1 rfl rfl)
theorem dX2_isMet_96 : decode cX2_isMet 96 = .ok (.iaload, 1) := dk_46 (dk_at dksX2_isMet_4 2 rfl rfl)
theorem dX2_isMet_97 : decode cX2_isMet 97 = .ok (.iastore, 1) := dk_79 (dk_at dksX2_isMet_4 3 rfl rfl)
theorem dX2_isMet_98 : decode cX2_isMet 98 = .ok (.iinc 5 1, 3) := dk_132 5 1 (dk_at dksX2_isMet_4 4 rfl rfl)
theorem dX2_isMet_101 : decode cX2_isMet 101 = .ok (.goto (-53), 3) := dk_167 255 203 (dk_at dksX2_isMet_4 7 rfl rfl)
theorem dX2_isMet_104 : decode cX2_isMet 104 = .ok (.iload 4, 2) := dk_21 4 (dk_at dksX2_isMet_4 10 rfl rfl)
theorem dX2_isMet_106 : decode cX2_isMet 106 = .ok (.ireturn, 1) := dk_172 (dk_at dksX2_isMet_4 12 rfl rfl)
abbrev cX2_rule : ByteArray := prog_17_method_63_code
def yX2_rule : MethodName := ⟨RX2, "rule", "(II)I"⟩
def dkwX2_rule_2 : List UInt8 := [18, 115, 172]
abbrev dktX2_rule_2 : List UInt8 := dkwX2_rule_2 ++ []
def dkwX2_rule_1 : List UInt8 := [27, 182, 0, 245, 154, 0, 11, 42, 27, 182, 1, 4, 153, 0, 12, 42, 27, 28, 182, 1, 7, 167, 0, 5]
abbrev dktX2_rule_1 : List UInt8 := dkwX2_rule_1 ++ dktX2_rule_2
def dkwX2_rule_0 : List UInt8 := [42, 27, 182, 0, 193, 154, 0, 6, 18, 196, 172, 28, 3, 7, 184, 0, 68, 154, 0, 6, 18, 72, 172, 42]
abbrev dktX2_rule_0 : List UInt8 := dkwX2_rule_0 ++ dktX2_rule_1
theorem dksX2_rule_0 : cX2_rule.data.toList.drop 0 = dktX2_rule_0 := by decide +kernel
theorem dksX2_rule_1 : cX2_rule.data.toList.drop 24 = dktX2_rule_1 := dk_seg dksX2_rule_0 24 rfl rfl
theorem dksX2_rule_2 : cX2_rule.data.toList.drop 48 = dktX2_rule_2 := dk_seg dksX2_rule_1 24 rfl rfl
theorem dX2_rule_0 : decode cX2_rule 0 = .ok (.aload_n 0, 1) := dk_42 (dk_at dksX2_rule_0 0 rfl rfl)
theorem dX2_rule_1 : decode cX2_rule 1 = .ok (.iload_n 1, 1) := dk_27 (dk_at dksX2_rule_0 1 rfl rfl)
theorem dX2_rule_2 : decode cX2_rule 2 = .ok (.invokevirtual 193, 3) := dk_182 0 193 (dk_at dksX2_rule_0 2 rfl rfl)
theorem dX2_rule_5 : decode cX2_rule 5 = .ok (.ifCond .ne 6, 3) := dk_154 0 6 (dk_at dksX2_rule_0 5 rfl rfl)
theorem dX2_rule_8 : decode cX2_rule 8 = .ok (.ldc 196, 2) := dk_18 196 (dk_at dksX2_rule_0 8 rfl rfl)
theorem dX2_rule_10 : decode cX2_rule 10 = .ok (.ireturn, 1) := dk_172 (dk_at dksX2_rule_0 10 rfl rfl)
theorem dX2_rule_11 : decode cX2_rule 11 = .ok (.iload_n 2, 1) := dk_28 (dk_at dksX2_rule_0 11 rfl rfl)
theorem dX2_rule_12 : decode cX2_rule 12 = .ok (.iconst 0, 1) := dk_3 (dk_at dksX2_rule_0 12 rfl rfl)
theorem dX2_rule_13 : decode cX2_rule 13 = .ok (.iconst 4, 1) := dk_7 (dk_at dksX2_rule_0 13 rfl rfl)
theorem dX2_rule_14 : decode cX2_rule 14 = .ok (.invokestatic 68, 3) := dk_184 0 68 (dk_at dksX2_rule_0 14 rfl rfl)
theorem dX2_rule_17 : decode cX2_rule 17 = .ok (.ifCond .ne 6, 3) := dk_154 0 6 (dk_at dksX2_rule_0 17 rfl rfl)
theorem dX2_rule_20 : decode cX2_rule 20 = .ok (.ldc 72, 2) := dk_18 72 (dk_at dksX2_rule_0 20 rfl rfl)
theorem dX2_rule_22 : decode cX2_rule 22 = .ok (.ireturn, 1) := dk_172 (dk_at dksX2_rule_0 22 rfl rfl)
theorem dX2_rule_23 : decode cX2_rule 23 = .ok (.aload_n 0, 1) := dk_42 (dk_at dksX2_rule_0 23 rfl rfl)
theorem dX2_rule_24 : decode cX2_rule 24 = .ok (.iload_n 1, 1) := dk_27 (dk_at dksX2_rule_1 0 rfl rfl)
theorem dX2_rule_25 : decode cX2_rule 25 = .ok (.invokevirtual 245, 3) := dk_182 0 245 (dk_at dksX2_rule_1 1 rfl rfl)
theorem dX2_rule_28 : decode cX2_rule 28 = .ok (.ifCond .ne 11, 3) := dk_154 0 11 (dk_at dksX2_rule_1 4 rfl rfl)
theorem dX2_rule_31 : decode cX2_rule 31 = .ok (.aload_n 0, 1) := dk_42 (dk_at dksX2_rule_1 7 rfl rfl)
theorem dX2_rule_32 : decode cX2_rule 32 = .ok (.iload_n 1, 1) := dk_27 (dk_at dksX2_rule_1 8 rfl rfl)
theorem dX2_rule_33 : decode cX2_rule 33 = .ok (.invokevirtual 260, 3) := dk_182 1 4 (dk_at dksX2_rule_1 9 rfl rfl)
theorem dX2_rule_36 : decode cX2_rule 36 = .ok (.ifCond .eq 12, 3) := dk_153 0 12 (dk_at dksX2_rule_1 12 rfl rfl)
theorem dX2_rule_39 : decode cX2_rule 39 = .ok (.aload_n 0, 1) := dk_42 (dk_at dksX2_rule_1 15 rfl rfl)
theorem dX2_rule_40 : decode cX2_rule 40 = .ok (.iload_n 1, 1) := dk_27 (dk_at dksX2_rule_1 16 rfl rfl)
theorem dX2_rule_41 : decode cX2_rule 41 = .ok (.iload_n 2, 1) := dk_28 (dk_at dksX2_rule_1 17 rfl rfl)
theorem dX2_rule_42 : decode cX2_rule 42 = .ok (.invokevirtual 263, 3) := dk_182 1 7 (dk_at dksX2_rule_1 18 rfl rfl)
theorem dX2_rule_45 : decode cX2_rule 45 = .ok (.goto 5, 3) := dk_167 0 5 (dk_at dksX2_rule_1 21 rfl rfl)
theorem dX2_rule_48 : decode cX2_rule 48 = .ok (.ldc 115, 2) := dk_18 115 (dk_at dksX2_rule_2 0 rfl rfl)
theorem dX2_rule_50 : decode cX2_rule 50 = .ok (.ireturn, 1) := dk_172 (dk_at dksX2_rule_2 2 rfl rfl)
abbrev cX2_isTold : ByteArray := prog_17_method_56_code
def yX2_isTold : MethodName := ⟨RX2, "isTold", "(I)Z"⟩
def dkwX2_isTold_0 : List UInt8 := [42, 180, 0, 7, 27, 46, 154, 0, 7, 4, 167, 0, 4, 3, 172]
abbrev dktX2_isTold_0 : List UInt8 := dkwX2_isTold_0 ++ []
theorem dksX2_isTold_0 : cX2_isTold.data.toList.drop 0 = dktX2_isTold_0 := by decide +kernel
theorem dX2_isTold_0 : decode cX2_isTold 0 = .ok (.aload_n 0, 1) := dk_42 (dk_at dksX2_isTold_0 0 rfl rfl)
theorem dX2_isTold_1 : decode cX2_isTold 1 = .ok (.getfield 7, 3) := dk_180 0 7 (dk_at dksX2_isTold_0 1 rfl rfl)
theorem dX2_isTold_4 : decode cX2_isTold 4 = .ok (.iload_n 1, 1) := dk_27 (dk_at dksX2_isTold_0 4 rfl rfl)
theorem dX2_isTold_5 : decode cX2_isTold 5 = .ok (.iaload, 1) := dk_46 (dk_at dksX2_isTold_0 5 rfl rfl)
theorem dX2_isTold_6 : decode cX2_isTold 6 = .ok (.ifCond .ne 7, 3) := dk_154 0 7 (dk_at dksX2_isTold_0 6 rfl rfl)
theorem dX2_isTold_9 : decode cX2_isTold 9 = .ok (.iconst 1, 1) := dk_4 (dk_at dksX2_isTold_0 9 rfl rfl)
theorem dX2_isTold_10 : decode cX2_isTold 10 = .ok (.goto 4, 3) := dk_167 0 4 (dk_at dksX2_isTold_0 10 rfl rfl)
theorem dX2_isTold_13 : decode cX2_isTold 13 = .ok (.iconst 0, 1) := dk_3 (dk_at dksX2_isTold_0 13 rfl rfl)
theorem dX2_isTold_14 : decode cX2_isTold 14 = .ok (.ireturn, 1) := dk_172 (dk_at dksX2_isTold_0 14 rfl rfl)
abbrev cX2_arePartsTold : ByteArray := prog_17_method_57_code
def yX2_arePartsTold : MethodName := ⟨RX2, "arePartsTold", "(I)Z"⟩
def dkwX2_arePartsTold_3 : List UInt8 := [4, 167, 0, 4, 3, 172]
abbrev dktX2_arePartsTold_3 : List UInt8 := dkwX2_arePartsTold_3 ++ []
def dkwX2_arePartsTold_2 : List UInt8 := [153, 0, 28, 28, 153, 0, 20, 42, 42, 180, 0, 13, 7, 27, 104, 4, 96, 46, 182, 0, 245, 153, 0, 7]
abbrev dktX2_arePartsTold_2 : List UInt8 := dkwX2_arePartsTold_2 ++ dktX2_arePartsTold_3
def dkwX2_arePartsTold_1 : List UInt8 := [3, 61, 42, 180, 0, 7, 27, 46, 153, 0, 43, 42, 42, 180, 0, 13, 7, 27, 104, 46, 182, 0, 245]
abbrev dktX2_arePartsTold_1 : List UInt8 := dkwX2_arePartsTold_1 ++ dktX2_arePartsTold_2
def dkwX2_arePartsTold_0 : List UInt8 := [42, 180, 0, 7, 27, 46, 4, 159, 0, 13, 42, 180, 0, 7, 27, 46, 5, 160, 0, 7, 4, 167, 0, 4]
abbrev dktX2_arePartsTold_0 : List UInt8 := dkwX2_arePartsTold_0 ++ dktX2_arePartsTold_1
theorem dksX2_arePartsTold_0 : cX2_arePartsTold.data.toList.drop 0 = dktX2_arePartsTold_0 := by decide +kernel
theorem dksX2_arePartsTold_1 : cX2_arePartsTold.data.toList.drop 24 = dktX2_arePartsTold_1 := dk_seg dksX2_arePartsTold_0 24 rfl rfl
theorem dksX2_arePartsTold_2 : cX2_arePartsTold.data.toList.drop 47 = dktX2_arePartsTold_2 := dk_seg dksX2_arePartsTold_1 23 rfl rfl
theorem dksX2_arePartsTold_3 : cX2_arePartsTold.data.toList.drop 71 = dktX2_arePartsTold_3 := dk_seg dksX2_arePartsTold_2 24 rfl rfl
theorem dX2_arePartsTold_0 : decode cX2_arePartsTold 0 = .ok (.aload_n 0, 1) := dk_42 (dk_at dksX2_arePartsTold_0 0 rfl rfl)
theorem dX2_arePartsTold_1 : decode cX2_arePartsTold 1 = .ok (.getfield 7, 3) := dk_180 0 7 (dk_at dksX2_arePartsTold_0 1 rfl rfl)
theorem dX2_arePartsTold_4 : decode cX2_arePartsTold 4 = .ok (.iload_n 1, 1) := dk_27 (dk_at dksX2_arePartsTold_0 4 rfl rfl)
theorem dX2_arePartsTold_5 : decode cX2_arePartsTold 5 = .ok (.iaload, 1) := dk_46 (dk_at dksX2_arePartsTold_0 5 rfl rfl)
theorem dX2_arePartsTold_6 : decode cX2_arePartsTold 6 = .ok (.iconst 1, 1) := dk_4 (dk_at dksX2_arePartsTold_0 6 rfl rfl)
theorem dX2_arePartsTold_7 : decode cX2_arePartsTold 7 = .ok (.if_icmp .eq 13, 3) := dk_159 0 13 (dk_at dksX2_arePartsTold_0 7 rfl rfl)
theorem dX2_arePartsTold_10 : decode cX2_arePartsTold 10 = .ok (.aload_n 0, 1) := dk_42 (dk_at dksX2_arePartsTold_0 10 rfl rfl)
theorem dX2_arePartsTold_11 : decode cX2_arePartsTold 11 = .ok (.getfield 7, 3) := dk_180 0 7 (dk_at dksX2_arePartsTold_0 11 rfl rfl)
theorem dX2_arePartsTold_14 : decode cX2_arePartsTold 14 = .ok (.iload_n 1, 1) := dk_27 (dk_at dksX2_arePartsTold_0 14 rfl rfl)
theorem dX2_arePartsTold_15 : decode cX2_arePartsTold 15 = .ok (.iaload, 1) := dk_46 (dk_at dksX2_arePartsTold_0 15 rfl rfl)
theorem dX2_arePartsTold_16 : decode cX2_arePartsTold 16 = .ok (.iconst 2, 1) := dk_5 (dk_at dksX2_arePartsTold_0 16 rfl rfl)
theorem dX2_arePartsTold_17 : decode cX2_arePartsTold 17 = .ok (.if_icmp .ne 7, 3) := dk_160 0 7 (dk_at dksX2_arePartsTold_0 17 rfl rfl)
theorem dX2_arePartsTold_20 : decode cX2_arePartsTold 20 = .ok (.iconst 1, 1) := dk_4 (dk_at dksX2_arePartsTold_0 20 rfl rfl)
theorem dX2_arePartsTold_21 : decode cX2_arePartsTold 21 = .ok (.goto 4, 3) := dk_167 0 4 (dk_at dksX2_arePartsTold_0 21 rfl rfl)
theorem dX2_arePartsTold_24 : decode cX2_arePartsTold 24 = .ok (.iconst 0, 1) := dk_3 (dk_at dksX2_arePartsTold_1 0 rfl rfl)
theorem dX2_arePartsTold_25 : decode cX2_arePartsTold 25 = .ok (.istore_n 2, 1) := dk_61 (dk_at dksX2_arePartsTold_1 1 rfl rfl)
theorem dX2_arePartsTold_26 : decode cX2_arePartsTold 26 = .ok (.aload_n 0, 1) := dk_42 (dk_at dksX2_arePartsTold_1 2 rfl rfl)
theorem dX2_arePartsTold_27 : decode cX2_arePartsTold 27 = .ok (.getfield 7, 3) := dk_180 0 7 (dk_at dksX2_arePartsTold_1 3 rfl rfl)
theorem dX2_arePartsTold_30 : decode cX2_arePartsTold 30 = .ok (.iload_n 1, 1) := dk_27 (dk_at dksX2_arePartsTold_1 6 rfl rfl)
theorem dX2_arePartsTold_31 : decode cX2_arePartsTold 31 = .ok (.iaload, 1) := dk_46 (dk_at dksX2_arePartsTold_1 7 rfl rfl)
theorem dX2_arePartsTold_32 : decode cX2_arePartsTold 32 = .ok (.ifCond .eq 43, 3) := dk_153 0 43 (dk_at dksX2_arePartsTold_1 8 rfl rfl)
theorem dX2_arePartsTold_35 : decode cX2_arePartsTold 35 = .ok (.aload_n 0, 1) := dk_42 (dk_at dksX2_arePartsTold_1 11 rfl rfl)
theorem dX2_arePartsTold_36 : decode cX2_arePartsTold 36 = .ok (.aload_n 0, 1) := dk_42 (dk_at dksX2_arePartsTold_1 12 rfl rfl)
theorem dX2_arePartsTold_37 : decode cX2_arePartsTold 37 = .ok (.getfield 13, 3) := dk_180 0 13 (dk_at dksX2_arePartsTold_1 13 rfl rfl)
theorem dX2_arePartsTold_40 : decode cX2_arePartsTold 40 = .ok (.iconst 4, 1) := dk_7 (dk_at dksX2_arePartsTold_1 16 rfl rfl)
theorem dX2_arePartsTold_41 : decode cX2_arePartsTold 41 = .ok (.iload_n 1, 1) := dk_27 (dk_at dksX2_arePartsTold_1 17 rfl rfl)
theorem dX2_arePartsTold_42 : decode cX2_arePartsTold 42 = .ok (.imul, 1) := dk_104 (dk_at dksX2_arePartsTold_1 18 rfl rfl)
theorem dX2_arePartsTold_43 : decode cX2_arePartsTold 43 = .ok (.iaload, 1) := dk_46 (dk_at dksX2_arePartsTold_1 19 rfl rfl)
theorem dX2_arePartsTold_44 : decode cX2_arePartsTold 44 = .ok (.invokevirtual 245, 3) := dk_182 0 245 (dk_at dksX2_arePartsTold_1 20 rfl rfl)
theorem dX2_arePartsTold_47 : decode cX2_arePartsTold 47 = .ok (.ifCond .eq 28, 3) := dk_153 0 28 (dk_at dksX2_arePartsTold_2 0 rfl rfl)
theorem dX2_arePartsTold_50 : decode cX2_arePartsTold 50 = .ok (.iload_n 2, 1) := dk_28 (dk_at dksX2_arePartsTold_2 3 rfl rfl)
theorem dX2_arePartsTold_51 : decode cX2_arePartsTold 51 = .ok (.ifCond .eq 20, 3) := dk_153 0 20 (dk_at dksX2_arePartsTold_2 4 rfl rfl)
theorem dX2_arePartsTold_54 : decode cX2_arePartsTold 54 = .ok (.aload_n 0, 1) := dk_42 (dk_at dksX2_arePartsTold_2 7 rfl rfl)
theorem dX2_arePartsTold_55 : decode cX2_arePartsTold 55 = .ok (.aload_n 0, 1) := dk_42 (dk_at dksX2_arePartsTold_2 8 rfl rfl)
theorem dX2_arePartsTold_56 : decode cX2_arePartsTold 56 = .ok (.getfield 13, 3) := dk_180 0 13 (dk_at dksX2_arePartsTold_2 9 rfl rfl)
theorem dX2_arePartsTold_59 : decode cX2_arePartsTold 59 = .ok (.iconst 4, 1) := dk_7 (dk_at dksX2_arePartsTold_2 12 rfl rfl)
theorem dX2_arePartsTold_60 : decode cX2_arePartsTold 60 = .ok (.iload_n 1, 1) := dk_27 (dk_at dksX2_arePartsTold_2 13 rfl rfl)
theorem dX2_arePartsTold_61 : decode cX2_arePartsTold 61 = .ok (.imul, 1) := dk_104 (dk_at dksX2_arePartsTold_2 14 rfl rfl)
theorem dX2_arePartsTold_62 : decode cX2_arePartsTold 62 = .ok (.iconst 1, 1) := dk_4 (dk_at dksX2_arePartsTold_2 15 rfl rfl)
theorem dX2_arePartsTold_63 : decode cX2_arePartsTold 63 = .ok (.iadd, 1) := dk_96 (dk_at dksX2_arePartsTold_2 16 rfl rfl)
theorem dX2_arePartsTold_64 : decode cX2_arePartsTold 64 = .ok (.iaload, 1) := dk_46 (dk_at dksX2_arePartsTold_2 17 rfl rfl)
theorem dX2_arePartsTold_65 : decode cX2_arePartsTold 65 = .ok (.invokevirtual 245, 3) := dk_182 0 245 (dk_at dksX2_arePartsTold_2 18 rfl rfl)
theorem dX2_arePartsTold_68 : decode cX2_arePartsTold 68 = .ok (.ifCond .eq 7, 3) := dk_153 0 7 (dk_at dksX2_arePartsTold_2 21 rfl rfl)
theorem dX2_arePartsTold_71 : decode cX2_arePartsTold 71 = .ok (.iconst 1, 1) := dk_4 (dk_at dksX2_arePartsTold_3 0 rfl rfl)
theorem dX2_arePartsTold_72 : decode cX2_arePartsTold 72 = .ok (.goto 4, 3) := dk_167 0 4 (dk_at dksX2_arePartsTold_3 1 rfl rfl)
theorem dX2_arePartsTold_75 : decode cX2_arePartsTold 75 = .ok (.iconst 0, 1) := dk_3 (dk_at dksX2_arePartsTold_3 4 rfl rfl)
theorem dX2_arePartsTold_76 : decode cX2_arePartsTold 76 = .ok (.ireturn, 1) := dk_172 (dk_at dksX2_arePartsTold_3 5 rfl rfl)
abbrev cX2_ruleNow : ByteArray := prog_17_method_62_code
def yX2_ruleNow : MethodName := ⟨RX2, "ruleNow", "(II)I"⟩
def dkwX2_ruleNow_2 : List UInt8 := [182, 0, 254, 167, 0, 9, 42, 27, 28, 182, 1, 1, 172]
abbrev dktX2_ruleNow_2 : List UInt8 := dkwX2_ruleNow_2 ++ []
def dkwX2_ruleNow_1 : List UInt8 := [3, 62, 28, 154, 0, 13, 29, 153, 0, 7, 7, 167, 0, 4, 5, 172, 29, 153, 0, 12, 42, 27, 28]
abbrev dktX2_ruleNow_1 : List UInt8 := dkwX2_ruleNow_1 ++ dktX2_ruleNow_2
def dkwX2_ruleNow_0 : List UInt8 := [42, 180, 0, 7, 27, 46, 4, 159, 0, 13, 42, 180, 0, 7, 27, 46, 5, 160, 0, 7, 4, 167, 0, 4]
abbrev dktX2_ruleNow_0 : List UInt8 := dkwX2_ruleNow_0 ++ dktX2_ruleNow_1
theorem dksX2_ruleNow_0 : cX2_ruleNow.data.toList.drop 0 = dktX2_ruleNow_0 := by decide +kernel
theorem dksX2_ruleNow_1 : cX2_ruleNow.data.toList.drop 24 = dktX2_ruleNow_1 := dk_seg dksX2_ruleNow_0 24 rfl rfl
theorem dksX2_ruleNow_2 : cX2_ruleNow.data.toList.drop 47 = dktX2_ruleNow_2 := dk_seg dksX2_ruleNow_1 23 rfl rfl
theorem dX2_ruleNow_0 : decode cX2_ruleNow 0 = .ok (.aload_n 0, 1) := dk_42 (dk_at dksX2_ruleNow_0 0 rfl rfl)
theorem dX2_ruleNow_1 : decode cX2_ruleNow 1 = .ok (.getfield 7, 3) := dk_180 0 7 (dk_at dksX2_ruleNow_0 1 rfl rfl)
theorem dX2_ruleNow_4 : decode cX2_ruleNow 4 = .ok (.iload_n 1, 1) := dk_27 (dk_at dksX2_ruleNow_0 4 rfl rfl)
theorem dX2_ruleNow_5 : decode cX2_ruleNow 5 = .ok (.iaload, 1) := dk_46 (dk_at dksX2_ruleNow_0 5 rfl rfl)
theorem dX2_ruleNow_6 : decode cX2_ruleNow 6 = .ok (.iconst 1, 1) := dk_4 (dk_at dksX2_ruleNow_0 6 rfl rfl)
theorem dX2_ruleNow_7 : decode cX2_ruleNow 7 = .ok (.if_icmp .eq 13, 3) := dk_159 0 13 (dk_at dksX2_ruleNow_0 7 rfl rfl)
theorem dX2_ruleNow_10 : decode cX2_ruleNow 10 = .ok (.aload_n 0, 1) := dk_42 (dk_at dksX2_ruleNow_0 10 rfl rfl)
theorem dX2_ruleNow_11 : decode cX2_ruleNow 11 = .ok (.getfield 7, 3) := dk_180 0 7 (dk_at dksX2_ruleNow_0 11 rfl rfl)
theorem dX2_ruleNow_14 : decode cX2_ruleNow 14 = .ok (.iload_n 1, 1) := dk_27 (dk_at dksX2_ruleNow_0 14 rfl rfl)
theorem dX2_ruleNow_15 : decode cX2_ruleNow 15 = .ok (.iaload, 1) := dk_46 (dk_at dksX2_ruleNow_0 15 rfl rfl)
theorem dX2_ruleNow_16 : decode cX2_ruleNow 16 = .ok (.iconst 2, 1) := dk_5 (dk_at dksX2_ruleNow_0 16 rfl rfl)
theorem dX2_ruleNow_17 : decode cX2_ruleNow 17 = .ok (.if_icmp .ne 7, 3) := dk_160 0 7 (dk_at dksX2_ruleNow_0 17 rfl rfl)
theorem dX2_ruleNow_20 : decode cX2_ruleNow 20 = .ok (.iconst 1, 1) := dk_4 (dk_at dksX2_ruleNow_0 20 rfl rfl)
theorem dX2_ruleNow_21 : decode cX2_ruleNow 21 = .ok (.goto 4, 3) := dk_167 0 4 (dk_at dksX2_ruleNow_0 21 rfl rfl)
theorem dX2_ruleNow_24 : decode cX2_ruleNow 24 = .ok (.iconst 0, 1) := dk_3 (dk_at dksX2_ruleNow_1 0 rfl rfl)
theorem dX2_ruleNow_25 : decode cX2_ruleNow 25 = .ok (.istore_n 3, 1) := dk_62 (dk_at dksX2_ruleNow_1 1 rfl rfl)
theorem dX2_ruleNow_26 : decode cX2_ruleNow 26 = .ok (.iload_n 2, 1) := dk_28 (dk_at dksX2_ruleNow_1 2 rfl rfl)
theorem dX2_ruleNow_27 : decode cX2_ruleNow 27 = .ok (.ifCond .ne 13, 3) := dk_154 0 13 (dk_at dksX2_ruleNow_1 3 rfl rfl)
theorem dX2_ruleNow_30 : decode cX2_ruleNow 30 = .ok (.iload_n 3, 1) := dk_29 (dk_at dksX2_ruleNow_1 6 rfl rfl)
theorem dX2_ruleNow_31 : decode cX2_ruleNow 31 = .ok (.ifCond .eq 7, 3) := dk_153 0 7 (dk_at dksX2_ruleNow_1 7 rfl rfl)
theorem dX2_ruleNow_34 : decode cX2_ruleNow 34 = .ok (.iconst 4, 1) := dk_7 (dk_at dksX2_ruleNow_1 10 rfl rfl)
theorem dX2_ruleNow_35 : decode cX2_ruleNow 35 = .ok (.goto 4, 3) := dk_167 0 4 (dk_at dksX2_ruleNow_1 11 rfl rfl)
theorem dX2_ruleNow_38 : decode cX2_ruleNow 38 = .ok (.iconst 2, 1) := dk_5 (dk_at dksX2_ruleNow_1 14 rfl rfl)
theorem dX2_ruleNow_39 : decode cX2_ruleNow 39 = .ok (.ireturn, 1) := dk_172 (dk_at dksX2_ruleNow_1 15 rfl rfl)
theorem dX2_ruleNow_40 : decode cX2_ruleNow 40 = .ok (.iload_n 3, 1) := dk_29 (dk_at dksX2_ruleNow_1 16 rfl rfl)
theorem dX2_ruleNow_41 : decode cX2_ruleNow 41 = .ok (.ifCond .eq 12, 3) := dk_153 0 12 (dk_at dksX2_ruleNow_1 17 rfl rfl)
theorem dX2_ruleNow_44 : decode cX2_ruleNow 44 = .ok (.aload_n 0, 1) := dk_42 (dk_at dksX2_ruleNow_1 20 rfl rfl)
theorem dX2_ruleNow_45 : decode cX2_ruleNow 45 = .ok (.iload_n 1, 1) := dk_27 (dk_at dksX2_ruleNow_1 21 rfl rfl)
theorem dX2_ruleNow_46 : decode cX2_ruleNow 46 = .ok (.iload_n 2, 1) := dk_28 (dk_at dksX2_ruleNow_1 22 rfl rfl)
theorem dX2_ruleNow_47 : decode cX2_ruleNow 47 = .ok (.invokevirtual 254, 3) := dk_182 0 254 (dk_at dksX2_ruleNow_2 0 rfl rfl)
theorem dX2_ruleNow_50 : decode cX2_ruleNow 50 = .ok (.goto 9, 3) := dk_167 0 9 (dk_at dksX2_ruleNow_2 3 rfl rfl)
theorem dX2_ruleNow_53 : decode cX2_ruleNow 53 = .ok (.aload_n 0, 1) := dk_42 (dk_at dksX2_ruleNow_2 6 rfl rfl)
theorem dX2_ruleNow_54 : decode cX2_ruleNow 54 = .ok (.iload_n 1, 1) := dk_27 (dk_at dksX2_ruleNow_2 7 rfl rfl)
theorem dX2_ruleNow_55 : decode cX2_ruleNow 55 = .ok (.iload_n 2, 1) := dk_28 (dk_at dksX2_ruleNow_2 8 rfl rfl)
theorem dX2_ruleNow_56 : decode cX2_ruleNow 56 = .ok (.invokevirtual 257, 3) := dk_182 1 1 (dk_at dksX2_ruleNow_2 9 rfl rfl)
theorem dX2_ruleNow_59 : decode cX2_ruleNow 59 = .ok (.ireturn, 1) := dk_172 (dk_at dksX2_ruleNow_2 12 rfl rfl)
abbrev cX2_bothRule : ByteArray := prog_17_method_60_code
def yX2_bothRule : MethodName := ⟨RX2, "bothRule", "(II)I"⟩
def dkwX2_bothRule_10 : List UInt8 := [21, 8, 104, 172]
abbrev dktX2_bothRule_10 : List UInt8 := dkwX2_bothRule_10 ++ []
def dkwX2_bothRule_9 : List UInt8 := [21, 9, 153, 0, 12, 21, 6, 116, 21, 8, 104, 167, 0, 15, 21, 6, 116, 21, 6, 104, 21, 8, 104]
abbrev dktX2_bothRule_9 : List UInt8 := dkwX2_bothRule_9 ++ dktX2_bothRule_10
def dkwX2_bothRule_8 : List UInt8 := [21, 8, 104, 21, 7, 21, 6, 104, 100, 167, 0, 14, 21, 5, 21, 7, 104, 21, 6, 104, 21, 8, 104, 172]
abbrev dktX2_bothRule_8 : List UInt8 := dkwX2_bothRule_8 ++ dktX2_bothRule_9
def dkwX2_bothRule_7 : List UInt8 := [21, 7, 104, 21, 6, 104, 96, 5, 21, 6, 104, 21, 8, 104, 96, 172, 21, 9, 153, 0, 18, 21, 5, 116]
abbrev dktX2_bothRule_7 : List UInt8 := dkwX2_bothRule_7 ++ dktX2_bothRule_8
def dkwX2_bothRule_6 : List UInt8 := [21, 6, 21, 8, 96, 21, 5, 21, 7, 104, 100, 167, 0, 28, 21, 5, 21, 5, 104, 21, 8, 104, 21, 7]
abbrev dktX2_bothRule_6 : List UInt8 := dkwX2_bothRule_6 ++ dktX2_bothRule_7
def dkwX2_bothRule_5 : List UInt8 := [21, 9, 153, 0, 11, 21, 5, 21, 7, 96, 167, 0, 8, 21, 5, 21, 7, 104, 172, 21, 9, 153, 0, 17]
abbrev dktX2_bothRule_5 : List UInt8 := dkwX2_bothRule_5 ++ dktX2_bothRule_6
def dkwX2_bothRule_4 : List UInt8 := [170, 0, 0, 0, 0, 0, 123, 0, 0, 0, 1, 0, 0, 0, 3, 0, 0, 0, 27, 0, 0, 0, 46, 0, 0, 0, 91]
abbrev dktX2_bothRule_4 : List UInt8 := dkwX2_bothRule_4 ++ dktX2_bothRule_5
def dkwX2_bothRule_3 : List UInt8 := [180, 0, 7, 27, 46, 4, 160, 0, 7, 4, 167, 0, 4, 3, 54, 9, 28]
abbrev dktX2_bothRule_3 : List UInt8 := dkwX2_bothRule_3 ++ dktX2_bothRule_4
def dkwX2_bothRule_2 : List UInt8 := [180, 0, 13, 7, 21, 4, 104, 46, 54, 7, 42, 180, 0, 13, 7, 21, 4, 104, 4, 96, 46, 54, 8, 42]
abbrev dktX2_bothRule_2 : List UInt8 := dkwX2_bothRule_2 ++ dktX2_bothRule_3
def dkwX2_bothRule_1 : List UInt8 := [180, 0, 13, 7, 29, 104, 46, 54, 5, 42, 180, 0, 13, 7, 29, 104, 4, 96, 46, 54, 6, 42]
abbrev dktX2_bothRule_1 : List UInt8 := dkwX2_bothRule_1 ++ dktX2_bothRule_2
def dkwX2_bothRule_0 : List UInt8 := [42, 180, 0, 13, 7, 27, 104, 46, 62, 42, 180, 0, 13, 7, 27, 104, 4, 96, 46, 54, 4, 42]
abbrev dktX2_bothRule_0 : List UInt8 := dkwX2_bothRule_0 ++ dktX2_bothRule_1
theorem dksX2_bothRule_0 : cX2_bothRule.data.toList.drop 0 = dktX2_bothRule_0 := by decide +kernel
theorem dksX2_bothRule_1 : cX2_bothRule.data.toList.drop 22 = dktX2_bothRule_1 := dk_seg dksX2_bothRule_0 22 rfl rfl
theorem dksX2_bothRule_2 : cX2_bothRule.data.toList.drop 44 = dktX2_bothRule_2 := dk_seg dksX2_bothRule_1 22 rfl rfl
theorem dksX2_bothRule_3 : cX2_bothRule.data.toList.drop 68 = dktX2_bothRule_3 := dk_seg dksX2_bothRule_2 24 rfl rfl
theorem dksX2_bothRule_4 : cX2_bothRule.data.toList.drop 85 = dktX2_bothRule_4 := dk_seg dksX2_bothRule_3 17 rfl rfl
theorem dksX2_bothRule_5 : cX2_bothRule.data.toList.drop 112 = dktX2_bothRule_5 := dk_seg dksX2_bothRule_4 27 rfl rfl
theorem dksX2_bothRule_6 : cX2_bothRule.data.toList.drop 136 = dktX2_bothRule_6 := dk_seg dksX2_bothRule_5 24 rfl rfl
theorem dksX2_bothRule_7 : cX2_bothRule.data.toList.drop 160 = dktX2_bothRule_7 := dk_seg dksX2_bothRule_6 24 rfl rfl
theorem dksX2_bothRule_8 : cX2_bothRule.data.toList.drop 184 = dktX2_bothRule_8 := dk_seg dksX2_bothRule_7 24 rfl rfl
theorem dksX2_bothRule_9 : cX2_bothRule.data.toList.drop 208 = dktX2_bothRule_9 := dk_seg dksX2_bothRule_8 24 rfl rfl
theorem dksX2_bothRule_10 : cX2_bothRule.data.toList.drop 231 = dktX2_bothRule_10 := dk_seg dksX2_bothRule_9 23 rfl rfl
theorem dX2_bothRule_0 : decode cX2_bothRule 0 = .ok (.aload_n 0, 1) := dk_42 (dk_at dksX2_bothRule_0 0 rfl rfl)
theorem dX2_bothRule_1 : decode cX2_bothRule 1 = .ok (.getfield 13, 3) := dk_180 0 13 (dk_at dksX2_bothRule_0 1 rfl rfl)
theorem dX2_bothRule_4 : decode cX2_bothRule 4 = .ok (.iconst 4, 1) := dk_7 (dk_at dksX2_bothRule_0 4 rfl rfl)
theorem dX2_bothRule_5 : decode cX2_bothRule 5 = .ok (.iload_n 1, 1) := dk_27 (dk_at dksX2_bothRule_0 5 rfl rfl)
theorem dX2_bothRule_6 : decode cX2_bothRule 6 = .ok (.imul, 1) := dk_104 (dk_at dksX2_bothRule_0 6 rfl rfl)
theorem dX2_bothRule_7 : decode cX2_bothRule 7 = .ok (.iaload, 1) := dk_46 (dk_at dksX2_bothRule_0 7 rfl rfl)
theorem dX2_bothRule_8 : decode cX2_bothRule 8 = .ok (.istore_n 3, 1) := dk_62 (dk_at dksX2_bothRule_0 8 rfl rfl)
theorem dX2_bothRule_9 : decode cX2_bothRule 9 = .ok (.aload_n 0, 1) := dk_42 (dk_at dksX2_bothRule_0 9 rfl rfl)
theorem dX2_bothRule_10 : decode cX2_bothRule 10 = .ok (.getfield 13, 3) := dk_180 0 13 (dk_at dksX2_bothRule_0 10 rfl rfl)
theorem dX2_bothRule_13 : decode cX2_bothRule 13 = .ok (.iconst 4, 1) := dk_7 (dk_at dksX2_bothRule_0 13 rfl rfl)
theorem dX2_bothRule_14 : decode cX2_bothRule 14 = .ok (.iload_n 1, 1) := dk_27 (dk_at dksX2_bothRule_0 14 rfl rfl)
theorem dX2_bothRule_15 : decode cX2_bothRule 15 = .ok (.imul, 1) := dk_104 (dk_at dksX2_bothRule_0 15 rfl rfl)
theorem dX2_bothRule_16 : decode cX2_bothRule 16 = .ok (.iconst 1, 1) := dk_4 (dk_at dksX2_bothRule_0 16 rfl rfl)
theorem dX2_bothRule_17 : decode cX2_bothRule 17 = .ok (.iadd, 1) := dk_96 (dk_at dksX2_bothRule_0 17 rfl rfl)
theorem dX2_bothRule_18 : decode cX2_bothRule 18 = .ok (.iaload, 1) := dk_46 (dk_at dksX2_bothRule_0 18 rfl rfl)
theorem dX2_bothRule_19 : decode cX2_bothRule 19 = .ok (.istore 4, 2) := dk_54 4 (dk_at dksX2_bothRule_0 19 rfl rfl)
theorem dX2_bothRule_21 : decode cX2_bothRule 21 = .ok (.aload_n 0, 1) := dk_42 (dk_at dksX2_bothRule_0 21 rfl rfl)
theorem dX2_bothRule_22 : decode cX2_bothRule 22 = .ok (.getfield 13, 3) := dk_180 0 13 (dk_at dksX2_bothRule_1 0 rfl rfl)
theorem dX2_bothRule_25 : decode cX2_bothRule 25 = .ok (.iconst 4, 1) := dk_7 (dk_at dksX2_bothRule_1 3 rfl rfl)
theorem dX2_bothRule_26 : decode cX2_bothRule 26 = .ok (.iload_n 3, 1) := dk_29 (dk_at dksX2_bothRule_1 4 rfl rfl)
theorem dX2_bothRule_27 : decode cX2_bothRule 27 = .ok (.imul, 1) := dk_104 (dk_at dksX2_bothRule_1 5 rfl rfl)
theorem dX2_bothRule_28 : decode cX2_bothRule 28 = .ok (.iaload, 1) := dk_46 (dk_at dksX2_bothRule_1 6 rfl rfl)
theorem dX2_bothRule_29 : decode cX2_bothRule 29 = .ok (.istore 5, 2) := dk_54 5 (dk_at dksX2_bothRule_1 7 rfl rfl)
theorem dX2_bothRule_31 : decode cX2_bothRule 31 = .ok (.aload_n 0, 1) := dk_42 (dk_at dksX2_bothRule_1 9 rfl rfl)
theorem dX2_bothRule_32 : decode cX2_bothRule 32 = .ok (.getfield 13, 3) := dk_180 0 13 (dk_at dksX2_bothRule_1 10 rfl rfl)
theorem dX2_bothRule_35 : decode cX2_bothRule 35 = .ok (.iconst 4, 1) := dk_7 (dk_at dksX2_bothRule_1 13 rfl rfl)
theorem dX2_bothRule_36 : decode cX2_bothRule 36 = .ok (.iload_n 3, 1) := dk_29 (dk_at dksX2_bothRule_1 14 rfl rfl)
theorem dX2_bothRule_37 : decode cX2_bothRule 37 = .ok (.imul, 1) := dk_104 (dk_at dksX2_bothRule_1 15 rfl rfl)
theorem dX2_bothRule_38 : decode cX2_bothRule 38 = .ok (.iconst 1, 1) := dk_4 (dk_at dksX2_bothRule_1 16 rfl rfl)
theorem dX2_bothRule_39 : decode cX2_bothRule 39 = .ok (.iadd, 1) := dk_96 (dk_at dksX2_bothRule_1 17 rfl rfl)
theorem dX2_bothRule_40 : decode cX2_bothRule 40 = .ok (.iaload, 1) := dk_46 (dk_at dksX2_bothRule_1 18 rfl rfl)
theorem dX2_bothRule_41 : decode cX2_bothRule 41 = .ok (.istore 6, 2) := dk_54 6 (dk_at dksX2_bothRule_1 19 rfl rfl)
theorem dX2_bothRule_43 : decode cX2_bothRule 43 = .ok (.aload_n 0, 1) := dk_42 (dk_at dksX2_bothRule_1 21 rfl rfl)
theorem dX2_bothRule_44 : decode cX2_bothRule 44 = .ok (.getfield 13, 3) := dk_180 0 13 (dk_at dksX2_bothRule_2 0 rfl rfl)
theorem dX2_bothRule_47 : decode cX2_bothRule 47 = .ok (.iconst 4, 1) := dk_7 (dk_at dksX2_bothRule_2 3 rfl rfl)
theorem dX2_bothRule_48 : decode cX2_bothRule 48 = .ok (.iload 4, 2) := dk_21 4 (dk_at dksX2_bothRule_2 4 rfl rfl)
theorem dX2_bothRule_50 : decode cX2_bothRule 50 = .ok (.imul, 1) := dk_104 (dk_at dksX2_bothRule_2 6 rfl rfl)
theorem dX2_bothRule_51 : decode cX2_bothRule 51 = .ok (.iaload, 1) := dk_46 (dk_at dksX2_bothRule_2 7 rfl rfl)
theorem dX2_bothRule_52 : decode cX2_bothRule 52 = .ok (.istore 7, 2) := dk_54 7 (dk_at dksX2_bothRule_2 8 rfl rfl)
theorem dX2_bothRule_54 : decode cX2_bothRule 54 = .ok (.aload_n 0, 1) := dk_42 (dk_at dksX2_bothRule_2 10 rfl rfl)
theorem dX2_bothRule_55 : decode cX2_bothRule 55 = .ok (.getfield 13, 3) := dk_180 0 13 (dk_at dksX2_bothRule_2 11 rfl rfl)
theorem dX2_bothRule_58 : decode cX2_bothRule 58 = .ok (.iconst 4, 1) := dk_7 (dk_at dksX2_bothRule_2 14 rfl rfl)
theorem dX2_bothRule_59 : decode cX2_bothRule 59 = .ok (.iload 4, 2) := dk_21 4 (dk_at dksX2_bothRule_2 15 rfl rfl)
theorem dX2_bothRule_61 : decode cX2_bothRule 61 = .ok (.imul, 1) := dk_104 (dk_at dksX2_bothRule_2 17 rfl rfl)
theorem dX2_bothRule_62 : decode cX2_bothRule 62 = .ok (.iconst 1, 1) := dk_4 (dk_at dksX2_bothRule_2 18 rfl rfl)
theorem dX2_bothRule_63 : decode cX2_bothRule 63 = .ok (.iadd, 1) := dk_96 (dk_at dksX2_bothRule_2 19 rfl rfl)
theorem dX2_bothRule_64 : decode cX2_bothRule 64 = .ok (.iaload, 1) := dk_46 (dk_at dksX2_bothRule_2 20 rfl rfl)
theorem dX2_bothRule_65 : decode cX2_bothRule 65 = .ok (.istore 8, 2) := dk_54 8 (dk_at dksX2_bothRule_2 21 rfl rfl)
theorem dX2_bothRule_67 : decode cX2_bothRule 67 = .ok (.aload_n 0, 1) := dk_42 (dk_at dksX2_bothRule_2 23 rfl rfl)
theorem dX2_bothRule_68 : decode cX2_bothRule 68 = .ok (.getfield 7, 3) := dk_180 0 7 (dk_at dksX2_bothRule_3 0 rfl rfl)
theorem dX2_bothRule_71 : decode cX2_bothRule 71 = .ok (.iload_n 1, 1) := dk_27 (dk_at dksX2_bothRule_3 3 rfl rfl)
theorem dX2_bothRule_72 : decode cX2_bothRule 72 = .ok (.iaload, 1) := dk_46 (dk_at dksX2_bothRule_3 4 rfl rfl)
theorem dX2_bothRule_73 : decode cX2_bothRule 73 = .ok (.iconst 1, 1) := dk_4 (dk_at dksX2_bothRule_3 5 rfl rfl)
theorem dX2_bothRule_74 : decode cX2_bothRule 74 = .ok (.if_icmp .ne 7, 3) := dk_160 0 7 (dk_at dksX2_bothRule_3 6 rfl rfl)
theorem dX2_bothRule_77 : decode cX2_bothRule 77 = .ok (.iconst 1, 1) := dk_4 (dk_at dksX2_bothRule_3 9 rfl rfl)
theorem dX2_bothRule_78 : decode cX2_bothRule 78 = .ok (.goto 4, 3) := dk_167 0 4 (dk_at dksX2_bothRule_3 10 rfl rfl)
theorem dX2_bothRule_81 : decode cX2_bothRule 81 = .ok (.iconst 0, 1) := dk_3 (dk_at dksX2_bothRule_3 13 rfl rfl)
theorem dX2_bothRule_82 : decode cX2_bothRule 82 = .ok (.istore 9, 2) := dk_54 9 (dk_at dksX2_bothRule_3 14 rfl rfl)
theorem dX2_bothRule_84 : decode cX2_bothRule 84 = .ok (.iload_n 2, 1) := dk_28 (dk_at dksX2_bothRule_3 16 rfl rfl)
theorem dX2_bothRule_85 : decode cX2_bothRule 85 = .ok (.tableswitch 123 1 3 #[27, 46, 91], 27) := by decide +kernel
theorem dX2_bothRule_112 : decode cX2_bothRule 112 = .ok (.iload 9, 2) := dk_21 9 (dk_at dksX2_bothRule_5 0 rfl rfl)
theorem dX2_bothRule_114 : decode cX2_bothRule 114 = .ok (.ifCond .eq 11, 3) := dk_153 0 11 (dk_at dksX2_bothRule_5 2 rfl rfl)
theorem dX2_bothRule_117 : decode cX2_bothRule 117 = .ok (.iload 5, 2) := dk_21 5 (dk_at dksX2_bothRule_5 5 rfl rfl)
theorem dX2_bothRule_119 : decode cX2_bothRule 119 = .ok (.iload 7, 2) := dk_21 7 (dk_at dksX2_bothRule_5 7 rfl rfl)
theorem dX2_bothRule_121 : decode cX2_bothRule 121 = .ok (.iadd, 1) := dk_96 (dk_at dksX2_bothRule_5 9 rfl rfl)
theorem dX2_bothRule_122 : decode cX2_bothRule 122 = .ok (.goto 8, 3) := dk_167 0 8 (dk_at dksX2_bothRule_5 10 rfl rfl)
theorem dX2_bothRule_125 : decode cX2_bothRule 125 = .ok (.iload 5, 2) := dk_21 5 (dk_at dksX2_bothRule_5 13 rfl rfl)
theorem dX2_bothRule_127 : decode cX2_bothRule 127 = .ok (.iload 7, 2) := dk_21 7 (dk_at dksX2_bothRule_5 15 rfl rfl)
theorem dX2_bothRule_129 : decode cX2_bothRule 129 = .ok (.imul, 1) := dk_104 (dk_at dksX2_bothRule_5 17 rfl rfl)
theorem dX2_bothRule_130 : decode cX2_bothRule 130 = .ok (.ireturn, 1) := dk_172 (dk_at dksX2_bothRule_5 18 rfl rfl)
theorem dX2_bothRule_131 : decode cX2_bothRule 131 = .ok (.iload 9, 2) := dk_21 9 (dk_at dksX2_bothRule_5 19 rfl rfl)
theorem dX2_bothRule_133 : decode cX2_bothRule 133 = .ok (.ifCond .eq 17, 3) := dk_153 0 17 (dk_at dksX2_bothRule_5 21 rfl rfl)
theorem dX2_bothRule_136 : decode cX2_bothRule 136 = .ok (.iload 6, 2) := dk_21 6 (dk_at dksX2_bothRule_6 0 rfl rfl)
theorem dX2_bothRule_138 : decode cX2_bothRule 138 = .ok (.iload 8, 2) := dk_21 8 (dk_at dksX2_bothRule_6 2 rfl rfl)
theorem dX2_bothRule_140 : decode cX2_bothRule 140 = .ok (.iadd, 1) := dk_96 (dk_at dksX2_bothRule_6 4 rfl rfl)
theorem dX2_bothRule_141 : decode cX2_bothRule 141 = .ok (.iload 5, 2) := dk_21 5 (dk_at dksX2_bothRule_6 5 rfl rfl)
theorem dX2_bothRule_143 : decode cX2_bothRule 143 = .ok (.iload 7, 2) := dk_21 7 (dk_at dksX2_bothRule_6 7 rfl rfl)
theorem dX2_bothRule_145 : decode cX2_bothRule 145 = .ok (.imul, 1) := dk_104 (dk_at dksX2_bothRule_6 9 rfl rfl)
theorem dX2_bothRule_146 : decode cX2_bothRule 146 = .ok (.isub, 1) := dk_100 (dk_at dksX2_bothRule_6 10 rfl rfl)
theorem dX2_bothRule_147 : decode cX2_bothRule 147 = .ok (.goto 28, 3) := dk_167 0 28 (dk_at dksX2_bothRule_6 11 rfl rfl)
theorem dX2_bothRule_150 : decode cX2_bothRule 150 = .ok (.iload 5, 2) := dk_21 5 (dk_at dksX2_bothRule_6 14 rfl rfl)
theorem dX2_bothRule_152 : decode cX2_bothRule 152 = .ok (.iload 5, 2) := dk_21 5 (dk_at dksX2_bothRule_6 16 rfl rfl)
theorem dX2_bothRule_154 : decode cX2_bothRule 154 = .ok (.imul, 1) := dk_104 (dk_at dksX2_bothRule_6 18 rfl rfl)
theorem dX2_bothRule_155 : decode cX2_bothRule 155 = .ok (.iload 8, 2) := dk_21 8 (dk_at dksX2_bothRule_6 19 rfl rfl)
theorem dX2_bothRule_157 : decode cX2_bothRule 157 = .ok (.imul, 1) := dk_104 (dk_at dksX2_bothRule_6 21 rfl rfl)
theorem dX2_bothRule_158 : decode cX2_bothRule 158 = .ok (.iload 7, 2) := dk_21 7 (dk_at dksX2_bothRule_6 22 rfl rfl)
theorem dX2_bothRule_160 : decode cX2_bothRule 160 = .ok (.iload 7, 2) := dk_21 7 (dk_at dksX2_bothRule_7 0 rfl rfl)
theorem dX2_bothRule_162 : decode cX2_bothRule 162 = .ok (.imul, 1) := dk_104 (dk_at dksX2_bothRule_7 2 rfl rfl)
theorem dX2_bothRule_163 : decode cX2_bothRule 163 = .ok (.iload 6, 2) := dk_21 6 (dk_at dksX2_bothRule_7 3 rfl rfl)
theorem dX2_bothRule_165 : decode cX2_bothRule 165 = .ok (.imul, 1) := dk_104 (dk_at dksX2_bothRule_7 5 rfl rfl)
theorem dX2_bothRule_166 : decode cX2_bothRule 166 = .ok (.iadd, 1) := dk_96 (dk_at dksX2_bothRule_7 6 rfl rfl)
theorem dX2_bothRule_167 : decode cX2_bothRule 167 = .ok (.iconst 2, 1) := dk_5 (dk_at dksX2_bothRule_7 7 rfl rfl)
theorem dX2_bothRule_168 : decode cX2_bothRule 168 = .ok (.iload 6, 2) := dk_21 6 (dk_at dksX2_bothRule_7 8 rfl rfl)
theorem dX2_bothRule_170 : decode cX2_bothRule 170 = .ok (.imul, 1) := dk_104 (dk_at dksX2_bothRule_7 10 rfl rfl)
theorem dX2_bothRule_171 : decode cX2_bothRule 171 = .ok (.iload 8, 2) := dk_21 8 (dk_at dksX2_bothRule_7 11 rfl rfl)
theorem dX2_bothRule_173 : decode cX2_bothRule 173 = .ok (.imul, 1) := dk_104 (dk_at dksX2_bothRule_7 13 rfl rfl)
theorem dX2_bothRule_174 : decode cX2_bothRule 174 = .ok (.iadd, 1) := dk_96 (dk_at dksX2_bothRule_7 14 rfl rfl)
theorem dX2_bothRule_175 : decode cX2_bothRule 175 = .ok (.ireturn, 1) := dk_172 (dk_at dksX2_bothRule_7 15 rfl rfl)
theorem dX2_bothRule_176 : decode cX2_bothRule 176 = .ok (.iload 9, 2) := dk_21 9 (dk_at dksX2_bothRule_7 16 rfl rfl)
theorem dX2_bothRule_178 : decode cX2_bothRule 178 = .ok (.ifCond .eq 18, 3) := dk_153 0 18 (dk_at dksX2_bothRule_7 18 rfl rfl)
theorem dX2_bothRule_181 : decode cX2_bothRule 181 = .ok (.iload 5, 2) := dk_21 5 (dk_at dksX2_bothRule_7 21 rfl rfl)
theorem dX2_bothRule_183 : decode cX2_bothRule 183 = .ok (.ineg, 1) := dk_116 (dk_at dksX2_bothRule_7 23 rfl rfl)
theorem dX2_bothRule_184 : decode cX2_bothRule 184 = .ok (.iload 8, 2) := dk_21 8 (dk_at dksX2_bothRule_8 0 rfl rfl)
theorem dX2_bothRule_186 : decode cX2_bothRule 186 = .ok (.imul, 1) := dk_104 (dk_at dksX2_bothRule_8 2 rfl rfl)
theorem dX2_bothRule_187 : decode cX2_bothRule 187 = .ok (.iload 7, 2) := dk_21 7 (dk_at dksX2_bothRule_8 3 rfl rfl)
theorem dX2_bothRule_189 : decode cX2_bothRule 189 = .ok (.iload 6, 2) := dk_21 6 (dk_at dksX2_bothRule_8 5 rfl rfl)
theorem dX2_bothRule_191 : decode cX2_bothRule 191 = .ok (.imul, 1) := dk_104 (dk_at dksX2_bothRule_8 7 rfl rfl)
theorem dX2_bothRule_192 : decode cX2_bothRule 192 = .ok (.isub, 1) := dk_100 (dk_at dksX2_bothRule_8 8 rfl rfl)
theorem dX2_bothRule_193 : decode cX2_bothRule 193 = .ok (.goto 14, 3) := dk_167 0 14 (dk_at dksX2_bothRule_8 9 rfl rfl)
theorem dX2_bothRule_196 : decode cX2_bothRule 196 = .ok (.iload 5, 2) := dk_21 5 (dk_at dksX2_bothRule_8 12 rfl rfl)
theorem dX2_bothRule_198 : decode cX2_bothRule 198 = .ok (.iload 7, 2) := dk_21 7 (dk_at dksX2_bothRule_8 14 rfl rfl)
theorem dX2_bothRule_200 : decode cX2_bothRule 200 = .ok (.imul, 1) := dk_104 (dk_at dksX2_bothRule_8 16 rfl rfl)
theorem dX2_bothRule_201 : decode cX2_bothRule 201 = .ok (.iload 6, 2) := dk_21 6 (dk_at dksX2_bothRule_8 17 rfl rfl)
theorem dX2_bothRule_203 : decode cX2_bothRule 203 = .ok (.imul, 1) := dk_104 (dk_at dksX2_bothRule_8 19 rfl rfl)
theorem dX2_bothRule_204 : decode cX2_bothRule 204 = .ok (.iload 8, 2) := dk_21 8 (dk_at dksX2_bothRule_8 20 rfl rfl)
theorem dX2_bothRule_206 : decode cX2_bothRule 206 = .ok (.imul, 1) := dk_104 (dk_at dksX2_bothRule_8 22 rfl rfl)
theorem dX2_bothRule_207 : decode cX2_bothRule 207 = .ok (.ireturn, 1) := dk_172 (dk_at dksX2_bothRule_8 23 rfl rfl)
theorem dX2_bothRule_208 : decode cX2_bothRule 208 = .ok (.iload 9, 2) := dk_21 9 (dk_at dksX2_bothRule_9 0 rfl rfl)
theorem dX2_bothRule_210 : decode cX2_bothRule 210 = .ok (.ifCond .eq 12, 3) := dk_153 0 12 (dk_at dksX2_bothRule_9 2 rfl rfl)
theorem dX2_bothRule_213 : decode cX2_bothRule 213 = .ok (.iload 6, 2) := dk_21 6 (dk_at dksX2_bothRule_9 5 rfl rfl)
theorem dX2_bothRule_215 : decode cX2_bothRule 215 = .ok (.ineg, 1) := dk_116 (dk_at dksX2_bothRule_9 7 rfl rfl)
theorem dX2_bothRule_216 : decode cX2_bothRule 216 = .ok (.iload 8, 2) := dk_21 8 (dk_at dksX2_bothRule_9 8 rfl rfl)
theorem dX2_bothRule_218 : decode cX2_bothRule 218 = .ok (.imul, 1) := dk_104 (dk_at dksX2_bothRule_9 10 rfl rfl)
theorem dX2_bothRule_219 : decode cX2_bothRule 219 = .ok (.goto 15, 3) := dk_167 0 15 (dk_at dksX2_bothRule_9 11 rfl rfl)
theorem dX2_bothRule_222 : decode cX2_bothRule 222 = .ok (.iload 6, 2) := dk_21 6 (dk_at dksX2_bothRule_9 14 rfl rfl)
theorem dX2_bothRule_224 : decode cX2_bothRule 224 = .ok (.ineg, 1) := dk_116 (dk_at dksX2_bothRule_9 16 rfl rfl)
theorem dX2_bothRule_225 : decode cX2_bothRule 225 = .ok (.iload 6, 2) := dk_21 6 (dk_at dksX2_bothRule_9 17 rfl rfl)
theorem dX2_bothRule_227 : decode cX2_bothRule 227 = .ok (.imul, 1) := dk_104 (dk_at dksX2_bothRule_9 19 rfl rfl)
theorem dX2_bothRule_228 : decode cX2_bothRule 228 = .ok (.iload 8, 2) := dk_21 8 (dk_at dksX2_bothRule_9 20 rfl rfl)
theorem dX2_bothRule_230 : decode cX2_bothRule 230 = .ok (.imul, 1) := dk_104 (dk_at dksX2_bothRule_9 22 rfl rfl)
theorem dX2_bothRule_231 : decode cX2_bothRule 231 = .ok (.iload 8, 2) := dk_21 8 (dk_at dksX2_bothRule_10 0 rfl rfl)
theorem dX2_bothRule_233 : decode cX2_bothRule 233 = .ok (.imul, 1) := dk_104 (dk_at dksX2_bothRule_10 2 rfl rfl)
theorem dX2_bothRule_234 : decode cX2_bothRule 234 = .ok (.ireturn, 1) := dk_172 (dk_at dksX2_bothRule_10 3 rfl rfl)
abbrev cX2_twoRule : ByteArray := prog_17_method_61_code
def yX2_twoRule : MethodName := ⟨RX2, "twoRule", "(II)I"⟩
def dkwX2_twoRule_4 : List UInt8 := [21, 5, 116, 21, 6, 184, 0, 251, 116, 172]
abbrev dktX2_twoRule_4 : List UInt8 := dkwX2_twoRule_4 ++ []
def dkwX2_twoRule_3 : List UInt8 := [167, 0, 4, 4, 54, 6, 28, 4, 160, 0, 15, 21, 4, 21, 5, 21, 6, 184, 0, 248, 167, 0, 12]
abbrev dktX2_twoRule_3 : List UInt8 := dkwX2_twoRule_3 ++ dktX2_twoRule_4
def dkwX2_twoRule_2 : List UInt8 := [46, 54, 5, 42, 180, 0, 7, 27, 46, 6, 160, 0, 16, 42, 180, 0, 13, 7, 27, 104, 4, 96, 46]
abbrev dktX2_twoRule_2 : List UInt8 := dkwX2_twoRule_2 ++ dktX2_twoRule_3
def dkwX2_twoRule_1 : List UInt8 := [7, 27, 104, 46, 62, 42, 180, 0, 13, 7, 29, 104, 46, 54, 4, 42, 180, 0, 13, 7, 29, 104, 4, 96]
abbrev dktX2_twoRule_1 : List UInt8 := dkwX2_twoRule_1 ++ dktX2_twoRule_2
def dkwX2_twoRule_0 : List UInt8 := [28, 5, 164, 0, 5, 3, 172, 42, 180, 0, 7, 27, 46, 154, 0, 7, 27, 167, 0, 11, 42, 180, 0, 13]
abbrev dktX2_twoRule_0 : List UInt8 := dkwX2_twoRule_0 ++ dktX2_twoRule_1
theorem dksX2_twoRule_0 : cX2_twoRule.data.toList.drop 0 = dktX2_twoRule_0 := by decide +kernel
theorem dksX2_twoRule_1 : cX2_twoRule.data.toList.drop 24 = dktX2_twoRule_1 := dk_seg dksX2_twoRule_0 24 rfl rfl
theorem dksX2_twoRule_2 : cX2_twoRule.data.toList.drop 48 = dktX2_twoRule_2 := dk_seg dksX2_twoRule_1 24 rfl rfl
theorem dksX2_twoRule_3 : cX2_twoRule.data.toList.drop 71 = dktX2_twoRule_3 := dk_seg dksX2_twoRule_2 23 rfl rfl
theorem dksX2_twoRule_4 : cX2_twoRule.data.toList.drop 94 = dktX2_twoRule_4 := dk_seg dksX2_twoRule_3 23 rfl rfl
theorem dX2_twoRule_0 : decode cX2_twoRule 0 = .ok (.iload_n 2, 1) := dk_28 (dk_at dksX2_twoRule_0 0 rfl rfl)
theorem dX2_twoRule_1 : decode cX2_twoRule 1 = .ok (.iconst 2, 1) := dk_5 (dk_at dksX2_twoRule_0 1 rfl rfl)
theorem dX2_twoRule_2 : decode cX2_twoRule 2 = .ok (.if_icmp .le 5, 3) := dk_164 0 5 (dk_at dksX2_twoRule_0 2 rfl rfl)
theorem dX2_twoRule_5 : decode cX2_twoRule 5 = .ok (.iconst 0, 1) := dk_3 (dk_at dksX2_twoRule_0 5 rfl rfl)
theorem dX2_twoRule_6 : decode cX2_twoRule 6 = .ok (.ireturn, 1) := dk_172 (dk_at dksX2_twoRule_0 6 rfl rfl)
theorem dX2_twoRule_7 : decode cX2_twoRule 7 = .ok (.aload_n 0, 1) := dk_42 (dk_at dksX2_twoRule_0 7 rfl rfl)
theorem dX2_twoRule_8 : decode cX2_twoRule 8 = .ok (.getfield 7, 3) := dk_180 0 7 (dk_at dksX2_twoRule_0 8 rfl rfl)
theorem dX2_twoRule_11 : decode cX2_twoRule 11 = .ok (.iload_n 1, 1) := dk_27 (dk_at dksX2_twoRule_0 11 rfl rfl)
theorem dX2_twoRule_12 : decode cX2_twoRule 12 = .ok (.iaload, 1) := dk_46 (dk_at dksX2_twoRule_0 12 rfl rfl)
theorem dX2_twoRule_13 : decode cX2_twoRule 13 = .ok (.ifCond .ne 7, 3) := dk_154 0 7 (dk_at dksX2_twoRule_0 13 rfl rfl)
theorem dX2_twoRule_16 : decode cX2_twoRule 16 = .ok (.iload_n 1, 1) := dk_27 (dk_at dksX2_twoRule_0 16 rfl rfl)
theorem dX2_twoRule_17 : decode cX2_twoRule 17 = .ok (.goto 11, 3) := dk_167 0 11 (dk_at dksX2_twoRule_0 17 rfl rfl)
theorem dX2_twoRule_20 : decode cX2_twoRule 20 = .ok (.aload_n 0, 1) := dk_42 (dk_at dksX2_twoRule_0 20 rfl rfl)
theorem dX2_twoRule_21 : decode cX2_twoRule 21 = .ok (.getfield 13, 3) := dk_180 0 13 (dk_at dksX2_twoRule_0 21 rfl rfl)
theorem dX2_twoRule_24 : decode cX2_twoRule 24 = .ok (.iconst 4, 1) := dk_7 (dk_at dksX2_twoRule_1 0 rfl rfl)
theorem dX2_twoRule_25 : decode cX2_twoRule 25 = .ok (.iload_n 1, 1) := dk_27 (dk_at dksX2_twoRule_1 1 rfl rfl)
theorem dX2_twoRule_26 : decode cX2_twoRule 26 = .ok (.imul, 1) := dk_104 (dk_at dksX2_twoRule_1 2 rfl rfl)
theorem dX2_twoRule_27 : decode cX2_twoRule 27 = .ok (.iaload, 1) := dk_46 (dk_at dksX2_twoRule_1 3 rfl rfl)
theorem dX2_twoRule_28 : decode cX2_twoRule 28 = .ok (.istore_n 3, 1) := dk_62 (dk_at dksX2_twoRule_1 4 rfl rfl)
theorem dX2_twoRule_29 : decode cX2_twoRule 29 = .ok (.aload_n 0, 1) := dk_42 (dk_at dksX2_twoRule_1 5 rfl rfl)
theorem dX2_twoRule_30 : decode cX2_twoRule 30 = .ok (.getfield 13, 3) := dk_180 0 13 (dk_at dksX2_twoRule_1 6 rfl rfl)
theorem dX2_twoRule_33 : decode cX2_twoRule 33 = .ok (.iconst 4, 1) := dk_7 (dk_at dksX2_twoRule_1 9 rfl rfl)
theorem dX2_twoRule_34 : decode cX2_twoRule 34 = .ok (.iload_n 3, 1) := dk_29 (dk_at dksX2_twoRule_1 10 rfl rfl)
theorem dX2_twoRule_35 : decode cX2_twoRule 35 = .ok (.imul, 1) := dk_104 (dk_at dksX2_twoRule_1 11 rfl rfl)
theorem dX2_twoRule_36 : decode cX2_twoRule 36 = .ok (.iaload, 1) := dk_46 (dk_at dksX2_twoRule_1 12 rfl rfl)
theorem dX2_twoRule_37 : decode cX2_twoRule 37 = .ok (.istore 4, 2) := dk_54 4 (dk_at dksX2_twoRule_1 13 rfl rfl)
theorem dX2_twoRule_39 : decode cX2_twoRule 39 = .ok (.aload_n 0, 1) := dk_42 (dk_at dksX2_twoRule_1 15 rfl rfl)
theorem dX2_twoRule_40 : decode cX2_twoRule 40 = .ok (.getfield 13, 3) := dk_180 0 13 (dk_at dksX2_twoRule_1 16 rfl rfl)
theorem dX2_twoRule_43 : decode cX2_twoRule 43 = .ok (.iconst 4, 1) := dk_7 (dk_at dksX2_twoRule_1 19 rfl rfl)
theorem dX2_twoRule_44 : decode cX2_twoRule 44 = .ok (.iload_n 3, 1) := dk_29 (dk_at dksX2_twoRule_1 20 rfl rfl)
theorem dX2_twoRule_45 : decode cX2_twoRule 45 = .ok (.imul, 1) := dk_104 (dk_at dksX2_twoRule_1 21 rfl rfl)
theorem dX2_twoRule_46 : decode cX2_twoRule 46 = .ok (.iconst 1, 1) := dk_4 (dk_at dksX2_twoRule_1 22 rfl rfl)
theorem dX2_twoRule_47 : decode cX2_twoRule 47 = .ok (.iadd, 1) := dk_96 (dk_at dksX2_twoRule_1 23 rfl rfl)
theorem dX2_twoRule_48 : decode cX2_twoRule 48 = .ok (.iaload, 1) := dk_46 (dk_at dksX2_twoRule_2 0 rfl rfl)
theorem dX2_twoRule_49 : decode cX2_twoRule 49 = .ok (.istore 5, 2) := dk_54 5 (dk_at dksX2_twoRule_2 1 rfl rfl)
theorem dX2_twoRule_51 : decode cX2_twoRule 51 = .ok (.aload_n 0, 1) := dk_42 (dk_at dksX2_twoRule_2 3 rfl rfl)
theorem dX2_twoRule_52 : decode cX2_twoRule 52 = .ok (.getfield 7, 3) := dk_180 0 7 (dk_at dksX2_twoRule_2 4 rfl rfl)
theorem dX2_twoRule_55 : decode cX2_twoRule 55 = .ok (.iload_n 1, 1) := dk_27 (dk_at dksX2_twoRule_2 7 rfl rfl)
theorem dX2_twoRule_56 : decode cX2_twoRule 56 = .ok (.iaload, 1) := dk_46 (dk_at dksX2_twoRule_2 8 rfl rfl)
theorem dX2_twoRule_57 : decode cX2_twoRule 57 = .ok (.iconst 3, 1) := dk_6 (dk_at dksX2_twoRule_2 9 rfl rfl)
theorem dX2_twoRule_58 : decode cX2_twoRule 58 = .ok (.if_icmp .ne 16, 3) := dk_160 0 16 (dk_at dksX2_twoRule_2 10 rfl rfl)
theorem dX2_twoRule_61 : decode cX2_twoRule 61 = .ok (.aload_n 0, 1) := dk_42 (dk_at dksX2_twoRule_2 13 rfl rfl)
theorem dX2_twoRule_62 : decode cX2_twoRule 62 = .ok (.getfield 13, 3) := dk_180 0 13 (dk_at dksX2_twoRule_2 14 rfl rfl)
theorem dX2_twoRule_65 : decode cX2_twoRule 65 = .ok (.iconst 4, 1) := dk_7 (dk_at dksX2_twoRule_2 17 rfl rfl)
theorem dX2_twoRule_66 : decode cX2_twoRule 66 = .ok (.iload_n 1, 1) := dk_27 (dk_at dksX2_twoRule_2 18 rfl rfl)
theorem dX2_twoRule_67 : decode cX2_twoRule 67 = .ok (.imul, 1) := dk_104 (dk_at dksX2_twoRule_2 19 rfl rfl)
theorem dX2_twoRule_68 : decode cX2_twoRule 68 = .ok (.iconst 1, 1) := dk_4 (dk_at dksX2_twoRule_2 20 rfl rfl)
theorem dX2_twoRule_69 : decode cX2_twoRule 69 = .ok (.iadd, 1) := dk_96 (dk_at dksX2_twoRule_2 21 rfl rfl)
theorem dX2_twoRule_70 : decode cX2_twoRule 70 = .ok (.iaload, 1) := dk_46 (dk_at dksX2_twoRule_2 22 rfl rfl)
theorem dX2_twoRule_71 : decode cX2_twoRule 71 = .ok (.goto 4, 3) := dk_167 0 4 (dk_at dksX2_twoRule_3 0 rfl rfl)
theorem dX2_twoRule_74 : decode cX2_twoRule 74 = .ok (.iconst 1, 1) := dk_4 (dk_at dksX2_twoRule_3 3 rfl rfl)
theorem dX2_twoRule_75 : decode cX2_twoRule 75 = .ok (.istore 6, 2) := dk_54 6 (dk_at dksX2_twoRule_3 4 rfl rfl)
theorem dX2_twoRule_77 : decode cX2_twoRule 77 = .ok (.iload_n 2, 1) := dk_28 (dk_at dksX2_twoRule_3 6 rfl rfl)
theorem dX2_twoRule_78 : decode cX2_twoRule 78 = .ok (.iconst 1, 1) := dk_4 (dk_at dksX2_twoRule_3 7 rfl rfl)
theorem dX2_twoRule_79 : decode cX2_twoRule 79 = .ok (.if_icmp .ne 15, 3) := dk_160 0 15 (dk_at dksX2_twoRule_3 8 rfl rfl)
theorem dX2_twoRule_82 : decode cX2_twoRule 82 = .ok (.iload 4, 2) := dk_21 4 (dk_at dksX2_twoRule_3 11 rfl rfl)
theorem dX2_twoRule_84 : decode cX2_twoRule 84 = .ok (.iload 5, 2) := dk_21 5 (dk_at dksX2_twoRule_3 13 rfl rfl)
theorem dX2_twoRule_86 : decode cX2_twoRule 86 = .ok (.iload 6, 2) := dk_21 6 (dk_at dksX2_twoRule_3 15 rfl rfl)
theorem dX2_twoRule_88 : decode cX2_twoRule 88 = .ok (.invokestatic 248, 3) := dk_184 0 248 (dk_at dksX2_twoRule_3 17 rfl rfl)
theorem dX2_twoRule_91 : decode cX2_twoRule 91 = .ok (.goto 12, 3) := dk_167 0 12 (dk_at dksX2_twoRule_3 20 rfl rfl)
theorem dX2_twoRule_94 : decode cX2_twoRule 94 = .ok (.iload 5, 2) := dk_21 5 (dk_at dksX2_twoRule_4 0 rfl rfl)
theorem dX2_twoRule_96 : decode cX2_twoRule 96 = .ok (.ineg, 1) := dk_116 (dk_at dksX2_twoRule_4 2 rfl rfl)
theorem dX2_twoRule_97 : decode cX2_twoRule 97 = .ok (.iload 6, 2) := dk_21 6 (dk_at dksX2_twoRule_4 3 rfl rfl)
theorem dX2_twoRule_99 : decode cX2_twoRule 99 = .ok (.invokestatic 251, 3) := dk_184 0 251 (dk_at dksX2_twoRule_4 5 rfl rfl)
theorem dX2_twoRule_102 : decode cX2_twoRule 102 = .ok (.ineg, 1) := dk_116 (dk_at dksX2_twoRule_4 8 rfl rfl)
theorem dX2_twoRule_103 : decode cX2_twoRule 103 = .ok (.ireturn, 1) := dk_172 (dk_at dksX2_twoRule_4 9 rfl rfl)
abbrev cX2_powers : ByteArray := prog_17_method_58_code
def yX2_powers : MethodName := ⟨RX2, "powers", "(III)I"⟩
def dkwX2_powers_1 : List UInt8 := [21, 4, 62, 21, 6, 54, 4, 132, 5, 1, 167, 255, 230, 29, 172]
abbrev dktX2_powers_1 : List UInt8 := dkwX2_powers_1 ++ []
def dkwX2_powers_0 : List UInt8 := [5, 62, 26, 54, 4, 3, 54, 5, 21, 5, 28, 162, 0, 26, 26, 21, 4, 104, 27, 29, 104, 96, 54, 6]
abbrev dktX2_powers_0 : List UInt8 := dkwX2_powers_0 ++ dktX2_powers_1
theorem dksX2_powers_0 : cX2_powers.data.toList.drop 0 = dktX2_powers_0 := by decide +kernel
theorem dksX2_powers_1 : cX2_powers.data.toList.drop 24 = dktX2_powers_1 := dk_seg dksX2_powers_0 24 rfl rfl
theorem dX2_powers_0 : decode cX2_powers 0 = .ok (.iconst 2, 1) := dk_5 (dk_at dksX2_powers_0 0 rfl rfl)
theorem dX2_powers_1 : decode cX2_powers 1 = .ok (.istore_n 3, 1) := dk_62 (dk_at dksX2_powers_0 1 rfl rfl)
theorem dX2_powers_2 : decode cX2_powers 2 = .ok (.iload_n 0, 1) := dk_26 (dk_at dksX2_powers_0 2 rfl rfl)
theorem dX2_powers_3 : decode cX2_powers 3 = .ok (.istore 4, 2) := dk_54 4 (dk_at dksX2_powers_0 3 rfl rfl)
theorem dX2_powers_5 : decode cX2_powers 5 = .ok (.iconst 0, 1) := dk_3 (dk_at dksX2_powers_0 5 rfl rfl)
theorem dX2_powers_6 : decode cX2_powers 6 = .ok (.istore 5, 2) := dk_54 5 (dk_at dksX2_powers_0 6 rfl rfl)
theorem dX2_powers_8 : decode cX2_powers 8 = .ok (.iload 5, 2) := dk_21 5 (dk_at dksX2_powers_0 8 rfl rfl)
theorem dX2_powers_10 : decode cX2_powers 10 = .ok (.iload_n 2, 1) := dk_28 (dk_at dksX2_powers_0 10 rfl rfl)
theorem dX2_powers_11 : decode cX2_powers 11 = .ok (.if_icmp .ge 26, 3) := dk_162 0 26 (dk_at dksX2_powers_0 11 rfl rfl)
theorem dX2_powers_14 : decode cX2_powers 14 = .ok (.iload_n 0, 1) := dk_26 (dk_at dksX2_powers_0 14 rfl rfl)
theorem dX2_powers_15 : decode cX2_powers 15 = .ok (.iload 4, 2) := dk_21 4 (dk_at dksX2_powers_0 15 rfl rfl)
theorem dX2_powers_17 : decode cX2_powers 17 = .ok (.imul, 1) := dk_104 (dk_at dksX2_powers_0 17 rfl rfl)
theorem dX2_powers_18 : decode cX2_powers 18 = .ok (.iload_n 1, 1) := dk_27 (dk_at dksX2_powers_0 18 rfl rfl)
theorem dX2_powers_19 : decode cX2_powers 19 = .ok (.iload_n 3, 1) := dk_29 (dk_at dksX2_powers_0 19 rfl rfl)
theorem dX2_powers_20 : decode cX2_powers 20 = .ok (.imul, 1) := dk_104 (dk_at dksX2_powers_0 20 rfl rfl)
theorem dX2_powers_21 : decode cX2_powers 21 = .ok (.iadd, 1) := dk_96 (dk_at dksX2_powers_0 21 rfl rfl)
theorem dX2_powers_22 : decode cX2_powers 22 = .ok (.istore 6, 2) := dk_54 6 (dk_at dksX2_powers_0 22 rfl rfl)
theorem dX2_powers_24 : decode cX2_powers 24 = .ok (.iload 4, 2) := dk_21 4 (dk_at dksX2_powers_1 0 rfl rfl)
theorem dX2_powers_26 : decode cX2_powers 26 = .ok (.istore_n 3, 1) := dk_62 (dk_at dksX2_powers_1 2 rfl rfl)
theorem dX2_powers_27 : decode cX2_powers 27 = .ok (.iload 6, 2) := dk_21 6 (dk_at dksX2_powers_1 3 rfl rfl)
theorem dX2_powers_29 : decode cX2_powers 29 = .ok (.istore 4, 2) := dk_54 4 (dk_at dksX2_powers_1 5 rfl rfl)
theorem dX2_powers_31 : decode cX2_powers 31 = .ok (.iinc 5 1, 3) := dk_132 5 1 (dk_at dksX2_powers_1 7 rfl rfl)
theorem dX2_powers_34 : decode cX2_powers 34 = .ok (.goto (-26), 3) := dk_167 255 230 (dk_at dksX2_powers_1 10 rfl rfl)
theorem dX2_powers_37 : decode cX2_powers 37 = .ok (.iload_n 3, 1) := dk_29 (dk_at dksX2_powers_1 13 rfl rfl)
theorem dX2_powers_38 : decode cX2_powers 38 = .ok (.ireturn, 1) := dk_172 (dk_at dksX2_powers_1 14 rfl rfl)
abbrev cX2_power : ByteArray := prog_17_method_59_code
def yX2_power : MethodName := ⟨RX2, "power", "(II)I"⟩
def dkwX2_power_0 : List UInt8 := [4, 61, 3, 62, 29, 27, 162, 0, 13, 28, 26, 104, 61, 132, 3, 1, 167, 255, 244, 28, 172]
abbrev dktX2_power_0 : List UInt8 := dkwX2_power_0 ++ []
theorem dksX2_power_0 : cX2_power.data.toList.drop 0 = dktX2_power_0 := by decide +kernel
theorem dX2_power_0 : decode cX2_power 0 = .ok (.iconst 1, 1) := dk_4 (dk_at dksX2_power_0 0 rfl rfl)
theorem dX2_power_1 : decode cX2_power 1 = .ok (.istore_n 2, 1) := dk_61 (dk_at dksX2_power_0 1 rfl rfl)
theorem dX2_power_2 : decode cX2_power 2 = .ok (.iconst 0, 1) := dk_3 (dk_at dksX2_power_0 2 rfl rfl)
theorem dX2_power_3 : decode cX2_power 3 = .ok (.istore_n 3, 1) := dk_62 (dk_at dksX2_power_0 3 rfl rfl)
theorem dX2_power_4 : decode cX2_power 4 = .ok (.iload_n 3, 1) := dk_29 (dk_at dksX2_power_0 4 rfl rfl)
theorem dX2_power_5 : decode cX2_power 5 = .ok (.iload_n 1, 1) := dk_27 (dk_at dksX2_power_0 5 rfl rfl)
theorem dX2_power_6 : decode cX2_power 6 = .ok (.if_icmp .ge 13, 3) := dk_162 0 13 (dk_at dksX2_power_0 6 rfl rfl)
theorem dX2_power_9 : decode cX2_power 9 = .ok (.iload_n 2, 1) := dk_28 (dk_at dksX2_power_0 9 rfl rfl)
theorem dX2_power_10 : decode cX2_power 10 = .ok (.iload_n 0, 1) := dk_26 (dk_at dksX2_power_0 10 rfl rfl)
theorem dX2_power_11 : decode cX2_power 11 = .ok (.imul, 1) := dk_104 (dk_at dksX2_power_0 11 rfl rfl)
theorem dX2_power_12 : decode cX2_power 12 = .ok (.istore_n 2, 1) := dk_61 (dk_at dksX2_power_0 12 rfl rfl)
theorem dX2_power_13 : decode cX2_power 13 = .ok (.iinc 3 1, 3) := dk_132 3 1 (dk_at dksX2_power_0 13 rfl rfl)
theorem dX2_power_16 : decode cX2_power 16 = .ok (.goto (-12), 3) := dk_167 255 244 (dk_at dksX2_power_0 16 rfl rfl)
theorem dX2_power_19 : decode cX2_power 19 = .ok (.iload_n 2, 1) := dk_28 (dk_at dksX2_power_0 19 rfl rfl)
theorem dX2_power_20 : decode cX2_power 20 = .ok (.ireturn, 1) := dk_172 (dk_at dksX2_power_0 20 rfl rfl)
abbrev cX2_roots : ByteArray := prog_17_method_68_code
def yX2_roots : MethodName := ⟨RX2, "roots", "(II)I"⟩
def dkwX2_roots_2 : List UInt8 := [46, 28, 184, 1, 19, 167, 0, 5, 18, 115, 172]
abbrev dktX2_roots_2 : List UInt8 := dkwX2_roots_2 ++ []
def dkwX2_roots_1 : List UInt8 := [27, 182, 0, 245, 153, 0, 28, 42, 180, 0, 13, 7, 27, 104, 46, 42, 180, 0, 13, 7, 27, 104, 4, 96]
abbrev dktX2_roots_1 : List UInt8 := dkwX2_roots_1 ++ dktX2_roots_2
def dkwX2_roots_0 : List UInt8 := [42, 27, 182, 0, 193, 154, 0, 6, 18, 196, 172, 28, 3, 7, 184, 0, 68, 154, 0, 6, 18, 72, 172, 42]
abbrev dktX2_roots_0 : List UInt8 := dkwX2_roots_0 ++ dktX2_roots_1
theorem dksX2_roots_0 : cX2_roots.data.toList.drop 0 = dktX2_roots_0 := by decide +kernel
theorem dksX2_roots_1 : cX2_roots.data.toList.drop 24 = dktX2_roots_1 := dk_seg dksX2_roots_0 24 rfl rfl
theorem dksX2_roots_2 : cX2_roots.data.toList.drop 48 = dktX2_roots_2 := dk_seg dksX2_roots_1 24 rfl rfl
theorem dX2_roots_0 : decode cX2_roots 0 = .ok (.aload_n 0, 1) := dk_42 (dk_at dksX2_roots_0 0 rfl rfl)
theorem dX2_roots_1 : decode cX2_roots 1 = .ok (.iload_n 1, 1) := dk_27 (dk_at dksX2_roots_0 1 rfl rfl)
theorem dX2_roots_2 : decode cX2_roots 2 = .ok (.invokevirtual 193, 3) := dk_182 0 193 (dk_at dksX2_roots_0 2 rfl rfl)
theorem dX2_roots_5 : decode cX2_roots 5 = .ok (.ifCond .ne 6, 3) := dk_154 0 6 (dk_at dksX2_roots_0 5 rfl rfl)
theorem dX2_roots_8 : decode cX2_roots 8 = .ok (.ldc 196, 2) := dk_18 196 (dk_at dksX2_roots_0 8 rfl rfl)
theorem dX2_roots_10 : decode cX2_roots 10 = .ok (.ireturn, 1) := dk_172 (dk_at dksX2_roots_0 10 rfl rfl)
theorem dX2_roots_11 : decode cX2_roots 11 = .ok (.iload_n 2, 1) := dk_28 (dk_at dksX2_roots_0 11 rfl rfl)
theorem dX2_roots_12 : decode cX2_roots 12 = .ok (.iconst 0, 1) := dk_3 (dk_at dksX2_roots_0 12 rfl rfl)
theorem dX2_roots_13 : decode cX2_roots 13 = .ok (.iconst 4, 1) := dk_7 (dk_at dksX2_roots_0 13 rfl rfl)
theorem dX2_roots_14 : decode cX2_roots 14 = .ok (.invokestatic 68, 3) := dk_184 0 68 (dk_at dksX2_roots_0 14 rfl rfl)
theorem dX2_roots_17 : decode cX2_roots 17 = .ok (.ifCond .ne 6, 3) := dk_154 0 6 (dk_at dksX2_roots_0 17 rfl rfl)
theorem dX2_roots_20 : decode cX2_roots 20 = .ok (.ldc 72, 2) := dk_18 72 (dk_at dksX2_roots_0 20 rfl rfl)
theorem dX2_roots_22 : decode cX2_roots 22 = .ok (.ireturn, 1) := dk_172 (dk_at dksX2_roots_0 22 rfl rfl)
theorem dX2_roots_23 : decode cX2_roots 23 = .ok (.aload_n 0, 1) := dk_42 (dk_at dksX2_roots_0 23 rfl rfl)
theorem dX2_roots_24 : decode cX2_roots 24 = .ok (.iload_n 1, 1) := dk_27 (dk_at dksX2_roots_1 0 rfl rfl)
theorem dX2_roots_25 : decode cX2_roots 25 = .ok (.invokevirtual 245, 3) := dk_182 0 245 (dk_at dksX2_roots_1 1 rfl rfl)
theorem dX2_roots_28 : decode cX2_roots 28 = .ok (.ifCond .eq 28, 3) := dk_153 0 28 (dk_at dksX2_roots_1 4 rfl rfl)
theorem dX2_roots_31 : decode cX2_roots 31 = .ok (.aload_n 0, 1) := dk_42 (dk_at dksX2_roots_1 7 rfl rfl)
theorem dX2_roots_32 : decode cX2_roots 32 = .ok (.getfield 13, 3) := dk_180 0 13 (dk_at dksX2_roots_1 8 rfl rfl)
theorem dX2_roots_35 : decode cX2_roots 35 = .ok (.iconst 4, 1) := dk_7 (dk_at dksX2_roots_1 11 rfl rfl)
theorem dX2_roots_36 : decode cX2_roots 36 = .ok (.iload_n 1, 1) := dk_27 (dk_at dksX2_roots_1 12 rfl rfl)
theorem dX2_roots_37 : decode cX2_roots 37 = .ok (.imul, 1) := dk_104 (dk_at dksX2_roots_1 13 rfl rfl)
theorem dX2_roots_38 : decode cX2_roots 38 = .ok (.iaload, 1) := dk_46 (dk_at dksX2_roots_1 14 rfl rfl)
theorem dX2_roots_39 : decode cX2_roots 39 = .ok (.aload_n 0, 1) := dk_42 (dk_at dksX2_roots_1 15 rfl rfl)
theorem dX2_roots_40 : decode cX2_roots 40 = .ok (.getfield 13, 3) := dk_180 0 13 (dk_at dksX2_roots_1 16 rfl rfl)
theorem dX2_roots_43 : decode cX2_roots 43 = .ok (.iconst 4, 1) := dk_7 (dk_at dksX2_roots_1 19 rfl rfl)
theorem dX2_roots_44 : decode cX2_roots 44 = .ok (.iload_n 1, 1) := dk_27 (dk_at dksX2_roots_1 20 rfl rfl)
theorem dX2_roots_45 : decode cX2_roots 45 = .ok (.imul, 1) := dk_104 (dk_at dksX2_roots_1 21 rfl rfl)
theorem dX2_roots_46 : decode cX2_roots 46 = .ok (.iconst 1, 1) := dk_4 (dk_at dksX2_roots_1 22 rfl rfl)
theorem dX2_roots_47 : decode cX2_roots 47 = .ok (.iadd, 1) := dk_96 (dk_at dksX2_roots_1 23 rfl rfl)
theorem dX2_roots_48 : decode cX2_roots 48 = .ok (.iaload, 1) := dk_46 (dk_at dksX2_roots_2 0 rfl rfl)
theorem dX2_roots_49 : decode cX2_roots 49 = .ok (.iload_n 2, 1) := dk_28 (dk_at dksX2_roots_2 1 rfl rfl)
theorem dX2_roots_50 : decode cX2_roots 50 = .ok (.invokestatic 275, 3) := dk_184 1 19 (dk_at dksX2_roots_2 2 rfl rfl)
theorem dX2_roots_53 : decode cX2_roots 53 = .ok (.goto 5, 3) := dk_167 0 5 (dk_at dksX2_roots_2 5 rfl rfl)
theorem dX2_roots_56 : decode cX2_roots 56 = .ok (.ldc 115, 2) := dk_18 115 (dk_at dksX2_roots_2 8 rfl rfl)
theorem dX2_roots_58 : decode cX2_roots 58 = .ok (.ireturn, 1) := dk_172 (dk_at dksX2_roots_2 10 rfl rfl)
abbrev cX2_rootsNow : ByteArray := prog_17_method_67_code
def yX2_rootsNow : MethodName := ⟨RX2, "rootsNow", "(III)I"⟩
def dkwX2_rootsNow_5 : List UInt8 := [3, 167, 0, 12, 26, 158, 0, 7, 4, 167, 0, 4, 2, 172]
abbrev dktX2_rootsNow_5 : List UInt8 := dkwX2_rootsNow_5 ++ []
def dkwX2_rootsNow_4 : List UInt8 := [167, 0, 9, 26, 21, 4, 100, 5, 108, 172, 26, 27, 184, 1, 16, 172, 29, 158, 0, 7, 26, 154, 0, 7]
abbrev dktX2_rootsNow_4 : List UInt8 := dkwX2_rootsNow_4 ++ dktX2_rootsNow_5
def dkwX2_rootsNow_3 : List UInt8 := [160, 0, 8, 18, 54, 167, 0, 9, 26, 21, 4, 96, 5, 108, 172, 21, 4, 18, 54, 160, 0, 8, 18, 54]
abbrev dktX2_rootsNow_3 : List UInt8 := dkwX2_rootsNow_3 ++ dktX2_rootsNow_4
def dkwX2_rootsNow_2 : List UInt8 := [29, 158, 0, 7, 5, 167, 0, 12, 29, 154, 0, 7, 4, 167, 0, 4, 3, 172, 21, 4, 18, 54]
abbrev dktX2_rootsNow_2 : List UInt8 := dkwX2_rootsNow_2 ++ dktX2_rootsNow_3
def dkwX2_rootsNow_1 : List UInt8 := [170, 0, 0, 0, 0, 0, 93, 0, 0, 0, 0, 0, 0, 0, 3, 0, 0, 0, 31, 0, 0, 0, 49, 0, 0, 0, 68, 0, 0, 0, 87]
abbrev dktX2_rootsNow_1 : List UInt8 := dkwX2_rootsNow_1 ++ dktX2_rootsNow_2
def dkwX2_rootsNow_0 : List UInt8 := [26, 27, 184, 1, 10, 62, 29, 184, 1, 13, 54, 4, 28]
abbrev dktX2_rootsNow_0 : List UInt8 := dkwX2_rootsNow_0 ++ dktX2_rootsNow_1
theorem dksX2_rootsNow_0 : cX2_rootsNow.data.toList.drop 0 = dktX2_rootsNow_0 := by decide +kernel
theorem dksX2_rootsNow_1 : cX2_rootsNow.data.toList.drop 13 = dktX2_rootsNow_1 := dk_seg dksX2_rootsNow_0 13 rfl rfl
theorem dksX2_rootsNow_2 : cX2_rootsNow.data.toList.drop 44 = dktX2_rootsNow_2 := dk_seg dksX2_rootsNow_1 31 rfl rfl
theorem dksX2_rootsNow_3 : cX2_rootsNow.data.toList.drop 66 = dktX2_rootsNow_3 := dk_seg dksX2_rootsNow_2 22 rfl rfl
theorem dksX2_rootsNow_4 : cX2_rootsNow.data.toList.drop 90 = dktX2_rootsNow_4 := dk_seg dksX2_rootsNow_3 24 rfl rfl
theorem dksX2_rootsNow_5 : cX2_rootsNow.data.toList.drop 114 = dktX2_rootsNow_5 := dk_seg dksX2_rootsNow_4 24 rfl rfl
theorem dX2_rootsNow_0 : decode cX2_rootsNow 0 = .ok (.iload_n 0, 1) := dk_26 (dk_at dksX2_rootsNow_0 0 rfl rfl)
theorem dX2_rootsNow_1 : decode cX2_rootsNow 1 = .ok (.iload_n 1, 1) := dk_27 (dk_at dksX2_rootsNow_0 1 rfl rfl)
theorem dX2_rootsNow_2 : decode cX2_rootsNow 2 = .ok (.invokestatic 266, 3) := dk_184 1 10 (dk_at dksX2_rootsNow_0 2 rfl rfl)
theorem dX2_rootsNow_5 : decode cX2_rootsNow 5 = .ok (.istore_n 3, 1) := dk_62 (dk_at dksX2_rootsNow_0 5 rfl rfl)
theorem dX2_rootsNow_6 : decode cX2_rootsNow 6 = .ok (.iload_n 3, 1) := dk_29 (dk_at dksX2_rootsNow_0 6 rfl rfl)
theorem dX2_rootsNow_7 : decode cX2_rootsNow 7 = .ok (.invokestatic 269, 3) := dk_184 1 13 (dk_at dksX2_rootsNow_0 7 rfl rfl)
theorem dX2_rootsNow_10 : decode cX2_rootsNow 10 = .ok (.istore 4, 2) := dk_54 4 (dk_at dksX2_rootsNow_0 10 rfl rfl)
theorem dX2_rootsNow_12 : decode cX2_rootsNow 12 = .ok (.iload_n 2, 1) := dk_28 (dk_at dksX2_rootsNow_0 12 rfl rfl)
theorem dX2_rootsNow_13 : decode cX2_rootsNow 13 = .ok (.tableswitch 93 0 3 #[31, 49, 68, 87], 31) := by decide +kernel
theorem dX2_rootsNow_44 : decode cX2_rootsNow 44 = .ok (.iload_n 3, 1) := dk_29 (dk_at dksX2_rootsNow_2 0 rfl rfl)
theorem dX2_rootsNow_45 : decode cX2_rootsNow 45 = .ok (.ifCond .le 7, 3) := dk_158 0 7 (dk_at dksX2_rootsNow_2 1 rfl rfl)
theorem dX2_rootsNow_48 : decode cX2_rootsNow 48 = .ok (.iconst 2, 1) := dk_5 (dk_at dksX2_rootsNow_2 4 rfl rfl)
theorem dX2_rootsNow_49 : decode cX2_rootsNow 49 = .ok (.goto 12, 3) := dk_167 0 12 (dk_at dksX2_rootsNow_2 5 rfl rfl)
theorem dX2_rootsNow_52 : decode cX2_rootsNow 52 = .ok (.iload_n 3, 1) := dk_29 (dk_at dksX2_rootsNow_2 8 rfl rfl)
theorem dX2_rootsNow_53 : decode cX2_rootsNow 53 = .ok (.ifCond .ne 7, 3) := dk_154 0 7 (dk_at dksX2_rootsNow_2 9 rfl rfl)
theorem dX2_rootsNow_56 : decode cX2_rootsNow 56 = .ok (.iconst 1, 1) := dk_4 (dk_at dksX2_rootsNow_2 12 rfl rfl)
theorem dX2_rootsNow_57 : decode cX2_rootsNow 57 = .ok (.goto 4, 3) := dk_167 0 4 (dk_at dksX2_rootsNow_2 13 rfl rfl)
theorem dX2_rootsNow_60 : decode cX2_rootsNow 60 = .ok (.iconst 0, 1) := dk_3 (dk_at dksX2_rootsNow_2 16 rfl rfl)
theorem dX2_rootsNow_61 : decode cX2_rootsNow 61 = .ok (.ireturn, 1) := dk_172 (dk_at dksX2_rootsNow_2 17 rfl rfl)
theorem dX2_rootsNow_62 : decode cX2_rootsNow 62 = .ok (.iload 4, 2) := dk_21 4 (dk_at dksX2_rootsNow_2 18 rfl rfl)
theorem dX2_rootsNow_64 : decode cX2_rootsNow 64 = .ok (.ldc 54, 2) := dk_18 54 (dk_at dksX2_rootsNow_2 20 rfl rfl)
theorem dX2_rootsNow_66 : decode cX2_rootsNow 66 = .ok (.if_icmp .ne 8, 3) := dk_160 0 8 (dk_at dksX2_rootsNow_3 0 rfl rfl)
theorem dX2_rootsNow_69 : decode cX2_rootsNow 69 = .ok (.ldc 54, 2) := dk_18 54 (dk_at dksX2_rootsNow_3 3 rfl rfl)
theorem dX2_rootsNow_71 : decode cX2_rootsNow 71 = .ok (.goto 9, 3) := dk_167 0 9 (dk_at dksX2_rootsNow_3 5 rfl rfl)
theorem dX2_rootsNow_74 : decode cX2_rootsNow 74 = .ok (.iload_n 0, 1) := dk_26 (dk_at dksX2_rootsNow_3 8 rfl rfl)
theorem dX2_rootsNow_75 : decode cX2_rootsNow 75 = .ok (.iload 4, 2) := dk_21 4 (dk_at dksX2_rootsNow_3 9 rfl rfl)
theorem dX2_rootsNow_77 : decode cX2_rootsNow 77 = .ok (.iadd, 1) := dk_96 (dk_at dksX2_rootsNow_3 11 rfl rfl)
theorem dX2_rootsNow_78 : decode cX2_rootsNow 78 = .ok (.iconst 2, 1) := dk_5 (dk_at dksX2_rootsNow_3 12 rfl rfl)
theorem dX2_rootsNow_79 : decode cX2_rootsNow 79 = .ok (.idiv, 1) := dk_108 (dk_at dksX2_rootsNow_3 13 rfl rfl)
theorem dX2_rootsNow_80 : decode cX2_rootsNow 80 = .ok (.ireturn, 1) := dk_172 (dk_at dksX2_rootsNow_3 14 rfl rfl)
theorem dX2_rootsNow_81 : decode cX2_rootsNow 81 = .ok (.iload 4, 2) := dk_21 4 (dk_at dksX2_rootsNow_3 15 rfl rfl)
theorem dX2_rootsNow_83 : decode cX2_rootsNow 83 = .ok (.ldc 54, 2) := dk_18 54 (dk_at dksX2_rootsNow_3 17 rfl rfl)
theorem dX2_rootsNow_85 : decode cX2_rootsNow 85 = .ok (.if_icmp .ne 8, 3) := dk_160 0 8 (dk_at dksX2_rootsNow_3 19 rfl rfl)
theorem dX2_rootsNow_88 : decode cX2_rootsNow 88 = .ok (.ldc 54, 2) := dk_18 54 (dk_at dksX2_rootsNow_3 22 rfl rfl)
theorem dX2_rootsNow_90 : decode cX2_rootsNow 90 = .ok (.goto 9, 3) := dk_167 0 9 (dk_at dksX2_rootsNow_4 0 rfl rfl)
theorem dX2_rootsNow_93 : decode cX2_rootsNow 93 = .ok (.iload_n 0, 1) := dk_26 (dk_at dksX2_rootsNow_4 3 rfl rfl)
theorem dX2_rootsNow_94 : decode cX2_rootsNow 94 = .ok (.iload 4, 2) := dk_21 4 (dk_at dksX2_rootsNow_4 4 rfl rfl)
theorem dX2_rootsNow_96 : decode cX2_rootsNow 96 = .ok (.isub, 1) := dk_100 (dk_at dksX2_rootsNow_4 6 rfl rfl)
theorem dX2_rootsNow_97 : decode cX2_rootsNow 97 = .ok (.iconst 2, 1) := dk_5 (dk_at dksX2_rootsNow_4 7 rfl rfl)
theorem dX2_rootsNow_98 : decode cX2_rootsNow 98 = .ok (.idiv, 1) := dk_108 (dk_at dksX2_rootsNow_4 8 rfl rfl)
theorem dX2_rootsNow_99 : decode cX2_rootsNow 99 = .ok (.ireturn, 1) := dk_172 (dk_at dksX2_rootsNow_4 9 rfl rfl)
theorem dX2_rootsNow_100 : decode cX2_rootsNow 100 = .ok (.iload_n 0, 1) := dk_26 (dk_at dksX2_rootsNow_4 10 rfl rfl)
theorem dX2_rootsNow_101 : decode cX2_rootsNow 101 = .ok (.iload_n 1, 1) := dk_27 (dk_at dksX2_rootsNow_4 11 rfl rfl)
theorem dX2_rootsNow_102 : decode cX2_rootsNow 102 = .ok (.invokestatic 272, 3) := dk_184 1 16 (dk_at dksX2_rootsNow_4 12 rfl rfl)
theorem dX2_rootsNow_105 : decode cX2_rootsNow 105 = .ok (.ireturn, 1) := dk_172 (dk_at dksX2_rootsNow_4 15 rfl rfl)
theorem dX2_rootsNow_106 : decode cX2_rootsNow 106 = .ok (.iload_n 3, 1) := dk_29 (dk_at dksX2_rootsNow_4 16 rfl rfl)
theorem dX2_rootsNow_107 : decode cX2_rootsNow 107 = .ok (.ifCond .le 7, 3) := dk_158 0 7 (dk_at dksX2_rootsNow_4 17 rfl rfl)
theorem dX2_rootsNow_110 : decode cX2_rootsNow 110 = .ok (.iload_n 0, 1) := dk_26 (dk_at dksX2_rootsNow_4 20 rfl rfl)
theorem dX2_rootsNow_111 : decode cX2_rootsNow 111 = .ok (.ifCond .ne 7, 3) := dk_154 0 7 (dk_at dksX2_rootsNow_4 21 rfl rfl)
theorem dX2_rootsNow_114 : decode cX2_rootsNow 114 = .ok (.iconst 0, 1) := dk_3 (dk_at dksX2_rootsNow_5 0 rfl rfl)
theorem dX2_rootsNow_115 : decode cX2_rootsNow 115 = .ok (.goto 12, 3) := dk_167 0 12 (dk_at dksX2_rootsNow_5 1 rfl rfl)
theorem dX2_rootsNow_118 : decode cX2_rootsNow 118 = .ok (.iload_n 0, 1) := dk_26 (dk_at dksX2_rootsNow_5 4 rfl rfl)
theorem dX2_rootsNow_119 : decode cX2_rootsNow 119 = .ok (.ifCond .le 7, 3) := dk_158 0 7 (dk_at dksX2_rootsNow_5 5 rfl rfl)
theorem dX2_rootsNow_122 : decode cX2_rootsNow 122 = .ok (.iconst 1, 1) := dk_4 (dk_at dksX2_rootsNow_5 8 rfl rfl)
theorem dX2_rootsNow_123 : decode cX2_rootsNow 123 = .ok (.goto 4, 3) := dk_167 0 4 (dk_at dksX2_rootsNow_5 9 rfl rfl)
theorem dX2_rootsNow_126 : decode cX2_rootsNow 126 = .ok (.iconst (-1), 1) := dk_2 (dk_at dksX2_rootsNow_5 12 rfl rfl)
theorem dX2_rootsNow_127 : decode cX2_rootsNow 127 = .ok (.ireturn, 1) := dk_172 (dk_at dksX2_rootsNow_5 13 rfl rfl)
abbrev cX2_spread : ByteArray := prog_17_method_64_code
def yX2_spread : MethodName := ⟨RX2, "spread", "(II)I"⟩
def dkwX2_spread_0 : List UInt8 := [26, 26, 104, 7, 27, 104, 96, 172]
abbrev dktX2_spread_0 : List UInt8 := dkwX2_spread_0 ++ []
theorem dksX2_spread_0 : cX2_spread.data.toList.drop 0 = dktX2_spread_0 := by decide +kernel
theorem dX2_spread_0 : decode cX2_spread 0 = .ok (.iload_n 0, 1) := dk_26 (dk_at dksX2_spread_0 0 rfl rfl)
theorem dX2_spread_1 : decode cX2_spread 1 = .ok (.iload_n 0, 1) := dk_26 (dk_at dksX2_spread_0 1 rfl rfl)
theorem dX2_spread_2 : decode cX2_spread 2 = .ok (.imul, 1) := dk_104 (dk_at dksX2_spread_0 2 rfl rfl)
theorem dX2_spread_3 : decode cX2_spread 3 = .ok (.iconst 4, 1) := dk_7 (dk_at dksX2_spread_0 3 rfl rfl)
theorem dX2_spread_4 : decode cX2_spread 4 = .ok (.iload_n 1, 1) := dk_27 (dk_at dksX2_spread_0 4 rfl rfl)
theorem dX2_spread_5 : decode cX2_spread 5 = .ok (.imul, 1) := dk_104 (dk_at dksX2_spread_0 5 rfl rfl)
theorem dX2_spread_6 : decode cX2_spread 6 = .ok (.iadd, 1) := dk_96 (dk_at dksX2_spread_0 6 rfl rfl)
theorem dX2_spread_7 : decode cX2_spread 7 = .ok (.ireturn, 1) := dk_172 (dk_at dksX2_spread_0 7 rfl rfl)
abbrev cX2_wholeRoot : ByteArray := prog_17_method_65_code
def yX2_wholeRoot : MethodName := ⟨RX2, "wholeRoot", "(I)I"⟩
def dkwX2_wholeRoot_1 : List UInt8 := [167, 0, 5, 18, 54, 172]
abbrev dktX2_wholeRoot_1 : List UInt8 := dkwX2_wholeRoot_1 ++ []
def dkwX2_wholeRoot_0 : List UInt8 := [3, 60, 27, 27, 104, 26, 162, 0, 9, 132, 1, 1, 167, 255, 246, 27, 27, 104, 26, 160, 0, 7, 27]
abbrev dktX2_wholeRoot_0 : List UInt8 := dkwX2_wholeRoot_0 ++ dktX2_wholeRoot_1
theorem dksX2_wholeRoot_0 : cX2_wholeRoot.data.toList.drop 0 = dktX2_wholeRoot_0 := by decide +kernel
theorem dksX2_wholeRoot_1 : cX2_wholeRoot.data.toList.drop 23 = dktX2_wholeRoot_1 := dk_seg dksX2_wholeRoot_0 23 rfl rfl
theorem dX2_wholeRoot_0 : decode cX2_wholeRoot 0 = .ok (.iconst 0, 1) := dk_3 (dk_at dksX2_wholeRoot_0 0 rfl rfl)
theorem dX2_wholeRoot_1 : decode cX2_wholeRoot 1 = .ok (.istore_n 1, 1) := dk_60 (dk_at dksX2_wholeRoot_0 1 rfl rfl)
theorem dX2_wholeRoot_2 : decode cX2_wholeRoot 2 = .ok (.iload_n 1, 1) := dk_27 (dk_at dksX2_wholeRoot_0 2 rfl rfl)
theorem dX2_wholeRoot_3 : decode cX2_wholeRoot 3 = .ok (.iload_n 1, 1) := dk_27 (dk_at dksX2_wholeRoot_0 3 rfl rfl)
theorem dX2_wholeRoot_4 : decode cX2_wholeRoot 4 = .ok (.imul, 1) := dk_104 (dk_at dksX2_wholeRoot_0 4 rfl rfl)
theorem dX2_wholeRoot_5 : decode cX2_wholeRoot 5 = .ok (.iload_n 0, 1) := dk_26 (dk_at dksX2_wholeRoot_0 5 rfl rfl)
theorem dX2_wholeRoot_6 : decode cX2_wholeRoot 6 = .ok (.if_icmp .ge 9, 3) := dk_162 0 9 (dk_at dksX2_wholeRoot_0 6 rfl rfl)
theorem dX2_wholeRoot_9 : decode cX2_wholeRoot 9 = .ok (.iinc 1 1, 3) := dk_132 1 1 (dk_at dksX2_wholeRoot_0 9 rfl rfl)
theorem dX2_wholeRoot_12 : decode cX2_wholeRoot 12 = .ok (.goto (-10), 3) := dk_167 255 246 (dk_at dksX2_wholeRoot_0 12 rfl rfl)
theorem dX2_wholeRoot_15 : decode cX2_wholeRoot 15 = .ok (.iload_n 1, 1) := dk_27 (dk_at dksX2_wholeRoot_0 15 rfl rfl)
theorem dX2_wholeRoot_16 : decode cX2_wholeRoot 16 = .ok (.iload_n 1, 1) := dk_27 (dk_at dksX2_wholeRoot_0 16 rfl rfl)
theorem dX2_wholeRoot_17 : decode cX2_wholeRoot 17 = .ok (.imul, 1) := dk_104 (dk_at dksX2_wholeRoot_0 17 rfl rfl)
theorem dX2_wholeRoot_18 : decode cX2_wholeRoot 18 = .ok (.iload_n 0, 1) := dk_26 (dk_at dksX2_wholeRoot_0 18 rfl rfl)
theorem dX2_wholeRoot_19 : decode cX2_wholeRoot 19 = .ok (.if_icmp .ne 7, 3) := dk_160 0 7 (dk_at dksX2_wholeRoot_0 19 rfl rfl)
theorem dX2_wholeRoot_22 : decode cX2_wholeRoot 22 = .ok (.iload_n 1, 1) := dk_27 (dk_at dksX2_wholeRoot_0 22 rfl rfl)
theorem dX2_wholeRoot_23 : decode cX2_wholeRoot 23 = .ok (.goto 5, 3) := dk_167 0 5 (dk_at dksX2_wholeRoot_1 0 rfl rfl)
theorem dX2_wholeRoot_26 : decode cX2_wholeRoot 26 = .ok (.ldc 54, 2) := dk_18 54 (dk_at dksX2_wholeRoot_1 3 rfl rfl)
theorem dX2_wholeRoot_28 : decode cX2_wholeRoot 28 = .ok (.ireturn, 1) := dk_172 (dk_at dksX2_wholeRoot_1 5 rfl rfl)
abbrev cX2_degenerate : ByteArray := prog_17_method_66_code
def yX2_degenerate : MethodName := ⟨RX2, "degenerate", "(II)I"⟩
def dkwX2_degenerate_3 : List UInt8 := [172]
abbrev dktX2_degenerate_3 : List UInt8 := dkwX2_degenerate_3 ++ []
def dkwX2_degenerate_2 : List UInt8 := [22, 4, 105, 27, 133, 32, 105, 97, 55, 7, 22, 4, 65, 22, 7, 55, 4, 132, 6, 1, 167, 255, 211, 3]
abbrev dktX2_degenerate_2 : List UInt8 := dkwX2_degenerate_2 ++ dktX2_degenerate_3
def dkwX2_degenerate_1 : List UInt8 := [16, 12, 163, 0, 44, 21, 6, 4, 164, 0, 13, 22, 4, 9, 148, 154, 0, 6, 21, 6, 172, 26, 133]
abbrev dktX2_degenerate_1 : List UInt8 := dkwX2_degenerate_1 ++ dktX2_degenerate_2
def dkwX2_degenerate_0 : List UInt8 := [27, 153, 0, 11, 26, 27, 184, 1, 10, 154, 0, 5, 3, 172, 9, 65, 10, 55, 4, 4, 54, 6, 21, 6]
abbrev dktX2_degenerate_0 : List UInt8 := dkwX2_degenerate_0 ++ dktX2_degenerate_1
theorem dksX2_degenerate_0 : cX2_degenerate.data.toList.drop 0 = dktX2_degenerate_0 := by decide +kernel
theorem dksX2_degenerate_1 : cX2_degenerate.data.toList.drop 24 = dktX2_degenerate_1 := dk_seg dksX2_degenerate_0 24 rfl rfl
theorem dksX2_degenerate_2 : cX2_degenerate.data.toList.drop 47 = dktX2_degenerate_2 := dk_seg dksX2_degenerate_1 23 rfl rfl
theorem dksX2_degenerate_3 : cX2_degenerate.data.toList.drop 71 = dktX2_degenerate_3 := dk_seg dksX2_degenerate_2 24 rfl rfl
theorem dX2_degenerate_0 : decode cX2_degenerate 0 = .ok (.iload_n 1, 1) := dk_27 (dk_at dksX2_degenerate_0 0 rfl rfl)
theorem dX2_degenerate_1 : decode cX2_degenerate 1 = .ok (.ifCond .eq 11, 3) := dk_153 0 11 (dk_at dksX2_degenerate_0 1 rfl rfl)
theorem dX2_degenerate_4 : decode cX2_degenerate 4 = .ok (.iload_n 0, 1) := dk_26 (dk_at dksX2_degenerate_0 4 rfl rfl)
theorem dX2_degenerate_5 : decode cX2_degenerate 5 = .ok (.iload_n 1, 1) := dk_27 (dk_at dksX2_degenerate_0 5 rfl rfl)
theorem dX2_degenerate_6 : decode cX2_degenerate 6 = .ok (.invokestatic 266, 3) := dk_184 1 10 (dk_at dksX2_degenerate_0 6 rfl rfl)
theorem dX2_degenerate_9 : decode cX2_degenerate 9 = .ok (.ifCond .ne 5, 3) := dk_154 0 5 (dk_at dksX2_degenerate_0 9 rfl rfl)
theorem dX2_degenerate_12 : decode cX2_degenerate 12 = .ok (.iconst 0, 1) := dk_3 (dk_at dksX2_degenerate_0 12 rfl rfl)
theorem dX2_degenerate_13 : decode cX2_degenerate 13 = .ok (.ireturn, 1) := dk_172 (dk_at dksX2_degenerate_0 13 rfl rfl)
theorem dX2_degenerate_14 : decode cX2_degenerate 14 = .ok (.lconst 0, 1) := dk_9 (dk_at dksX2_degenerate_0 14 rfl rfl)
theorem dX2_degenerate_15 : decode cX2_degenerate 15 = .ok (.lstore_n 2, 1) := dk_65 (dk_at dksX2_degenerate_0 15 rfl rfl)
theorem dX2_degenerate_16 : decode cX2_degenerate 16 = .ok (.lconst 1, 1) := dk_10 (dk_at dksX2_degenerate_0 16 rfl rfl)
theorem dX2_degenerate_17 : decode cX2_degenerate 17 = .ok (.lstore 4, 2) := dk_55 4 (dk_at dksX2_degenerate_0 17 rfl rfl)
theorem dX2_degenerate_19 : decode cX2_degenerate 19 = .ok (.iconst 1, 1) := dk_4 (dk_at dksX2_degenerate_0 19 rfl rfl)
theorem dX2_degenerate_20 : decode cX2_degenerate 20 = .ok (.istore 6, 2) := dk_54 6 (dk_at dksX2_degenerate_0 20 rfl rfl)
theorem dX2_degenerate_22 : decode cX2_degenerate 22 = .ok (.iload 6, 2) := dk_21 6 (dk_at dksX2_degenerate_0 22 rfl rfl)
theorem dX2_degenerate_24 : decode cX2_degenerate 24 = .ok (.bipush 12, 2) := dk_16 12 (dk_at dksX2_degenerate_1 0 rfl rfl)
theorem dX2_degenerate_26 : decode cX2_degenerate 26 = .ok (.if_icmp .gt 44, 3) := dk_163 0 44 (dk_at dksX2_degenerate_1 2 rfl rfl)
theorem dX2_degenerate_29 : decode cX2_degenerate 29 = .ok (.iload 6, 2) := dk_21 6 (dk_at dksX2_degenerate_1 5 rfl rfl)
theorem dX2_degenerate_31 : decode cX2_degenerate 31 = .ok (.iconst 1, 1) := dk_4 (dk_at dksX2_degenerate_1 7 rfl rfl)
theorem dX2_degenerate_32 : decode cX2_degenerate 32 = .ok (.if_icmp .le 13, 3) := dk_164 0 13 (dk_at dksX2_degenerate_1 8 rfl rfl)
theorem dX2_degenerate_35 : decode cX2_degenerate 35 = .ok (.lload 4, 2) := dk_22 4 (dk_at dksX2_degenerate_1 11 rfl rfl)
theorem dX2_degenerate_37 : decode cX2_degenerate 37 = .ok (.lconst 0, 1) := dk_9 (dk_at dksX2_degenerate_1 13 rfl rfl)
theorem dX2_degenerate_38 : decode cX2_degenerate 38 = .ok (.lcmp, 1) := dk_148 (dk_at dksX2_degenerate_1 14 rfl rfl)
theorem dX2_degenerate_39 : decode cX2_degenerate 39 = .ok (.ifCond .ne 6, 3) := dk_154 0 6 (dk_at dksX2_degenerate_1 15 rfl rfl)
theorem dX2_degenerate_42 : decode cX2_degenerate 42 = .ok (.iload 6, 2) := dk_21 6 (dk_at dksX2_degenerate_1 18 rfl rfl)
theorem dX2_degenerate_44 : decode cX2_degenerate 44 = .ok (.ireturn, 1) := dk_172 (dk_at dksX2_degenerate_1 20 rfl rfl)
theorem dX2_degenerate_45 : decode cX2_degenerate 45 = .ok (.iload_n 0, 1) := dk_26 (dk_at dksX2_degenerate_1 21 rfl rfl)
theorem dX2_degenerate_46 : decode cX2_degenerate 46 = .ok (.i2l, 1) := dk_133 (dk_at dksX2_degenerate_1 22 rfl rfl)
theorem dX2_degenerate_47 : decode cX2_degenerate 47 = .ok (.lload 4, 2) := dk_22 4 (dk_at dksX2_degenerate_2 0 rfl rfl)
theorem dX2_degenerate_49 : decode cX2_degenerate 49 = .ok (.lmul, 1) := dk_105 (dk_at dksX2_degenerate_2 2 rfl rfl)
theorem dX2_degenerate_50 : decode cX2_degenerate 50 = .ok (.iload_n 1, 1) := dk_27 (dk_at dksX2_degenerate_2 3 rfl rfl)
theorem dX2_degenerate_51 : decode cX2_degenerate 51 = .ok (.i2l, 1) := dk_133 (dk_at dksX2_degenerate_2 4 rfl rfl)
theorem dX2_degenerate_52 : decode cX2_degenerate 52 = .ok (.lload_n 2, 1) := dk_32 (dk_at dksX2_degenerate_2 5 rfl rfl)
theorem dX2_degenerate_53 : decode cX2_degenerate 53 = .ok (.lmul, 1) := dk_105 (dk_at dksX2_degenerate_2 6 rfl rfl)
theorem dX2_degenerate_54 : decode cX2_degenerate 54 = .ok (.ladd, 1) := dk_97 (dk_at dksX2_degenerate_2 7 rfl rfl)
theorem dX2_degenerate_55 : decode cX2_degenerate 55 = .ok (.lstore 7, 2) := dk_55 7 (dk_at dksX2_degenerate_2 8 rfl rfl)
theorem dX2_degenerate_57 : decode cX2_degenerate 57 = .ok (.lload 4, 2) := dk_22 4 (dk_at dksX2_degenerate_2 10 rfl rfl)
theorem dX2_degenerate_59 : decode cX2_degenerate 59 = .ok (.lstore_n 2, 1) := dk_65 (dk_at dksX2_degenerate_2 12 rfl rfl)
theorem dX2_degenerate_60 : decode cX2_degenerate 60 = .ok (.lload 7, 2) := dk_22 7 (dk_at dksX2_degenerate_2 13 rfl rfl)
theorem dX2_degenerate_62 : decode cX2_degenerate 62 = .ok (.lstore 4, 2) := dk_55 4 (dk_at dksX2_degenerate_2 15 rfl rfl)
theorem dX2_degenerate_64 : decode cX2_degenerate 64 = .ok (.iinc 6 1, 3) := dk_132 6 1 (dk_at dksX2_degenerate_2 17 rfl rfl)
theorem dX2_degenerate_67 : decode cX2_degenerate 67 = .ok (.goto (-45), 3) := dk_167 255 211 (dk_at dksX2_degenerate_2 20 rfl rfl)
theorem dX2_degenerate_70 : decode cX2_degenerate 70 = .ok (.iconst 0, 1) := dk_3 (dk_at dksX2_degenerate_2 23 rfl rfl)
theorem dX2_degenerate_71 : decode cX2_degenerate 71 = .ok (.ireturn, 1) := dk_172 (dk_at dksX2_degenerate_3 0 rfl rfl)
abbrev cX2_noughts : ByteArray := prog_17_method_70_code
def yX2_noughts : MethodName := ⟨RX2, "noughts", "(I)I"⟩
def dkwX2_noughts_0 : List UInt8 := [42, 27, 182, 0, 193, 153, 0, 11, 42, 27, 182, 1, 22, 167, 0, 5, 18, 196, 172]
abbrev dktX2_noughts_0 : List UInt8 := dkwX2_noughts_0 ++ []
theorem dksX2_noughts_0 : cX2_noughts.data.toList.drop 0 = dktX2_noughts_0 := by decide +kernel
theorem dX2_noughts_0 : decode cX2_noughts 0 = .ok (.aload_n 0, 1) := dk_42 (dk_at dksX2_noughts_0 0 rfl rfl)
theorem dX2_noughts_1 : decode cX2_noughts 1 = .ok (.iload_n 1, 1) := dk_27 (dk_at dksX2_noughts_0 1 rfl rfl)
theorem dX2_noughts_2 : decode cX2_noughts 2 = .ok (.invokevirtual 193, 3) := dk_182 0 193 (dk_at dksX2_noughts_0 2 rfl rfl)
theorem dX2_noughts_5 : decode cX2_noughts 5 = .ok (.ifCond .eq 11, 3) := dk_153 0 11 (dk_at dksX2_noughts_0 5 rfl rfl)
theorem dX2_noughts_8 : decode cX2_noughts 8 = .ok (.aload_n 0, 1) := dk_42 (dk_at dksX2_noughts_0 8 rfl rfl)
theorem dX2_noughts_9 : decode cX2_noughts 9 = .ok (.iload_n 1, 1) := dk_27 (dk_at dksX2_noughts_0 9 rfl rfl)
theorem dX2_noughts_10 : decode cX2_noughts 10 = .ok (.invokevirtual 278, 3) := dk_182 1 22 (dk_at dksX2_noughts_0 10 rfl rfl)
theorem dX2_noughts_13 : decode cX2_noughts 13 = .ok (.goto 5, 3) := dk_167 0 5 (dk_at dksX2_noughts_0 13 rfl rfl)
theorem dX2_noughts_16 : decode cX2_noughts 16 = .ok (.ldc 196, 2) := dk_18 196 (dk_at dksX2_noughts_0 16 rfl rfl)
theorem dX2_noughts_18 : decode cX2_noughts 18 = .ok (.ireturn, 1) := dk_172 (dk_at dksX2_noughts_0 18 rfl rfl)
abbrev cX2_noughtsOf : ByteArray := prog_17_method_69_code
def yX2_noughtsOf : MethodName := ⟨RX2, "noughtsOf", "(I)I"⟩
def dkwX2_noughtsOf_1 : List UInt8 := [167, 0, 4, 3, 128, 61, 132, 3, 1, 167, 255, 228, 28, 172]
abbrev dktX2_noughtsOf_1 : List UInt8 := dkwX2_noughtsOf_1 ++ []
def dkwX2_noughtsOf_0 : List UInt8 := [3, 61, 3, 62, 29, 16, 24, 162, 0, 28, 28, 42, 27, 29, 182, 0, 201, 154, 0, 9, 4, 29, 120]
abbrev dktX2_noughtsOf_0 : List UInt8 := dkwX2_noughtsOf_0 ++ dktX2_noughtsOf_1
theorem dksX2_noughtsOf_0 : cX2_noughtsOf.data.toList.drop 0 = dktX2_noughtsOf_0 := by decide +kernel
theorem dksX2_noughtsOf_1 : cX2_noughtsOf.data.toList.drop 23 = dktX2_noughtsOf_1 := dk_seg dksX2_noughtsOf_0 23 rfl rfl
theorem dX2_noughtsOf_0 : decode cX2_noughtsOf 0 = .ok (.iconst 0, 1) := dk_3 (dk_at dksX2_noughtsOf_0 0 rfl rfl)
theorem dX2_noughtsOf_1 : decode cX2_noughtsOf 1 = .ok (.istore_n 2, 1) := dk_61 (dk_at dksX2_noughtsOf_0 1 rfl rfl)
theorem dX2_noughtsOf_2 : decode cX2_noughtsOf 2 = .ok (.iconst 0, 1) := dk_3 (dk_at dksX2_noughtsOf_0 2 rfl rfl)
theorem dX2_noughtsOf_3 : decode cX2_noughtsOf 3 = .ok (.istore_n 3, 1) := dk_62 (dk_at dksX2_noughtsOf_0 3 rfl rfl)
theorem dX2_noughtsOf_4 : decode cX2_noughtsOf 4 = .ok (.iload_n 3, 1) := dk_29 (dk_at dksX2_noughtsOf_0 4 rfl rfl)
theorem dX2_noughtsOf_5 : decode cX2_noughtsOf 5 = .ok (.bipush 24, 2) := dk_16 24 (dk_at dksX2_noughtsOf_0 5 rfl rfl)
theorem dX2_noughtsOf_7 : decode cX2_noughtsOf 7 = .ok (.if_icmp .ge 28, 3) := dk_162 0 28 (dk_at dksX2_noughtsOf_0 7 rfl rfl)
theorem dX2_noughtsOf_10 : decode cX2_noughtsOf 10 = .ok (.iload_n 2, 1) := dk_28 (dk_at dksX2_noughtsOf_0 10 rfl rfl)
theorem dX2_noughtsOf_11 : decode cX2_noughtsOf 11 = .ok (.aload_n 0, 1) := dk_42 (dk_at dksX2_noughtsOf_0 11 rfl rfl)
theorem dX2_noughtsOf_12 : decode cX2_noughtsOf 12 = .ok (.iload_n 1, 1) := dk_27 (dk_at dksX2_noughtsOf_0 12 rfl rfl)
theorem dX2_noughtsOf_13 : decode cX2_noughtsOf 13 = .ok (.iload_n 3, 1) := dk_29 (dk_at dksX2_noughtsOf_0 13 rfl rfl)
theorem dX2_noughtsOf_14 : decode cX2_noughtsOf 14 = .ok (.invokevirtual 201, 3) := dk_182 0 201 (dk_at dksX2_noughtsOf_0 14 rfl rfl)
theorem dX2_noughtsOf_17 : decode cX2_noughtsOf 17 = .ok (.ifCond .ne 9, 3) := dk_154 0 9 (dk_at dksX2_noughtsOf_0 17 rfl rfl)
theorem dX2_noughtsOf_20 : decode cX2_noughtsOf 20 = .ok (.iconst 1, 1) := dk_4 (dk_at dksX2_noughtsOf_0 20 rfl rfl)
theorem dX2_noughtsOf_21 : decode cX2_noughtsOf 21 = .ok (.iload_n 3, 1) := dk_29 (dk_at dksX2_noughtsOf_0 21 rfl rfl)
theorem dX2_noughtsOf_22 : decode cX2_noughtsOf 22 = .ok (.ishl, 1) := dk_120 (dk_at dksX2_noughtsOf_0 22 rfl rfl)
theorem dX2_noughtsOf_23 : decode cX2_noughtsOf 23 = .ok (.goto 4, 3) := dk_167 0 4 (dk_at dksX2_noughtsOf_1 0 rfl rfl)
theorem dX2_noughtsOf_26 : decode cX2_noughtsOf 26 = .ok (.iconst 0, 1) := dk_3 (dk_at dksX2_noughtsOf_1 3 rfl rfl)
theorem dX2_noughtsOf_27 : decode cX2_noughtsOf 27 = .ok (.ior, 1) := dk_128 (dk_at dksX2_noughtsOf_1 4 rfl rfl)
theorem dX2_noughtsOf_28 : decode cX2_noughtsOf 28 = .ok (.istore_n 2, 1) := dk_61 (dk_at dksX2_noughtsOf_1 5 rfl rfl)
theorem dX2_noughtsOf_29 : decode cX2_noughtsOf 29 = .ok (.iinc 3 1, 3) := dk_132 3 1 (dk_at dksX2_noughtsOf_1 6 rfl rfl)
theorem dX2_noughtsOf_32 : decode cX2_noughtsOf 32 = .ok (.goto (-28), 3) := dk_167 255 228 (dk_at dksX2_noughtsOf_1 9 rfl rfl)
theorem dX2_noughtsOf_35 : decode cX2_noughtsOf 35 = .ok (.iload_n 2, 1) := dk_28 (dk_at dksX2_noughtsOf_1 12 rfl rfl)
theorem dX2_noughtsOf_36 : decode cX2_noughtsOf 36 = .ok (.ireturn, 1) := dk_172 (dk_at dksX2_noughtsOf_1 13 rfl rfl)
abbrev cX2_ends : ByteArray := prog_17_method_71_code
def yX2_ends : MethodName := ⟨RX2, "ends", "(I)I"⟩
def dkwX2_ends_1 : List UInt8 := [42, 27, 182, 0, 210, 154, 0, 5, 28, 172, 132, 2, 1, 167, 255, 232, 18, 54, 172]
abbrev dktX2_ends_1 : List UInt8 := dkwX2_ends_1 ++ []
def dkwX2_ends_0 : List UInt8 := [42, 27, 182, 0, 193, 154, 0, 6, 18, 196, 172, 5, 61, 28, 16, 10, 163, 0, 24, 42, 28, 182, 0, 204]
abbrev dktX2_ends_0 : List UInt8 := dkwX2_ends_0 ++ dktX2_ends_1
theorem dksX2_ends_0 : cX2_ends.data.toList.drop 0 = dktX2_ends_0 := by decide +kernel
theorem dksX2_ends_1 : cX2_ends.data.toList.drop 24 = dktX2_ends_1 := dk_seg dksX2_ends_0 24 rfl rfl
theorem dX2_ends_0 : decode cX2_ends 0 = .ok (.aload_n 0, 1) := dk_42 (dk_at dksX2_ends_0 0 rfl rfl)
theorem dX2_ends_1 : decode cX2_ends 1 = .ok (.iload_n 1, 1) := dk_27 (dk_at dksX2_ends_0 1 rfl rfl)
theorem dX2_ends_2 : decode cX2_ends 2 = .ok (.invokevirtual 193, 3) := dk_182 0 193 (dk_at dksX2_ends_0 2 rfl rfl)
theorem dX2_ends_5 : decode cX2_ends 5 = .ok (.ifCond .ne 6, 3) := dk_154 0 6 (dk_at dksX2_ends_0 5 rfl rfl)
theorem dX2_ends_8 : decode cX2_ends 8 = .ok (.ldc 196, 2) := dk_18 196 (dk_at dksX2_ends_0 8 rfl rfl)
theorem dX2_ends_10 : decode cX2_ends 10 = .ok (.ireturn, 1) := dk_172 (dk_at dksX2_ends_0 10 rfl rfl)
theorem dX2_ends_11 : decode cX2_ends 11 = .ok (.iconst 2, 1) := dk_5 (dk_at dksX2_ends_0 11 rfl rfl)
theorem dX2_ends_12 : decode cX2_ends 12 = .ok (.istore_n 2, 1) := dk_61 (dk_at dksX2_ends_0 12 rfl rfl)
theorem dX2_ends_13 : decode cX2_ends 13 = .ok (.iload_n 2, 1) := dk_28 (dk_at dksX2_ends_0 13 rfl rfl)
theorem dX2_ends_14 : decode cX2_ends 14 = .ok (.bipush 10, 2) := dk_16 10 (dk_at dksX2_ends_0 14 rfl rfl)
theorem dX2_ends_16 : decode cX2_ends 16 = .ok (.if_icmp .gt 24, 3) := dk_163 0 24 (dk_at dksX2_ends_0 16 rfl rfl)
theorem dX2_ends_19 : decode cX2_ends 19 = .ok (.aload_n 0, 1) := dk_42 (dk_at dksX2_ends_0 19 rfl rfl)
theorem dX2_ends_20 : decode cX2_ends 20 = .ok (.iload_n 2, 1) := dk_28 (dk_at dksX2_ends_0 20 rfl rfl)
theorem dX2_ends_21 : decode cX2_ends 21 = .ok (.invokevirtual 204, 3) := dk_182 0 204 (dk_at dksX2_ends_0 21 rfl rfl)
theorem dX2_ends_24 : decode cX2_ends 24 = .ok (.aload_n 0, 1) := dk_42 (dk_at dksX2_ends_1 0 rfl rfl)
theorem dX2_ends_25 : decode cX2_ends 25 = .ok (.iload_n 1, 1) := dk_27 (dk_at dksX2_ends_1 1 rfl rfl)
theorem dX2_ends_26 : decode cX2_ends 26 = .ok (.invokevirtual 210, 3) := dk_182 0 210 (dk_at dksX2_ends_1 2 rfl rfl)
theorem dX2_ends_29 : decode cX2_ends 29 = .ok (.ifCond .ne 5, 3) := dk_154 0 5 (dk_at dksX2_ends_1 5 rfl rfl)
theorem dX2_ends_32 : decode cX2_ends 32 = .ok (.iload_n 2, 1) := dk_28 (dk_at dksX2_ends_1 8 rfl rfl)
theorem dX2_ends_33 : decode cX2_ends 33 = .ok (.ireturn, 1) := dk_172 (dk_at dksX2_ends_1 9 rfl rfl)
theorem dX2_ends_34 : decode cX2_ends 34 = .ok (.iinc 2 1, 3) := dk_132 2 1 (dk_at dksX2_ends_1 10 rfl rfl)
theorem dX2_ends_37 : decode cX2_ends 37 = .ok (.goto (-24), 3) := dk_167 255 232 (dk_at dksX2_ends_1 13 rfl rfl)
theorem dX2_ends_40 : decode cX2_ends 40 = .ok (.ldc 54, 2) := dk_18 54 (dk_at dksX2_ends_1 16 rfl rfl)
theorem dX2_ends_42 : decode cX2_ends 42 = .ok (.ireturn, 1) := dk_172 (dk_at dksX2_ends_1 18 rfl rfl)
abbrev cX2_open : ByteArray := prog_17_method_74_code
def yX2_open : MethodName := ⟨RX2, "open", "(II)I"⟩
def dkwX2_open_1 : List UInt8 := [182, 1, 28, 167, 0, 5, 18, 72, 172]
abbrev dktX2_open_1 : List UInt8 := dkwX2_open_1 ++ []
def dkwX2_open_0 : List UInt8 := [42, 27, 182, 0, 193, 154, 0, 6, 18, 196, 172, 28, 3, 4, 184, 0, 68, 153, 0, 12, 42, 27, 28]
abbrev dktX2_open_0 : List UInt8 := dkwX2_open_0 ++ dktX2_open_1
theorem dksX2_open_0 : cX2_open.data.toList.drop 0 = dktX2_open_0 := by decide +kernel
theorem dksX2_open_1 : cX2_open.data.toList.drop 23 = dktX2_open_1 := dk_seg dksX2_open_0 23 rfl rfl
theorem dX2_open_0 : decode cX2_open 0 = .ok (.aload_n 0, 1) := dk_42 (dk_at dksX2_open_0 0 rfl rfl)
theorem dX2_open_1 : decode cX2_open 1 = .ok (.iload_n 1, 1) := dk_27 (dk_at dksX2_open_0 1 rfl rfl)
theorem dX2_open_2 : decode cX2_open 2 = .ok (.invokevirtual 193, 3) := dk_182 0 193 (dk_at dksX2_open_0 2 rfl rfl)
theorem dX2_open_5 : decode cX2_open 5 = .ok (.ifCond .ne 6, 3) := dk_154 0 6 (dk_at dksX2_open_0 5 rfl rfl)
theorem dX2_open_8 : decode cX2_open 8 = .ok (.ldc 196, 2) := dk_18 196 (dk_at dksX2_open_0 8 rfl rfl)
theorem dX2_open_10 : decode cX2_open 10 = .ok (.ireturn, 1) := dk_172 (dk_at dksX2_open_0 10 rfl rfl)
theorem dX2_open_11 : decode cX2_open 11 = .ok (.iload_n 2, 1) := dk_28 (dk_at dksX2_open_0 11 rfl rfl)
theorem dX2_open_12 : decode cX2_open 12 = .ok (.iconst 0, 1) := dk_3 (dk_at dksX2_open_0 12 rfl rfl)
theorem dX2_open_13 : decode cX2_open 13 = .ok (.iconst 1, 1) := dk_4 (dk_at dksX2_open_0 13 rfl rfl)
theorem dX2_open_14 : decode cX2_open 14 = .ok (.invokestatic 68, 3) := dk_184 0 68 (dk_at dksX2_open_0 14 rfl rfl)
theorem dX2_open_17 : decode cX2_open 17 = .ok (.ifCond .eq 12, 3) := dk_153 0 12 (dk_at dksX2_open_0 17 rfl rfl)
theorem dX2_open_20 : decode cX2_open 20 = .ok (.aload_n 0, 1) := dk_42 (dk_at dksX2_open_0 20 rfl rfl)
theorem dX2_open_21 : decode cX2_open 21 = .ok (.iload_n 1, 1) := dk_27 (dk_at dksX2_open_0 21 rfl rfl)
theorem dX2_open_22 : decode cX2_open 22 = .ok (.iload_n 2, 1) := dk_28 (dk_at dksX2_open_0 22 rfl rfl)
theorem dX2_open_23 : decode cX2_open 23 = .ok (.invokevirtual 284, 3) := dk_182 1 28 (dk_at dksX2_open_1 0 rfl rfl)
theorem dX2_open_26 : decode cX2_open 26 = .ok (.goto 5, 3) := dk_167 0 5 (dk_at dksX2_open_1 3 rfl rfl)
theorem dX2_open_29 : decode cX2_open 29 = .ok (.ldc 72, 2) := dk_18 72 (dk_at dksX2_open_1 6 rfl rfl)
theorem dX2_open_31 : decode cX2_open 31 = .ok (.ireturn, 1) := dk_172 (dk_at dksX2_open_1 8 rfl rfl)
abbrev cX2_openNow : ByteArray := prog_17_method_73_code
def yX2_openNow : MethodName := ⟨RX2, "openNow", "(II)I"⟩
def dkwX2_openNow_3 : List UInt8 := [167, 0, 5, 21, 4, 172]
abbrev dktX2_openNow_3 : List UInt8 := dkwX2_openNow_3 ++ []
def dkwX2_openNow_2 : List UInt8 := [153, 0, 8, 21, 5, 167, 0, 5, 21, 4, 54, 4, 132, 5, 1, 167, 255, 208, 28, 154, 0, 7, 29]
abbrev dktX2_openNow_2 : List UInt8 := dkwX2_openNow_2 ++ dktX2_openNow_3
def dkwX2_openNow_1 : List UInt8 := [180, 0, 50, 21, 5, 51, 153, 0, 7, 4, 167, 0, 4, 3, 96, 62, 42, 180, 0, 50, 21, 5, 51]
abbrev dktX2_openNow_1 : List UInt8 := dkwX2_openNow_1 ++ dktX2_openNow_2
def dkwX2_openNow_0 : List UInt8 := [42, 27, 182, 1, 25, 3, 62, 18, 54, 54, 4, 3, 54, 5, 21, 5, 17, 3, 232, 162, 0, 46, 29, 42]
abbrev dktX2_openNow_0 : List UInt8 := dkwX2_openNow_0 ++ dktX2_openNow_1
theorem dksX2_openNow_0 : cX2_openNow.data.toList.drop 0 = dktX2_openNow_0 := by decide +kernel
theorem dksX2_openNow_1 : cX2_openNow.data.toList.drop 24 = dktX2_openNow_1 := dk_seg dksX2_openNow_0 24 rfl rfl
theorem dksX2_openNow_2 : cX2_openNow.data.toList.drop 47 = dktX2_openNow_2 := dk_seg dksX2_openNow_1 23 rfl rfl
theorem dksX2_openNow_3 : cX2_openNow.data.toList.drop 70 = dktX2_openNow_3 := dk_seg dksX2_openNow_2 23 rfl rfl
theorem dX2_openNow_0 : decode cX2_openNow 0 = .ok (.aload_n 0, 1) := dk_42 (dk_at dksX2_openNow_0 0 rfl rfl)
theorem dX2_openNow_1 : decode cX2_openNow 1 = .ok (.iload_n 1, 1) := dk_27 (dk_at dksX2_openNow_0 1 rfl rfl)
theorem dX2_openNow_2 : decode cX2_openNow 2 = .ok (.invokevirtual 281, 3) := dk_182 1 25 (dk_at dksX2_openNow_0 2 rfl rfl)
theorem dX2_openNow_5 : decode cX2_openNow 5 = .ok (.iconst 0, 1) := dk_3 (dk_at dksX2_openNow_0 5 rfl rfl)
theorem dX2_openNow_6 : decode cX2_openNow 6 = .ok (.istore_n 3, 1) := dk_62 (dk_at dksX2_openNow_0 6 rfl rfl)
theorem dX2_openNow_7 : decode cX2_openNow 7 = .ok (.ldc 54, 2) := dk_18 54 (dk_at dksX2_openNow_0 7 rfl rfl)
theorem dX2_openNow_9 : decode cX2_openNow 9 = .ok (.istore 4, 2) := dk_54 4 (dk_at dksX2_openNow_0 9 rfl rfl)
theorem dX2_openNow_11 : decode cX2_openNow 11 = .ok (.iconst 0, 1) := dk_3 (dk_at dksX2_openNow_0 11 rfl rfl)
theorem dX2_openNow_12 : decode cX2_openNow 12 = .ok (.istore 5, 2) := dk_54 5 (dk_at dksX2_openNow_0 12 rfl rfl)
theorem dX2_openNow_14 : decode cX2_openNow 14 = .ok (.iload 5, 2) := dk_21 5 (dk_at dksX2_openNow_0 14 rfl rfl)
theorem dX2_openNow_16 : decode cX2_openNow 16 = .ok (.sipush 1000, 3) := dk_17 3 232 (dk_at dksX2_openNow_0 16 rfl rfl)
theorem dX2_openNow_19 : decode cX2_openNow 19 = .ok (.if_icmp .ge 46, 3) := dk_162 0 46 (dk_at dksX2_openNow_0 19 rfl rfl)
theorem dX2_openNow_22 : decode cX2_openNow 22 = .ok (.iload_n 3, 1) := dk_29 (dk_at dksX2_openNow_0 22 rfl rfl)
theorem dX2_openNow_23 : decode cX2_openNow 23 = .ok (.aload_n 0, 1) := dk_42 (dk_at dksX2_openNow_0 23 rfl rfl)
theorem dX2_openNow_24 : decode cX2_openNow 24 = .ok (.getfield 50, 3) := dk_180 0 50 (dk_at dksX2_openNow_1 0 rfl rfl)
theorem dX2_openNow_27 : decode cX2_openNow 27 = .ok (.iload 5, 2) := dk_21 5 (dk_at dksX2_openNow_1 3 rfl rfl)
theorem dX2_openNow_29 : decode cX2_openNow 29 = .ok (.baload, 1) := dk_51 (dk_at dksX2_openNow_1 5 rfl rfl)
theorem dX2_openNow_30 : decode cX2_openNow 30 = .ok (.ifCond .eq 7, 3) := dk_153 0 7 (dk_at dksX2_openNow_1 6 rfl rfl)
theorem dX2_openNow_33 : decode cX2_openNow 33 = .ok (.iconst 1, 1) := dk_4 (dk_at dksX2_openNow_1 9 rfl rfl)
theorem dX2_openNow_34 : decode cX2_openNow 34 = .ok (.goto 4, 3) := dk_167 0 4 (dk_at dksX2_openNow_1 10 rfl rfl)
theorem dX2_openNow_37 : decode cX2_openNow 37 = .ok (.iconst 0, 1) := dk_3 (dk_at dksX2_openNow_1 13 rfl rfl)
theorem dX2_openNow_38 : decode cX2_openNow 38 = .ok (.iadd, 1) := dk_96 (dk_at dksX2_openNow_1 14 rfl rfl)
theorem dX2_openNow_39 : decode cX2_openNow 39 = .ok (.istore_n 3, 1) := dk_62 (dk_at dksX2_openNow_1 15 rfl rfl)
theorem dX2_openNow_40 : decode cX2_openNow 40 = .ok (.aload_n 0, 1) := dk_42 (dk_at dksX2_openNow_1 16 rfl rfl)
theorem dX2_openNow_41 : decode cX2_openNow 41 = .ok (.getfield 50, 3) := dk_180 0 50 (dk_at dksX2_openNow_1 17 rfl rfl)
theorem dX2_openNow_44 : decode cX2_openNow 44 = .ok (.iload 5, 2) := dk_21 5 (dk_at dksX2_openNow_1 20 rfl rfl)
theorem dX2_openNow_46 : decode cX2_openNow 46 = .ok (.baload, 1) := dk_51 (dk_at dksX2_openNow_1 22 rfl rfl)
theorem dX2_openNow_47 : decode cX2_openNow 47 = .ok (.ifCond .eq 8, 3) := dk_153 0 8 (dk_at dksX2_openNow_2 0 rfl rfl)
theorem dX2_openNow_50 : decode cX2_openNow 50 = .ok (.iload 5, 2) := dk_21 5 (dk_at dksX2_openNow_2 3 rfl rfl)
theorem dX2_openNow_52 : decode cX2_openNow 52 = .ok (.goto 5, 3) := dk_167 0 5 (dk_at dksX2_openNow_2 5 rfl rfl)
theorem dX2_openNow_55 : decode cX2_openNow 55 = .ok (.iload 4, 2) := dk_21 4 (dk_at dksX2_openNow_2 8 rfl rfl)
theorem dX2_openNow_57 : decode cX2_openNow 57 = .ok (.istore 4, 2) := dk_54 4 (dk_at dksX2_openNow_2 10 rfl rfl)
theorem dX2_openNow_59 : decode cX2_openNow 59 = .ok (.iinc 5 1, 3) := dk_132 5 1 (dk_at dksX2_openNow_2 12 rfl rfl)
theorem dX2_openNow_62 : decode cX2_openNow 62 = .ok (.goto (-48), 3) := dk_167 255 208 (dk_at dksX2_openNow_2 15 rfl rfl)
theorem dX2_openNow_65 : decode cX2_openNow 65 = .ok (.iload_n 2, 1) := dk_28 (dk_at dksX2_openNow_2 18 rfl rfl)
theorem dX2_openNow_66 : decode cX2_openNow 66 = .ok (.ifCond .ne 7, 3) := dk_154 0 7 (dk_at dksX2_openNow_2 19 rfl rfl)
theorem dX2_openNow_69 : decode cX2_openNow 69 = .ok (.iload_n 3, 1) := dk_29 (dk_at dksX2_openNow_2 22 rfl rfl)
theorem dX2_openNow_70 : decode cX2_openNow 70 = .ok (.goto 5, 3) := dk_167 0 5 (dk_at dksX2_openNow_3 0 rfl rfl)
theorem dX2_openNow_73 : decode cX2_openNow 73 = .ok (.iload 4, 2) := dk_21 4 (dk_at dksX2_openNow_3 3 rfl rfl)
theorem dX2_openNow_75 : decode cX2_openNow 75 = .ok (.ireturn, 1) := dk_172 (dk_at dksX2_openNow_3 5 rfl rfl)
abbrev cX2_layOpen : ByteArray := prog_17_method_72_code
def yX2_layOpen : MethodName := ⟨RX2, "layOpen", "(I)V"⟩
def dkwX2_layOpen_3 : List UInt8 := [3, 84, 132, 3, 1, 167, 255, 216, 132, 2, 1, 167, 255, 197, 177]
abbrev dktX2_layOpen_3 : List UInt8 := dkwX2_layOpen_3 ++ []
def dkwX2_layOpen_2 : List UInt8 := [29, 42, 180, 0, 50, 29, 51, 153, 0, 17, 42, 27, 29, 133, 182, 0, 162, 154, 0, 7, 4, 167, 0, 4]
abbrev dktX2_layOpen_2 : List UInt8 := dkwX2_layOpen_2 ++ dktX2_layOpen_3
def dkwX2_layOpen_1 : List UInt8 := [28, 16, 10, 163, 0, 59, 42, 28, 182, 0, 204, 3, 62, 29, 17, 3, 232, 162, 0, 39, 42, 180, 0, 50]
abbrev dktX2_layOpen_1 : List UInt8 := dkwX2_layOpen_1 ++ dktX2_layOpen_2
def dkwX2_layOpen_0 : List UInt8 := [3, 61, 28, 17, 3, 232, 162, 0, 16, 42, 180, 0, 50, 28, 4, 84, 132, 2, 1, 167, 255, 239, 5, 61]
abbrev dktX2_layOpen_0 : List UInt8 := dkwX2_layOpen_0 ++ dktX2_layOpen_1
theorem dksX2_layOpen_0 : cX2_layOpen.data.toList.drop 0 = dktX2_layOpen_0 := by decide +kernel
theorem dksX2_layOpen_1 : cX2_layOpen.data.toList.drop 24 = dktX2_layOpen_1 := dk_seg dksX2_layOpen_0 24 rfl rfl
theorem dksX2_layOpen_2 : cX2_layOpen.data.toList.drop 48 = dktX2_layOpen_2 := dk_seg dksX2_layOpen_1 24 rfl rfl
theorem dksX2_layOpen_3 : cX2_layOpen.data.toList.drop 72 = dktX2_layOpen_3 := dk_seg dksX2_layOpen_2 24 rfl rfl
theorem dX2_layOpen_0 : decode cX2_layOpen 0 = .ok (.iconst 0, 1) := dk_3 (dk_at dksX2_layOpen_0 0 rfl rfl)
theorem dX2_layOpen_1 : decode cX2_layOpen 1 = .ok (.istore_n 2, 1) := dk_61 (dk_at dksX2_layOpen_0 1 rfl rfl)
theorem dX2_layOpen_2 : decode cX2_layOpen 2 = .ok (.iload_n 2, 1) := dk_28 (dk_at dksX2_layOpen_0 2 rfl rfl)
theorem dX2_layOpen_3 : decode cX2_layOpen 3 = .ok (.sipush 1000, 3) := dk_17 3 232 (dk_at dksX2_layOpen_0 3 rfl rfl)
theorem dX2_layOpen_6 : decode cX2_layOpen 6 = .ok (.if_icmp .ge 16, 3) := dk_162 0 16 (dk_at dksX2_layOpen_0 6 rfl rfl)
theorem dX2_layOpen_9 : decode cX2_layOpen 9 = .ok (.aload_n 0, 1) := dk_42 (dk_at dksX2_layOpen_0 9 rfl rfl)
theorem dX2_layOpen_10 : decode cX2_layOpen 10 = .ok (.getfield 50, 3) := dk_180 0 50 (dk_at dksX2_layOpen_0 10 rfl rfl)
theorem dX2_layOpen_13 : decode cX2_layOpen 13 = .ok (.iload_n 2, 1) := dk_28 (dk_at dksX2_layOpen_0 13 rfl rfl)
theorem dX2_layOpen_14 : decode cX2_layOpen 14 = .ok (.iconst 1, 1) := dk_4 (dk_at dksX2_layOpen_0 14 rfl rfl)
theorem dX2_layOpen_15 : decode cX2_layOpen 15 = .ok (.bastore, 1) := dk_84 (dk_at dksX2_layOpen_0 15 rfl rfl)
theorem dX2_layOpen_16 : decode cX2_layOpen 16 = .ok (.iinc 2 1, 3) := dk_132 2 1 (dk_at dksX2_layOpen_0 16 rfl rfl)
theorem dX2_layOpen_19 : decode cX2_layOpen 19 = .ok (.goto (-17), 3) := dk_167 255 239 (dk_at dksX2_layOpen_0 19 rfl rfl)
theorem dX2_layOpen_22 : decode cX2_layOpen 22 = .ok (.iconst 2, 1) := dk_5 (dk_at dksX2_layOpen_0 22 rfl rfl)
theorem dX2_layOpen_23 : decode cX2_layOpen 23 = .ok (.istore_n 2, 1) := dk_61 (dk_at dksX2_layOpen_0 23 rfl rfl)
theorem dX2_layOpen_24 : decode cX2_layOpen 24 = .ok (.iload_n 2, 1) := dk_28 (dk_at dksX2_layOpen_1 0 rfl rfl)
theorem dX2_layOpen_25 : decode cX2_layOpen 25 = .ok (.bipush 10, 2) := dk_16 10 (dk_at dksX2_layOpen_1 1 rfl rfl)
theorem dX2_layOpen_27 : decode cX2_layOpen 27 = .ok (.if_icmp .gt 59, 3) := dk_163 0 59 (dk_at dksX2_layOpen_1 3 rfl rfl)
theorem dX2_layOpen_30 : decode cX2_layOpen 30 = .ok (.aload_n 0, 1) := dk_42 (dk_at dksX2_layOpen_1 6 rfl rfl)
theorem dX2_layOpen_31 : decode cX2_layOpen 31 = .ok (.iload_n 2, 1) := dk_28 (dk_at dksX2_layOpen_1 7 rfl rfl)
theorem dX2_layOpen_32 : decode cX2_layOpen 32 = .ok (.invokevirtual 204, 3) := dk_182 0 204 (dk_at dksX2_layOpen_1 8 rfl rfl)
theorem dX2_layOpen_35 : decode cX2_layOpen 35 = .ok (.iconst 0, 1) := dk_3 (dk_at dksX2_layOpen_1 11 rfl rfl)
theorem dX2_layOpen_36 : decode cX2_layOpen 36 = .ok (.istore_n 3, 1) := dk_62 (dk_at dksX2_layOpen_1 12 rfl rfl)
theorem dX2_layOpen_37 : decode cX2_layOpen 37 = .ok (.iload_n 3, 1) := dk_29 (dk_at dksX2_layOpen_1 13 rfl rfl)
theorem dX2_layOpen_38 : decode cX2_layOpen 38 = .ok (.sipush 1000, 3) := dk_17 3 232 (dk_at dksX2_layOpen_1 14 rfl rfl)
theorem dX2_layOpen_41 : decode cX2_layOpen 41 = .ok (.if_icmp .ge 39, 3) := dk_162 0 39 (dk_at dksX2_layOpen_1 17 rfl rfl)
theorem dX2_layOpen_44 : decode cX2_layOpen 44 = .ok (.aload_n 0, 1) := dk_42 (dk_at dksX2_layOpen_1 20 rfl rfl)
theorem dX2_layOpen_45 : decode cX2_layOpen 45 = .ok (.getfield 50, 3) := dk_180 0 50 (dk_at dksX2_layOpen_1 21 rfl rfl)
theorem dX2_layOpen_48 : decode cX2_layOpen 48 = .ok (.iload_n 3, 1) := dk_29 (dk_at dksX2_layOpen_2 0 rfl rfl)
theorem dX2_layOpen_49 : decode cX2_layOpen 49 = .ok (.aload_n 0, 1) := dk_42 (dk_at dksX2_layOpen_2 1 rfl rfl)
theorem dX2_layOpen_50 : decode cX2_layOpen 50 = .ok (.getfield 50, 3) := dk_180 0 50 (dk_at dksX2_layOpen_2 2 rfl rfl)
theorem dX2_layOpen_53 : decode cX2_layOpen 53 = .ok (.iload_n 3, 1) := dk_29 (dk_at dksX2_layOpen_2 5 rfl rfl)
theorem dX2_layOpen_54 : decode cX2_layOpen 54 = .ok (.baload, 1) := dk_51 (dk_at dksX2_layOpen_2 6 rfl rfl)
theorem dX2_layOpen_55 : decode cX2_layOpen 55 = .ok (.ifCond .eq 17, 3) := dk_153 0 17 (dk_at dksX2_layOpen_2 7 rfl rfl)
theorem dX2_layOpen_58 : decode cX2_layOpen 58 = .ok (.aload_n 0, 1) := dk_42 (dk_at dksX2_layOpen_2 10 rfl rfl)
theorem dX2_layOpen_59 : decode cX2_layOpen 59 = .ok (.iload_n 1, 1) := dk_27 (dk_at dksX2_layOpen_2 11 rfl rfl)
theorem dX2_layOpen_60 : decode cX2_layOpen 60 = .ok (.iload_n 3, 1) := dk_29 (dk_at dksX2_layOpen_2 12 rfl rfl)
theorem dX2_layOpen_61 : decode cX2_layOpen 61 = .ok (.i2l, 1) := dk_133 (dk_at dksX2_layOpen_2 13 rfl rfl)
theorem dX2_layOpen_62 : decode cX2_layOpen 62 = .ok (.invokevirtual 162, 3) := dk_182 0 162 (dk_at dksX2_layOpen_2 14 rfl rfl)
theorem dX2_layOpen_65 : decode cX2_layOpen 65 = .ok (.ifCond .ne 7, 3) := dk_154 0 7 (dk_at dksX2_layOpen_2 17 rfl rfl)
theorem dX2_layOpen_68 : decode cX2_layOpen 68 = .ok (.iconst 1, 1) := dk_4 (dk_at dksX2_layOpen_2 20 rfl rfl)
theorem dX2_layOpen_69 : decode cX2_layOpen 69 = .ok (.goto 4, 3) := dk_167 0 4 (dk_at dksX2_layOpen_2 21 rfl rfl)
theorem dX2_layOpen_72 : decode cX2_layOpen 72 = .ok (.iconst 0, 1) := dk_3 (dk_at dksX2_layOpen_3 0 rfl rfl)
theorem dX2_layOpen_73 : decode cX2_layOpen 73 = .ok (.bastore, 1) := dk_84 (dk_at dksX2_layOpen_3 1 rfl rfl)
theorem dX2_layOpen_74 : decode cX2_layOpen 74 = .ok (.iinc 3 1, 3) := dk_132 3 1 (dk_at dksX2_layOpen_3 2 rfl rfl)
theorem dX2_layOpen_77 : decode cX2_layOpen 77 = .ok (.goto (-40), 3) := dk_167 255 216 (dk_at dksX2_layOpen_3 5 rfl rfl)
theorem dX2_layOpen_80 : decode cX2_layOpen 80 = .ok (.iinc 2 1, 3) := dk_132 2 1 (dk_at dksX2_layOpen_3 8 rfl rfl)
theorem dX2_layOpen_83 : decode cX2_layOpen 83 = .ok (.goto (-59), 3) := dk_167 255 197 (dk_at dksX2_layOpen_3 11 rfl rfl)
theorem dX2_layOpen_86 : decode cX2_layOpen 86 = .ok (.return_, 1) := dk_177 (dk_at dksX2_layOpen_3 14 rfl rfl)
abbrev cX2_meets : ByteArray := prog_17_method_76_code
def yX2_meets : MethodName := ⟨RX2, "meets", "(III)I"⟩
def dkwX2_meets_1 : List UInt8 := [184, 0, 68, 153, 0, 13, 42, 27, 28, 29, 182, 1, 31, 167, 0, 5, 18, 72, 172]
abbrev dktX2_meets_1 : List UInt8 := dkwX2_meets_1 ++ []
def dkwX2_meets_0 : List UInt8 := [42, 27, 182, 0, 193, 153, 0, 11, 42, 28, 182, 0, 193, 154, 0, 6, 18, 196, 172, 29, 5, 16, 10]
abbrev dktX2_meets_0 : List UInt8 := dkwX2_meets_0 ++ dktX2_meets_1
theorem dksX2_meets_0 : cX2_meets.data.toList.drop 0 = dktX2_meets_0 := by decide +kernel
theorem dksX2_meets_1 : cX2_meets.data.toList.drop 23 = dktX2_meets_1 := dk_seg dksX2_meets_0 23 rfl rfl
theorem dX2_meets_0 : decode cX2_meets 0 = .ok (.aload_n 0, 1) := dk_42 (dk_at dksX2_meets_0 0 rfl rfl)
theorem dX2_meets_1 : decode cX2_meets 1 = .ok (.iload_n 1, 1) := dk_27 (dk_at dksX2_meets_0 1 rfl rfl)
theorem dX2_meets_2 : decode cX2_meets 2 = .ok (.invokevirtual 193, 3) := dk_182 0 193 (dk_at dksX2_meets_0 2 rfl rfl)
theorem dX2_meets_5 : decode cX2_meets 5 = .ok (.ifCond .eq 11, 3) := dk_153 0 11 (dk_at dksX2_meets_0 5 rfl rfl)
theorem dX2_meets_8 : decode cX2_meets 8 = .ok (.aload_n 0, 1) := dk_42 (dk_at dksX2_meets_0 8 rfl rfl)
theorem dX2_meets_9 : decode cX2_meets 9 = .ok (.iload_n 2, 1) := dk_28 (dk_at dksX2_meets_0 9 rfl rfl)
theorem dX2_meets_10 : decode cX2_meets 10 = .ok (.invokevirtual 193, 3) := dk_182 0 193 (dk_at dksX2_meets_0 10 rfl rfl)
theorem dX2_meets_13 : decode cX2_meets 13 = .ok (.ifCond .ne 6, 3) := dk_154 0 6 (dk_at dksX2_meets_0 13 rfl rfl)
theorem dX2_meets_16 : decode cX2_meets 16 = .ok (.ldc 196, 2) := dk_18 196 (dk_at dksX2_meets_0 16 rfl rfl)
theorem dX2_meets_18 : decode cX2_meets 18 = .ok (.ireturn, 1) := dk_172 (dk_at dksX2_meets_0 18 rfl rfl)
theorem dX2_meets_19 : decode cX2_meets 19 = .ok (.iload_n 3, 1) := dk_29 (dk_at dksX2_meets_0 19 rfl rfl)
theorem dX2_meets_20 : decode cX2_meets 20 = .ok (.iconst 2, 1) := dk_5 (dk_at dksX2_meets_0 20 rfl rfl)
theorem dX2_meets_21 : decode cX2_meets 21 = .ok (.bipush 10, 2) := dk_16 10 (dk_at dksX2_meets_0 21 rfl rfl)
theorem dX2_meets_23 : decode cX2_meets 23 = .ok (.invokestatic 68, 3) := dk_184 0 68 (dk_at dksX2_meets_1 0 rfl rfl)
theorem dX2_meets_26 : decode cX2_meets 26 = .ok (.ifCond .eq 13, 3) := dk_153 0 13 (dk_at dksX2_meets_1 3 rfl rfl)
theorem dX2_meets_29 : decode cX2_meets 29 = .ok (.aload_n 0, 1) := dk_42 (dk_at dksX2_meets_1 6 rfl rfl)
theorem dX2_meets_30 : decode cX2_meets 30 = .ok (.iload_n 1, 1) := dk_27 (dk_at dksX2_meets_1 7 rfl rfl)
theorem dX2_meets_31 : decode cX2_meets 31 = .ok (.iload_n 2, 1) := dk_28 (dk_at dksX2_meets_1 8 rfl rfl)
theorem dX2_meets_32 : decode cX2_meets 32 = .ok (.iload_n 3, 1) := dk_29 (dk_at dksX2_meets_1 9 rfl rfl)
theorem dX2_meets_33 : decode cX2_meets 33 = .ok (.invokevirtual 287, 3) := dk_182 1 31 (dk_at dksX2_meets_1 10 rfl rfl)
theorem dX2_meets_36 : decode cX2_meets 36 = .ok (.goto 5, 3) := dk_167 0 5 (dk_at dksX2_meets_1 13 rfl rfl)
theorem dX2_meets_39 : decode cX2_meets 39 = .ok (.ldc 72, 2) := dk_18 72 (dk_at dksX2_meets_1 16 rfl rfl)
theorem dX2_meets_41 : decode cX2_meets 41 = .ok (.ireturn, 1) := dk_172 (dk_at dksX2_meets_1 18 rfl rfl)
abbrev cX2_meetsNow : ByteArray := prog_17_method_75_code
def yX2_meetsNow : MethodName := ⟨RX2, "meetsNow", "(III)I"⟩
def dkwX2_meetsNow_3 : List UInt8 := [18, 54, 172]
abbrev dktX2_meetsNow_3 : List UInt8 := dkwX2_meetsNow_3 ++ []
def dkwX2_meetsNow_2 : List UInt8 := [133, 182, 0, 162, 42, 28, 21, 5, 133, 182, 0, 162, 160, 0, 6, 21, 5, 172, 132, 5, 1, 167, 255, 224]
abbrev dktX2_meetsNow_2 : List UInt8 := dkwX2_meetsNow_2 ++ dktX2_meetsNow_3
def dkwX2_meetsNow_1 : List UInt8 := [42, 180, 0, 35, 28, 46, 104, 96, 54, 4, 3, 54, 5, 21, 5, 21, 4, 162, 0, 31, 42, 27, 21, 5]
abbrev dktX2_meetsNow_1 : List UInt8 := dkwX2_meetsNow_1 ++ dktX2_meetsNow_2
def dkwX2_meetsNow_0 : List UInt8 := [42, 29, 182, 0, 204, 42, 180, 0, 32, 27, 46, 42, 180, 0, 32, 28, 46, 96, 42, 180, 0, 35, 27, 46]
abbrev dktX2_meetsNow_0 : List UInt8 := dkwX2_meetsNow_0 ++ dktX2_meetsNow_1
theorem dksX2_meetsNow_0 : cX2_meetsNow.data.toList.drop 0 = dktX2_meetsNow_0 := by decide +kernel
theorem dksX2_meetsNow_1 : cX2_meetsNow.data.toList.drop 24 = dktX2_meetsNow_1 := dk_seg dksX2_meetsNow_0 24 rfl rfl
theorem dksX2_meetsNow_2 : cX2_meetsNow.data.toList.drop 48 = dktX2_meetsNow_2 := dk_seg dksX2_meetsNow_1 24 rfl rfl
theorem dksX2_meetsNow_3 : cX2_meetsNow.data.toList.drop 72 = dktX2_meetsNow_3 := dk_seg dksX2_meetsNow_2 24 rfl rfl
theorem dX2_meetsNow_0 : decode cX2_meetsNow 0 = .ok (.aload_n 0, 1) := dk_42 (dk_at dksX2_meetsNow_0 0 rfl rfl)
theorem dX2_meetsNow_1 : decode cX2_meetsNow 1 = .ok (.iload_n 3, 1) := dk_29 (dk_at dksX2_meetsNow_0 1 rfl rfl)
theorem dX2_meetsNow_2 : decode cX2_meetsNow 2 = .ok (.invokevirtual 204, 3) := dk_182 0 204 (dk_at dksX2_meetsNow_0 2 rfl rfl)
theorem dX2_meetsNow_5 : decode cX2_meetsNow 5 = .ok (.aload_n 0, 1) := dk_42 (dk_at dksX2_meetsNow_0 5 rfl rfl)
theorem dX2_meetsNow_6 : decode cX2_meetsNow 6 = .ok (.getfield 32, 3) := dk_180 0 32 (dk_at dksX2_meetsNow_0 6 rfl rfl)
theorem dX2_meetsNow_9 : decode cX2_meetsNow 9 = .ok (.iload_n 1, 1) := dk_27 (dk_at dksX2_meetsNow_0 9 rfl rfl)
theorem dX2_meetsNow_10 : decode cX2_meetsNow 10 = .ok (.iaload, 1) := dk_46 (dk_at dksX2_meetsNow_0 10 rfl rfl)
theorem dX2_meetsNow_11 : decode cX2_meetsNow 11 = .ok (.aload_n 0, 1) := dk_42 (dk_at dksX2_meetsNow_0 11 rfl rfl)
theorem dX2_meetsNow_12 : decode cX2_meetsNow 12 = .ok (.getfield 32, 3) := dk_180 0 32 (dk_at dksX2_meetsNow_0 12 rfl rfl)
theorem dX2_meetsNow_15 : decode cX2_meetsNow 15 = .ok (.iload_n 2, 1) := dk_28 (dk_at dksX2_meetsNow_0 15 rfl rfl)
theorem dX2_meetsNow_16 : decode cX2_meetsNow 16 = .ok (.iaload, 1) := dk_46 (dk_at dksX2_meetsNow_0 16 rfl rfl)
theorem dX2_meetsNow_17 : decode cX2_meetsNow 17 = .ok (.iadd, 1) := dk_96 (dk_at dksX2_meetsNow_0 17 rfl rfl)
theorem dX2_meetsNow_18 : decode cX2_meetsNow 18 = .ok (.aload_n 0, 1) := dk_42 (dk_at dksX2_meetsNow_0 18 rfl rfl)
theorem dX2_meetsNow_19 : decode cX2_meetsNow 19 = .ok (.getfield 35, 3) := dk_180 0 35 (dk_at dksX2_meetsNow_0 19 rfl rfl)
theorem dX2_meetsNow_22 : decode cX2_meetsNow 22 = .ok (.iload_n 1, 1) := dk_27 (dk_at dksX2_meetsNow_0 22 rfl rfl)
theorem dX2_meetsNow_23 : decode cX2_meetsNow 23 = .ok (.iaload, 1) := dk_46 (dk_at dksX2_meetsNow_0 23 rfl rfl)
theorem dX2_meetsNow_24 : decode cX2_meetsNow 24 = .ok (.aload_n 0, 1) := dk_42 (dk_at dksX2_meetsNow_1 0 rfl rfl)
theorem dX2_meetsNow_25 : decode cX2_meetsNow 25 = .ok (.getfield 35, 3) := dk_180 0 35 (dk_at dksX2_meetsNow_1 1 rfl rfl)
theorem dX2_meetsNow_28 : decode cX2_meetsNow 28 = .ok (.iload_n 2, 1) := dk_28 (dk_at dksX2_meetsNow_1 4 rfl rfl)
theorem dX2_meetsNow_29 : decode cX2_meetsNow 29 = .ok (.iaload, 1) := dk_46 (dk_at dksX2_meetsNow_1 5 rfl rfl)
theorem dX2_meetsNow_30 : decode cX2_meetsNow 30 = .ok (.imul, 1) := dk_104 (dk_at dksX2_meetsNow_1 6 rfl rfl)
theorem dX2_meetsNow_31 : decode cX2_meetsNow 31 = .ok (.iadd, 1) := dk_96 (dk_at dksX2_meetsNow_1 7 rfl rfl)
theorem dX2_meetsNow_32 : decode cX2_meetsNow 32 = .ok (.istore 4, 2) := dk_54 4 (dk_at dksX2_meetsNow_1 8 rfl rfl)
theorem dX2_meetsNow_34 : decode cX2_meetsNow 34 = .ok (.iconst 0, 1) := dk_3 (dk_at dksX2_meetsNow_1 10 rfl rfl)
theorem dX2_meetsNow_35 : decode cX2_meetsNow 35 = .ok (.istore 5, 2) := dk_54 5 (dk_at dksX2_meetsNow_1 11 rfl rfl)
theorem dX2_meetsNow_37 : decode cX2_meetsNow 37 = .ok (.iload 5, 2) := dk_21 5 (dk_at dksX2_meetsNow_1 13 rfl rfl)
theorem dX2_meetsNow_39 : decode cX2_meetsNow 39 = .ok (.iload 4, 2) := dk_21 4 (dk_at dksX2_meetsNow_1 15 rfl rfl)
theorem dX2_meetsNow_41 : decode cX2_meetsNow 41 = .ok (.if_icmp .ge 31, 3) := dk_162 0 31 (dk_at dksX2_meetsNow_1 17 rfl rfl)
theorem dX2_meetsNow_44 : decode cX2_meetsNow 44 = .ok (.aload_n 0, 1) := dk_42 (dk_at dksX2_meetsNow_1 20 rfl rfl)
theorem dX2_meetsNow_45 : decode cX2_meetsNow 45 = .ok (.iload_n 1, 1) := dk_27 (dk_at dksX2_meetsNow_1 21 rfl rfl)
theorem dX2_meetsNow_46 : decode cX2_meetsNow 46 = .ok (.iload 5, 2) := dk_21 5 (dk_at dksX2_meetsNow_1 22 rfl rfl)
theorem dX2_meetsNow_48 : decode cX2_meetsNow 48 = .ok (.i2l, 1) := dk_133 (dk_at dksX2_meetsNow_2 0 rfl rfl)
theorem dX2_meetsNow_49 : decode cX2_meetsNow 49 = .ok (.invokevirtual 162, 3) := dk_182 0 162 (dk_at dksX2_meetsNow_2 1 rfl rfl)
theorem dX2_meetsNow_52 : decode cX2_meetsNow 52 = .ok (.aload_n 0, 1) := dk_42 (dk_at dksX2_meetsNow_2 4 rfl rfl)
theorem dX2_meetsNow_53 : decode cX2_meetsNow 53 = .ok (.iload_n 2, 1) := dk_28 (dk_at dksX2_meetsNow_2 5 rfl rfl)
theorem dX2_meetsNow_54 : decode cX2_meetsNow 54 = .ok (.iload 5, 2) := dk_21 5 (dk_at dksX2_meetsNow_2 6 rfl rfl)
theorem dX2_meetsNow_56 : decode cX2_meetsNow 56 = .ok (.i2l, 1) := dk_133 (dk_at dksX2_meetsNow_2 8 rfl rfl)
theorem dX2_meetsNow_57 : decode cX2_meetsNow 57 = .ok (.invokevirtual 162, 3) := dk_182 0 162 (dk_at dksX2_meetsNow_2 9 rfl rfl)
theorem dX2_meetsNow_60 : decode cX2_meetsNow 60 = .ok (.if_icmp .ne 6, 3) := dk_160 0 6 (dk_at dksX2_meetsNow_2 12 rfl rfl)
theorem dX2_meetsNow_63 : decode cX2_meetsNow 63 = .ok (.iload 5, 2) := dk_21 5 (dk_at dksX2_meetsNow_2 15 rfl rfl)
theorem dX2_meetsNow_65 : decode cX2_meetsNow 65 = .ok (.ireturn, 1) := dk_172 (dk_at dksX2_meetsNow_2 17 rfl rfl)
theorem dX2_meetsNow_66 : decode cX2_meetsNow 66 = .ok (.iinc 5 1, 3) := dk_132 5 1 (dk_at dksX2_meetsNow_2 18 rfl rfl)
theorem dX2_meetsNow_69 : decode cX2_meetsNow 69 = .ok (.goto (-32), 3) := dk_167 255 224 (dk_at dksX2_meetsNow_2 21 rfl rfl)
theorem dX2_meetsNow_72 : decode cX2_meetsNow 72 = .ok (.ldc 54, 2) := dk_18 54 (dk_at dksX2_meetsNow_3 0 rfl rfl)
theorem dX2_meetsNow_74 : decode cX2_meetsNow 74 = .ok (.ireturn, 1) := dk_172 (dk_at dksX2_meetsNow_3 2 rfl rfl)
abbrev cX2_told : ByteArray := prog_17_method_81_code
def yX2_told : MethodName := ⟨RX2, "told", "(IIII)I"⟩
def dkwX2_told_1 : List UInt8 := [184, 1, 41, 153, 0, 16, 42, 3, 27, 28, 29, 21, 4, 182, 1, 44, 167, 0, 5, 18, 72, 172]
abbrev dktX2_told_1 : List UInt8 := dkwX2_told_1 ++ []
def dkwX2_told_0 : List UInt8 := [27, 184, 1, 38, 153, 0, 38, 28, 184, 1, 38, 153, 0, 31, 29, 184, 1, 41, 153, 0, 24, 21, 4]
abbrev dktX2_told_0 : List UInt8 := dkwX2_told_0 ++ dktX2_told_1
theorem dksX2_told_0 : cX2_told.data.toList.drop 0 = dktX2_told_0 := by decide +kernel
theorem dksX2_told_1 : cX2_told.data.toList.drop 23 = dktX2_told_1 := dk_seg dksX2_told_0 23 rfl rfl
theorem dX2_told_0 : decode cX2_told 0 = .ok (.iload_n 1, 1) := dk_27 (dk_at dksX2_told_0 0 rfl rfl)
theorem dX2_told_1 : decode cX2_told 1 = .ok (.invokestatic 294, 3) := dk_184 1 38 (dk_at dksX2_told_0 1 rfl rfl)
theorem dX2_told_4 : decode cX2_told 4 = .ok (.ifCond .eq 38, 3) := dk_153 0 38 (dk_at dksX2_told_0 4 rfl rfl)
theorem dX2_told_7 : decode cX2_told 7 = .ok (.iload_n 2, 1) := dk_28 (dk_at dksX2_told_0 7 rfl rfl)
theorem dX2_told_8 : decode cX2_told 8 = .ok (.invokestatic 294, 3) := dk_184 1 38 (dk_at dksX2_told_0 8 rfl rfl)
theorem dX2_told_11 : decode cX2_told 11 = .ok (.ifCond .eq 31, 3) := dk_153 0 31 (dk_at dksX2_told_0 11 rfl rfl)
theorem dX2_told_14 : decode cX2_told 14 = .ok (.iload_n 3, 1) := dk_29 (dk_at dksX2_told_0 14 rfl rfl)
theorem dX2_told_15 : decode cX2_told 15 = .ok (.invokestatic 297, 3) := dk_184 1 41 (dk_at dksX2_told_0 15 rfl rfl)
theorem dX2_told_18 : decode cX2_told 18 = .ok (.ifCond .eq 24, 3) := dk_153 0 24 (dk_at dksX2_told_0 18 rfl rfl)
theorem dX2_told_21 : decode cX2_told 21 = .ok (.iload 4, 2) := dk_21 4 (dk_at dksX2_told_0 21 rfl rfl)
theorem dX2_told_23 : decode cX2_told 23 = .ok (.invokestatic 297, 3) := dk_184 1 41 (dk_at dksX2_told_1 0 rfl rfl)
theorem dX2_told_26 : decode cX2_told 26 = .ok (.ifCond .eq 16, 3) := dk_153 0 16 (dk_at dksX2_told_1 3 rfl rfl)
theorem dX2_told_29 : decode cX2_told 29 = .ok (.aload_n 0, 1) := dk_42 (dk_at dksX2_told_1 6 rfl rfl)
theorem dX2_told_30 : decode cX2_told 30 = .ok (.iconst 0, 1) := dk_3 (dk_at dksX2_told_1 7 rfl rfl)
theorem dX2_told_31 : decode cX2_told 31 = .ok (.iload_n 1, 1) := dk_27 (dk_at dksX2_told_1 8 rfl rfl)
theorem dX2_told_32 : decode cX2_told 32 = .ok (.iload_n 2, 1) := dk_28 (dk_at dksX2_told_1 9 rfl rfl)
theorem dX2_told_33 : decode cX2_told 33 = .ok (.iload_n 3, 1) := dk_29 (dk_at dksX2_told_1 10 rfl rfl)
theorem dX2_told_34 : decode cX2_told 34 = .ok (.iload 4, 2) := dk_21 4 (dk_at dksX2_told_1 11 rfl rfl)
theorem dX2_told_36 : decode cX2_told 36 = .ok (.invokevirtual 300, 3) := dk_182 1 44 (dk_at dksX2_told_1 13 rfl rfl)
theorem dX2_told_39 : decode cX2_told 39 = .ok (.goto 5, 3) := dk_167 0 5 (dk_at dksX2_told_1 16 rfl rfl)
theorem dX2_told_42 : decode cX2_told 42 = .ok (.ldc 72, 2) := dk_18 72 (dk_at dksX2_told_1 19 rfl rfl)
theorem dX2_told_44 : decode cX2_told 44 = .ok (.ireturn, 1) := dk_172 (dk_at dksX2_told_1 21 rfl rfl)
abbrev cX2_isFew : ByteArray := prog_17_method_79_code
def yX2_isFew : MethodName := ⟨RX2, "isFew", "(I)Z"⟩
def dkwX2_isFew_0 : List UInt8 := [26, 16, 247, 16, 9, 184, 0, 68, 172]
abbrev dktX2_isFew_0 : List UInt8 := dkwX2_isFew_0 ++ []
theorem dksX2_isFew_0 : cX2_isFew.data.toList.drop 0 = dktX2_isFew_0 := by decide +kernel
theorem dX2_isFew_0 : decode cX2_isFew 0 = .ok (.iload_n 0, 1) := dk_26 (dk_at dksX2_isFew_0 0 rfl rfl)
theorem dX2_isFew_1 : decode cX2_isFew 1 = .ok (.bipush (-9), 2) := dk_16 247 (dk_at dksX2_isFew_0 1 rfl rfl)
theorem dX2_isFew_3 : decode cX2_isFew 3 = .ok (.bipush 9, 2) := dk_16 9 (dk_at dksX2_isFew_0 3 rfl rfl)
theorem dX2_isFew_5 : decode cX2_isFew 5 = .ok (.invokestatic 68, 3) := dk_184 0 68 (dk_at dksX2_isFew_0 5 rfl rfl)
theorem dX2_isFew_8 : decode cX2_isFew 8 = .ok (.ireturn, 1) := dk_172 (dk_at dksX2_isFew_0 8 rfl rfl)
abbrev cX2_isMany : ByteArray := prog_17_method_80_code
def yX2_isMany : MethodName := ⟨RX2, "isMany", "(I)Z"⟩
def dkwX2_isMany_0 : List UInt8 := [26, 17, 252, 25, 17, 3, 231, 184, 0, 68, 172]
abbrev dktX2_isMany_0 : List UInt8 := dkwX2_isMany_0 ++ []
theorem dksX2_isMany_0 : cX2_isMany.data.toList.drop 0 = dktX2_isMany_0 := by decide +kernel
theorem dX2_isMany_0 : decode cX2_isMany 0 = .ok (.iload_n 0, 1) := dk_26 (dk_at dksX2_isMany_0 0 rfl rfl)
theorem dX2_isMany_1 : decode cX2_isMany 1 = .ok (.sipush (-999), 3) := dk_17 252 25 (dk_at dksX2_isMany_0 1 rfl rfl)
theorem dX2_isMany_4 : decode cX2_isMany 4 = .ok (.sipush 999, 3) := dk_17 3 231 (dk_at dksX2_isMany_0 4 rfl rfl)
theorem dX2_isMany_7 : decode cX2_isMany 7 = .ok (.invokestatic 68, 3) := dk_184 0 68 (dk_at dksX2_isMany_0 7 rfl rfl)
theorem dX2_isMany_10 : decode cX2_isMany 10 = .ok (.ireturn, 1) := dk_172 (dk_at dksX2_isMany_0 10 rfl rfl)
abbrev cX2_comes : ByteArray := prog_17_method_78_code
def yX2_comes : MethodName := ⟨RX2, "comes", "(IIIII)I"⟩
def dkwX2_comes_1 : List UInt8 := [182, 1, 34, 42, 89, 180, 0, 116, 4, 96, 181, 0, 116, 42, 180, 0, 116, 4, 100, 172]
abbrev dktX2_comes_1 : List UInt8 := dkwX2_comes_1 ++ []
def dkwX2_comes_0 : List UInt8 := [42, 180, 0, 116, 16, 8, 160, 0, 6, 18, 76, 172, 42, 42, 180, 0, 116, 27, 28, 29, 21, 4, 21, 5]
abbrev dktX2_comes_0 : List UInt8 := dkwX2_comes_0 ++ dktX2_comes_1
theorem dksX2_comes_0 : cX2_comes.data.toList.drop 0 = dktX2_comes_0 := by decide +kernel
theorem dksX2_comes_1 : cX2_comes.data.toList.drop 24 = dktX2_comes_1 := dk_seg dksX2_comes_0 24 rfl rfl
theorem dX2_comes_0 : decode cX2_comes 0 = .ok (.aload_n 0, 1) := dk_42 (dk_at dksX2_comes_0 0 rfl rfl)
theorem dX2_comes_1 : decode cX2_comes 1 = .ok (.getfield 116, 3) := dk_180 0 116 (dk_at dksX2_comes_0 1 rfl rfl)
theorem dX2_comes_4 : decode cX2_comes 4 = .ok (.bipush 8, 2) := dk_16 8 (dk_at dksX2_comes_0 4 rfl rfl)
theorem dX2_comes_6 : decode cX2_comes 6 = .ok (.if_icmp .ne 6, 3) := dk_160 0 6 (dk_at dksX2_comes_0 6 rfl rfl)
theorem dX2_comes_9 : decode cX2_comes 9 = .ok (.ldc 76, 2) := dk_18 76 (dk_at dksX2_comes_0 9 rfl rfl)
theorem dX2_comes_11 : decode cX2_comes 11 = .ok (.ireturn, 1) := dk_172 (dk_at dksX2_comes_0 11 rfl rfl)
theorem dX2_comes_12 : decode cX2_comes 12 = .ok (.aload_n 0, 1) := dk_42 (dk_at dksX2_comes_0 12 rfl rfl)
theorem dX2_comes_13 : decode cX2_comes 13 = .ok (.aload_n 0, 1) := dk_42 (dk_at dksX2_comes_0 13 rfl rfl)
theorem dX2_comes_14 : decode cX2_comes 14 = .ok (.getfield 116, 3) := dk_180 0 116 (dk_at dksX2_comes_0 14 rfl rfl)
theorem dX2_comes_17 : decode cX2_comes 17 = .ok (.iload_n 1, 1) := dk_27 (dk_at dksX2_comes_0 17 rfl rfl)
theorem dX2_comes_18 : decode cX2_comes 18 = .ok (.iload_n 2, 1) := dk_28 (dk_at dksX2_comes_0 18 rfl rfl)
theorem dX2_comes_19 : decode cX2_comes 19 = .ok (.iload_n 3, 1) := dk_29 (dk_at dksX2_comes_0 19 rfl rfl)
theorem dX2_comes_20 : decode cX2_comes 20 = .ok (.iload 4, 2) := dk_21 4 (dk_at dksX2_comes_0 20 rfl rfl)
theorem dX2_comes_22 : decode cX2_comes 22 = .ok (.iload 5, 2) := dk_21 5 (dk_at dksX2_comes_0 22 rfl rfl)
theorem dX2_comes_24 : decode cX2_comes 24 = .ok (.invokevirtual 290, 3) := dk_182 1 34 (dk_at dksX2_comes_1 0 rfl rfl)
theorem dX2_comes_27 : decode cX2_comes 27 = .ok (.aload_n 0, 1) := dk_42 (dk_at dksX2_comes_1 3 rfl rfl)
theorem dX2_comes_28 : decode cX2_comes 28 = .ok (.dup, 1) := dk_89 (dk_at dksX2_comes_1 4 rfl rfl)
theorem dX2_comes_29 : decode cX2_comes 29 = .ok (.getfield 116, 3) := dk_180 0 116 (dk_at dksX2_comes_1 5 rfl rfl)
theorem dX2_comes_32 : decode cX2_comes 32 = .ok (.iconst 1, 1) := dk_4 (dk_at dksX2_comes_1 8 rfl rfl)
theorem dX2_comes_33 : decode cX2_comes 33 = .ok (.iadd, 1) := dk_96 (dk_at dksX2_comes_1 9 rfl rfl)
theorem dX2_comes_34 : decode cX2_comes 34 = .ok (.putfield 116, 3) := dk_181 0 116 (dk_at dksX2_comes_1 10 rfl rfl)
theorem dX2_comes_37 : decode cX2_comes 37 = .ok (.aload_n 0, 1) := dk_42 (dk_at dksX2_comes_1 13 rfl rfl)
theorem dX2_comes_38 : decode cX2_comes 38 = .ok (.getfield 116, 3) := dk_180 0 116 (dk_at dksX2_comes_1 14 rfl rfl)
theorem dX2_comes_41 : decode cX2_comes 41 = .ok (.iconst 1, 1) := dk_4 (dk_at dksX2_comes_1 17 rfl rfl)
theorem dX2_comes_42 : decode cX2_comes 42 = .ok (.isub, 1) := dk_100 (dk_at dksX2_comes_1 18 rfl rfl)
theorem dX2_comes_43 : decode cX2_comes 43 = .ok (.ireturn, 1) := dk_172 (dk_at dksX2_comes_1 19 rfl rfl)
abbrev cX2_lay : ByteArray := prog_17_method_77_code
def yX2_lay : MethodName := ⟨RX2, "lay", "(IIIIII)V"⟩
def dkwX2_lay_2 : List UInt8 := [96, 21, 6, 79, 42, 182, 0, 122, 177]
abbrev dktX2_lay_2 : List UInt8 := dkwX2_lay_2 ++ []
def dkwX2_lay_1 : List UInt8 := [96, 21, 4, 79, 42, 180, 0, 13, 7, 27, 104, 5, 96, 21, 5, 79, 42, 180, 0, 13, 7, 27, 104, 6]
abbrev dktX2_lay_1 : List UInt8 := dkwX2_lay_1 ++ dktX2_lay_2
def dkwX2_lay_0 : List UInt8 := [42, 180, 0, 7, 27, 28, 79, 42, 180, 0, 13, 7, 27, 104, 29, 79, 42, 180, 0, 13, 7, 27, 104, 4]
abbrev dktX2_lay_0 : List UInt8 := dkwX2_lay_0 ++ dktX2_lay_1
theorem dksX2_lay_0 : cX2_lay.data.toList.drop 0 = dktX2_lay_0 := by decide +kernel
theorem dksX2_lay_1 : cX2_lay.data.toList.drop 24 = dktX2_lay_1 := dk_seg dksX2_lay_0 24 rfl rfl
theorem dksX2_lay_2 : cX2_lay.data.toList.drop 48 = dktX2_lay_2 := dk_seg dksX2_lay_1 24 rfl rfl
theorem dX2_lay_0 : decode cX2_lay 0 = .ok (.aload_n 0, 1) := dk_42 (dk_at dksX2_lay_0 0 rfl rfl)
theorem dX2_lay_1 : decode cX2_lay 1 = .ok (.getfield 7, 3) := dk_180 0 7 (dk_at dksX2_lay_0 1 rfl rfl)
theorem dX2_lay_4 : decode cX2_lay 4 = .ok (.iload_n 1, 1) := dk_27 (dk_at dksX2_lay_0 4 rfl rfl)
theorem dX2_lay_5 : decode cX2_lay 5 = .ok (.iload_n 2, 1) := dk_28 (dk_at dksX2_lay_0 5 rfl rfl)
theorem dX2_lay_6 : decode cX2_lay 6 = .ok (.iastore, 1) := dk_79 (dk_at dksX2_lay_0 6 rfl rfl)
theorem dX2_lay_7 : decode cX2_lay 7 = .ok (.aload_n 0, 1) := dk_42 (dk_at dksX2_lay_0 7 rfl rfl)
theorem dX2_lay_8 : decode cX2_lay 8 = .ok (.getfield 13, 3) := dk_180 0 13 (dk_at dksX2_lay_0 8 rfl rfl)
theorem dX2_lay_11 : decode cX2_lay 11 = .ok (.iconst 4, 1) := dk_7 (dk_at dksX2_lay_0 11 rfl rfl)
theorem dX2_lay_12 : decode cX2_lay 12 = .ok (.iload_n 1, 1) := dk_27 (dk_at dksX2_lay_0 12 rfl rfl)
theorem dX2_lay_13 : decode cX2_lay 13 = .ok (.imul, 1) := dk_104 (dk_at dksX2_lay_0 13 rfl rfl)
theorem dX2_lay_14 : decode cX2_lay 14 = .ok (.iload_n 3, 1) := dk_29 (dk_at dksX2_lay_0 14 rfl rfl)
theorem dX2_lay_15 : decode cX2_lay 15 = .ok (.iastore, 1) := dk_79 (dk_at dksX2_lay_0 15 rfl rfl)
theorem dX2_lay_16 : decode cX2_lay 16 = .ok (.aload_n 0, 1) := dk_42 (dk_at dksX2_lay_0 16 rfl rfl)
theorem dX2_lay_17 : decode cX2_lay 17 = .ok (.getfield 13, 3) := dk_180 0 13 (dk_at dksX2_lay_0 17 rfl rfl)
theorem dX2_lay_20 : decode cX2_lay 20 = .ok (.iconst 4, 1) := dk_7 (dk_at dksX2_lay_0 20 rfl rfl)
theorem dX2_lay_21 : decode cX2_lay 21 = .ok (.iload_n 1, 1) := dk_27 (dk_at dksX2_lay_0 21 rfl rfl)
theorem dX2_lay_22 : decode cX2_lay 22 = .ok (.imul, 1) := dk_104 (dk_at dksX2_lay_0 22 rfl rfl)
theorem dX2_lay_23 : decode cX2_lay 23 = .ok (.iconst 1, 1) := dk_4 (dk_at dksX2_lay_0 23 rfl rfl)
theorem dX2_lay_24 : decode cX2_lay 24 = .ok (.iadd, 1) := dk_96 (dk_at dksX2_lay_1 0 rfl rfl)
theorem dX2_lay_25 : decode cX2_lay 25 = .ok (.iload 4, 2) := dk_21 4 (dk_at dksX2_lay_1 1 rfl rfl)
theorem dX2_lay_27 : decode cX2_lay 27 = .ok (.iastore, 1) := dk_79 (dk_at dksX2_lay_1 3 rfl rfl)
theorem dX2_lay_28 : decode cX2_lay 28 = .ok (.aload_n 0, 1) := dk_42 (dk_at dksX2_lay_1 4 rfl rfl)
theorem dX2_lay_29 : decode cX2_lay 29 = .ok (.getfield 13, 3) := dk_180 0 13 (dk_at dksX2_lay_1 5 rfl rfl)
theorem dX2_lay_32 : decode cX2_lay 32 = .ok (.iconst 4, 1) := dk_7 (dk_at dksX2_lay_1 8 rfl rfl)
theorem dX2_lay_33 : decode cX2_lay 33 = .ok (.iload_n 1, 1) := dk_27 (dk_at dksX2_lay_1 9 rfl rfl)
theorem dX2_lay_34 : decode cX2_lay 34 = .ok (.imul, 1) := dk_104 (dk_at dksX2_lay_1 10 rfl rfl)
theorem dX2_lay_35 : decode cX2_lay 35 = .ok (.iconst 2, 1) := dk_5 (dk_at dksX2_lay_1 11 rfl rfl)
theorem dX2_lay_36 : decode cX2_lay 36 = .ok (.iadd, 1) := dk_96 (dk_at dksX2_lay_1 12 rfl rfl)
theorem dX2_lay_37 : decode cX2_lay 37 = .ok (.iload 5, 2) := dk_21 5 (dk_at dksX2_lay_1 13 rfl rfl)
theorem dX2_lay_39 : decode cX2_lay 39 = .ok (.iastore, 1) := dk_79 (dk_at dksX2_lay_1 15 rfl rfl)
theorem dX2_lay_40 : decode cX2_lay 40 = .ok (.aload_n 0, 1) := dk_42 (dk_at dksX2_lay_1 16 rfl rfl)
theorem dX2_lay_41 : decode cX2_lay 41 = .ok (.getfield 13, 3) := dk_180 0 13 (dk_at dksX2_lay_1 17 rfl rfl)
theorem dX2_lay_44 : decode cX2_lay 44 = .ok (.iconst 4, 1) := dk_7 (dk_at dksX2_lay_1 20 rfl rfl)
theorem dX2_lay_45 : decode cX2_lay 45 = .ok (.iload_n 1, 1) := dk_27 (dk_at dksX2_lay_1 21 rfl rfl)
theorem dX2_lay_46 : decode cX2_lay 46 = .ok (.imul, 1) := dk_104 (dk_at dksX2_lay_1 22 rfl rfl)
theorem dX2_lay_47 : decode cX2_lay 47 = .ok (.iconst 3, 1) := dk_6 (dk_at dksX2_lay_1 23 rfl rfl)
theorem dX2_lay_48 : decode cX2_lay 48 = .ok (.iadd, 1) := dk_96 (dk_at dksX2_lay_2 0 rfl rfl)
theorem dX2_lay_49 : decode cX2_lay 49 = .ok (.iload 6, 2) := dk_21 6 (dk_at dksX2_lay_2 1 rfl rfl)
theorem dX2_lay_51 : decode cX2_lay 51 = .ok (.iastore, 1) := dk_79 (dk_at dksX2_lay_2 3 rfl rfl)
theorem dX2_lay_52 : decode cX2_lay 52 = .ok (.aload_n 0, 1) := dk_42 (dk_at dksX2_lay_2 4 rfl rfl)
theorem dX2_lay_53 : decode cX2_lay 53 = .ok (.invokevirtual 122, 3) := dk_182 0 122 (dk_at dksX2_lay_2 5 rfl rfl)
theorem dX2_lay_56 : decode cX2_lay 56 = .ok (.return_, 1) := dk_177 (dk_at dksX2_lay_2 8 rfl rfl)
abbrev cX2_sum : ByteArray := prog_17_method_82_code
def yX2_sum : MethodName := ⟨RX2, "sum", "(II)I"⟩
def dkwX2_sum_1 : List UInt8 := [182, 1, 44, 167, 0, 5, 18, 196, 172]
abbrev dktX2_sum_1 : List UInt8 := dkwX2_sum_1 ++ []
def dkwX2_sum_0 : List UInt8 := [42, 27, 182, 0, 193, 153, 0, 25, 42, 28, 182, 0, 193, 153, 0, 17, 42, 4, 27, 28, 18, 54, 18, 54]
abbrev dktX2_sum_0 : List UInt8 := dkwX2_sum_0 ++ dktX2_sum_1
theorem dksX2_sum_0 : cX2_sum.data.toList.drop 0 = dktX2_sum_0 := by decide +kernel
theorem dksX2_sum_1 : cX2_sum.data.toList.drop 24 = dktX2_sum_1 := dk_seg dksX2_sum_0 24 rfl rfl
theorem dX2_sum_0 : decode cX2_sum 0 = .ok (.aload_n 0, 1) := dk_42 (dk_at dksX2_sum_0 0 rfl rfl)
theorem dX2_sum_1 : decode cX2_sum 1 = .ok (.iload_n 1, 1) := dk_27 (dk_at dksX2_sum_0 1 rfl rfl)
theorem dX2_sum_2 : decode cX2_sum 2 = .ok (.invokevirtual 193, 3) := dk_182 0 193 (dk_at dksX2_sum_0 2 rfl rfl)
theorem dX2_sum_5 : decode cX2_sum 5 = .ok (.ifCond .eq 25, 3) := dk_153 0 25 (dk_at dksX2_sum_0 5 rfl rfl)
theorem dX2_sum_8 : decode cX2_sum 8 = .ok (.aload_n 0, 1) := dk_42 (dk_at dksX2_sum_0 8 rfl rfl)
theorem dX2_sum_9 : decode cX2_sum 9 = .ok (.iload_n 2, 1) := dk_28 (dk_at dksX2_sum_0 9 rfl rfl)
theorem dX2_sum_10 : decode cX2_sum 10 = .ok (.invokevirtual 193, 3) := dk_182 0 193 (dk_at dksX2_sum_0 10 rfl rfl)
theorem dX2_sum_13 : decode cX2_sum 13 = .ok (.ifCond .eq 17, 3) := dk_153 0 17 (dk_at dksX2_sum_0 13 rfl rfl)
theorem dX2_sum_16 : decode cX2_sum 16 = .ok (.aload_n 0, 1) := dk_42 (dk_at dksX2_sum_0 16 rfl rfl)
theorem dX2_sum_17 : decode cX2_sum 17 = .ok (.iconst 1, 1) := dk_4 (dk_at dksX2_sum_0 17 rfl rfl)
theorem dX2_sum_18 : decode cX2_sum 18 = .ok (.iload_n 1, 1) := dk_27 (dk_at dksX2_sum_0 18 rfl rfl)
theorem dX2_sum_19 : decode cX2_sum 19 = .ok (.iload_n 2, 1) := dk_28 (dk_at dksX2_sum_0 19 rfl rfl)
theorem dX2_sum_20 : decode cX2_sum 20 = .ok (.ldc 54, 2) := dk_18 54 (dk_at dksX2_sum_0 20 rfl rfl)
theorem dX2_sum_22 : decode cX2_sum 22 = .ok (.ldc 54, 2) := dk_18 54 (dk_at dksX2_sum_0 22 rfl rfl)
theorem dX2_sum_24 : decode cX2_sum 24 = .ok (.invokevirtual 300, 3) := dk_182 1 44 (dk_at dksX2_sum_1 0 rfl rfl)
theorem dX2_sum_27 : decode cX2_sum 27 = .ok (.goto 5, 3) := dk_167 0 5 (dk_at dksX2_sum_1 3 rfl rfl)
theorem dX2_sum_30 : decode cX2_sum 30 = .ok (.ldc 196, 2) := dk_18 196 (dk_at dksX2_sum_1 6 rfl rfl)
theorem dX2_sum_32 : decode cX2_sum 32 = .ok (.ireturn, 1) := dk_172 (dk_at dksX2_sum_1 8 rfl rfl)
abbrev cX2_product : ByteArray := prog_17_method_83_code
def yX2_product : MethodName := ⟨RX2, "product", "(II)I"⟩
def dkwX2_product_1 : List UInt8 := [182, 1, 44, 167, 0, 5, 18, 196, 172]
abbrev dktX2_product_1 : List UInt8 := dkwX2_product_1 ++ []
def dkwX2_product_0 : List UInt8 := [42, 27, 182, 0, 193, 153, 0, 25, 42, 28, 182, 0, 193, 153, 0, 17, 42, 5, 27, 28, 18, 54, 18, 54]
abbrev dktX2_product_0 : List UInt8 := dkwX2_product_0 ++ dktX2_product_1
theorem dksX2_product_0 : cX2_product.data.toList.drop 0 = dktX2_product_0 := by decide +kernel
theorem dksX2_product_1 : cX2_product.data.toList.drop 24 = dktX2_product_1 := dk_seg dksX2_product_0 24 rfl rfl
theorem dX2_product_0 : decode cX2_product 0 = .ok (.aload_n 0, 1) := dk_42 (dk_at dksX2_product_0 0 rfl rfl)
theorem dX2_product_1 : decode cX2_product 1 = .ok (.iload_n 1, 1) := dk_27 (dk_at dksX2_product_0 1 rfl rfl)
theorem dX2_product_2 : decode cX2_product 2 = .ok (.invokevirtual 193, 3) := dk_182 0 193 (dk_at dksX2_product_0 2 rfl rfl)
theorem dX2_product_5 : decode cX2_product 5 = .ok (.ifCond .eq 25, 3) := dk_153 0 25 (dk_at dksX2_product_0 5 rfl rfl)
theorem dX2_product_8 : decode cX2_product 8 = .ok (.aload_n 0, 1) := dk_42 (dk_at dksX2_product_0 8 rfl rfl)
theorem dX2_product_9 : decode cX2_product 9 = .ok (.iload_n 2, 1) := dk_28 (dk_at dksX2_product_0 9 rfl rfl)
theorem dX2_product_10 : decode cX2_product 10 = .ok (.invokevirtual 193, 3) := dk_182 0 193 (dk_at dksX2_product_0 10 rfl rfl)
theorem dX2_product_13 : decode cX2_product 13 = .ok (.ifCond .eq 17, 3) := dk_153 0 17 (dk_at dksX2_product_0 13 rfl rfl)
theorem dX2_product_16 : decode cX2_product 16 = .ok (.aload_n 0, 1) := dk_42 (dk_at dksX2_product_0 16 rfl rfl)
theorem dX2_product_17 : decode cX2_product 17 = .ok (.iconst 2, 1) := dk_5 (dk_at dksX2_product_0 17 rfl rfl)
theorem dX2_product_18 : decode cX2_product 18 = .ok (.iload_n 1, 1) := dk_27 (dk_at dksX2_product_0 18 rfl rfl)
theorem dX2_product_19 : decode cX2_product 19 = .ok (.iload_n 2, 1) := dk_28 (dk_at dksX2_product_0 19 rfl rfl)
theorem dX2_product_20 : decode cX2_product 20 = .ok (.ldc 54, 2) := dk_18 54 (dk_at dksX2_product_0 20 rfl rfl)
theorem dX2_product_22 : decode cX2_product 22 = .ok (.ldc 54, 2) := dk_18 54 (dk_at dksX2_product_0 22 rfl rfl)
theorem dX2_product_24 : decode cX2_product 24 = .ok (.invokevirtual 300, 3) := dk_182 1 44 (dk_at dksX2_product_1 0 rfl rfl)
theorem dX2_product_27 : decode cX2_product 27 = .ok (.goto 5, 3) := dk_167 0 5 (dk_at dksX2_product_1 3 rfl rfl)
theorem dX2_product_30 : decode cX2_product 30 = .ok (.ldc 196, 2) := dk_18 196 (dk_at dksX2_product_1 6 rfl rfl)
theorem dX2_product_32 : decode cX2_product 32 = .ok (.ireturn, 1) := dk_172 (dk_at dksX2_product_1 8 rfl rfl)
abbrev cX2_each : ByteArray := prog_17_method_84_code
def yX2_each : MethodName := ⟨RX2, "each", "(III)I"⟩
def dkwX2_each_1 : List UInt8 := [184, 0, 68, 153, 0, 16, 42, 6, 27, 28, 29, 18, 54, 182, 1, 44, 167, 0, 5, 18, 72, 172]
abbrev dktX2_each_1 : List UInt8 := dkwX2_each_1 ++ []
def dkwX2_each_0 : List UInt8 := [42, 27, 182, 0, 193, 154, 0, 6, 18, 196, 172, 28, 4, 8, 184, 0, 68, 153, 0, 26, 29, 3, 16, 9]
abbrev dktX2_each_0 : List UInt8 := dkwX2_each_0 ++ dktX2_each_1
theorem dksX2_each_0 : cX2_each.data.toList.drop 0 = dktX2_each_0 := by decide +kernel
theorem dksX2_each_1 : cX2_each.data.toList.drop 24 = dktX2_each_1 := dk_seg dksX2_each_0 24 rfl rfl
theorem dX2_each_0 : decode cX2_each 0 = .ok (.aload_n 0, 1) := dk_42 (dk_at dksX2_each_0 0 rfl rfl)
theorem dX2_each_1 : decode cX2_each 1 = .ok (.iload_n 1, 1) := dk_27 (dk_at dksX2_each_0 1 rfl rfl)
theorem dX2_each_2 : decode cX2_each 2 = .ok (.invokevirtual 193, 3) := dk_182 0 193 (dk_at dksX2_each_0 2 rfl rfl)
theorem dX2_each_5 : decode cX2_each 5 = .ok (.ifCond .ne 6, 3) := dk_154 0 6 (dk_at dksX2_each_0 5 rfl rfl)
theorem dX2_each_8 : decode cX2_each 8 = .ok (.ldc 196, 2) := dk_18 196 (dk_at dksX2_each_0 8 rfl rfl)
theorem dX2_each_10 : decode cX2_each 10 = .ok (.ireturn, 1) := dk_172 (dk_at dksX2_each_0 10 rfl rfl)
theorem dX2_each_11 : decode cX2_each 11 = .ok (.iload_n 2, 1) := dk_28 (dk_at dksX2_each_0 11 rfl rfl)
theorem dX2_each_12 : decode cX2_each 12 = .ok (.iconst 1, 1) := dk_4 (dk_at dksX2_each_0 12 rfl rfl)
theorem dX2_each_13 : decode cX2_each 13 = .ok (.iconst 5, 1) := dk_8 (dk_at dksX2_each_0 13 rfl rfl)
theorem dX2_each_14 : decode cX2_each 14 = .ok (.invokestatic 68, 3) := dk_184 0 68 (dk_at dksX2_each_0 14 rfl rfl)
theorem dX2_each_17 : decode cX2_each 17 = .ok (.ifCond .eq 26, 3) := dk_153 0 26 (dk_at dksX2_each_0 17 rfl rfl)
theorem dX2_each_20 : decode cX2_each 20 = .ok (.iload_n 3, 1) := dk_29 (dk_at dksX2_each_0 20 rfl rfl)
theorem dX2_each_21 : decode cX2_each 21 = .ok (.iconst 0, 1) := dk_3 (dk_at dksX2_each_0 21 rfl rfl)
theorem dX2_each_22 : decode cX2_each 22 = .ok (.bipush 9, 2) := dk_16 9 (dk_at dksX2_each_0 22 rfl rfl)
theorem dX2_each_24 : decode cX2_each 24 = .ok (.invokestatic 68, 3) := dk_184 0 68 (dk_at dksX2_each_1 0 rfl rfl)
theorem dX2_each_27 : decode cX2_each 27 = .ok (.ifCond .eq 16, 3) := dk_153 0 16 (dk_at dksX2_each_1 3 rfl rfl)
theorem dX2_each_30 : decode cX2_each 30 = .ok (.aload_n 0, 1) := dk_42 (dk_at dksX2_each_1 6 rfl rfl)
theorem dX2_each_31 : decode cX2_each 31 = .ok (.iconst 3, 1) := dk_6 (dk_at dksX2_each_1 7 rfl rfl)
theorem dX2_each_32 : decode cX2_each 32 = .ok (.iload_n 1, 1) := dk_27 (dk_at dksX2_each_1 8 rfl rfl)
theorem dX2_each_33 : decode cX2_each 33 = .ok (.iload_n 2, 1) := dk_28 (dk_at dksX2_each_1 9 rfl rfl)
theorem dX2_each_34 : decode cX2_each 34 = .ok (.iload_n 3, 1) := dk_29 (dk_at dksX2_each_1 10 rfl rfl)
theorem dX2_each_35 : decode cX2_each 35 = .ok (.ldc 54, 2) := dk_18 54 (dk_at dksX2_each_1 11 rfl rfl)
theorem dX2_each_37 : decode cX2_each 37 = .ok (.invokevirtual 300, 3) := dk_182 1 44 (dk_at dksX2_each_1 13 rfl rfl)
theorem dX2_each_40 : decode cX2_each 40 = .ok (.goto 5, 3) := dk_167 0 5 (dk_at dksX2_each_1 16 rfl rfl)
theorem dX2_each_43 : decode cX2_each 43 = .ok (.ldc 72, 2) := dk_18 72 (dk_at dksX2_each_1 19 rfl rfl)
theorem dX2_each_45 : decode cX2_each 45 = .ok (.ireturn, 1) := dk_172 (dk_at dksX2_each_1 21 rfl rfl)
abbrev cX2_step : ByteArray := prog_17_method_85_code
def yX2_step : MethodName := ⟨RX2, "step", "(I)I"⟩
def dkwX2_step_1 : List UInt8 := [18, 196, 172]
abbrev dktX2_step_1 : List UInt8 := dkwX2_step_1 ++ []
def dkwX2_step_0 : List UInt8 := [42, 27, 182, 0, 193, 153, 0, 18, 42, 7, 27, 18, 54, 18, 54, 18, 54, 182, 1, 44, 167, 0, 5]
abbrev dktX2_step_0 : List UInt8 := dkwX2_step_0 ++ dktX2_step_1
theorem dksX2_step_0 : cX2_step.data.toList.drop 0 = dktX2_step_0 := by decide +kernel
theorem dksX2_step_1 : cX2_step.data.toList.drop 23 = dktX2_step_1 := dk_seg dksX2_step_0 23 rfl rfl
theorem dX2_step_0 : decode cX2_step 0 = .ok (.aload_n 0, 1) := dk_42 (dk_at dksX2_step_0 0 rfl rfl)
theorem dX2_step_1 : decode cX2_step 1 = .ok (.iload_n 1, 1) := dk_27 (dk_at dksX2_step_0 1 rfl rfl)
theorem dX2_step_2 : decode cX2_step 2 = .ok (.invokevirtual 193, 3) := dk_182 0 193 (dk_at dksX2_step_0 2 rfl rfl)
theorem dX2_step_5 : decode cX2_step 5 = .ok (.ifCond .eq 18, 3) := dk_153 0 18 (dk_at dksX2_step_0 5 rfl rfl)
theorem dX2_step_8 : decode cX2_step 8 = .ok (.aload_n 0, 1) := dk_42 (dk_at dksX2_step_0 8 rfl rfl)
theorem dX2_step_9 : decode cX2_step 9 = .ok (.iconst 4, 1) := dk_7 (dk_at dksX2_step_0 9 rfl rfl)
theorem dX2_step_10 : decode cX2_step 10 = .ok (.iload_n 1, 1) := dk_27 (dk_at dksX2_step_0 10 rfl rfl)
theorem dX2_step_11 : decode cX2_step 11 = .ok (.ldc 54, 2) := dk_18 54 (dk_at dksX2_step_0 11 rfl rfl)
theorem dX2_step_13 : decode cX2_step 13 = .ok (.ldc 54, 2) := dk_18 54 (dk_at dksX2_step_0 13 rfl rfl)
theorem dX2_step_15 : decode cX2_step 15 = .ok (.ldc 54, 2) := dk_18 54 (dk_at dksX2_step_0 15 rfl rfl)
theorem dX2_step_17 : decode cX2_step 17 = .ok (.invokevirtual 300, 3) := dk_182 1 44 (dk_at dksX2_step_0 17 rfl rfl)
theorem dX2_step_20 : decode cX2_step 20 = .ok (.goto 5, 3) := dk_167 0 5 (dk_at dksX2_step_0 20 rfl rfl)
theorem dX2_step_23 : decode cX2_step 23 = .ok (.ldc 196, 2) := dk_18 196 (dk_at dksX2_step_1 0 rfl rfl)
theorem dX2_step_25 : decode cX2_step 25 = .ok (.ireturn, 1) := dk_172 (dk_at dksX2_step_1 2 rfl rfl)
abbrev cX2_put : ByteArray := prog_17_method_86_code
def yX2_put : MethodName := ⟨RX2, "put", "(III)I"⟩
def dkwX2_put_3 : List UInt8 := [54, 4, 42, 180, 0, 13, 7, 27, 104, 28, 96, 29, 79, 42, 182, 0, 122, 21, 4, 172]
abbrev dktX2_put_3 : List UInt8 := dkwX2_put_3 ++ []
def dkwX2_put_2 : List UInt8 := [167, 0, 10, 29, 184, 1, 41, 154, 0, 6, 18, 72, 172, 42, 180, 0, 13, 7, 27, 104, 28, 96, 46]
abbrev dktX2_put_2 : List UInt8 := dkwX2_put_2 ++ dktX2_put_3
def dkwX2_put_1 : List UInt8 := [27, 182, 0, 245, 154, 0, 6, 18, 115, 172, 28, 5, 162, 0, 13, 29, 184, 1, 38, 154, 0, 16]
abbrev dktX2_put_1 : List UInt8 := dkwX2_put_1 ++ dktX2_put_2
def dkwX2_put_0 : List UInt8 := [42, 27, 182, 0, 193, 154, 0, 6, 18, 196, 172, 28, 3, 6, 184, 0, 68, 154, 0, 6, 18, 72, 172, 42]
abbrev dktX2_put_0 : List UInt8 := dkwX2_put_0 ++ dktX2_put_1
theorem dksX2_put_0 : cX2_put.data.toList.drop 0 = dktX2_put_0 := by decide +kernel
theorem dksX2_put_1 : cX2_put.data.toList.drop 24 = dktX2_put_1 := dk_seg dksX2_put_0 24 rfl rfl
theorem dksX2_put_2 : cX2_put.data.toList.drop 46 = dktX2_put_2 := dk_seg dksX2_put_1 22 rfl rfl
theorem dksX2_put_3 : cX2_put.data.toList.drop 69 = dktX2_put_3 := dk_seg dksX2_put_2 23 rfl rfl
theorem dX2_put_0 : decode cX2_put 0 = .ok (.aload_n 0, 1) := dk_42 (dk_at dksX2_put_0 0 rfl rfl)
theorem dX2_put_1 : decode cX2_put 1 = .ok (.iload_n 1, 1) := dk_27 (dk_at dksX2_put_0 1 rfl rfl)
theorem dX2_put_2 : decode cX2_put 2 = .ok (.invokevirtual 193, 3) := dk_182 0 193 (dk_at dksX2_put_0 2 rfl rfl)
theorem dX2_put_5 : decode cX2_put 5 = .ok (.ifCond .ne 6, 3) := dk_154 0 6 (dk_at dksX2_put_0 5 rfl rfl)
theorem dX2_put_8 : decode cX2_put 8 = .ok (.ldc 196, 2) := dk_18 196 (dk_at dksX2_put_0 8 rfl rfl)
theorem dX2_put_10 : decode cX2_put 10 = .ok (.ireturn, 1) := dk_172 (dk_at dksX2_put_0 10 rfl rfl)
theorem dX2_put_11 : decode cX2_put 11 = .ok (.iload_n 2, 1) := dk_28 (dk_at dksX2_put_0 11 rfl rfl)
theorem dX2_put_12 : decode cX2_put 12 = .ok (.iconst 0, 1) := dk_3 (dk_at dksX2_put_0 12 rfl rfl)
theorem dX2_put_13 : decode cX2_put 13 = .ok (.iconst 3, 1) := dk_6 (dk_at dksX2_put_0 13 rfl rfl)
theorem dX2_put_14 : decode cX2_put 14 = .ok (.invokestatic 68, 3) := dk_184 0 68 (dk_at dksX2_put_0 14 rfl rfl)
theorem dX2_put_17 : decode cX2_put 17 = .ok (.ifCond .ne 6, 3) := dk_154 0 6 (dk_at dksX2_put_0 17 rfl rfl)
theorem dX2_put_20 : decode cX2_put 20 = .ok (.ldc 72, 2) := dk_18 72 (dk_at dksX2_put_0 20 rfl rfl)
theorem dX2_put_22 : decode cX2_put 22 = .ok (.ireturn, 1) := dk_172 (dk_at dksX2_put_0 22 rfl rfl)
theorem dX2_put_23 : decode cX2_put 23 = .ok (.aload_n 0, 1) := dk_42 (dk_at dksX2_put_0 23 rfl rfl)
theorem dX2_put_24 : decode cX2_put 24 = .ok (.iload_n 1, 1) := dk_27 (dk_at dksX2_put_1 0 rfl rfl)
theorem dX2_put_25 : decode cX2_put 25 = .ok (.invokevirtual 245, 3) := dk_182 0 245 (dk_at dksX2_put_1 1 rfl rfl)
theorem dX2_put_28 : decode cX2_put 28 = .ok (.ifCond .ne 6, 3) := dk_154 0 6 (dk_at dksX2_put_1 4 rfl rfl)
theorem dX2_put_31 : decode cX2_put 31 = .ok (.ldc 115, 2) := dk_18 115 (dk_at dksX2_put_1 7 rfl rfl)
theorem dX2_put_33 : decode cX2_put 33 = .ok (.ireturn, 1) := dk_172 (dk_at dksX2_put_1 9 rfl rfl)
theorem dX2_put_34 : decode cX2_put 34 = .ok (.iload_n 2, 1) := dk_28 (dk_at dksX2_put_1 10 rfl rfl)
theorem dX2_put_35 : decode cX2_put 35 = .ok (.iconst 2, 1) := dk_5 (dk_at dksX2_put_1 11 rfl rfl)
theorem dX2_put_36 : decode cX2_put 36 = .ok (.if_icmp .ge 13, 3) := dk_162 0 13 (dk_at dksX2_put_1 12 rfl rfl)
theorem dX2_put_39 : decode cX2_put 39 = .ok (.iload_n 3, 1) := dk_29 (dk_at dksX2_put_1 15 rfl rfl)
theorem dX2_put_40 : decode cX2_put 40 = .ok (.invokestatic 294, 3) := dk_184 1 38 (dk_at dksX2_put_1 16 rfl rfl)
theorem dX2_put_43 : decode cX2_put 43 = .ok (.ifCond .ne 16, 3) := dk_154 0 16 (dk_at dksX2_put_1 19 rfl rfl)
theorem dX2_put_46 : decode cX2_put 46 = .ok (.goto 10, 3) := dk_167 0 10 (dk_at dksX2_put_2 0 rfl rfl)
theorem dX2_put_49 : decode cX2_put 49 = .ok (.iload_n 3, 1) := dk_29 (dk_at dksX2_put_2 3 rfl rfl)
theorem dX2_put_50 : decode cX2_put 50 = .ok (.invokestatic 297, 3) := dk_184 1 41 (dk_at dksX2_put_2 4 rfl rfl)
theorem dX2_put_53 : decode cX2_put 53 = .ok (.ifCond .ne 6, 3) := dk_154 0 6 (dk_at dksX2_put_2 7 rfl rfl)
theorem dX2_put_56 : decode cX2_put 56 = .ok (.ldc 72, 2) := dk_18 72 (dk_at dksX2_put_2 10 rfl rfl)
theorem dX2_put_58 : decode cX2_put 58 = .ok (.ireturn, 1) := dk_172 (dk_at dksX2_put_2 12 rfl rfl)
theorem dX2_put_59 : decode cX2_put 59 = .ok (.aload_n 0, 1) := dk_42 (dk_at dksX2_put_2 13 rfl rfl)
theorem dX2_put_60 : decode cX2_put 60 = .ok (.getfield 13, 3) := dk_180 0 13 (dk_at dksX2_put_2 14 rfl rfl)
theorem dX2_put_63 : decode cX2_put 63 = .ok (.iconst 4, 1) := dk_7 (dk_at dksX2_put_2 17 rfl rfl)
theorem dX2_put_64 : decode cX2_put 64 = .ok (.iload_n 1, 1) := dk_27 (dk_at dksX2_put_2 18 rfl rfl)
theorem dX2_put_65 : decode cX2_put 65 = .ok (.imul, 1) := dk_104 (dk_at dksX2_put_2 19 rfl rfl)
theorem dX2_put_66 : decode cX2_put 66 = .ok (.iload_n 2, 1) := dk_28 (dk_at dksX2_put_2 20 rfl rfl)
theorem dX2_put_67 : decode cX2_put 67 = .ok (.iadd, 1) := dk_96 (dk_at dksX2_put_2 21 rfl rfl)
theorem dX2_put_68 : decode cX2_put 68 = .ok (.iaload, 1) := dk_46 (dk_at dksX2_put_2 22 rfl rfl)
theorem dX2_put_69 : decode cX2_put 69 = .ok (.istore 4, 2) := dk_54 4 (dk_at dksX2_put_3 0 rfl rfl)
theorem dX2_put_71 : decode cX2_put 71 = .ok (.aload_n 0, 1) := dk_42 (dk_at dksX2_put_3 2 rfl rfl)
theorem dX2_put_72 : decode cX2_put 72 = .ok (.getfield 13, 3) := dk_180 0 13 (dk_at dksX2_put_3 3 rfl rfl)
theorem dX2_put_75 : decode cX2_put 75 = .ok (.iconst 4, 1) := dk_7 (dk_at dksX2_put_3 6 rfl rfl)
theorem dX2_put_76 : decode cX2_put 76 = .ok (.iload_n 1, 1) := dk_27 (dk_at dksX2_put_3 7 rfl rfl)
theorem dX2_put_77 : decode cX2_put 77 = .ok (.imul, 1) := dk_104 (dk_at dksX2_put_3 8 rfl rfl)
theorem dX2_put_78 : decode cX2_put 78 = .ok (.iload_n 2, 1) := dk_28 (dk_at dksX2_put_3 9 rfl rfl)
theorem dX2_put_79 : decode cX2_put 79 = .ok (.iadd, 1) := dk_96 (dk_at dksX2_put_3 10 rfl rfl)
theorem dX2_put_80 : decode cX2_put 80 = .ok (.iload_n 3, 1) := dk_29 (dk_at dksX2_put_3 11 rfl rfl)
theorem dX2_put_81 : decode cX2_put 81 = .ok (.iastore, 1) := dk_79 (dk_at dksX2_put_3 12 rfl rfl)
theorem dX2_put_82 : decode cX2_put 82 = .ok (.aload_n 0, 1) := dk_42 (dk_at dksX2_put_3 13 rfl rfl)
theorem dX2_put_83 : decode cX2_put 83 = .ok (.invokevirtual 122, 3) := dk_182 0 122 (dk_at dksX2_put_3 14 rfl rfl)
theorem dX2_put_86 : decode cX2_put 86 = .ok (.iload 4, 2) := dk_21 4 (dk_at dksX2_put_3 17 rfl rfl)
theorem dX2_put_88 : decode cX2_put 88 = .ok (.ireturn, 1) := dk_172 (dk_at dksX2_put_3 19 rfl rfl)
abbrev cX2_drop : ByteArray := prog_17_method_87_code
def yX2_drop : MethodName := ⟨RX2, "drop", "()I"⟩
def dkwX2_drop_1 : List UInt8 := [172]
abbrev dktX2_drop_1 : List UInt8 := dkwX2_drop_1 ++ []
def dkwX2_drop_0 : List UInt8 := [42, 180, 0, 116, 154, 0, 6, 18, 115, 172, 42, 89, 180, 0, 116, 4, 100, 181, 0, 116, 42, 180, 0, 116]
abbrev dktX2_drop_0 : List UInt8 := dkwX2_drop_0 ++ dktX2_drop_1
theorem dksX2_drop_0 : cX2_drop.data.toList.drop 0 = dktX2_drop_0 := by decide +kernel
theorem dksX2_drop_1 : cX2_drop.data.toList.drop 24 = dktX2_drop_1 := dk_seg dksX2_drop_0 24 rfl rfl
theorem dX2_drop_0 : decode cX2_drop 0 = .ok (.aload_n 0, 1) := dk_42 (dk_at dksX2_drop_0 0 rfl rfl)
theorem dX2_drop_1 : decode cX2_drop 1 = .ok (.getfield 116, 3) := dk_180 0 116 (dk_at dksX2_drop_0 1 rfl rfl)
theorem dX2_drop_4 : decode cX2_drop 4 = .ok (.ifCond .ne 6, 3) := dk_154 0 6 (dk_at dksX2_drop_0 4 rfl rfl)
theorem dX2_drop_7 : decode cX2_drop 7 = .ok (.ldc 115, 2) := dk_18 115 (dk_at dksX2_drop_0 7 rfl rfl)
theorem dX2_drop_9 : decode cX2_drop 9 = .ok (.ireturn, 1) := dk_172 (dk_at dksX2_drop_0 9 rfl rfl)
theorem dX2_drop_10 : decode cX2_drop 10 = .ok (.aload_n 0, 1) := dk_42 (dk_at dksX2_drop_0 10 rfl rfl)
theorem dX2_drop_11 : decode cX2_drop 11 = .ok (.dup, 1) := dk_89 (dk_at dksX2_drop_0 11 rfl rfl)
theorem dX2_drop_12 : decode cX2_drop 12 = .ok (.getfield 116, 3) := dk_180 0 116 (dk_at dksX2_drop_0 12 rfl rfl)
theorem dX2_drop_15 : decode cX2_drop 15 = .ok (.iconst 1, 1) := dk_4 (dk_at dksX2_drop_0 15 rfl rfl)
theorem dX2_drop_16 : decode cX2_drop 16 = .ok (.isub, 1) := dk_100 (dk_at dksX2_drop_0 16 rfl rfl)
theorem dX2_drop_17 : decode cX2_drop 17 = .ok (.putfield 116, 3) := dk_181 0 116 (dk_at dksX2_drop_0 17 rfl rfl)
theorem dX2_drop_20 : decode cX2_drop 20 = .ok (.aload_n 0, 1) := dk_42 (dk_at dksX2_drop_0 20 rfl rfl)
theorem dX2_drop_21 : decode cX2_drop 21 = .ok (.getfield 116, 3) := dk_180 0 116 (dk_at dksX2_drop_0 21 rfl rfl)
theorem dX2_drop_24 : decode cX2_drop 24 = .ok (.ireturn, 1) := dk_172 (dk_at dksX2_drop_1 0 rfl rfl)
abbrev cX2_ease : ByteArray := prog_17_method_93_code
def yX2_ease : MethodName := ⟨RX2, "ease", "(I)I"⟩
def dkwX2_ease_4 : List UInt8 := [21, 4, 21, 5, 182, 1, 34, 21, 6, 172]
abbrev dktX2_ease_4 : List UInt8 := dkwX2_ease_4 ++ []
def dkwX2_ease_3 : List UInt8 := [21, 5, 184, 1, 41, 154, 0, 6, 18, 115, 172, 42, 180, 0, 7, 27, 46, 54, 6, 42, 27, 3, 28, 29]
abbrev dktX2_ease_3 : List UInt8 := dkwX2_ease_3 ++ dktX2_ease_4
def dkwX2_ease_2 : List UInt8 := [54, 5, 28, 184, 1, 38, 153, 0, 26, 29, 184, 1, 38, 153, 0, 19, 21, 4, 184, 1, 41, 153, 0, 11]
abbrev dktX2_ease_2 : List UInt8 := dkwX2_ease_2 ++ dktX2_ease_3
def dkwX2_ease_1 : List UInt8 := [182, 1, 57, 61, 42, 27, 182, 1, 60, 62, 42, 27, 3, 182, 0, 201, 54, 4, 42, 27, 4, 182, 0, 201]
abbrev dktX2_ease_1 : List UInt8 := dkwX2_ease_1 ++ dktX2_ease_2
def dkwX2_ease_0 : List UInt8 := [42, 27, 182, 0, 193, 154, 0, 6, 18, 196, 172, 42, 27, 182, 1, 54, 154, 0, 6, 18, 115, 172, 42, 27]
abbrev dktX2_ease_0 : List UInt8 := dkwX2_ease_0 ++ dktX2_ease_1
theorem dksX2_ease_0 : cX2_ease.data.toList.drop 0 = dktX2_ease_0 := by decide +kernel
theorem dksX2_ease_1 : cX2_ease.data.toList.drop 24 = dktX2_ease_1 := dk_seg dksX2_ease_0 24 rfl rfl
theorem dksX2_ease_2 : cX2_ease.data.toList.drop 48 = dktX2_ease_2 := dk_seg dksX2_ease_1 24 rfl rfl
theorem dksX2_ease_3 : cX2_ease.data.toList.drop 72 = dktX2_ease_3 := dk_seg dksX2_ease_2 24 rfl rfl
theorem dksX2_ease_4 : cX2_ease.data.toList.drop 96 = dktX2_ease_4 := dk_seg dksX2_ease_3 24 rfl rfl
theorem dX2_ease_0 : decode cX2_ease 0 = .ok (.aload_n 0, 1) := dk_42 (dk_at dksX2_ease_0 0 rfl rfl)
theorem dX2_ease_1 : decode cX2_ease 1 = .ok (.iload_n 1, 1) := dk_27 (dk_at dksX2_ease_0 1 rfl rfl)
theorem dX2_ease_2 : decode cX2_ease 2 = .ok (.invokevirtual 193, 3) := dk_182 0 193 (dk_at dksX2_ease_0 2 rfl rfl)
theorem dX2_ease_5 : decode cX2_ease 5 = .ok (.ifCond .ne 6, 3) := dk_154 0 6 (dk_at dksX2_ease_0 5 rfl rfl)
theorem dX2_ease_8 : decode cX2_ease 8 = .ok (.ldc 196, 2) := dk_18 196 (dk_at dksX2_ease_0 8 rfl rfl)
theorem dX2_ease_10 : decode cX2_ease 10 = .ok (.ireturn, 1) := dk_172 (dk_at dksX2_ease_0 10 rfl rfl)
theorem dX2_ease_11 : decode cX2_ease 11 = .ok (.aload_n 0, 1) := dk_42 (dk_at dksX2_ease_0 11 rfl rfl)
theorem dX2_ease_12 : decode cX2_ease 12 = .ok (.iload_n 1, 1) := dk_27 (dk_at dksX2_ease_0 12 rfl rfl)
theorem dX2_ease_13 : decode cX2_ease 13 = .ok (.invokevirtual 310, 3) := dk_182 1 54 (dk_at dksX2_ease_0 13 rfl rfl)
theorem dX2_ease_16 : decode cX2_ease 16 = .ok (.ifCond .ne 6, 3) := dk_154 0 6 (dk_at dksX2_ease_0 16 rfl rfl)
theorem dX2_ease_19 : decode cX2_ease 19 = .ok (.ldc 115, 2) := dk_18 115 (dk_at dksX2_ease_0 19 rfl rfl)
theorem dX2_ease_21 : decode cX2_ease 21 = .ok (.ireturn, 1) := dk_172 (dk_at dksX2_ease_0 21 rfl rfl)
theorem dX2_ease_22 : decode cX2_ease 22 = .ok (.aload_n 0, 1) := dk_42 (dk_at dksX2_ease_0 22 rfl rfl)
theorem dX2_ease_23 : decode cX2_ease 23 = .ok (.iload_n 1, 1) := dk_27 (dk_at dksX2_ease_0 23 rfl rfl)
theorem dX2_ease_24 : decode cX2_ease 24 = .ok (.invokevirtual 313, 3) := dk_182 1 57 (dk_at dksX2_ease_1 0 rfl rfl)
theorem dX2_ease_27 : decode cX2_ease 27 = .ok (.istore_n 2, 1) := dk_61 (dk_at dksX2_ease_1 3 rfl rfl)
theorem dX2_ease_28 : decode cX2_ease 28 = .ok (.aload_n 0, 1) := dk_42 (dk_at dksX2_ease_1 4 rfl rfl)
theorem dX2_ease_29 : decode cX2_ease 29 = .ok (.iload_n 1, 1) := dk_27 (dk_at dksX2_ease_1 5 rfl rfl)
theorem dX2_ease_30 : decode cX2_ease 30 = .ok (.invokevirtual 316, 3) := dk_182 1 60 (dk_at dksX2_ease_1 6 rfl rfl)
theorem dX2_ease_33 : decode cX2_ease 33 = .ok (.istore_n 3, 1) := dk_62 (dk_at dksX2_ease_1 9 rfl rfl)
theorem dX2_ease_34 : decode cX2_ease 34 = .ok (.aload_n 0, 1) := dk_42 (dk_at dksX2_ease_1 10 rfl rfl)
theorem dX2_ease_35 : decode cX2_ease 35 = .ok (.iload_n 1, 1) := dk_27 (dk_at dksX2_ease_1 11 rfl rfl)
theorem dX2_ease_36 : decode cX2_ease 36 = .ok (.iconst 0, 1) := dk_3 (dk_at dksX2_ease_1 12 rfl rfl)
theorem dX2_ease_37 : decode cX2_ease 37 = .ok (.invokevirtual 201, 3) := dk_182 0 201 (dk_at dksX2_ease_1 13 rfl rfl)
theorem dX2_ease_40 : decode cX2_ease 40 = .ok (.istore 4, 2) := dk_54 4 (dk_at dksX2_ease_1 16 rfl rfl)
theorem dX2_ease_42 : decode cX2_ease 42 = .ok (.aload_n 0, 1) := dk_42 (dk_at dksX2_ease_1 18 rfl rfl)
theorem dX2_ease_43 : decode cX2_ease 43 = .ok (.iload_n 1, 1) := dk_27 (dk_at dksX2_ease_1 19 rfl rfl)
theorem dX2_ease_44 : decode cX2_ease 44 = .ok (.iconst 1, 1) := dk_4 (dk_at dksX2_ease_1 20 rfl rfl)
theorem dX2_ease_45 : decode cX2_ease 45 = .ok (.invokevirtual 201, 3) := dk_182 0 201 (dk_at dksX2_ease_1 21 rfl rfl)
theorem dX2_ease_48 : decode cX2_ease 48 = .ok (.istore 5, 2) := dk_54 5 (dk_at dksX2_ease_2 0 rfl rfl)
theorem dX2_ease_50 : decode cX2_ease 50 = .ok (.iload_n 2, 1) := dk_28 (dk_at dksX2_ease_2 2 rfl rfl)
theorem dX2_ease_51 : decode cX2_ease 51 = .ok (.invokestatic 294, 3) := dk_184 1 38 (dk_at dksX2_ease_2 3 rfl rfl)
theorem dX2_ease_54 : decode cX2_ease 54 = .ok (.ifCond .eq 26, 3) := dk_153 0 26 (dk_at dksX2_ease_2 6 rfl rfl)
theorem dX2_ease_57 : decode cX2_ease 57 = .ok (.iload_n 3, 1) := dk_29 (dk_at dksX2_ease_2 9 rfl rfl)
theorem dX2_ease_58 : decode cX2_ease 58 = .ok (.invokestatic 294, 3) := dk_184 1 38 (dk_at dksX2_ease_2 10 rfl rfl)
theorem dX2_ease_61 : decode cX2_ease 61 = .ok (.ifCond .eq 19, 3) := dk_153 0 19 (dk_at dksX2_ease_2 13 rfl rfl)
theorem dX2_ease_64 : decode cX2_ease 64 = .ok (.iload 4, 2) := dk_21 4 (dk_at dksX2_ease_2 16 rfl rfl)
theorem dX2_ease_66 : decode cX2_ease 66 = .ok (.invokestatic 297, 3) := dk_184 1 41 (dk_at dksX2_ease_2 18 rfl rfl)
theorem dX2_ease_69 : decode cX2_ease 69 = .ok (.ifCond .eq 11, 3) := dk_153 0 11 (dk_at dksX2_ease_2 21 rfl rfl)
theorem dX2_ease_72 : decode cX2_ease 72 = .ok (.iload 5, 2) := dk_21 5 (dk_at dksX2_ease_3 0 rfl rfl)
theorem dX2_ease_74 : decode cX2_ease 74 = .ok (.invokestatic 297, 3) := dk_184 1 41 (dk_at dksX2_ease_3 2 rfl rfl)
theorem dX2_ease_77 : decode cX2_ease 77 = .ok (.ifCond .ne 6, 3) := dk_154 0 6 (dk_at dksX2_ease_3 5 rfl rfl)
theorem dX2_ease_80 : decode cX2_ease 80 = .ok (.ldc 115, 2) := dk_18 115 (dk_at dksX2_ease_3 8 rfl rfl)
theorem dX2_ease_82 : decode cX2_ease 82 = .ok (.ireturn, 1) := dk_172 (dk_at dksX2_ease_3 10 rfl rfl)
theorem dX2_ease_83 : decode cX2_ease 83 = .ok (.aload_n 0, 1) := dk_42 (dk_at dksX2_ease_3 11 rfl rfl)
theorem dX2_ease_84 : decode cX2_ease 84 = .ok (.getfield 7, 3) := dk_180 0 7 (dk_at dksX2_ease_3 12 rfl rfl)
theorem dX2_ease_87 : decode cX2_ease 87 = .ok (.iload_n 1, 1) := dk_27 (dk_at dksX2_ease_3 15 rfl rfl)
theorem dX2_ease_88 : decode cX2_ease 88 = .ok (.iaload, 1) := dk_46 (dk_at dksX2_ease_3 16 rfl rfl)
theorem dX2_ease_89 : decode cX2_ease 89 = .ok (.istore 6, 2) := dk_54 6 (dk_at dksX2_ease_3 17 rfl rfl)
theorem dX2_ease_91 : decode cX2_ease 91 = .ok (.aload_n 0, 1) := dk_42 (dk_at dksX2_ease_3 19 rfl rfl)
theorem dX2_ease_92 : decode cX2_ease 92 = .ok (.iload_n 1, 1) := dk_27 (dk_at dksX2_ease_3 20 rfl rfl)
theorem dX2_ease_93 : decode cX2_ease 93 = .ok (.iconst 0, 1) := dk_3 (dk_at dksX2_ease_3 21 rfl rfl)
theorem dX2_ease_94 : decode cX2_ease 94 = .ok (.iload_n 2, 1) := dk_28 (dk_at dksX2_ease_3 22 rfl rfl)
theorem dX2_ease_95 : decode cX2_ease 95 = .ok (.iload_n 3, 1) := dk_29 (dk_at dksX2_ease_3 23 rfl rfl)
theorem dX2_ease_96 : decode cX2_ease 96 = .ok (.iload 4, 2) := dk_21 4 (dk_at dksX2_ease_4 0 rfl rfl)
theorem dX2_ease_98 : decode cX2_ease 98 = .ok (.iload 5, 2) := dk_21 5 (dk_at dksX2_ease_4 2 rfl rfl)
theorem dX2_ease_100 : decode cX2_ease 100 = .ok (.invokevirtual 290, 3) := dk_182 1 34 (dk_at dksX2_ease_4 4 rfl rfl)
theorem dX2_ease_103 : decode cX2_ease 103 = .ok (.iload 6, 2) := dk_21 6 (dk_at dksX2_ease_4 7 rfl rfl)
theorem dX2_ease_105 : decode cX2_ease 105 = .ok (.ireturn, 1) := dk_172 (dk_at dksX2_ease_4 9 rfl rfl)
abbrev cX2_canBe : ByteArray := prog_17_method_90_code
def yX2_canBe : MethodName := ⟨RX2, "canBe", "(I)Z"⟩
def dkwX2_canBe_5 : List UInt8 := [42, 27, 182, 1, 51, 18, 54, 159, 0, 7, 4, 167, 0, 4, 3, 172, 4, 172]
abbrev dktX2_canBe_5 : List UInt8 := dkwX2_canBe_5 ++ []
def dkwX2_canBe_4 : List UInt8 := [28, 104, 4, 96, 46, 42, 180, 0, 13, 7, 29, 104, 4, 96, 46, 160, 0, 7, 4, 167, 0, 4, 3, 172]
abbrev dktX2_canBe_4 : List UInt8 := dkwX2_canBe_4 ++ dktX2_canBe_5
def dkwX2_canBe_3 : List UInt8 := [42, 180, 0, 13, 7, 28, 104, 46, 42, 180, 0, 13, 7, 29, 104, 46, 160, 0, 30, 42, 180, 0, 13, 7]
abbrev dktX2_canBe_3 : List UInt8 := dkwX2_canBe_3 ++ dktX2_canBe_4
def dkwX2_canBe_2 : List UInt8 := [171, 0, 0, 0, 0, 0, 0, 92, 0, 0, 0, 2, 0, 0, 0, 1, 0, 0, 0, 28, 0, 0, 0, 2, 0, 0, 0, 76]
abbrev dktX2_canBe_2 : List UInt8 := dkwX2_canBe_2 ++ dktX2_canBe_3
def dkwX2_canBe_1 : List UInt8 := [27, 104, 4, 96, 46, 62, 42, 180, 0, 7, 27, 46]
abbrev dktX2_canBe_1 : List UInt8 := dkwX2_canBe_1 ++ dktX2_canBe_2
def dkwX2_canBe_0 : List UInt8 := [42, 27, 182, 1, 4, 154, 0, 5, 3, 172, 42, 180, 0, 13, 7, 27, 104, 46, 61, 42, 180, 0, 13, 7]
abbrev dktX2_canBe_0 : List UInt8 := dkwX2_canBe_0 ++ dktX2_canBe_1
theorem dksX2_canBe_0 : cX2_canBe.data.toList.drop 0 = dktX2_canBe_0 := by decide +kernel
theorem dksX2_canBe_1 : cX2_canBe.data.toList.drop 24 = dktX2_canBe_1 := dk_seg dksX2_canBe_0 24 rfl rfl
theorem dksX2_canBe_2 : cX2_canBe.data.toList.drop 36 = dktX2_canBe_2 := dk_seg dksX2_canBe_1 12 rfl rfl
theorem dksX2_canBe_3 : cX2_canBe.data.toList.drop 64 = dktX2_canBe_3 := dk_seg dksX2_canBe_2 28 rfl rfl
theorem dksX2_canBe_4 : cX2_canBe.data.toList.drop 88 = dktX2_canBe_4 := dk_seg dksX2_canBe_3 24 rfl rfl
theorem dksX2_canBe_5 : cX2_canBe.data.toList.drop 112 = dktX2_canBe_5 := dk_seg dksX2_canBe_4 24 rfl rfl
theorem dX2_canBe_0 : decode cX2_canBe 0 = .ok (.aload_n 0, 1) := dk_42 (dk_at dksX2_canBe_0 0 rfl rfl)
theorem dX2_canBe_1 : decode cX2_canBe 1 = .ok (.iload_n 1, 1) := dk_27 (dk_at dksX2_canBe_0 1 rfl rfl)
theorem dX2_canBe_2 : decode cX2_canBe 2 = .ok (.invokevirtual 260, 3) := dk_182 1 4 (dk_at dksX2_canBe_0 2 rfl rfl)
theorem dX2_canBe_5 : decode cX2_canBe 5 = .ok (.ifCond .ne 5, 3) := dk_154 0 5 (dk_at dksX2_canBe_0 5 rfl rfl)
theorem dX2_canBe_8 : decode cX2_canBe 8 = .ok (.iconst 0, 1) := dk_3 (dk_at dksX2_canBe_0 8 rfl rfl)
theorem dX2_canBe_9 : decode cX2_canBe 9 = .ok (.ireturn, 1) := dk_172 (dk_at dksX2_canBe_0 9 rfl rfl)
theorem dX2_canBe_10 : decode cX2_canBe 10 = .ok (.aload_n 0, 1) := dk_42 (dk_at dksX2_canBe_0 10 rfl rfl)
theorem dX2_canBe_11 : decode cX2_canBe 11 = .ok (.getfield 13, 3) := dk_180 0 13 (dk_at dksX2_canBe_0 11 rfl rfl)
theorem dX2_canBe_14 : decode cX2_canBe 14 = .ok (.iconst 4, 1) := dk_7 (dk_at dksX2_canBe_0 14 rfl rfl)
theorem dX2_canBe_15 : decode cX2_canBe 15 = .ok (.iload_n 1, 1) := dk_27 (dk_at dksX2_canBe_0 15 rfl rfl)
theorem dX2_canBe_16 : decode cX2_canBe 16 = .ok (.imul, 1) := dk_104 (dk_at dksX2_canBe_0 16 rfl rfl)
theorem dX2_canBe_17 : decode cX2_canBe 17 = .ok (.iaload, 1) := dk_46 (dk_at dksX2_canBe_0 17 rfl rfl)
theorem dX2_canBe_18 : decode cX2_canBe 18 = .ok (.istore_n 2, 1) := dk_61 (dk_at dksX2_canBe_0 18 rfl rfl)
theorem dX2_canBe_19 : decode cX2_canBe 19 = .ok (.aload_n 0, 1) := dk_42 (dk_at dksX2_canBe_0 19 rfl rfl)
theorem dX2_canBe_20 : decode cX2_canBe 20 = .ok (.getfield 13, 3) := dk_180 0 13 (dk_at dksX2_canBe_0 20 rfl rfl)
theorem dX2_canBe_23 : decode cX2_canBe 23 = .ok (.iconst 4, 1) := dk_7 (dk_at dksX2_canBe_0 23 rfl rfl)
theorem dX2_canBe_24 : decode cX2_canBe 24 = .ok (.iload_n 1, 1) := dk_27 (dk_at dksX2_canBe_1 0 rfl rfl)
theorem dX2_canBe_25 : decode cX2_canBe 25 = .ok (.imul, 1) := dk_104 (dk_at dksX2_canBe_1 1 rfl rfl)
theorem dX2_canBe_26 : decode cX2_canBe 26 = .ok (.iconst 1, 1) := dk_4 (dk_at dksX2_canBe_1 2 rfl rfl)
theorem dX2_canBe_27 : decode cX2_canBe 27 = .ok (.iadd, 1) := dk_96 (dk_at dksX2_canBe_1 3 rfl rfl)
theorem dX2_canBe_28 : decode cX2_canBe 28 = .ok (.iaload, 1) := dk_46 (dk_at dksX2_canBe_1 4 rfl rfl)
theorem dX2_canBe_29 : decode cX2_canBe 29 = .ok (.istore_n 3, 1) := dk_62 (dk_at dksX2_canBe_1 5 rfl rfl)
theorem dX2_canBe_30 : decode cX2_canBe 30 = .ok (.aload_n 0, 1) := dk_42 (dk_at dksX2_canBe_1 6 rfl rfl)
theorem dX2_canBe_31 : decode cX2_canBe 31 = .ok (.getfield 7, 3) := dk_180 0 7 (dk_at dksX2_canBe_1 7 rfl rfl)
theorem dX2_canBe_34 : decode cX2_canBe 34 = .ok (.iload_n 1, 1) := dk_27 (dk_at dksX2_canBe_1 10 rfl rfl)
theorem dX2_canBe_35 : decode cX2_canBe 35 = .ok (.iaload, 1) := dk_46 (dk_at dksX2_canBe_1 11 rfl rfl)
theorem dX2_canBe_36 : decode cX2_canBe 36 = .ok (.lookupswitch 92 #[(1, 28), (2, 76)], 28) := by decide +kernel
theorem dX2_canBe_64 : decode cX2_canBe 64 = .ok (.aload_n 0, 1) := dk_42 (dk_at dksX2_canBe_3 0 rfl rfl)
theorem dX2_canBe_65 : decode cX2_canBe 65 = .ok (.getfield 13, 3) := dk_180 0 13 (dk_at dksX2_canBe_3 1 rfl rfl)
theorem dX2_canBe_68 : decode cX2_canBe 68 = .ok (.iconst 4, 1) := dk_7 (dk_at dksX2_canBe_3 4 rfl rfl)
theorem dX2_canBe_69 : decode cX2_canBe 69 = .ok (.iload_n 2, 1) := dk_28 (dk_at dksX2_canBe_3 5 rfl rfl)
theorem dX2_canBe_70 : decode cX2_canBe 70 = .ok (.imul, 1) := dk_104 (dk_at dksX2_canBe_3 6 rfl rfl)
theorem dX2_canBe_71 : decode cX2_canBe 71 = .ok (.iaload, 1) := dk_46 (dk_at dksX2_canBe_3 7 rfl rfl)
theorem dX2_canBe_72 : decode cX2_canBe 72 = .ok (.aload_n 0, 1) := dk_42 (dk_at dksX2_canBe_3 8 rfl rfl)
theorem dX2_canBe_73 : decode cX2_canBe 73 = .ok (.getfield 13, 3) := dk_180 0 13 (dk_at dksX2_canBe_3 9 rfl rfl)
theorem dX2_canBe_76 : decode cX2_canBe 76 = .ok (.iconst 4, 1) := dk_7 (dk_at dksX2_canBe_3 12 rfl rfl)
theorem dX2_canBe_77 : decode cX2_canBe 77 = .ok (.iload_n 3, 1) := dk_29 (dk_at dksX2_canBe_3 13 rfl rfl)
theorem dX2_canBe_78 : decode cX2_canBe 78 = .ok (.imul, 1) := dk_104 (dk_at dksX2_canBe_3 14 rfl rfl)
theorem dX2_canBe_79 : decode cX2_canBe 79 = .ok (.iaload, 1) := dk_46 (dk_at dksX2_canBe_3 15 rfl rfl)
theorem dX2_canBe_80 : decode cX2_canBe 80 = .ok (.if_icmp .ne 30, 3) := dk_160 0 30 (dk_at dksX2_canBe_3 16 rfl rfl)
theorem dX2_canBe_83 : decode cX2_canBe 83 = .ok (.aload_n 0, 1) := dk_42 (dk_at dksX2_canBe_3 19 rfl rfl)
theorem dX2_canBe_84 : decode cX2_canBe 84 = .ok (.getfield 13, 3) := dk_180 0 13 (dk_at dksX2_canBe_3 20 rfl rfl)
theorem dX2_canBe_87 : decode cX2_canBe 87 = .ok (.iconst 4, 1) := dk_7 (dk_at dksX2_canBe_3 23 rfl rfl)
theorem dX2_canBe_88 : decode cX2_canBe 88 = .ok (.iload_n 2, 1) := dk_28 (dk_at dksX2_canBe_4 0 rfl rfl)
theorem dX2_canBe_89 : decode cX2_canBe 89 = .ok (.imul, 1) := dk_104 (dk_at dksX2_canBe_4 1 rfl rfl)
theorem dX2_canBe_90 : decode cX2_canBe 90 = .ok (.iconst 1, 1) := dk_4 (dk_at dksX2_canBe_4 2 rfl rfl)
theorem dX2_canBe_91 : decode cX2_canBe 91 = .ok (.iadd, 1) := dk_96 (dk_at dksX2_canBe_4 3 rfl rfl)
theorem dX2_canBe_92 : decode cX2_canBe 92 = .ok (.iaload, 1) := dk_46 (dk_at dksX2_canBe_4 4 rfl rfl)
theorem dX2_canBe_93 : decode cX2_canBe 93 = .ok (.aload_n 0, 1) := dk_42 (dk_at dksX2_canBe_4 5 rfl rfl)
theorem dX2_canBe_94 : decode cX2_canBe 94 = .ok (.getfield 13, 3) := dk_180 0 13 (dk_at dksX2_canBe_4 6 rfl rfl)
theorem dX2_canBe_97 : decode cX2_canBe 97 = .ok (.iconst 4, 1) := dk_7 (dk_at dksX2_canBe_4 9 rfl rfl)
theorem dX2_canBe_98 : decode cX2_canBe 98 = .ok (.iload_n 3, 1) := dk_29 (dk_at dksX2_canBe_4 10 rfl rfl)
theorem dX2_canBe_99 : decode cX2_canBe 99 = .ok (.imul, 1) := dk_104 (dk_at dksX2_canBe_4 11 rfl rfl)
theorem dX2_canBe_100 : decode cX2_canBe 100 = .ok (.iconst 1, 1) := dk_4 (dk_at dksX2_canBe_4 12 rfl rfl)
theorem dX2_canBe_101 : decode cX2_canBe 101 = .ok (.iadd, 1) := dk_96 (dk_at dksX2_canBe_4 13 rfl rfl)
theorem dX2_canBe_102 : decode cX2_canBe 102 = .ok (.iaload, 1) := dk_46 (dk_at dksX2_canBe_4 14 rfl rfl)
theorem dX2_canBe_103 : decode cX2_canBe 103 = .ok (.if_icmp .ne 7, 3) := dk_160 0 7 (dk_at dksX2_canBe_4 15 rfl rfl)
theorem dX2_canBe_106 : decode cX2_canBe 106 = .ok (.iconst 1, 1) := dk_4 (dk_at dksX2_canBe_4 18 rfl rfl)
theorem dX2_canBe_107 : decode cX2_canBe 107 = .ok (.goto 4, 3) := dk_167 0 4 (dk_at dksX2_canBe_4 19 rfl rfl)
theorem dX2_canBe_110 : decode cX2_canBe 110 = .ok (.iconst 0, 1) := dk_3 (dk_at dksX2_canBe_4 22 rfl rfl)
theorem dX2_canBe_111 : decode cX2_canBe 111 = .ok (.ireturn, 1) := dk_172 (dk_at dksX2_canBe_4 23 rfl rfl)
theorem dX2_canBe_112 : decode cX2_canBe 112 = .ok (.aload_n 0, 1) := dk_42 (dk_at dksX2_canBe_5 0 rfl rfl)
theorem dX2_canBe_113 : decode cX2_canBe 113 = .ok (.iload_n 1, 1) := dk_27 (dk_at dksX2_canBe_5 1 rfl rfl)
theorem dX2_canBe_114 : decode cX2_canBe 114 = .ok (.invokevirtual 307, 3) := dk_182 1 51 (dk_at dksX2_canBe_5 2 rfl rfl)
theorem dX2_canBe_117 : decode cX2_canBe 117 = .ok (.ldc 54, 2) := dk_18 54 (dk_at dksX2_canBe_5 5 rfl rfl)
theorem dX2_canBe_119 : decode cX2_canBe 119 = .ok (.if_icmp .eq 7, 3) := dk_159 0 7 (dk_at dksX2_canBe_5 7 rfl rfl)
theorem dX2_canBe_122 : decode cX2_canBe 122 = .ok (.iconst 1, 1) := dk_4 (dk_at dksX2_canBe_5 10 rfl rfl)
theorem dX2_canBe_123 : decode cX2_canBe 123 = .ok (.goto 4, 3) := dk_167 0 4 (dk_at dksX2_canBe_5 11 rfl rfl)
theorem dX2_canBe_126 : decode cX2_canBe 126 = .ok (.iconst 0, 1) := dk_3 (dk_at dksX2_canBe_5 14 rfl rfl)
theorem dX2_canBe_127 : decode cX2_canBe 127 = .ok (.ireturn, 1) := dk_172 (dk_at dksX2_canBe_5 15 rfl rfl)
theorem dX2_canBe_128 : decode cX2_canBe 128 = .ok (.iconst 1, 1) := dk_4 (dk_at dksX2_canBe_5 16 rfl rfl)
theorem dX2_canBe_129 : decode cX2_canBe 129 = .ok (.ireturn, 1) := dk_172 (dk_at dksX2_canBe_5 17 rfl rfl)
abbrev cX2_powersIn : ByteArray := prog_17_method_89_code
def yX2_powersIn : MethodName := ⟨RX2, "powersIn", "(I)I"⟩
def dkwX2_powersIn_2 : List UInt8 := [172]
abbrev dktX2_powersIn_2 : List UInt8 := dkwX2_powersIn_2 ++ []
def dkwX2_powersIn_1 : List UInt8 := [182, 1, 48, 153, 0, 7, 28, 167, 0, 17, 42, 29, 182, 1, 48, 153, 0, 7, 29, 167, 0, 5, 18, 54]
abbrev dktX2_powersIn_1 : List UInt8 := dkwX2_powersIn_1 ++ dktX2_powersIn_2
def dkwX2_powersIn_0 : List UInt8 := [42, 180, 0, 13, 7, 27, 104, 46, 61, 42, 180, 0, 13, 7, 27, 104, 4, 96, 46, 62, 42, 28]
abbrev dktX2_powersIn_0 : List UInt8 := dkwX2_powersIn_0 ++ dktX2_powersIn_1
theorem dksX2_powersIn_0 : cX2_powersIn.data.toList.drop 0 = dktX2_powersIn_0 := by decide +kernel
theorem dksX2_powersIn_1 : cX2_powersIn.data.toList.drop 22 = dktX2_powersIn_1 := dk_seg dksX2_powersIn_0 22 rfl rfl
theorem dksX2_powersIn_2 : cX2_powersIn.data.toList.drop 46 = dktX2_powersIn_2 := dk_seg dksX2_powersIn_1 24 rfl rfl
theorem dX2_powersIn_0 : decode cX2_powersIn 0 = .ok (.aload_n 0, 1) := dk_42 (dk_at dksX2_powersIn_0 0 rfl rfl)
theorem dX2_powersIn_1 : decode cX2_powersIn 1 = .ok (.getfield 13, 3) := dk_180 0 13 (dk_at dksX2_powersIn_0 1 rfl rfl)
theorem dX2_powersIn_4 : decode cX2_powersIn 4 = .ok (.iconst 4, 1) := dk_7 (dk_at dksX2_powersIn_0 4 rfl rfl)
theorem dX2_powersIn_5 : decode cX2_powersIn 5 = .ok (.iload_n 1, 1) := dk_27 (dk_at dksX2_powersIn_0 5 rfl rfl)
theorem dX2_powersIn_6 : decode cX2_powersIn 6 = .ok (.imul, 1) := dk_104 (dk_at dksX2_powersIn_0 6 rfl rfl)
theorem dX2_powersIn_7 : decode cX2_powersIn 7 = .ok (.iaload, 1) := dk_46 (dk_at dksX2_powersIn_0 7 rfl rfl)
theorem dX2_powersIn_8 : decode cX2_powersIn 8 = .ok (.istore_n 2, 1) := dk_61 (dk_at dksX2_powersIn_0 8 rfl rfl)
theorem dX2_powersIn_9 : decode cX2_powersIn 9 = .ok (.aload_n 0, 1) := dk_42 (dk_at dksX2_powersIn_0 9 rfl rfl)
theorem dX2_powersIn_10 : decode cX2_powersIn 10 = .ok (.getfield 13, 3) := dk_180 0 13 (dk_at dksX2_powersIn_0 10 rfl rfl)
theorem dX2_powersIn_13 : decode cX2_powersIn 13 = .ok (.iconst 4, 1) := dk_7 (dk_at dksX2_powersIn_0 13 rfl rfl)
theorem dX2_powersIn_14 : decode cX2_powersIn 14 = .ok (.iload_n 1, 1) := dk_27 (dk_at dksX2_powersIn_0 14 rfl rfl)
theorem dX2_powersIn_15 : decode cX2_powersIn 15 = .ok (.imul, 1) := dk_104 (dk_at dksX2_powersIn_0 15 rfl rfl)
theorem dX2_powersIn_16 : decode cX2_powersIn 16 = .ok (.iconst 1, 1) := dk_4 (dk_at dksX2_powersIn_0 16 rfl rfl)
theorem dX2_powersIn_17 : decode cX2_powersIn 17 = .ok (.iadd, 1) := dk_96 (dk_at dksX2_powersIn_0 17 rfl rfl)
theorem dX2_powersIn_18 : decode cX2_powersIn 18 = .ok (.iaload, 1) := dk_46 (dk_at dksX2_powersIn_0 18 rfl rfl)
theorem dX2_powersIn_19 : decode cX2_powersIn 19 = .ok (.istore_n 3, 1) := dk_62 (dk_at dksX2_powersIn_0 19 rfl rfl)
theorem dX2_powersIn_20 : decode cX2_powersIn 20 = .ok (.aload_n 0, 1) := dk_42 (dk_at dksX2_powersIn_0 20 rfl rfl)
theorem dX2_powersIn_21 : decode cX2_powersIn 21 = .ok (.iload_n 2, 1) := dk_28 (dk_at dksX2_powersIn_0 21 rfl rfl)
theorem dX2_powersIn_22 : decode cX2_powersIn 22 = .ok (.invokevirtual 304, 3) := dk_182 1 48 (dk_at dksX2_powersIn_1 0 rfl rfl)
theorem dX2_powersIn_25 : decode cX2_powersIn 25 = .ok (.ifCond .eq 7, 3) := dk_153 0 7 (dk_at dksX2_powersIn_1 3 rfl rfl)
theorem dX2_powersIn_28 : decode cX2_powersIn 28 = .ok (.iload_n 2, 1) := dk_28 (dk_at dksX2_powersIn_1 6 rfl rfl)
theorem dX2_powersIn_29 : decode cX2_powersIn 29 = .ok (.goto 17, 3) := dk_167 0 17 (dk_at dksX2_powersIn_1 7 rfl rfl)
theorem dX2_powersIn_32 : decode cX2_powersIn 32 = .ok (.aload_n 0, 1) := dk_42 (dk_at dksX2_powersIn_1 10 rfl rfl)
theorem dX2_powersIn_33 : decode cX2_powersIn 33 = .ok (.iload_n 3, 1) := dk_29 (dk_at dksX2_powersIn_1 11 rfl rfl)
theorem dX2_powersIn_34 : decode cX2_powersIn 34 = .ok (.invokevirtual 304, 3) := dk_182 1 48 (dk_at dksX2_powersIn_1 12 rfl rfl)
theorem dX2_powersIn_37 : decode cX2_powersIn 37 = .ok (.ifCond .eq 7, 3) := dk_153 0 7 (dk_at dksX2_powersIn_1 15 rfl rfl)
theorem dX2_powersIn_40 : decode cX2_powersIn 40 = .ok (.iload_n 3, 1) := dk_29 (dk_at dksX2_powersIn_1 18 rfl rfl)
theorem dX2_powersIn_41 : decode cX2_powersIn 41 = .ok (.goto 5, 3) := dk_167 0 5 (dk_at dksX2_powersIn_1 19 rfl rfl)
theorem dX2_powersIn_44 : decode cX2_powersIn 44 = .ok (.ldc 54, 2) := dk_18 54 (dk_at dksX2_powersIn_1 22 rfl rfl)
theorem dX2_powersIn_46 : decode cX2_powersIn 46 = .ok (.ireturn, 1) := dk_172 (dk_at dksX2_powersIn_2 0 rfl rfl)
abbrev cX2_isPower : ByteArray := prog_17_method_88_code
def yX2_isPower : MethodName := ⟨RX2, "isPower", "(I)Z"⟩
def dkwX2_isPower_2 : List UInt8 := [167, 0, 4, 3, 172]
abbrev dktX2_isPower_2 : List UInt8 := dkwX2_isPower_2 ++ []
def dkwX2_isPower_1 : List UInt8 := [180, 0, 13, 7, 27, 104, 46, 42, 180, 0, 13, 7, 27, 104, 5, 96, 46, 104, 160, 0, 7, 4]
abbrev dktX2_isPower_1 : List UInt8 := dkwX2_isPower_1 ++ dktX2_isPower_2
def dkwX2_isPower_0 : List UInt8 := [42, 180, 0, 13, 7, 27, 104, 4, 96, 46, 154, 0, 39, 42, 180, 0, 13, 7, 27, 104, 6, 96, 46, 42]
abbrev dktX2_isPower_0 : List UInt8 := dkwX2_isPower_0 ++ dktX2_isPower_1
theorem dksX2_isPower_0 : cX2_isPower.data.toList.drop 0 = dktX2_isPower_0 := by decide +kernel
theorem dksX2_isPower_1 : cX2_isPower.data.toList.drop 24 = dktX2_isPower_1 := dk_seg dksX2_isPower_0 24 rfl rfl
theorem dksX2_isPower_2 : cX2_isPower.data.toList.drop 46 = dktX2_isPower_2 := dk_seg dksX2_isPower_1 22 rfl rfl
theorem dX2_isPower_0 : decode cX2_isPower 0 = .ok (.aload_n 0, 1) := dk_42 (dk_at dksX2_isPower_0 0 rfl rfl)
theorem dX2_isPower_1 : decode cX2_isPower 1 = .ok (.getfield 13, 3) := dk_180 0 13 (dk_at dksX2_isPower_0 1 rfl rfl)
theorem dX2_isPower_4 : decode cX2_isPower 4 = .ok (.iconst 4, 1) := dk_7 (dk_at dksX2_isPower_0 4 rfl rfl)
theorem dX2_isPower_5 : decode cX2_isPower 5 = .ok (.iload_n 1, 1) := dk_27 (dk_at dksX2_isPower_0 5 rfl rfl)
theorem dX2_isPower_6 : decode cX2_isPower 6 = .ok (.imul, 1) := dk_104 (dk_at dksX2_isPower_0 6 rfl rfl)
theorem dX2_isPower_7 : decode cX2_isPower 7 = .ok (.iconst 1, 1) := dk_4 (dk_at dksX2_isPower_0 7 rfl rfl)
theorem dX2_isPower_8 : decode cX2_isPower 8 = .ok (.iadd, 1) := dk_96 (dk_at dksX2_isPower_0 8 rfl rfl)
theorem dX2_isPower_9 : decode cX2_isPower 9 = .ok (.iaload, 1) := dk_46 (dk_at dksX2_isPower_0 9 rfl rfl)
theorem dX2_isPower_10 : decode cX2_isPower 10 = .ok (.ifCond .ne 39, 3) := dk_154 0 39 (dk_at dksX2_isPower_0 10 rfl rfl)
theorem dX2_isPower_13 : decode cX2_isPower 13 = .ok (.aload_n 0, 1) := dk_42 (dk_at dksX2_isPower_0 13 rfl rfl)
theorem dX2_isPower_14 : decode cX2_isPower 14 = .ok (.getfield 13, 3) := dk_180 0 13 (dk_at dksX2_isPower_0 14 rfl rfl)
theorem dX2_isPower_17 : decode cX2_isPower 17 = .ok (.iconst 4, 1) := dk_7 (dk_at dksX2_isPower_0 17 rfl rfl)
theorem dX2_isPower_18 : decode cX2_isPower 18 = .ok (.iload_n 1, 1) := dk_27 (dk_at dksX2_isPower_0 18 rfl rfl)
theorem dX2_isPower_19 : decode cX2_isPower 19 = .ok (.imul, 1) := dk_104 (dk_at dksX2_isPower_0 19 rfl rfl)
theorem dX2_isPower_20 : decode cX2_isPower 20 = .ok (.iconst 3, 1) := dk_6 (dk_at dksX2_isPower_0 20 rfl rfl)
theorem dX2_isPower_21 : decode cX2_isPower 21 = .ok (.iadd, 1) := dk_96 (dk_at dksX2_isPower_0 21 rfl rfl)
theorem dX2_isPower_22 : decode cX2_isPower 22 = .ok (.iaload, 1) := dk_46 (dk_at dksX2_isPower_0 22 rfl rfl)
theorem dX2_isPower_23 : decode cX2_isPower 23 = .ok (.aload_n 0, 1) := dk_42 (dk_at dksX2_isPower_0 23 rfl rfl)
theorem dX2_isPower_24 : decode cX2_isPower 24 = .ok (.getfield 13, 3) := dk_180 0 13 (dk_at dksX2_isPower_1 0 rfl rfl)
theorem dX2_isPower_27 : decode cX2_isPower 27 = .ok (.iconst 4, 1) := dk_7 (dk_at dksX2_isPower_1 3 rfl rfl)
theorem dX2_isPower_28 : decode cX2_isPower 28 = .ok (.iload_n 1, 1) := dk_27 (dk_at dksX2_isPower_1 4 rfl rfl)
theorem dX2_isPower_29 : decode cX2_isPower 29 = .ok (.imul, 1) := dk_104 (dk_at dksX2_isPower_1 5 rfl rfl)
theorem dX2_isPower_30 : decode cX2_isPower 30 = .ok (.iaload, 1) := dk_46 (dk_at dksX2_isPower_1 6 rfl rfl)
theorem dX2_isPower_31 : decode cX2_isPower 31 = .ok (.aload_n 0, 1) := dk_42 (dk_at dksX2_isPower_1 7 rfl rfl)
theorem dX2_isPower_32 : decode cX2_isPower 32 = .ok (.getfield 13, 3) := dk_180 0 13 (dk_at dksX2_isPower_1 8 rfl rfl)
theorem dX2_isPower_35 : decode cX2_isPower 35 = .ok (.iconst 4, 1) := dk_7 (dk_at dksX2_isPower_1 11 rfl rfl)
theorem dX2_isPower_36 : decode cX2_isPower 36 = .ok (.iload_n 1, 1) := dk_27 (dk_at dksX2_isPower_1 12 rfl rfl)
theorem dX2_isPower_37 : decode cX2_isPower 37 = .ok (.imul, 1) := dk_104 (dk_at dksX2_isPower_1 13 rfl rfl)
theorem dX2_isPower_38 : decode cX2_isPower 38 = .ok (.iconst 2, 1) := dk_5 (dk_at dksX2_isPower_1 14 rfl rfl)
theorem dX2_isPower_39 : decode cX2_isPower 39 = .ok (.iadd, 1) := dk_96 (dk_at dksX2_isPower_1 15 rfl rfl)
theorem dX2_isPower_40 : decode cX2_isPower 40 = .ok (.iaload, 1) := dk_46 (dk_at dksX2_isPower_1 16 rfl rfl)
theorem dX2_isPower_41 : decode cX2_isPower 41 = .ok (.imul, 1) := dk_104 (dk_at dksX2_isPower_1 17 rfl rfl)
theorem dX2_isPower_42 : decode cX2_isPower 42 = .ok (.if_icmp .ne 7, 3) := dk_160 0 7 (dk_at dksX2_isPower_1 18 rfl rfl)
theorem dX2_isPower_45 : decode cX2_isPower 45 = .ok (.iconst 1, 1) := dk_4 (dk_at dksX2_isPower_1 21 rfl rfl)
theorem dX2_isPower_46 : decode cX2_isPower 46 = .ok (.goto 4, 3) := dk_167 0 4 (dk_at dksX2_isPower_2 0 rfl rfl)
theorem dX2_isPower_49 : decode cX2_isPower 49 = .ok (.iconst 0, 1) := dk_3 (dk_at dksX2_isPower_2 3 rfl rfl)
theorem dX2_isPower_50 : decode cX2_isPower 50 = .ok (.ireturn, 1) := dk_172 (dk_at dksX2_isPower_2 4 rfl rfl)
abbrev cX2_easedC : ByteArray := prog_17_method_91_code
def yX2_easedC : MethodName := ⟨RX2, "easedC", "(I)I"⟩
def dkwX2_easedC_3 : List UInt8 := [46, 104, 172, 42, 27, 4, 182, 1, 1, 172, 42, 180, 0, 13, 7, 28, 104, 46, 172]
abbrev dktX2_easedC_3 : List UInt8 := dkwX2_easedC_3 ++ []
def dkwX2_easedC_2 : List UInt8 := [42, 180, 0, 13, 7, 28, 104, 46, 42, 180, 0, 13, 7, 42, 180, 0, 13, 7, 27, 104, 4, 96, 46, 104]
abbrev dktX2_easedC_2 : List UInt8 := dkwX2_easedC_2 ++ dktX2_easedC_3
def dkwX2_easedC_1 : List UInt8 := [171, 0, 0, 0, 59, 0, 0, 0, 2, 0, 0, 0, 2, 0, 0, 0, 25, 0, 0, 0, 3, 0, 0, 0, 52]
abbrev dktX2_easedC_1 : List UInt8 := dkwX2_easedC_1 ++ dktX2_easedC_2
def dkwX2_easedC_0 : List UInt8 := [42, 180, 0, 13, 7, 27, 104, 46, 61, 42, 180, 0, 7, 27, 46]
abbrev dktX2_easedC_0 : List UInt8 := dkwX2_easedC_0 ++ dktX2_easedC_1
theorem dksX2_easedC_0 : cX2_easedC.data.toList.drop 0 = dktX2_easedC_0 := by decide +kernel
theorem dksX2_easedC_1 : cX2_easedC.data.toList.drop 15 = dktX2_easedC_1 := dk_seg dksX2_easedC_0 15 rfl rfl
theorem dksX2_easedC_2 : cX2_easedC.data.toList.drop 40 = dktX2_easedC_2 := dk_seg dksX2_easedC_1 25 rfl rfl
theorem dksX2_easedC_3 : cX2_easedC.data.toList.drop 64 = dktX2_easedC_3 := dk_seg dksX2_easedC_2 24 rfl rfl
theorem dX2_easedC_0 : decode cX2_easedC 0 = .ok (.aload_n 0, 1) := dk_42 (dk_at dksX2_easedC_0 0 rfl rfl)
theorem dX2_easedC_1 : decode cX2_easedC 1 = .ok (.getfield 13, 3) := dk_180 0 13 (dk_at dksX2_easedC_0 1 rfl rfl)
theorem dX2_easedC_4 : decode cX2_easedC 4 = .ok (.iconst 4, 1) := dk_7 (dk_at dksX2_easedC_0 4 rfl rfl)
theorem dX2_easedC_5 : decode cX2_easedC 5 = .ok (.iload_n 1, 1) := dk_27 (dk_at dksX2_easedC_0 5 rfl rfl)
theorem dX2_easedC_6 : decode cX2_easedC 6 = .ok (.imul, 1) := dk_104 (dk_at dksX2_easedC_0 6 rfl rfl)
theorem dX2_easedC_7 : decode cX2_easedC 7 = .ok (.iaload, 1) := dk_46 (dk_at dksX2_easedC_0 7 rfl rfl)
theorem dX2_easedC_8 : decode cX2_easedC 8 = .ok (.istore_n 2, 1) := dk_61 (dk_at dksX2_easedC_0 8 rfl rfl)
theorem dX2_easedC_9 : decode cX2_easedC 9 = .ok (.aload_n 0, 1) := dk_42 (dk_at dksX2_easedC_0 9 rfl rfl)
theorem dX2_easedC_10 : decode cX2_easedC 10 = .ok (.getfield 7, 3) := dk_180 0 7 (dk_at dksX2_easedC_0 10 rfl rfl)
theorem dX2_easedC_13 : decode cX2_easedC 13 = .ok (.iload_n 1, 1) := dk_27 (dk_at dksX2_easedC_0 13 rfl rfl)
theorem dX2_easedC_14 : decode cX2_easedC 14 = .ok (.iaload, 1) := dk_46 (dk_at dksX2_easedC_0 14 rfl rfl)
theorem dX2_easedC_15 : decode cX2_easedC 15 = .ok (.lookupswitch 59 #[(2, 25), (3, 52)], 25) := by decide +kernel
theorem dX2_easedC_40 : decode cX2_easedC 40 = .ok (.aload_n 0, 1) := dk_42 (dk_at dksX2_easedC_2 0 rfl rfl)
theorem dX2_easedC_41 : decode cX2_easedC 41 = .ok (.getfield 13, 3) := dk_180 0 13 (dk_at dksX2_easedC_2 1 rfl rfl)
theorem dX2_easedC_44 : decode cX2_easedC 44 = .ok (.iconst 4, 1) := dk_7 (dk_at dksX2_easedC_2 4 rfl rfl)
theorem dX2_easedC_45 : decode cX2_easedC 45 = .ok (.iload_n 2, 1) := dk_28 (dk_at dksX2_easedC_2 5 rfl rfl)
theorem dX2_easedC_46 : decode cX2_easedC 46 = .ok (.imul, 1) := dk_104 (dk_at dksX2_easedC_2 6 rfl rfl)
theorem dX2_easedC_47 : decode cX2_easedC 47 = .ok (.iaload, 1) := dk_46 (dk_at dksX2_easedC_2 7 rfl rfl)
theorem dX2_easedC_48 : decode cX2_easedC 48 = .ok (.aload_n 0, 1) := dk_42 (dk_at dksX2_easedC_2 8 rfl rfl)
theorem dX2_easedC_49 : decode cX2_easedC 49 = .ok (.getfield 13, 3) := dk_180 0 13 (dk_at dksX2_easedC_2 9 rfl rfl)
theorem dX2_easedC_52 : decode cX2_easedC 52 = .ok (.iconst 4, 1) := dk_7 (dk_at dksX2_easedC_2 12 rfl rfl)
theorem dX2_easedC_53 : decode cX2_easedC 53 = .ok (.aload_n 0, 1) := dk_42 (dk_at dksX2_easedC_2 13 rfl rfl)
theorem dX2_easedC_54 : decode cX2_easedC 54 = .ok (.getfield 13, 3) := dk_180 0 13 (dk_at dksX2_easedC_2 14 rfl rfl)
theorem dX2_easedC_57 : decode cX2_easedC 57 = .ok (.iconst 4, 1) := dk_7 (dk_at dksX2_easedC_2 17 rfl rfl)
theorem dX2_easedC_58 : decode cX2_easedC 58 = .ok (.iload_n 1, 1) := dk_27 (dk_at dksX2_easedC_2 18 rfl rfl)
theorem dX2_easedC_59 : decode cX2_easedC 59 = .ok (.imul, 1) := dk_104 (dk_at dksX2_easedC_2 19 rfl rfl)
theorem dX2_easedC_60 : decode cX2_easedC 60 = .ok (.iconst 1, 1) := dk_4 (dk_at dksX2_easedC_2 20 rfl rfl)
theorem dX2_easedC_61 : decode cX2_easedC 61 = .ok (.iadd, 1) := dk_96 (dk_at dksX2_easedC_2 21 rfl rfl)
theorem dX2_easedC_62 : decode cX2_easedC 62 = .ok (.iaload, 1) := dk_46 (dk_at dksX2_easedC_2 22 rfl rfl)
theorem dX2_easedC_63 : decode cX2_easedC 63 = .ok (.imul, 1) := dk_104 (dk_at dksX2_easedC_2 23 rfl rfl)
theorem dX2_easedC_64 : decode cX2_easedC 64 = .ok (.iaload, 1) := dk_46 (dk_at dksX2_easedC_3 0 rfl rfl)
theorem dX2_easedC_65 : decode cX2_easedC 65 = .ok (.imul, 1) := dk_104 (dk_at dksX2_easedC_3 1 rfl rfl)
theorem dX2_easedC_66 : decode cX2_easedC 66 = .ok (.ireturn, 1) := dk_172 (dk_at dksX2_easedC_3 2 rfl rfl)
theorem dX2_easedC_67 : decode cX2_easedC 67 = .ok (.aload_n 0, 1) := dk_42 (dk_at dksX2_easedC_3 3 rfl rfl)
theorem dX2_easedC_68 : decode cX2_easedC 68 = .ok (.iload_n 1, 1) := dk_27 (dk_at dksX2_easedC_3 4 rfl rfl)
theorem dX2_easedC_69 : decode cX2_easedC 69 = .ok (.iconst 1, 1) := dk_4 (dk_at dksX2_easedC_3 5 rfl rfl)
theorem dX2_easedC_70 : decode cX2_easedC 70 = .ok (.invokevirtual 257, 3) := dk_182 1 1 (dk_at dksX2_easedC_3 6 rfl rfl)
theorem dX2_easedC_73 : decode cX2_easedC 73 = .ok (.ireturn, 1) := dk_172 (dk_at dksX2_easedC_3 9 rfl rfl)
theorem dX2_easedC_74 : decode cX2_easedC 74 = .ok (.aload_n 0, 1) := dk_42 (dk_at dksX2_easedC_3 10 rfl rfl)
theorem dX2_easedC_75 : decode cX2_easedC 75 = .ok (.getfield 13, 3) := dk_180 0 13 (dk_at dksX2_easedC_3 11 rfl rfl)
theorem dX2_easedC_78 : decode cX2_easedC 78 = .ok (.iconst 4, 1) := dk_7 (dk_at dksX2_easedC_3 14 rfl rfl)
theorem dX2_easedC_79 : decode cX2_easedC 79 = .ok (.iload_n 2, 1) := dk_28 (dk_at dksX2_easedC_3 15 rfl rfl)
theorem dX2_easedC_80 : decode cX2_easedC 80 = .ok (.imul, 1) := dk_104 (dk_at dksX2_easedC_3 16 rfl rfl)
theorem dX2_easedC_81 : decode cX2_easedC 81 = .ok (.iaload, 1) := dk_46 (dk_at dksX2_easedC_3 17 rfl rfl)
theorem dX2_easedC_82 : decode cX2_easedC 82 = .ok (.ireturn, 1) := dk_172 (dk_at dksX2_easedC_3 18 rfl rfl)
abbrev cX2_easedD : ByteArray := prog_17_method_92_code
def yX2_easedD : MethodName := ⟨RX2, "easedD", "(I)I"⟩
def dkwX2_easedD_4 : List UInt8 := [4, 96, 46, 104, 172, 42, 27, 5, 182, 1, 1, 172, 42, 180, 0, 13, 7, 28, 104, 4, 96, 46, 172]
abbrev dktX2_easedD_4 : List UInt8 := dkwX2_easedD_4 ++ []
def dkwX2_easedD_3 : List UInt8 := [180, 0, 13, 7, 29, 104, 46, 42, 180, 0, 13, 7, 29, 104, 46, 104, 42, 180, 0, 13, 7, 21, 4, 104]
abbrev dktX2_easedD_3 : List UInt8 := dkwX2_easedD_3 ++ dktX2_easedD_4
def dkwX2_easedD_2 : List UInt8 := [42, 27, 182, 1, 51, 62, 28, 42, 180, 0, 13, 7, 27, 104, 4, 96, 46, 96, 29, 100, 54, 4, 42]
abbrev dktX2_easedD_2 : List UInt8 := dkwX2_easedD_2 ++ dktX2_easedD_3
def dkwX2_easedD_1 : List UInt8 := [171, 0, 0, 0, 84, 0, 0, 0, 2, 0, 0, 0, 2, 0, 0, 0, 25, 0, 0, 0, 3, 0, 0, 0, 77]
abbrev dktX2_easedD_1 : List UInt8 := dkwX2_easedD_1 ++ dktX2_easedD_2
def dkwX2_easedD_0 : List UInt8 := [42, 180, 0, 13, 7, 27, 104, 46, 61, 42, 180, 0, 7, 27, 46]
abbrev dktX2_easedD_0 : List UInt8 := dkwX2_easedD_0 ++ dktX2_easedD_1
theorem dksX2_easedD_0 : cX2_easedD.data.toList.drop 0 = dktX2_easedD_0 := by decide +kernel
theorem dksX2_easedD_1 : cX2_easedD.data.toList.drop 15 = dktX2_easedD_1 := dk_seg dksX2_easedD_0 15 rfl rfl
theorem dksX2_easedD_2 : cX2_easedD.data.toList.drop 40 = dktX2_easedD_2 := dk_seg dksX2_easedD_1 25 rfl rfl
theorem dksX2_easedD_3 : cX2_easedD.data.toList.drop 63 = dktX2_easedD_3 := dk_seg dksX2_easedD_2 23 rfl rfl
theorem dksX2_easedD_4 : cX2_easedD.data.toList.drop 87 = dktX2_easedD_4 := dk_seg dksX2_easedD_3 24 rfl rfl
theorem dX2_easedD_0 : decode cX2_easedD 0 = .ok (.aload_n 0, 1) := dk_42 (dk_at dksX2_easedD_0 0 rfl rfl)
theorem dX2_easedD_1 : decode cX2_easedD 1 = .ok (.getfield 13, 3) := dk_180 0 13 (dk_at dksX2_easedD_0 1 rfl rfl)
theorem dX2_easedD_4 : decode cX2_easedD 4 = .ok (.iconst 4, 1) := dk_7 (dk_at dksX2_easedD_0 4 rfl rfl)
theorem dX2_easedD_5 : decode cX2_easedD 5 = .ok (.iload_n 1, 1) := dk_27 (dk_at dksX2_easedD_0 5 rfl rfl)
theorem dX2_easedD_6 : decode cX2_easedD 6 = .ok (.imul, 1) := dk_104 (dk_at dksX2_easedD_0 6 rfl rfl)
theorem dX2_easedD_7 : decode cX2_easedD 7 = .ok (.iaload, 1) := dk_46 (dk_at dksX2_easedD_0 7 rfl rfl)
theorem dX2_easedD_8 : decode cX2_easedD 8 = .ok (.istore_n 2, 1) := dk_61 (dk_at dksX2_easedD_0 8 rfl rfl)
theorem dX2_easedD_9 : decode cX2_easedD 9 = .ok (.aload_n 0, 1) := dk_42 (dk_at dksX2_easedD_0 9 rfl rfl)
theorem dX2_easedD_10 : decode cX2_easedD 10 = .ok (.getfield 7, 3) := dk_180 0 7 (dk_at dksX2_easedD_0 10 rfl rfl)
theorem dX2_easedD_13 : decode cX2_easedD 13 = .ok (.iload_n 1, 1) := dk_27 (dk_at dksX2_easedD_0 13 rfl rfl)
theorem dX2_easedD_14 : decode cX2_easedD 14 = .ok (.iaload, 1) := dk_46 (dk_at dksX2_easedD_0 14 rfl rfl)
theorem dX2_easedD_15 : decode cX2_easedD 15 = .ok (.lookupswitch 84 #[(2, 25), (3, 77)], 25) := by decide +kernel
theorem dX2_easedD_40 : decode cX2_easedD 40 = .ok (.aload_n 0, 1) := dk_42 (dk_at dksX2_easedD_2 0 rfl rfl)
theorem dX2_easedD_41 : decode cX2_easedD 41 = .ok (.iload_n 1, 1) := dk_27 (dk_at dksX2_easedD_2 1 rfl rfl)
theorem dX2_easedD_42 : decode cX2_easedD 42 = .ok (.invokevirtual 307, 3) := dk_182 1 51 (dk_at dksX2_easedD_2 2 rfl rfl)
theorem dX2_easedD_45 : decode cX2_easedD 45 = .ok (.istore_n 3, 1) := dk_62 (dk_at dksX2_easedD_2 5 rfl rfl)
theorem dX2_easedD_46 : decode cX2_easedD 46 = .ok (.iload_n 2, 1) := dk_28 (dk_at dksX2_easedD_2 6 rfl rfl)
theorem dX2_easedD_47 : decode cX2_easedD 47 = .ok (.aload_n 0, 1) := dk_42 (dk_at dksX2_easedD_2 7 rfl rfl)
theorem dX2_easedD_48 : decode cX2_easedD 48 = .ok (.getfield 13, 3) := dk_180 0 13 (dk_at dksX2_easedD_2 8 rfl rfl)
theorem dX2_easedD_51 : decode cX2_easedD 51 = .ok (.iconst 4, 1) := dk_7 (dk_at dksX2_easedD_2 11 rfl rfl)
theorem dX2_easedD_52 : decode cX2_easedD 52 = .ok (.iload_n 1, 1) := dk_27 (dk_at dksX2_easedD_2 12 rfl rfl)
theorem dX2_easedD_53 : decode cX2_easedD 53 = .ok (.imul, 1) := dk_104 (dk_at dksX2_easedD_2 13 rfl rfl)
theorem dX2_easedD_54 : decode cX2_easedD 54 = .ok (.iconst 1, 1) := dk_4 (dk_at dksX2_easedD_2 14 rfl rfl)
theorem dX2_easedD_55 : decode cX2_easedD 55 = .ok (.iadd, 1) := dk_96 (dk_at dksX2_easedD_2 15 rfl rfl)
theorem dX2_easedD_56 : decode cX2_easedD 56 = .ok (.iaload, 1) := dk_46 (dk_at dksX2_easedD_2 16 rfl rfl)
theorem dX2_easedD_57 : decode cX2_easedD 57 = .ok (.iadd, 1) := dk_96 (dk_at dksX2_easedD_2 17 rfl rfl)
theorem dX2_easedD_58 : decode cX2_easedD 58 = .ok (.iload_n 3, 1) := dk_29 (dk_at dksX2_easedD_2 18 rfl rfl)
theorem dX2_easedD_59 : decode cX2_easedD 59 = .ok (.isub, 1) := dk_100 (dk_at dksX2_easedD_2 19 rfl rfl)
theorem dX2_easedD_60 : decode cX2_easedD 60 = .ok (.istore 4, 2) := dk_54 4 (dk_at dksX2_easedD_2 20 rfl rfl)
theorem dX2_easedD_62 : decode cX2_easedD 62 = .ok (.aload_n 0, 1) := dk_42 (dk_at dksX2_easedD_2 22 rfl rfl)
theorem dX2_easedD_63 : decode cX2_easedD 63 = .ok (.getfield 13, 3) := dk_180 0 13 (dk_at dksX2_easedD_3 0 rfl rfl)
theorem dX2_easedD_66 : decode cX2_easedD 66 = .ok (.iconst 4, 1) := dk_7 (dk_at dksX2_easedD_3 3 rfl rfl)
theorem dX2_easedD_67 : decode cX2_easedD 67 = .ok (.iload_n 3, 1) := dk_29 (dk_at dksX2_easedD_3 4 rfl rfl)
theorem dX2_easedD_68 : decode cX2_easedD 68 = .ok (.imul, 1) := dk_104 (dk_at dksX2_easedD_3 5 rfl rfl)
theorem dX2_easedD_69 : decode cX2_easedD 69 = .ok (.iaload, 1) := dk_46 (dk_at dksX2_easedD_3 6 rfl rfl)
theorem dX2_easedD_70 : decode cX2_easedD 70 = .ok (.aload_n 0, 1) := dk_42 (dk_at dksX2_easedD_3 7 rfl rfl)
theorem dX2_easedD_71 : decode cX2_easedD 71 = .ok (.getfield 13, 3) := dk_180 0 13 (dk_at dksX2_easedD_3 8 rfl rfl)
theorem dX2_easedD_74 : decode cX2_easedD 74 = .ok (.iconst 4, 1) := dk_7 (dk_at dksX2_easedD_3 11 rfl rfl)
theorem dX2_easedD_75 : decode cX2_easedD 75 = .ok (.iload_n 3, 1) := dk_29 (dk_at dksX2_easedD_3 12 rfl rfl)
theorem dX2_easedD_76 : decode cX2_easedD 76 = .ok (.imul, 1) := dk_104 (dk_at dksX2_easedD_3 13 rfl rfl)
theorem dX2_easedD_77 : decode cX2_easedD 77 = .ok (.iaload, 1) := dk_46 (dk_at dksX2_easedD_3 14 rfl rfl)
theorem dX2_easedD_78 : decode cX2_easedD 78 = .ok (.imul, 1) := dk_104 (dk_at dksX2_easedD_3 15 rfl rfl)
theorem dX2_easedD_79 : decode cX2_easedD 79 = .ok (.aload_n 0, 1) := dk_42 (dk_at dksX2_easedD_3 16 rfl rfl)
theorem dX2_easedD_80 : decode cX2_easedD 80 = .ok (.getfield 13, 3) := dk_180 0 13 (dk_at dksX2_easedD_3 17 rfl rfl)
theorem dX2_easedD_83 : decode cX2_easedD 83 = .ok (.iconst 4, 1) := dk_7 (dk_at dksX2_easedD_3 20 rfl rfl)
theorem dX2_easedD_84 : decode cX2_easedD 84 = .ok (.iload 4, 2) := dk_21 4 (dk_at dksX2_easedD_3 21 rfl rfl)
theorem dX2_easedD_86 : decode cX2_easedD 86 = .ok (.imul, 1) := dk_104 (dk_at dksX2_easedD_3 23 rfl rfl)
theorem dX2_easedD_87 : decode cX2_easedD 87 = .ok (.iconst 1, 1) := dk_4 (dk_at dksX2_easedD_4 0 rfl rfl)
theorem dX2_easedD_88 : decode cX2_easedD 88 = .ok (.iadd, 1) := dk_96 (dk_at dksX2_easedD_4 1 rfl rfl)
theorem dX2_easedD_89 : decode cX2_easedD 89 = .ok (.iaload, 1) := dk_46 (dk_at dksX2_easedD_4 2 rfl rfl)
theorem dX2_easedD_90 : decode cX2_easedD 90 = .ok (.imul, 1) := dk_104 (dk_at dksX2_easedD_4 3 rfl rfl)
theorem dX2_easedD_91 : decode cX2_easedD 91 = .ok (.ireturn, 1) := dk_172 (dk_at dksX2_easedD_4 4 rfl rfl)
theorem dX2_easedD_92 : decode cX2_easedD 92 = .ok (.aload_n 0, 1) := dk_42 (dk_at dksX2_easedD_4 5 rfl rfl)
theorem dX2_easedD_93 : decode cX2_easedD 93 = .ok (.iload_n 1, 1) := dk_27 (dk_at dksX2_easedD_4 6 rfl rfl)
theorem dX2_easedD_94 : decode cX2_easedD 94 = .ok (.iconst 2, 1) := dk_5 (dk_at dksX2_easedD_4 7 rfl rfl)
theorem dX2_easedD_95 : decode cX2_easedD 95 = .ok (.invokevirtual 257, 3) := dk_182 1 1 (dk_at dksX2_easedD_4 8 rfl rfl)
theorem dX2_easedD_98 : decode cX2_easedD 98 = .ok (.ireturn, 1) := dk_172 (dk_at dksX2_easedD_4 11 rfl rfl)
theorem dX2_easedD_99 : decode cX2_easedD 99 = .ok (.aload_n 0, 1) := dk_42 (dk_at dksX2_easedD_4 12 rfl rfl)
theorem dX2_easedD_100 : decode cX2_easedD 100 = .ok (.getfield 13, 3) := dk_180 0 13 (dk_at dksX2_easedD_4 13 rfl rfl)
theorem dX2_easedD_103 : decode cX2_easedD 103 = .ok (.iconst 4, 1) := dk_7 (dk_at dksX2_easedD_4 16 rfl rfl)
theorem dX2_easedD_104 : decode cX2_easedD 104 = .ok (.iload_n 2, 1) := dk_28 (dk_at dksX2_easedD_4 17 rfl rfl)
theorem dX2_easedD_105 : decode cX2_easedD 105 = .ok (.imul, 1) := dk_104 (dk_at dksX2_easedD_4 18 rfl rfl)
theorem dX2_easedD_106 : decode cX2_easedD 106 = .ok (.iconst 1, 1) := dk_4 (dk_at dksX2_easedD_4 19 rfl rfl)
theorem dX2_easedD_107 : decode cX2_easedD 107 = .ok (.iadd, 1) := dk_96 (dk_at dksX2_easedD_4 20 rfl rfl)
theorem dX2_easedD_108 : decode cX2_easedD 108 = .ok (.iaload, 1) := dk_46 (dk_at dksX2_easedD_4 21 rfl rfl)
theorem dX2_easedD_109 : decode cX2_easedD 109 = .ok (.ireturn, 1) := dk_172 (dk_at dksX2_easedD_4 22 rfl rfl)
abbrev cX2_give : ByteArray := prog_17_method_94_code
def yX2_give : MethodName := ⟨RX2, "give", "(I)I"⟩
def dkwX2_give_2 : List UInt8 := [180, 1, 63, 172]
abbrev dktX2_give_2 : List UInt8 := dkwX2_give_2 ++ []
def dkwX2_give_1 : List UInt8 := [18, 76, 172, 42, 180, 0, 16, 42, 180, 1, 63, 27, 79, 42, 89, 180, 1, 63, 4, 96, 181, 1, 63, 42]
abbrev dktX2_give_1 : List UInt8 := dkwX2_give_1 ++ dktX2_give_2
def dkwX2_give_0 : List UInt8 := [27, 16, 157, 16, 99, 184, 0, 68, 154, 0, 6, 18, 72, 172, 42, 180, 1, 63, 16, 8, 160, 0, 6]
abbrev dktX2_give_0 : List UInt8 := dkwX2_give_0 ++ dktX2_give_1
theorem dksX2_give_0 : cX2_give.data.toList.drop 0 = dktX2_give_0 := by decide +kernel
theorem dksX2_give_1 : cX2_give.data.toList.drop 23 = dktX2_give_1 := dk_seg dksX2_give_0 23 rfl rfl
theorem dksX2_give_2 : cX2_give.data.toList.drop 47 = dktX2_give_2 := dk_seg dksX2_give_1 24 rfl rfl
theorem dX2_give_0 : decode cX2_give 0 = .ok (.iload_n 1, 1) := dk_27 (dk_at dksX2_give_0 0 rfl rfl)
theorem dX2_give_1 : decode cX2_give 1 = .ok (.bipush (-99), 2) := dk_16 157 (dk_at dksX2_give_0 1 rfl rfl)
theorem dX2_give_3 : decode cX2_give 3 = .ok (.bipush 99, 2) := dk_16 99 (dk_at dksX2_give_0 3 rfl rfl)
theorem dX2_give_5 : decode cX2_give 5 = .ok (.invokestatic 68, 3) := dk_184 0 68 (dk_at dksX2_give_0 5 rfl rfl)
theorem dX2_give_8 : decode cX2_give 8 = .ok (.ifCond .ne 6, 3) := dk_154 0 6 (dk_at dksX2_give_0 8 rfl rfl)
theorem dX2_give_11 : decode cX2_give 11 = .ok (.ldc 72, 2) := dk_18 72 (dk_at dksX2_give_0 11 rfl rfl)
theorem dX2_give_13 : decode cX2_give 13 = .ok (.ireturn, 1) := dk_172 (dk_at dksX2_give_0 13 rfl rfl)
theorem dX2_give_14 : decode cX2_give 14 = .ok (.aload_n 0, 1) := dk_42 (dk_at dksX2_give_0 14 rfl rfl)
theorem dX2_give_15 : decode cX2_give 15 = .ok (.getfield 319, 3) := dk_180 1 63 (dk_at dksX2_give_0 15 rfl rfl)
theorem dX2_give_18 : decode cX2_give 18 = .ok (.bipush 8, 2) := dk_16 8 (dk_at dksX2_give_0 18 rfl rfl)
theorem dX2_give_20 : decode cX2_give 20 = .ok (.if_icmp .ne 6, 3) := dk_160 0 6 (dk_at dksX2_give_0 20 rfl rfl)
theorem dX2_give_23 : decode cX2_give 23 = .ok (.ldc 76, 2) := dk_18 76 (dk_at dksX2_give_1 0 rfl rfl)
theorem dX2_give_25 : decode cX2_give 25 = .ok (.ireturn, 1) := dk_172 (dk_at dksX2_give_1 2 rfl rfl)
theorem dX2_give_26 : decode cX2_give 26 = .ok (.aload_n 0, 1) := dk_42 (dk_at dksX2_give_1 3 rfl rfl)
theorem dX2_give_27 : decode cX2_give 27 = .ok (.getfield 16, 3) := dk_180 0 16 (dk_at dksX2_give_1 4 rfl rfl)
theorem dX2_give_30 : decode cX2_give 30 = .ok (.aload_n 0, 1) := dk_42 (dk_at dksX2_give_1 7 rfl rfl)
theorem dX2_give_31 : decode cX2_give 31 = .ok (.getfield 319, 3) := dk_180 1 63 (dk_at dksX2_give_1 8 rfl rfl)
theorem dX2_give_34 : decode cX2_give 34 = .ok (.iload_n 1, 1) := dk_27 (dk_at dksX2_give_1 11 rfl rfl)
theorem dX2_give_35 : decode cX2_give 35 = .ok (.iastore, 1) := dk_79 (dk_at dksX2_give_1 12 rfl rfl)
theorem dX2_give_36 : decode cX2_give 36 = .ok (.aload_n 0, 1) := dk_42 (dk_at dksX2_give_1 13 rfl rfl)
theorem dX2_give_37 : decode cX2_give 37 = .ok (.dup, 1) := dk_89 (dk_at dksX2_give_1 14 rfl rfl)
theorem dX2_give_38 : decode cX2_give 38 = .ok (.getfield 319, 3) := dk_180 1 63 (dk_at dksX2_give_1 15 rfl rfl)
theorem dX2_give_41 : decode cX2_give 41 = .ok (.iconst 1, 1) := dk_4 (dk_at dksX2_give_1 18 rfl rfl)
theorem dX2_give_42 : decode cX2_give 42 = .ok (.iadd, 1) := dk_96 (dk_at dksX2_give_1 19 rfl rfl)
theorem dX2_give_43 : decode cX2_give 43 = .ok (.putfield 319, 3) := dk_181 1 63 (dk_at dksX2_give_1 20 rfl rfl)
theorem dX2_give_46 : decode cX2_give 46 = .ok (.aload_n 0, 1) := dk_42 (dk_at dksX2_give_1 23 rfl rfl)
theorem dX2_give_47 : decode cX2_give 47 = .ok (.getfield 319, 3) := dk_180 1 63 (dk_at dksX2_give_2 0 rfl rfl)
theorem dX2_give_50 : decode cX2_give 50 = .ok (.ireturn, 1) := dk_172 (dk_at dksX2_give_2 3 rfl rfl)
abbrev cX2_forget : ByteArray := prog_17_method_95_code
def yX2_forget : MethodName := ⟨RX2, "forget", "()I"⟩
def dkwX2_forget_0 : List UInt8 := [42, 180, 1, 63, 60, 42, 3, 181, 1, 63, 27, 172]
abbrev dktX2_forget_0 : List UInt8 := dkwX2_forget_0 ++ []
theorem dksX2_forget_0 : cX2_forget.data.toList.drop 0 = dktX2_forget_0 := by decide +kernel
theorem dX2_forget_0 : decode cX2_forget 0 = .ok (.aload_n 0, 1) := dk_42 (dk_at dksX2_forget_0 0 rfl rfl)
theorem dX2_forget_1 : decode cX2_forget 1 = .ok (.getfield 319, 3) := dk_180 1 63 (dk_at dksX2_forget_0 1 rfl rfl)
theorem dX2_forget_4 : decode cX2_forget 4 = .ok (.istore_n 1, 1) := dk_60 (dk_at dksX2_forget_0 4 rfl rfl)
theorem dX2_forget_5 : decode cX2_forget 5 = .ok (.aload_n 0, 1) := dk_42 (dk_at dksX2_forget_0 5 rfl rfl)
theorem dX2_forget_6 : decode cX2_forget 6 = .ok (.iconst 0, 1) := dk_3 (dk_at dksX2_forget_0 6 rfl rfl)
theorem dX2_forget_7 : decode cX2_forget 7 = .ok (.putfield 319, 3) := dk_181 1 63 (dk_at dksX2_forget_0 7 rfl rfl)
theorem dX2_forget_10 : decode cX2_forget 10 = .ok (.iload_n 1, 1) := dk_27 (dk_at dksX2_forget_0 10 rfl rfl)
theorem dX2_forget_11 : decode cX2_forget 11 = .ok (.ireturn, 1) := dk_172 (dk_at dksX2_forget_0 11 rfl rfl)
abbrev cX2_guess : ByteArray := prog_17_method_99_code
def yX2_guess : MethodName := ⟨RX2, "guess", "(I)I"⟩
def dkwX2_guess_0 : List UInt8 := [27, 3, 5, 184, 0, 68, 153, 0, 11, 42, 27, 182, 1, 78, 167, 0, 5, 18, 72, 172]
abbrev dktX2_guess_0 : List UInt8 := dkwX2_guess_0 ++ []
theorem dksX2_guess_0 : cX2_guess.data.toList.drop 0 = dktX2_guess_0 := by decide +kernel
theorem dX2_guess_0 : decode cX2_guess 0 = .ok (.iload_n 1, 1) := dk_27 (dk_at dksX2_guess_0 0 rfl rfl)
theorem dX2_guess_1 : decode cX2_guess 1 = .ok (.iconst 0, 1) := dk_3 (dk_at dksX2_guess_0 1 rfl rfl)
theorem dX2_guess_2 : decode cX2_guess 2 = .ok (.iconst 2, 1) := dk_5 (dk_at dksX2_guess_0 2 rfl rfl)
theorem dX2_guess_3 : decode cX2_guess 3 = .ok (.invokestatic 68, 3) := dk_184 0 68 (dk_at dksX2_guess_0 3 rfl rfl)
theorem dX2_guess_6 : decode cX2_guess 6 = .ok (.ifCond .eq 11, 3) := dk_153 0 11 (dk_at dksX2_guess_0 6 rfl rfl)
theorem dX2_guess_9 : decode cX2_guess 9 = .ok (.aload_n 0, 1) := dk_42 (dk_at dksX2_guess_0 9 rfl rfl)
theorem dX2_guess_10 : decode cX2_guess 10 = .ok (.iload_n 1, 1) := dk_27 (dk_at dksX2_guess_0 10 rfl rfl)
theorem dX2_guess_11 : decode cX2_guess 11 = .ok (.invokevirtual 334, 3) := dk_182 1 78 (dk_at dksX2_guess_0 11 rfl rfl)
theorem dX2_guess_14 : decode cX2_guess 14 = .ok (.goto 5, 3) := dk_167 0 5 (dk_at dksX2_guess_0 14 rfl rfl)
theorem dX2_guess_17 : decode cX2_guess 17 = .ok (.ldc 72, 2) := dk_18 72 (dk_at dksX2_guess_0 17 rfl rfl)
theorem dX2_guess_19 : decode cX2_guess 19 = .ok (.ireturn, 1) := dk_172 (dk_at dksX2_guess_0 19 rfl rfl)
abbrev cX2_guessTold : ByteArray := prog_17_method_98_code
def yX2_guessTold : MethodName := ⟨RX2, "guessTold", "(I)I"⟩
def dkwX2_guessTold_1 : List UInt8 := [42, 180, 1, 66, 167, 0, 7, 42, 180, 1, 69, 172]
abbrev dktX2_guessTold_1 : List UInt8 := dkwX2_guessTold_1 ++ []
def dkwX2_guessTold_0 : List UInt8 := [42, 182, 1, 75, 61, 28, 18, 54, 159, 0, 7, 27, 154, 0, 7, 28, 167, 0, 19, 27, 4, 160, 0, 10]
abbrev dktX2_guessTold_0 : List UInt8 := dkwX2_guessTold_0 ++ dktX2_guessTold_1
theorem dksX2_guessTold_0 : cX2_guessTold.data.toList.drop 0 = dktX2_guessTold_0 := by decide +kernel
theorem dksX2_guessTold_1 : cX2_guessTold.data.toList.drop 24 = dktX2_guessTold_1 := dk_seg dksX2_guessTold_0 24 rfl rfl
theorem dX2_guessTold_0 : decode cX2_guessTold 0 = .ok (.aload_n 0, 1) := dk_42 (dk_at dksX2_guessTold_0 0 rfl rfl)
theorem dX2_guessTold_1 : decode cX2_guessTold 1 = .ok (.invokevirtual 331, 3) := dk_182 1 75 (dk_at dksX2_guessTold_0 1 rfl rfl)
theorem dX2_guessTold_4 : decode cX2_guessTold 4 = .ok (.istore_n 2, 1) := dk_61 (dk_at dksX2_guessTold_0 4 rfl rfl)
theorem dX2_guessTold_5 : decode cX2_guessTold 5 = .ok (.iload_n 2, 1) := dk_28 (dk_at dksX2_guessTold_0 5 rfl rfl)
theorem dX2_guessTold_6 : decode cX2_guessTold 6 = .ok (.ldc 54, 2) := dk_18 54 (dk_at dksX2_guessTold_0 6 rfl rfl)
theorem dX2_guessTold_8 : decode cX2_guessTold 8 = .ok (.if_icmp .eq 7, 3) := dk_159 0 7 (dk_at dksX2_guessTold_0 8 rfl rfl)
theorem dX2_guessTold_11 : decode cX2_guessTold 11 = .ok (.iload_n 1, 1) := dk_27 (dk_at dksX2_guessTold_0 11 rfl rfl)
theorem dX2_guessTold_12 : decode cX2_guessTold 12 = .ok (.ifCond .ne 7, 3) := dk_154 0 7 (dk_at dksX2_guessTold_0 12 rfl rfl)
theorem dX2_guessTold_15 : decode cX2_guessTold 15 = .ok (.iload_n 2, 1) := dk_28 (dk_at dksX2_guessTold_0 15 rfl rfl)
theorem dX2_guessTold_16 : decode cX2_guessTold 16 = .ok (.goto 19, 3) := dk_167 0 19 (dk_at dksX2_guessTold_0 16 rfl rfl)
theorem dX2_guessTold_19 : decode cX2_guessTold 19 = .ok (.iload_n 1, 1) := dk_27 (dk_at dksX2_guessTold_0 19 rfl rfl)
theorem dX2_guessTold_20 : decode cX2_guessTold 20 = .ok (.iconst 1, 1) := dk_4 (dk_at dksX2_guessTold_0 20 rfl rfl)
theorem dX2_guessTold_21 : decode cX2_guessTold 21 = .ok (.if_icmp .ne 10, 3) := dk_160 0 10 (dk_at dksX2_guessTold_0 21 rfl rfl)
theorem dX2_guessTold_24 : decode cX2_guessTold 24 = .ok (.aload_n 0, 1) := dk_42 (dk_at dksX2_guessTold_1 0 rfl rfl)
theorem dX2_guessTold_25 : decode cX2_guessTold 25 = .ok (.getfield 322, 3) := dk_180 1 66 (dk_at dksX2_guessTold_1 1 rfl rfl)
theorem dX2_guessTold_28 : decode cX2_guessTold 28 = .ok (.goto 7, 3) := dk_167 0 7 (dk_at dksX2_guessTold_1 4 rfl rfl)
theorem dX2_guessTold_31 : decode cX2_guessTold 31 = .ok (.aload_n 0, 1) := dk_42 (dk_at dksX2_guessTold_1 7 rfl rfl)
theorem dX2_guessTold_32 : decode cX2_guessTold 32 = .ok (.getfield 325, 3) := dk_180 1 69 (dk_at dksX2_guessTold_1 8 rfl rfl)
theorem dX2_guessTold_35 : decode cX2_guessTold 35 = .ok (.ireturn, 1) := dk_172 (dk_at dksX2_guessTold_1 11 rfl rfl)
abbrev cX2_guessNow : ByteArray := prog_17_method_97_code
def yX2_guessNow : MethodName := ⟨RX2, "guessNow", "()I"⟩
def dkwX2_guessNow_4 : List UInt8 := [180, 1, 66, 42, 180, 1, 69, 182, 1, 72, 153, 0, 5, 28, 172, 132, 1, 1, 167, 255, 170, 18, 54, 172]
abbrev dktX2_guessNow_4 : List UInt8 := dkwX2_guessNow_4 ++ []
def dkwX2_guessNow_3 : List UInt8 := [160, 0, 7, 3, 167, 0, 13, 27, 16, 19, 100, 16, 19, 112, 16, 9, 100, 181, 1, 69, 42, 28, 42]
abbrev dktX2_guessNow_3 : List UInt8 := dkwX2_guessNow_3 ++ dktX2_guessNow_4
def dkwX2_guessNow_2 : List UInt8 := [160, 0, 7, 27, 167, 0, 10, 27, 16, 19, 100, 16, 19, 108, 16, 9, 100, 181, 1, 66, 42, 28, 4]
abbrev dktX2_guessNow_2 : List UInt8 := dkwX2_guessNow_2 ++ dktX2_guessNow_3
def dkwX2_guessNow_1 : List UInt8 := [27, 17, 1, 124, 162, 0, 85, 27, 16, 19, 162, 0, 7, 4, 167, 0, 4, 5, 61, 42, 28, 4]
abbrev dktX2_guessNow_1 : List UInt8 := dkwX2_guessNow_1 ++ dktX2_guessNow_2
def dkwX2_guessNow_0 : List UInt8 := [42, 3, 181, 1, 66, 42, 3, 181, 1, 69, 42, 3, 3, 3, 182, 1, 72, 153, 0, 5, 3, 172, 3, 60]
abbrev dktX2_guessNow_0 : List UInt8 := dkwX2_guessNow_0 ++ dktX2_guessNow_1
theorem dksX2_guessNow_0 : cX2_guessNow.data.toList.drop 0 = dktX2_guessNow_0 := by decide +kernel
theorem dksX2_guessNow_1 : cX2_guessNow.data.toList.drop 24 = dktX2_guessNow_1 := dk_seg dksX2_guessNow_0 24 rfl rfl
theorem dksX2_guessNow_2 : cX2_guessNow.data.toList.drop 46 = dktX2_guessNow_2 := dk_seg dksX2_guessNow_1 22 rfl rfl
theorem dksX2_guessNow_3 : cX2_guessNow.data.toList.drop 69 = dktX2_guessNow_3 := dk_seg dksX2_guessNow_2 23 rfl rfl
theorem dksX2_guessNow_4 : cX2_guessNow.data.toList.drop 92 = dktX2_guessNow_4 := dk_seg dksX2_guessNow_3 23 rfl rfl
theorem dX2_guessNow_0 : decode cX2_guessNow 0 = .ok (.aload_n 0, 1) := dk_42 (dk_at dksX2_guessNow_0 0 rfl rfl)
theorem dX2_guessNow_1 : decode cX2_guessNow 1 = .ok (.iconst 0, 1) := dk_3 (dk_at dksX2_guessNow_0 1 rfl rfl)
theorem dX2_guessNow_2 : decode cX2_guessNow 2 = .ok (.putfield 322, 3) := dk_181 1 66 (dk_at dksX2_guessNow_0 2 rfl rfl)
theorem dX2_guessNow_5 : decode cX2_guessNow 5 = .ok (.aload_n 0, 1) := dk_42 (dk_at dksX2_guessNow_0 5 rfl rfl)
theorem dX2_guessNow_6 : decode cX2_guessNow 6 = .ok (.iconst 0, 1) := dk_3 (dk_at dksX2_guessNow_0 6 rfl rfl)
theorem dX2_guessNow_7 : decode cX2_guessNow 7 = .ok (.putfield 325, 3) := dk_181 1 69 (dk_at dksX2_guessNow_0 7 rfl rfl)
theorem dX2_guessNow_10 : decode cX2_guessNow 10 = .ok (.aload_n 0, 1) := dk_42 (dk_at dksX2_guessNow_0 10 rfl rfl)
theorem dX2_guessNow_11 : decode cX2_guessNow 11 = .ok (.iconst 0, 1) := dk_3 (dk_at dksX2_guessNow_0 11 rfl rfl)
theorem dX2_guessNow_12 : decode cX2_guessNow 12 = .ok (.iconst 0, 1) := dk_3 (dk_at dksX2_guessNow_0 12 rfl rfl)
theorem dX2_guessNow_13 : decode cX2_guessNow 13 = .ok (.iconst 0, 1) := dk_3 (dk_at dksX2_guessNow_0 13 rfl rfl)
theorem dX2_guessNow_14 : decode cX2_guessNow 14 = .ok (.invokevirtual 328, 3) := dk_182 1 72 (dk_at dksX2_guessNow_0 14 rfl rfl)
theorem dX2_guessNow_17 : decode cX2_guessNow 17 = .ok (.ifCond .eq 5, 3) := dk_153 0 5 (dk_at dksX2_guessNow_0 17 rfl rfl)
theorem dX2_guessNow_20 : decode cX2_guessNow 20 = .ok (.iconst 0, 1) := dk_3 (dk_at dksX2_guessNow_0 20 rfl rfl)
theorem dX2_guessNow_21 : decode cX2_guessNow 21 = .ok (.ireturn, 1) := dk_172 (dk_at dksX2_guessNow_0 21 rfl rfl)
theorem dX2_guessNow_22 : decode cX2_guessNow 22 = .ok (.iconst 0, 1) := dk_3 (dk_at dksX2_guessNow_0 22 rfl rfl)
theorem dX2_guessNow_23 : decode cX2_guessNow 23 = .ok (.istore_n 1, 1) := dk_60 (dk_at dksX2_guessNow_0 23 rfl rfl)
theorem dX2_guessNow_24 : decode cX2_guessNow 24 = .ok (.iload_n 1, 1) := dk_27 (dk_at dksX2_guessNow_1 0 rfl rfl)
theorem dX2_guessNow_25 : decode cX2_guessNow 25 = .ok (.sipush 380, 3) := dk_17 1 124 (dk_at dksX2_guessNow_1 1 rfl rfl)
theorem dX2_guessNow_28 : decode cX2_guessNow 28 = .ok (.if_icmp .ge 85, 3) := dk_162 0 85 (dk_at dksX2_guessNow_1 4 rfl rfl)
theorem dX2_guessNow_31 : decode cX2_guessNow 31 = .ok (.iload_n 1, 1) := dk_27 (dk_at dksX2_guessNow_1 7 rfl rfl)
theorem dX2_guessNow_32 : decode cX2_guessNow 32 = .ok (.bipush 19, 2) := dk_16 19 (dk_at dksX2_guessNow_1 8 rfl rfl)
theorem dX2_guessNow_34 : decode cX2_guessNow 34 = .ok (.if_icmp .ge 7, 3) := dk_162 0 7 (dk_at dksX2_guessNow_1 10 rfl rfl)
theorem dX2_guessNow_37 : decode cX2_guessNow 37 = .ok (.iconst 1, 1) := dk_4 (dk_at dksX2_guessNow_1 13 rfl rfl)
theorem dX2_guessNow_38 : decode cX2_guessNow 38 = .ok (.goto 4, 3) := dk_167 0 4 (dk_at dksX2_guessNow_1 14 rfl rfl)
theorem dX2_guessNow_41 : decode cX2_guessNow 41 = .ok (.iconst 2, 1) := dk_5 (dk_at dksX2_guessNow_1 17 rfl rfl)
theorem dX2_guessNow_42 : decode cX2_guessNow 42 = .ok (.istore_n 2, 1) := dk_61 (dk_at dksX2_guessNow_1 18 rfl rfl)
theorem dX2_guessNow_43 : decode cX2_guessNow 43 = .ok (.aload_n 0, 1) := dk_42 (dk_at dksX2_guessNow_1 19 rfl rfl)
theorem dX2_guessNow_44 : decode cX2_guessNow 44 = .ok (.iload_n 2, 1) := dk_28 (dk_at dksX2_guessNow_1 20 rfl rfl)
theorem dX2_guessNow_45 : decode cX2_guessNow 45 = .ok (.iconst 1, 1) := dk_4 (dk_at dksX2_guessNow_1 21 rfl rfl)
theorem dX2_guessNow_46 : decode cX2_guessNow 46 = .ok (.if_icmp .ne 7, 3) := dk_160 0 7 (dk_at dksX2_guessNow_2 0 rfl rfl)
theorem dX2_guessNow_49 : decode cX2_guessNow 49 = .ok (.iload_n 1, 1) := dk_27 (dk_at dksX2_guessNow_2 3 rfl rfl)
theorem dX2_guessNow_50 : decode cX2_guessNow 50 = .ok (.goto 10, 3) := dk_167 0 10 (dk_at dksX2_guessNow_2 4 rfl rfl)
theorem dX2_guessNow_53 : decode cX2_guessNow 53 = .ok (.iload_n 1, 1) := dk_27 (dk_at dksX2_guessNow_2 7 rfl rfl)
theorem dX2_guessNow_54 : decode cX2_guessNow 54 = .ok (.bipush 19, 2) := dk_16 19 (dk_at dksX2_guessNow_2 8 rfl rfl)
theorem dX2_guessNow_56 : decode cX2_guessNow 56 = .ok (.isub, 1) := dk_100 (dk_at dksX2_guessNow_2 10 rfl rfl)
theorem dX2_guessNow_57 : decode cX2_guessNow 57 = .ok (.bipush 19, 2) := dk_16 19 (dk_at dksX2_guessNow_2 11 rfl rfl)
theorem dX2_guessNow_59 : decode cX2_guessNow 59 = .ok (.idiv, 1) := dk_108 (dk_at dksX2_guessNow_2 13 rfl rfl)
theorem dX2_guessNow_60 : decode cX2_guessNow 60 = .ok (.bipush 9, 2) := dk_16 9 (dk_at dksX2_guessNow_2 14 rfl rfl)
theorem dX2_guessNow_62 : decode cX2_guessNow 62 = .ok (.isub, 1) := dk_100 (dk_at dksX2_guessNow_2 16 rfl rfl)
theorem dX2_guessNow_63 : decode cX2_guessNow 63 = .ok (.putfield 322, 3) := dk_181 1 66 (dk_at dksX2_guessNow_2 17 rfl rfl)
theorem dX2_guessNow_66 : decode cX2_guessNow 66 = .ok (.aload_n 0, 1) := dk_42 (dk_at dksX2_guessNow_2 20 rfl rfl)
theorem dX2_guessNow_67 : decode cX2_guessNow 67 = .ok (.iload_n 2, 1) := dk_28 (dk_at dksX2_guessNow_2 21 rfl rfl)
theorem dX2_guessNow_68 : decode cX2_guessNow 68 = .ok (.iconst 1, 1) := dk_4 (dk_at dksX2_guessNow_2 22 rfl rfl)
theorem dX2_guessNow_69 : decode cX2_guessNow 69 = .ok (.if_icmp .ne 7, 3) := dk_160 0 7 (dk_at dksX2_guessNow_3 0 rfl rfl)
theorem dX2_guessNow_72 : decode cX2_guessNow 72 = .ok (.iconst 0, 1) := dk_3 (dk_at dksX2_guessNow_3 3 rfl rfl)
theorem dX2_guessNow_73 : decode cX2_guessNow 73 = .ok (.goto 13, 3) := dk_167 0 13 (dk_at dksX2_guessNow_3 4 rfl rfl)
theorem dX2_guessNow_76 : decode cX2_guessNow 76 = .ok (.iload_n 1, 1) := dk_27 (dk_at dksX2_guessNow_3 7 rfl rfl)
theorem dX2_guessNow_77 : decode cX2_guessNow 77 = .ok (.bipush 19, 2) := dk_16 19 (dk_at dksX2_guessNow_3 8 rfl rfl)
theorem dX2_guessNow_79 : decode cX2_guessNow 79 = .ok (.isub, 1) := dk_100 (dk_at dksX2_guessNow_3 10 rfl rfl)
theorem dX2_guessNow_80 : decode cX2_guessNow 80 = .ok (.bipush 19, 2) := dk_16 19 (dk_at dksX2_guessNow_3 11 rfl rfl)
theorem dX2_guessNow_82 : decode cX2_guessNow 82 = .ok (.irem, 1) := dk_112 (dk_at dksX2_guessNow_3 13 rfl rfl)
theorem dX2_guessNow_83 : decode cX2_guessNow 83 = .ok (.bipush 9, 2) := dk_16 9 (dk_at dksX2_guessNow_3 14 rfl rfl)
theorem dX2_guessNow_85 : decode cX2_guessNow 85 = .ok (.isub, 1) := dk_100 (dk_at dksX2_guessNow_3 16 rfl rfl)
theorem dX2_guessNow_86 : decode cX2_guessNow 86 = .ok (.putfield 325, 3) := dk_181 1 69 (dk_at dksX2_guessNow_3 17 rfl rfl)
theorem dX2_guessNow_89 : decode cX2_guessNow 89 = .ok (.aload_n 0, 1) := dk_42 (dk_at dksX2_guessNow_3 20 rfl rfl)
theorem dX2_guessNow_90 : decode cX2_guessNow 90 = .ok (.iload_n 2, 1) := dk_28 (dk_at dksX2_guessNow_3 21 rfl rfl)
theorem dX2_guessNow_91 : decode cX2_guessNow 91 = .ok (.aload_n 0, 1) := dk_42 (dk_at dksX2_guessNow_3 22 rfl rfl)
theorem dX2_guessNow_92 : decode cX2_guessNow 92 = .ok (.getfield 322, 3) := dk_180 1 66 (dk_at dksX2_guessNow_4 0 rfl rfl)
theorem dX2_guessNow_95 : decode cX2_guessNow 95 = .ok (.aload_n 0, 1) := dk_42 (dk_at dksX2_guessNow_4 3 rfl rfl)
theorem dX2_guessNow_96 : decode cX2_guessNow 96 = .ok (.getfield 325, 3) := dk_180 1 69 (dk_at dksX2_guessNow_4 4 rfl rfl)
theorem dX2_guessNow_99 : decode cX2_guessNow 99 = .ok (.invokevirtual 328, 3) := dk_182 1 72 (dk_at dksX2_guessNow_4 7 rfl rfl)
theorem dX2_guessNow_102 : decode cX2_guessNow 102 = .ok (.ifCond .eq 5, 3) := dk_153 0 5 (dk_at dksX2_guessNow_4 10 rfl rfl)
theorem dX2_guessNow_105 : decode cX2_guessNow 105 = .ok (.iload_n 2, 1) := dk_28 (dk_at dksX2_guessNow_4 13 rfl rfl)
theorem dX2_guessNow_106 : decode cX2_guessNow 106 = .ok (.ireturn, 1) := dk_172 (dk_at dksX2_guessNow_4 14 rfl rfl)
theorem dX2_guessNow_107 : decode cX2_guessNow 107 = .ok (.iinc 1 1, 3) := dk_132 1 1 (dk_at dksX2_guessNow_4 15 rfl rfl)
theorem dX2_guessNow_110 : decode cX2_guessNow 110 = .ok (.goto (-86), 3) := dk_167 255 170 (dk_at dksX2_guessNow_4 18 rfl rfl)
theorem dX2_guessNow_113 : decode cX2_guessNow 113 = .ok (.ldc 54, 2) := dk_18 54 (dk_at dksX2_guessNow_4 21 rfl rfl)
theorem dX2_guessNow_115 : decode cX2_guessNow 115 = .ok (.ireturn, 1) := dk_172 (dk_at dksX2_guessNow_4 23 rfl rfl)
abbrev cX2_isGuess : ByteArray := prog_17_method_96_code
def yX2_isGuess : MethodName := ⟨RX2, "isGuess", "(III)Z"⟩
def dkwX2_isGuess_4 : List UInt8 := [132, 5, 1, 167, 255, 168, 21, 4, 172]
abbrev dktX2_isGuess_4 : List UInt8 := dkwX2_isGuess_4 ++ []
def dkwX2_isGuess_3 : List UInt8 := [153, 0, 19, 42, 180, 0, 16, 21, 5, 46, 21, 6, 160, 0, 7, 4, 167, 0, 4, 3, 54, 4]
abbrev dktX2_isGuess_3 : List UInt8 := dkwX2_isGuess_3 ++ dktX2_isGuess_4
def dkwX2_isGuess_2 : List UInt8 := [21, 5, 4, 100, 46, 104, 29, 42, 180, 0, 16, 21, 5, 5, 100, 46, 104, 96, 54, 6, 21, 4]
abbrev dktX2_isGuess_2 : List UInt8 := dkwX2_isGuess_2 ++ dktX2_isGuess_3
def dkwX2_isGuess_1 : List UInt8 := [4, 160, 0, 17, 28, 42, 180, 0, 16, 21, 5, 4, 100, 46, 104, 167, 0, 26, 28, 42, 180, 0, 16]
abbrev dktX2_isGuess_1 : List UInt8 := dkwX2_isGuess_1 ++ dktX2_isGuess_2
def dkwX2_isGuess_0 : List UInt8 := [4, 54, 4, 27, 54, 5, 21, 5, 42, 180, 1, 63, 162, 0, 85, 27, 154, 0, 7, 3, 167, 0, 45, 27]
abbrev dktX2_isGuess_0 : List UInt8 := dkwX2_isGuess_0 ++ dktX2_isGuess_1
theorem dksX2_isGuess_0 : cX2_isGuess.data.toList.drop 0 = dktX2_isGuess_0 := by decide +kernel
theorem dksX2_isGuess_1 : cX2_isGuess.data.toList.drop 24 = dktX2_isGuess_1 := dk_seg dksX2_isGuess_0 24 rfl rfl
theorem dksX2_isGuess_2 : cX2_isGuess.data.toList.drop 47 = dktX2_isGuess_2 := dk_seg dksX2_isGuess_1 23 rfl rfl
theorem dksX2_isGuess_3 : cX2_isGuess.data.toList.drop 69 = dktX2_isGuess_3 := dk_seg dksX2_isGuess_2 22 rfl rfl
theorem dksX2_isGuess_4 : cX2_isGuess.data.toList.drop 91 = dktX2_isGuess_4 := dk_seg dksX2_isGuess_3 22 rfl rfl
theorem dX2_isGuess_0 : decode cX2_isGuess 0 = .ok (.iconst 1, 1) := dk_4 (dk_at dksX2_isGuess_0 0 rfl rfl)
theorem dX2_isGuess_1 : decode cX2_isGuess 1 = .ok (.istore 4, 2) := dk_54 4 (dk_at dksX2_isGuess_0 1 rfl rfl)
theorem dX2_isGuess_3 : decode cX2_isGuess 3 = .ok (.iload_n 1, 1) := dk_27 (dk_at dksX2_isGuess_0 3 rfl rfl)
theorem dX2_isGuess_4 : decode cX2_isGuess 4 = .ok (.istore 5, 2) := dk_54 5 (dk_at dksX2_isGuess_0 4 rfl rfl)
theorem dX2_isGuess_6 : decode cX2_isGuess 6 = .ok (.iload 5, 2) := dk_21 5 (dk_at dksX2_isGuess_0 6 rfl rfl)
theorem dX2_isGuess_8 : decode cX2_isGuess 8 = .ok (.aload_n 0, 1) := dk_42 (dk_at dksX2_isGuess_0 8 rfl rfl)
theorem dX2_isGuess_9 : decode cX2_isGuess 9 = .ok (.getfield 319, 3) := dk_180 1 63 (dk_at dksX2_isGuess_0 9 rfl rfl)
theorem dX2_isGuess_12 : decode cX2_isGuess 12 = .ok (.if_icmp .ge 85, 3) := dk_162 0 85 (dk_at dksX2_isGuess_0 12 rfl rfl)
theorem dX2_isGuess_15 : decode cX2_isGuess 15 = .ok (.iload_n 1, 1) := dk_27 (dk_at dksX2_isGuess_0 15 rfl rfl)
theorem dX2_isGuess_16 : decode cX2_isGuess 16 = .ok (.ifCond .ne 7, 3) := dk_154 0 7 (dk_at dksX2_isGuess_0 16 rfl rfl)
theorem dX2_isGuess_19 : decode cX2_isGuess 19 = .ok (.iconst 0, 1) := dk_3 (dk_at dksX2_isGuess_0 19 rfl rfl)
theorem dX2_isGuess_20 : decode cX2_isGuess 20 = .ok (.goto 45, 3) := dk_167 0 45 (dk_at dksX2_isGuess_0 20 rfl rfl)
theorem dX2_isGuess_23 : decode cX2_isGuess 23 = .ok (.iload_n 1, 1) := dk_27 (dk_at dksX2_isGuess_0 23 rfl rfl)
theorem dX2_isGuess_24 : decode cX2_isGuess 24 = .ok (.iconst 1, 1) := dk_4 (dk_at dksX2_isGuess_1 0 rfl rfl)
theorem dX2_isGuess_25 : decode cX2_isGuess 25 = .ok (.if_icmp .ne 17, 3) := dk_160 0 17 (dk_at dksX2_isGuess_1 1 rfl rfl)
theorem dX2_isGuess_28 : decode cX2_isGuess 28 = .ok (.iload_n 2, 1) := dk_28 (dk_at dksX2_isGuess_1 4 rfl rfl)
theorem dX2_isGuess_29 : decode cX2_isGuess 29 = .ok (.aload_n 0, 1) := dk_42 (dk_at dksX2_isGuess_1 5 rfl rfl)
theorem dX2_isGuess_30 : decode cX2_isGuess 30 = .ok (.getfield 16, 3) := dk_180 0 16 (dk_at dksX2_isGuess_1 6 rfl rfl)
theorem dX2_isGuess_33 : decode cX2_isGuess 33 = .ok (.iload 5, 2) := dk_21 5 (dk_at dksX2_isGuess_1 9 rfl rfl)
theorem dX2_isGuess_35 : decode cX2_isGuess 35 = .ok (.iconst 1, 1) := dk_4 (dk_at dksX2_isGuess_1 11 rfl rfl)
theorem dX2_isGuess_36 : decode cX2_isGuess 36 = .ok (.isub, 1) := dk_100 (dk_at dksX2_isGuess_1 12 rfl rfl)
theorem dX2_isGuess_37 : decode cX2_isGuess 37 = .ok (.iaload, 1) := dk_46 (dk_at dksX2_isGuess_1 13 rfl rfl)
theorem dX2_isGuess_38 : decode cX2_isGuess 38 = .ok (.imul, 1) := dk_104 (dk_at dksX2_isGuess_1 14 rfl rfl)
theorem dX2_isGuess_39 : decode cX2_isGuess 39 = .ok (.goto 26, 3) := dk_167 0 26 (dk_at dksX2_isGuess_1 15 rfl rfl)
theorem dX2_isGuess_42 : decode cX2_isGuess 42 = .ok (.iload_n 2, 1) := dk_28 (dk_at dksX2_isGuess_1 18 rfl rfl)
theorem dX2_isGuess_43 : decode cX2_isGuess 43 = .ok (.aload_n 0, 1) := dk_42 (dk_at dksX2_isGuess_1 19 rfl rfl)
theorem dX2_isGuess_44 : decode cX2_isGuess 44 = .ok (.getfield 16, 3) := dk_180 0 16 (dk_at dksX2_isGuess_1 20 rfl rfl)
theorem dX2_isGuess_47 : decode cX2_isGuess 47 = .ok (.iload 5, 2) := dk_21 5 (dk_at dksX2_isGuess_2 0 rfl rfl)
theorem dX2_isGuess_49 : decode cX2_isGuess 49 = .ok (.iconst 1, 1) := dk_4 (dk_at dksX2_isGuess_2 2 rfl rfl)
theorem dX2_isGuess_50 : decode cX2_isGuess 50 = .ok (.isub, 1) := dk_100 (dk_at dksX2_isGuess_2 3 rfl rfl)
theorem dX2_isGuess_51 : decode cX2_isGuess 51 = .ok (.iaload, 1) := dk_46 (dk_at dksX2_isGuess_2 4 rfl rfl)
theorem dX2_isGuess_52 : decode cX2_isGuess 52 = .ok (.imul, 1) := dk_104 (dk_at dksX2_isGuess_2 5 rfl rfl)
theorem dX2_isGuess_53 : decode cX2_isGuess 53 = .ok (.iload_n 3, 1) := dk_29 (dk_at dksX2_isGuess_2 6 rfl rfl)
theorem dX2_isGuess_54 : decode cX2_isGuess 54 = .ok (.aload_n 0, 1) := dk_42 (dk_at dksX2_isGuess_2 7 rfl rfl)
theorem dX2_isGuess_55 : decode cX2_isGuess 55 = .ok (.getfield 16, 3) := dk_180 0 16 (dk_at dksX2_isGuess_2 8 rfl rfl)
theorem dX2_isGuess_58 : decode cX2_isGuess 58 = .ok (.iload 5, 2) := dk_21 5 (dk_at dksX2_isGuess_2 11 rfl rfl)
theorem dX2_isGuess_60 : decode cX2_isGuess 60 = .ok (.iconst 2, 1) := dk_5 (dk_at dksX2_isGuess_2 13 rfl rfl)
theorem dX2_isGuess_61 : decode cX2_isGuess 61 = .ok (.isub, 1) := dk_100 (dk_at dksX2_isGuess_2 14 rfl rfl)
theorem dX2_isGuess_62 : decode cX2_isGuess 62 = .ok (.iaload, 1) := dk_46 (dk_at dksX2_isGuess_2 15 rfl rfl)
theorem dX2_isGuess_63 : decode cX2_isGuess 63 = .ok (.imul, 1) := dk_104 (dk_at dksX2_isGuess_2 16 rfl rfl)
theorem dX2_isGuess_64 : decode cX2_isGuess 64 = .ok (.iadd, 1) := dk_96 (dk_at dksX2_isGuess_2 17 rfl rfl)
theorem dX2_isGuess_65 : decode cX2_isGuess 65 = .ok (.istore 6, 2) := dk_54 6 (dk_at dksX2_isGuess_2 18 rfl rfl)
theorem dX2_isGuess_67 : decode cX2_isGuess 67 = .ok (.iload 4, 2) := dk_21 4 (dk_at dksX2_isGuess_2 20 rfl rfl)
theorem dX2_isGuess_69 : decode cX2_isGuess 69 = .ok (.ifCond .eq 19, 3) := dk_153 0 19 (dk_at dksX2_isGuess_3 0 rfl rfl)
theorem dX2_isGuess_72 : decode cX2_isGuess 72 = .ok (.aload_n 0, 1) := dk_42 (dk_at dksX2_isGuess_3 3 rfl rfl)
theorem dX2_isGuess_73 : decode cX2_isGuess 73 = .ok (.getfield 16, 3) := dk_180 0 16 (dk_at dksX2_isGuess_3 4 rfl rfl)
theorem dX2_isGuess_76 : decode cX2_isGuess 76 = .ok (.iload 5, 2) := dk_21 5 (dk_at dksX2_isGuess_3 7 rfl rfl)
theorem dX2_isGuess_78 : decode cX2_isGuess 78 = .ok (.iaload, 1) := dk_46 (dk_at dksX2_isGuess_3 9 rfl rfl)
theorem dX2_isGuess_79 : decode cX2_isGuess 79 = .ok (.iload 6, 2) := dk_21 6 (dk_at dksX2_isGuess_3 10 rfl rfl)
theorem dX2_isGuess_81 : decode cX2_isGuess 81 = .ok (.if_icmp .ne 7, 3) := dk_160 0 7 (dk_at dksX2_isGuess_3 12 rfl rfl)
theorem dX2_isGuess_84 : decode cX2_isGuess 84 = .ok (.iconst 1, 1) := dk_4 (dk_at dksX2_isGuess_3 15 rfl rfl)
theorem dX2_isGuess_85 : decode cX2_isGuess 85 = .ok (.goto 4, 3) := dk_167 0 4 (dk_at dksX2_isGuess_3 16 rfl rfl)
theorem dX2_isGuess_88 : decode cX2_isGuess 88 = .ok (.iconst 0, 1) := dk_3 (dk_at dksX2_isGuess_3 19 rfl rfl)
theorem dX2_isGuess_89 : decode cX2_isGuess 89 = .ok (.istore 4, 2) := dk_54 4 (dk_at dksX2_isGuess_3 20 rfl rfl)
theorem dX2_isGuess_91 : decode cX2_isGuess 91 = .ok (.iinc 5 1, 3) := dk_132 5 1 (dk_at dksX2_isGuess_4 0 rfl rfl)
theorem dX2_isGuess_94 : decode cX2_isGuess 94 = .ok (.goto (-88), 3) := dk_167 255 168 (dk_at dksX2_isGuess_4 3 rfl rfl)
theorem dX2_isGuess_97 : decode cX2_isGuess 97 = .ok (.iload 4, 2) := dk_21 4 (dk_at dksX2_isGuess_4 6 rfl rfl)
theorem dX2_isGuess_99 : decode cX2_isGuess 99 = .ok (.ireturn, 1) := dk_172 (dk_at dksX2_isGuess_4 8 rfl rfl)
abbrev cX2_found : ByteArray := prog_17_method_100_code
def yX2_found : MethodName := ⟨RX2, "found", "()I"⟩
def dkwX2_found_2 : List UInt8 := [180, 0, 16, 4, 46, 167, 0, 9, 42, 180, 1, 66, 28, 104, 182, 1, 44, 172]
abbrev dktX2_found_2 : List UInt8 := dkwX2_found_2 ++ []
def dkwX2_found_1 : List UInt8 := [180, 0, 16, 3, 46, 61, 42, 3, 42, 180, 1, 66, 42, 180, 1, 69, 28, 27, 5, 160, 0, 12, 42]
abbrev dktX2_found_1 : List UInt8 := dkwX2_found_1 ++ dktX2_found_2
def dkwX2_found_0 : List UInt8 := [42, 182, 1, 75, 60, 27, 18, 54, 160, 0, 6, 18, 115, 172, 27, 154, 0, 7, 3, 167, 0, 9, 42]
abbrev dktX2_found_0 : List UInt8 := dkwX2_found_0 ++ dktX2_found_1
theorem dksX2_found_0 : cX2_found.data.toList.drop 0 = dktX2_found_0 := by decide +kernel
theorem dksX2_found_1 : cX2_found.data.toList.drop 23 = dktX2_found_1 := dk_seg dksX2_found_0 23 rfl rfl
theorem dksX2_found_2 : cX2_found.data.toList.drop 46 = dktX2_found_2 := dk_seg dksX2_found_1 23 rfl rfl
theorem dX2_found_0 : decode cX2_found 0 = .ok (.aload_n 0, 1) := dk_42 (dk_at dksX2_found_0 0 rfl rfl)
theorem dX2_found_1 : decode cX2_found 1 = .ok (.invokevirtual 331, 3) := dk_182 1 75 (dk_at dksX2_found_0 1 rfl rfl)
theorem dX2_found_4 : decode cX2_found 4 = .ok (.istore_n 1, 1) := dk_60 (dk_at dksX2_found_0 4 rfl rfl)
theorem dX2_found_5 : decode cX2_found 5 = .ok (.iload_n 1, 1) := dk_27 (dk_at dksX2_found_0 5 rfl rfl)
theorem dX2_found_6 : decode cX2_found 6 = .ok (.ldc 54, 2) := dk_18 54 (dk_at dksX2_found_0 6 rfl rfl)
theorem dX2_found_8 : decode cX2_found 8 = .ok (.if_icmp .ne 6, 3) := dk_160 0 6 (dk_at dksX2_found_0 8 rfl rfl)
theorem dX2_found_11 : decode cX2_found 11 = .ok (.ldc 115, 2) := dk_18 115 (dk_at dksX2_found_0 11 rfl rfl)
theorem dX2_found_13 : decode cX2_found 13 = .ok (.ireturn, 1) := dk_172 (dk_at dksX2_found_0 13 rfl rfl)
theorem dX2_found_14 : decode cX2_found 14 = .ok (.iload_n 1, 1) := dk_27 (dk_at dksX2_found_0 14 rfl rfl)
theorem dX2_found_15 : decode cX2_found 15 = .ok (.ifCond .ne 7, 3) := dk_154 0 7 (dk_at dksX2_found_0 15 rfl rfl)
theorem dX2_found_18 : decode cX2_found 18 = .ok (.iconst 0, 1) := dk_3 (dk_at dksX2_found_0 18 rfl rfl)
theorem dX2_found_19 : decode cX2_found 19 = .ok (.goto 9, 3) := dk_167 0 9 (dk_at dksX2_found_0 19 rfl rfl)
theorem dX2_found_22 : decode cX2_found 22 = .ok (.aload_n 0, 1) := dk_42 (dk_at dksX2_found_0 22 rfl rfl)
theorem dX2_found_23 : decode cX2_found 23 = .ok (.getfield 16, 3) := dk_180 0 16 (dk_at dksX2_found_1 0 rfl rfl)
theorem dX2_found_26 : decode cX2_found 26 = .ok (.iconst 0, 1) := dk_3 (dk_at dksX2_found_1 3 rfl rfl)
theorem dX2_found_27 : decode cX2_found 27 = .ok (.iaload, 1) := dk_46 (dk_at dksX2_found_1 4 rfl rfl)
theorem dX2_found_28 : decode cX2_found 28 = .ok (.istore_n 2, 1) := dk_61 (dk_at dksX2_found_1 5 rfl rfl)
theorem dX2_found_29 : decode cX2_found 29 = .ok (.aload_n 0, 1) := dk_42 (dk_at dksX2_found_1 6 rfl rfl)
theorem dX2_found_30 : decode cX2_found 30 = .ok (.iconst 0, 1) := dk_3 (dk_at dksX2_found_1 7 rfl rfl)
theorem dX2_found_31 : decode cX2_found 31 = .ok (.aload_n 0, 1) := dk_42 (dk_at dksX2_found_1 8 rfl rfl)
theorem dX2_found_32 : decode cX2_found 32 = .ok (.getfield 322, 3) := dk_180 1 66 (dk_at dksX2_found_1 9 rfl rfl)
theorem dX2_found_35 : decode cX2_found 35 = .ok (.aload_n 0, 1) := dk_42 (dk_at dksX2_found_1 12 rfl rfl)
theorem dX2_found_36 : decode cX2_found 36 = .ok (.getfield 325, 3) := dk_180 1 69 (dk_at dksX2_found_1 13 rfl rfl)
theorem dX2_found_39 : decode cX2_found 39 = .ok (.iload_n 2, 1) := dk_28 (dk_at dksX2_found_1 16 rfl rfl)
theorem dX2_found_40 : decode cX2_found 40 = .ok (.iload_n 1, 1) := dk_27 (dk_at dksX2_found_1 17 rfl rfl)
theorem dX2_found_41 : decode cX2_found 41 = .ok (.iconst 2, 1) := dk_5 (dk_at dksX2_found_1 18 rfl rfl)
theorem dX2_found_42 : decode cX2_found 42 = .ok (.if_icmp .ne 12, 3) := dk_160 0 12 (dk_at dksX2_found_1 19 rfl rfl)
theorem dX2_found_45 : decode cX2_found 45 = .ok (.aload_n 0, 1) := dk_42 (dk_at dksX2_found_1 22 rfl rfl)
theorem dX2_found_46 : decode cX2_found 46 = .ok (.getfield 16, 3) := dk_180 0 16 (dk_at dksX2_found_2 0 rfl rfl)
theorem dX2_found_49 : decode cX2_found 49 = .ok (.iconst 1, 1) := dk_4 (dk_at dksX2_found_2 3 rfl rfl)
theorem dX2_found_50 : decode cX2_found 50 = .ok (.iaload, 1) := dk_46 (dk_at dksX2_found_2 4 rfl rfl)
theorem dX2_found_51 : decode cX2_found 51 = .ok (.goto 9, 3) := dk_167 0 9 (dk_at dksX2_found_2 5 rfl rfl)
theorem dX2_found_54 : decode cX2_found 54 = .ok (.aload_n 0, 1) := dk_42 (dk_at dksX2_found_2 8 rfl rfl)
theorem dX2_found_55 : decode cX2_found 55 = .ok (.getfield 322, 3) := dk_180 1 66 (dk_at dksX2_found_2 9 rfl rfl)
theorem dX2_found_58 : decode cX2_found 58 = .ok (.iload_n 2, 1) := dk_28 (dk_at dksX2_found_2 12 rfl rfl)
theorem dX2_found_59 : decode cX2_found 59 = .ok (.imul, 1) := dk_104 (dk_at dksX2_found_2 13 rfl rfl)
theorem dX2_found_60 : decode cX2_found 60 = .ok (.invokevirtual 300, 3) := dk_182 1 44 (dk_at dksX2_found_2 14 rfl rfl)
theorem dX2_found_63 : decode cX2_found 63 = .ok (.ireturn, 1) := dk_172 (dk_at dksX2_found_2 17 rfl rfl)
abbrev cX2_drawn : ByteArray := prog_17_method_103_code
def yX2_drawn : MethodName := ⟨RX2, "drawn", "(III)I"⟩
def dkwX2_drawn_1 : List UInt8 := [27, 28, 29, 182, 1, 96, 167, 0, 5, 18, 72, 172]
abbrev dktX2_drawn_1 : List UInt8 := dkwX2_drawn_1 ++ []
def dkwX2_drawn_0 : List UInt8 := [27, 4, 16, 30, 184, 0, 68, 153, 0, 26, 28, 155, 0, 22, 29, 3, 5, 184, 0, 68, 153, 0, 13, 42]
abbrev dktX2_drawn_0 : List UInt8 := dkwX2_drawn_0 ++ dktX2_drawn_1
theorem dksX2_drawn_0 : cX2_drawn.data.toList.drop 0 = dktX2_drawn_0 := by decide +kernel
theorem dksX2_drawn_1 : cX2_drawn.data.toList.drop 24 = dktX2_drawn_1 := dk_seg dksX2_drawn_0 24 rfl rfl
theorem dX2_drawn_0 : decode cX2_drawn 0 = .ok (.iload_n 1, 1) := dk_27 (dk_at dksX2_drawn_0 0 rfl rfl)
theorem dX2_drawn_1 : decode cX2_drawn 1 = .ok (.iconst 1, 1) := dk_4 (dk_at dksX2_drawn_0 1 rfl rfl)
theorem dX2_drawn_2 : decode cX2_drawn 2 = .ok (.bipush 30, 2) := dk_16 30 (dk_at dksX2_drawn_0 2 rfl rfl)
theorem dX2_drawn_4 : decode cX2_drawn 4 = .ok (.invokestatic 68, 3) := dk_184 0 68 (dk_at dksX2_drawn_0 4 rfl rfl)
theorem dX2_drawn_7 : decode cX2_drawn 7 = .ok (.ifCond .eq 26, 3) := dk_153 0 26 (dk_at dksX2_drawn_0 7 rfl rfl)
theorem dX2_drawn_10 : decode cX2_drawn 10 = .ok (.iload_n 2, 1) := dk_28 (dk_at dksX2_drawn_0 10 rfl rfl)
theorem dX2_drawn_11 : decode cX2_drawn 11 = .ok (.ifCond .lt 22, 3) := dk_155 0 22 (dk_at dksX2_drawn_0 11 rfl rfl)
theorem dX2_drawn_14 : decode cX2_drawn 14 = .ok (.iload_n 3, 1) := dk_29 (dk_at dksX2_drawn_0 14 rfl rfl)
theorem dX2_drawn_15 : decode cX2_drawn 15 = .ok (.iconst 0, 1) := dk_3 (dk_at dksX2_drawn_0 15 rfl rfl)
theorem dX2_drawn_16 : decode cX2_drawn 16 = .ok (.iconst 2, 1) := dk_5 (dk_at dksX2_drawn_0 16 rfl rfl)
theorem dX2_drawn_17 : decode cX2_drawn 17 = .ok (.invokestatic 68, 3) := dk_184 0 68 (dk_at dksX2_drawn_0 17 rfl rfl)
theorem dX2_drawn_20 : decode cX2_drawn 20 = .ok (.ifCond .eq 13, 3) := dk_153 0 13 (dk_at dksX2_drawn_0 20 rfl rfl)
theorem dX2_drawn_23 : decode cX2_drawn 23 = .ok (.aload_n 0, 1) := dk_42 (dk_at dksX2_drawn_0 23 rfl rfl)
theorem dX2_drawn_24 : decode cX2_drawn 24 = .ok (.iload_n 1, 1) := dk_27 (dk_at dksX2_drawn_1 0 rfl rfl)
theorem dX2_drawn_25 : decode cX2_drawn 25 = .ok (.iload_n 2, 1) := dk_28 (dk_at dksX2_drawn_1 1 rfl rfl)
theorem dX2_drawn_26 : decode cX2_drawn 26 = .ok (.iload_n 3, 1) := dk_29 (dk_at dksX2_drawn_1 2 rfl rfl)
theorem dX2_drawn_27 : decode cX2_drawn 27 = .ok (.invokevirtual 352, 3) := dk_182 1 96 (dk_at dksX2_drawn_1 3 rfl rfl)
theorem dX2_drawn_30 : decode cX2_drawn 30 = .ok (.goto 5, 3) := dk_167 0 5 (dk_at dksX2_drawn_1 6 rfl rfl)
theorem dX2_drawn_33 : decode cX2_drawn 33 = .ok (.ldc 72, 2) := dk_18 72 (dk_at dksX2_drawn_1 9 rfl rfl)
theorem dX2_drawn_35 : decode cX2_drawn 35 = .ok (.ireturn, 1) := dk_172 (dk_at dksX2_drawn_1 11 rfl rfl)
abbrev cX2_drawnNow : ByteArray := prog_17_method_102_code
def yX2_drawnNow : MethodName := ⟨RX2, "drawnNow", "(III)I"⟩
def dkwX2_drawnNow_5 : List UInt8 := [160, 0, 8, 21, 5, 167, 0, 8, 42, 180, 1, 83, 136, 172]
abbrev dktX2_drawnNow_5 : List UInt8 := dkwX2_drawnNow_5 ++ []
def dkwX2_drawnNow_4 : List UInt8 := [167, 0, 4, 3, 96, 54, 5, 132, 6, 1, 167, 255, 166, 29, 154, 0, 8, 21, 4, 167, 0, 18, 29, 4]
abbrev dktX2_drawnNow_4 : List UInt8 := dkwX2_drawnNow_4 ++ dktX2_drawnNow_5
def dkwX2_drawnNow_3 : List UInt8 := [21, 5, 42, 180, 0, 13, 16, 32, 46, 42, 180, 0, 13, 16, 33, 46, 184, 1, 16, 158, 0, 7, 4]
abbrev dktX2_drawnNow_3 : List UInt8 := dkwX2_drawnNow_3 ++ dktX2_drawnNow_4
def dkwX2_drawnNow_2 : List UInt8 := [132, 7, 1, 167, 255, 229, 42, 16, 8, 8, 182, 0, 169, 21, 4, 42, 16, 8, 182, 0, 187, 96, 54, 4]
abbrev dktX2_drawnNow_2 : List UInt8 := dkwX2_drawnNow_2 ++ dktX2_drawnNow_3
def dkwX2_drawnNow_1 : List UInt8 := [21, 7, 7, 162, 0, 27, 42, 180, 0, 13, 16, 32, 21, 7, 96, 42, 16, 7, 182, 1, 93, 6, 100, 79]
abbrev dktX2_drawnNow_1 : List UInt8 := dkwX2_drawnNow_1 ++ dktX2_drawnNow_2
def dkwX2_drawnNow_0 : List UInt8 := [42, 28, 133, 181, 1, 83, 3, 54, 4, 3, 54, 5, 3, 54, 6, 21, 6, 27, 162, 0, 90, 3, 54, 7]
abbrev dktX2_drawnNow_0 : List UInt8 := dkwX2_drawnNow_0 ++ dktX2_drawnNow_1
theorem dksX2_drawnNow_0 : cX2_drawnNow.data.toList.drop 0 = dktX2_drawnNow_0 := by decide +kernel
theorem dksX2_drawnNow_1 : cX2_drawnNow.data.toList.drop 24 = dktX2_drawnNow_1 := dk_seg dksX2_drawnNow_0 24 rfl rfl
theorem dksX2_drawnNow_2 : cX2_drawnNow.data.toList.drop 48 = dktX2_drawnNow_2 := dk_seg dksX2_drawnNow_1 24 rfl rfl
theorem dksX2_drawnNow_3 : cX2_drawnNow.data.toList.drop 72 = dktX2_drawnNow_3 := dk_seg dksX2_drawnNow_2 24 rfl rfl
theorem dksX2_drawnNow_4 : cX2_drawnNow.data.toList.drop 95 = dktX2_drawnNow_4 := dk_seg dksX2_drawnNow_3 23 rfl rfl
theorem dksX2_drawnNow_5 : cX2_drawnNow.data.toList.drop 119 = dktX2_drawnNow_5 := dk_seg dksX2_drawnNow_4 24 rfl rfl
theorem dX2_drawnNow_0 : decode cX2_drawnNow 0 = .ok (.aload_n 0, 1) := dk_42 (dk_at dksX2_drawnNow_0 0 rfl rfl)
theorem dX2_drawnNow_1 : decode cX2_drawnNow 1 = .ok (.iload_n 2, 1) := dk_28 (dk_at dksX2_drawnNow_0 1 rfl rfl)
theorem dX2_drawnNow_2 : decode cX2_drawnNow 2 = .ok (.i2l, 1) := dk_133 (dk_at dksX2_drawnNow_0 2 rfl rfl)
theorem dX2_drawnNow_3 : decode cX2_drawnNow 3 = .ok (.putfield 339, 3) := dk_181 1 83 (dk_at dksX2_drawnNow_0 3 rfl rfl)
theorem dX2_drawnNow_6 : decode cX2_drawnNow 6 = .ok (.iconst 0, 1) := dk_3 (dk_at dksX2_drawnNow_0 6 rfl rfl)
theorem dX2_drawnNow_7 : decode cX2_drawnNow 7 = .ok (.istore 4, 2) := dk_54 4 (dk_at dksX2_drawnNow_0 7 rfl rfl)
theorem dX2_drawnNow_9 : decode cX2_drawnNow 9 = .ok (.iconst 0, 1) := dk_3 (dk_at dksX2_drawnNow_0 9 rfl rfl)
theorem dX2_drawnNow_10 : decode cX2_drawnNow 10 = .ok (.istore 5, 2) := dk_54 5 (dk_at dksX2_drawnNow_0 10 rfl rfl)
theorem dX2_drawnNow_12 : decode cX2_drawnNow 12 = .ok (.iconst 0, 1) := dk_3 (dk_at dksX2_drawnNow_0 12 rfl rfl)
theorem dX2_drawnNow_13 : decode cX2_drawnNow 13 = .ok (.istore 6, 2) := dk_54 6 (dk_at dksX2_drawnNow_0 13 rfl rfl)
theorem dX2_drawnNow_15 : decode cX2_drawnNow 15 = .ok (.iload 6, 2) := dk_21 6 (dk_at dksX2_drawnNow_0 15 rfl rfl)
theorem dX2_drawnNow_17 : decode cX2_drawnNow 17 = .ok (.iload_n 1, 1) := dk_27 (dk_at dksX2_drawnNow_0 17 rfl rfl)
theorem dX2_drawnNow_18 : decode cX2_drawnNow 18 = .ok (.if_icmp .ge 90, 3) := dk_162 0 90 (dk_at dksX2_drawnNow_0 18 rfl rfl)
theorem dX2_drawnNow_21 : decode cX2_drawnNow 21 = .ok (.iconst 0, 1) := dk_3 (dk_at dksX2_drawnNow_0 21 rfl rfl)
theorem dX2_drawnNow_22 : decode cX2_drawnNow 22 = .ok (.istore 7, 2) := dk_54 7 (dk_at dksX2_drawnNow_0 22 rfl rfl)
theorem dX2_drawnNow_24 : decode cX2_drawnNow 24 = .ok (.iload 7, 2) := dk_21 7 (dk_at dksX2_drawnNow_1 0 rfl rfl)
theorem dX2_drawnNow_26 : decode cX2_drawnNow 26 = .ok (.iconst 4, 1) := dk_7 (dk_at dksX2_drawnNow_1 2 rfl rfl)
theorem dX2_drawnNow_27 : decode cX2_drawnNow 27 = .ok (.if_icmp .ge 27, 3) := dk_162 0 27 (dk_at dksX2_drawnNow_1 3 rfl rfl)
theorem dX2_drawnNow_30 : decode cX2_drawnNow 30 = .ok (.aload_n 0, 1) := dk_42 (dk_at dksX2_drawnNow_1 6 rfl rfl)
theorem dX2_drawnNow_31 : decode cX2_drawnNow 31 = .ok (.getfield 13, 3) := dk_180 0 13 (dk_at dksX2_drawnNow_1 7 rfl rfl)
theorem dX2_drawnNow_34 : decode cX2_drawnNow 34 = .ok (.bipush 32, 2) := dk_16 32 (dk_at dksX2_drawnNow_1 10 rfl rfl)
theorem dX2_drawnNow_36 : decode cX2_drawnNow 36 = .ok (.iload 7, 2) := dk_21 7 (dk_at dksX2_drawnNow_1 12 rfl rfl)
theorem dX2_drawnNow_38 : decode cX2_drawnNow 38 = .ok (.iadd, 1) := dk_96 (dk_at dksX2_drawnNow_1 14 rfl rfl)
theorem dX2_drawnNow_39 : decode cX2_drawnNow 39 = .ok (.aload_n 0, 1) := dk_42 (dk_at dksX2_drawnNow_1 15 rfl rfl)
theorem dX2_drawnNow_40 : decode cX2_drawnNow 40 = .ok (.bipush 7, 2) := dk_16 7 (dk_at dksX2_drawnNow_1 16 rfl rfl)
theorem dX2_drawnNow_42 : decode cX2_drawnNow 42 = .ok (.invokevirtual 349, 3) := dk_182 1 93 (dk_at dksX2_drawnNow_1 18 rfl rfl)
theorem dX2_drawnNow_45 : decode cX2_drawnNow 45 = .ok (.iconst 3, 1) := dk_6 (dk_at dksX2_drawnNow_1 21 rfl rfl)
theorem dX2_drawnNow_46 : decode cX2_drawnNow 46 = .ok (.isub, 1) := dk_100 (dk_at dksX2_drawnNow_1 22 rfl rfl)
theorem dX2_drawnNow_47 : decode cX2_drawnNow 47 = .ok (.iastore, 1) := dk_79 (dk_at dksX2_drawnNow_1 23 rfl rfl)
theorem dX2_drawnNow_48 : decode cX2_drawnNow 48 = .ok (.iinc 7 1, 3) := dk_132 7 1 (dk_at dksX2_drawnNow_2 0 rfl rfl)
theorem dX2_drawnNow_51 : decode cX2_drawnNow 51 = .ok (.goto (-27), 3) := dk_167 255 229 (dk_at dksX2_drawnNow_2 3 rfl rfl)
theorem dX2_drawnNow_54 : decode cX2_drawnNow 54 = .ok (.aload_n 0, 1) := dk_42 (dk_at dksX2_drawnNow_2 6 rfl rfl)
theorem dX2_drawnNow_55 : decode cX2_drawnNow 55 = .ok (.bipush 8, 2) := dk_16 8 (dk_at dksX2_drawnNow_2 7 rfl rfl)
theorem dX2_drawnNow_57 : decode cX2_drawnNow 57 = .ok (.iconst 5, 1) := dk_8 (dk_at dksX2_drawnNow_2 9 rfl rfl)
theorem dX2_drawnNow_58 : decode cX2_drawnNow 58 = .ok (.invokevirtual 169, 3) := dk_182 0 169 (dk_at dksX2_drawnNow_2 10 rfl rfl)
theorem dX2_drawnNow_61 : decode cX2_drawnNow 61 = .ok (.iload 4, 2) := dk_21 4 (dk_at dksX2_drawnNow_2 13 rfl rfl)
theorem dX2_drawnNow_63 : decode cX2_drawnNow 63 = .ok (.aload_n 0, 1) := dk_42 (dk_at dksX2_drawnNow_2 15 rfl rfl)
theorem dX2_drawnNow_64 : decode cX2_drawnNow 64 = .ok (.bipush 8, 2) := dk_16 8 (dk_at dksX2_drawnNow_2 16 rfl rfl)
theorem dX2_drawnNow_66 : decode cX2_drawnNow 66 = .ok (.invokevirtual 187, 3) := dk_182 0 187 (dk_at dksX2_drawnNow_2 18 rfl rfl)
theorem dX2_drawnNow_69 : decode cX2_drawnNow 69 = .ok (.iadd, 1) := dk_96 (dk_at dksX2_drawnNow_2 21 rfl rfl)
theorem dX2_drawnNow_70 : decode cX2_drawnNow 70 = .ok (.istore 4, 2) := dk_54 4 (dk_at dksX2_drawnNow_2 22 rfl rfl)
theorem dX2_drawnNow_72 : decode cX2_drawnNow 72 = .ok (.iload 5, 2) := dk_21 5 (dk_at dksX2_drawnNow_3 0 rfl rfl)
theorem dX2_drawnNow_74 : decode cX2_drawnNow 74 = .ok (.aload_n 0, 1) := dk_42 (dk_at dksX2_drawnNow_3 2 rfl rfl)
theorem dX2_drawnNow_75 : decode cX2_drawnNow 75 = .ok (.getfield 13, 3) := dk_180 0 13 (dk_at dksX2_drawnNow_3 3 rfl rfl)
theorem dX2_drawnNow_78 : decode cX2_drawnNow 78 = .ok (.bipush 32, 2) := dk_16 32 (dk_at dksX2_drawnNow_3 6 rfl rfl)
theorem dX2_drawnNow_80 : decode cX2_drawnNow 80 = .ok (.iaload, 1) := dk_46 (dk_at dksX2_drawnNow_3 8 rfl rfl)
theorem dX2_drawnNow_81 : decode cX2_drawnNow 81 = .ok (.aload_n 0, 1) := dk_42 (dk_at dksX2_drawnNow_3 9 rfl rfl)
theorem dX2_drawnNow_82 : decode cX2_drawnNow 82 = .ok (.getfield 13, 3) := dk_180 0 13 (dk_at dksX2_drawnNow_3 10 rfl rfl)
theorem dX2_drawnNow_85 : decode cX2_drawnNow 85 = .ok (.bipush 33, 2) := dk_16 33 (dk_at dksX2_drawnNow_3 13 rfl rfl)
theorem dX2_drawnNow_87 : decode cX2_drawnNow 87 = .ok (.iaload, 1) := dk_46 (dk_at dksX2_drawnNow_3 15 rfl rfl)
theorem dX2_drawnNow_88 : decode cX2_drawnNow 88 = .ok (.invokestatic 272, 3) := dk_184 1 16 (dk_at dksX2_drawnNow_3 16 rfl rfl)
theorem dX2_drawnNow_91 : decode cX2_drawnNow 91 = .ok (.ifCond .le 7, 3) := dk_158 0 7 (dk_at dksX2_drawnNow_3 19 rfl rfl)
theorem dX2_drawnNow_94 : decode cX2_drawnNow 94 = .ok (.iconst 1, 1) := dk_4 (dk_at dksX2_drawnNow_3 22 rfl rfl)
theorem dX2_drawnNow_95 : decode cX2_drawnNow 95 = .ok (.goto 4, 3) := dk_167 0 4 (dk_at dksX2_drawnNow_4 0 rfl rfl)
theorem dX2_drawnNow_98 : decode cX2_drawnNow 98 = .ok (.iconst 0, 1) := dk_3 (dk_at dksX2_drawnNow_4 3 rfl rfl)
theorem dX2_drawnNow_99 : decode cX2_drawnNow 99 = .ok (.iadd, 1) := dk_96 (dk_at dksX2_drawnNow_4 4 rfl rfl)
theorem dX2_drawnNow_100 : decode cX2_drawnNow 100 = .ok (.istore 5, 2) := dk_54 5 (dk_at dksX2_drawnNow_4 5 rfl rfl)
theorem dX2_drawnNow_102 : decode cX2_drawnNow 102 = .ok (.iinc 6 1, 3) := dk_132 6 1 (dk_at dksX2_drawnNow_4 7 rfl rfl)
theorem dX2_drawnNow_105 : decode cX2_drawnNow 105 = .ok (.goto (-90), 3) := dk_167 255 166 (dk_at dksX2_drawnNow_4 10 rfl rfl)
theorem dX2_drawnNow_108 : decode cX2_drawnNow 108 = .ok (.iload_n 3, 1) := dk_29 (dk_at dksX2_drawnNow_4 13 rfl rfl)
theorem dX2_drawnNow_109 : decode cX2_drawnNow 109 = .ok (.ifCond .ne 8, 3) := dk_154 0 8 (dk_at dksX2_drawnNow_4 14 rfl rfl)
theorem dX2_drawnNow_112 : decode cX2_drawnNow 112 = .ok (.iload 4, 2) := dk_21 4 (dk_at dksX2_drawnNow_4 17 rfl rfl)
theorem dX2_drawnNow_114 : decode cX2_drawnNow 114 = .ok (.goto 18, 3) := dk_167 0 18 (dk_at dksX2_drawnNow_4 19 rfl rfl)
theorem dX2_drawnNow_117 : decode cX2_drawnNow 117 = .ok (.iload_n 3, 1) := dk_29 (dk_at dksX2_drawnNow_4 22 rfl rfl)
theorem dX2_drawnNow_118 : decode cX2_drawnNow 118 = .ok (.iconst 1, 1) := dk_4 (dk_at dksX2_drawnNow_4 23 rfl rfl)
theorem dX2_drawnNow_119 : decode cX2_drawnNow 119 = .ok (.if_icmp .ne 8, 3) := dk_160 0 8 (dk_at dksX2_drawnNow_5 0 rfl rfl)
theorem dX2_drawnNow_122 : decode cX2_drawnNow 122 = .ok (.iload 5, 2) := dk_21 5 (dk_at dksX2_drawnNow_5 3 rfl rfl)
theorem dX2_drawnNow_124 : decode cX2_drawnNow 124 = .ok (.goto 8, 3) := dk_167 0 8 (dk_at dksX2_drawnNow_5 5 rfl rfl)
theorem dX2_drawnNow_127 : decode cX2_drawnNow 127 = .ok (.aload_n 0, 1) := dk_42 (dk_at dksX2_drawnNow_5 8 rfl rfl)
theorem dX2_drawnNow_128 : decode cX2_drawnNow 128 = .ok (.getfield 339, 3) := dk_180 1 83 (dk_at dksX2_drawnNow_5 9 rfl rfl)
theorem dX2_drawnNow_131 : decode cX2_drawnNow 131 = .ok (.l2i, 1) := dk_136 (dk_at dksX2_drawnNow_5 12 rfl rfl)
theorem dX2_drawnNow_132 : decode cX2_drawnNow 132 = .ok (.ireturn, 1) := dk_172 (dk_at dksX2_drawnNow_5 13 rfl rfl)
abbrev cX2_drawOf : ByteArray := prog_17_method_101_code
def yX2_drawOf : MethodName := ⟨RX2, "drawOf", "(I)I"⟩
def dkwX2_drawOf_1 : List UInt8 := [20, 1, 91, 109, 27, 133, 113, 136, 172]
abbrev dktX2_drawOf_1 : List UInt8 := dkwX2_drawOf_1 ++ []
def dkwX2_drawOf_0 : List UInt8 := [42, 20, 1, 81, 42, 180, 1, 83, 105, 20, 1, 87, 97, 20, 1, 89, 113, 181, 1, 83, 42, 180, 1, 83]
abbrev dktX2_drawOf_0 : List UInt8 := dkwX2_drawOf_0 ++ dktX2_drawOf_1
theorem dksX2_drawOf_0 : cX2_drawOf.data.toList.drop 0 = dktX2_drawOf_0 := by decide +kernel
theorem dksX2_drawOf_1 : cX2_drawOf.data.toList.drop 24 = dktX2_drawOf_1 := dk_seg dksX2_drawOf_0 24 rfl rfl
theorem dX2_drawOf_0 : decode cX2_drawOf 0 = .ok (.aload_n 0, 1) := dk_42 (dk_at dksX2_drawOf_0 0 rfl rfl)
theorem dX2_drawOf_1 : decode cX2_drawOf 1 = .ok (.ldc2_w 337, 3) := dk_20 1 81 (dk_at dksX2_drawOf_0 1 rfl rfl)
theorem dX2_drawOf_4 : decode cX2_drawOf 4 = .ok (.aload_n 0, 1) := dk_42 (dk_at dksX2_drawOf_0 4 rfl rfl)
theorem dX2_drawOf_5 : decode cX2_drawOf 5 = .ok (.getfield 339, 3) := dk_180 1 83 (dk_at dksX2_drawOf_0 5 rfl rfl)
theorem dX2_drawOf_8 : decode cX2_drawOf 8 = .ok (.lmul, 1) := dk_105 (dk_at dksX2_drawOf_0 8 rfl rfl)
theorem dX2_drawOf_9 : decode cX2_drawOf 9 = .ok (.ldc2_w 343, 3) := dk_20 1 87 (dk_at dksX2_drawOf_0 9 rfl rfl)
theorem dX2_drawOf_12 : decode cX2_drawOf 12 = .ok (.ladd, 1) := dk_97 (dk_at dksX2_drawOf_0 12 rfl rfl)
theorem dX2_drawOf_13 : decode cX2_drawOf 13 = .ok (.ldc2_w 345, 3) := dk_20 1 89 (dk_at dksX2_drawOf_0 13 rfl rfl)
theorem dX2_drawOf_16 : decode cX2_drawOf 16 = .ok (.lrem, 1) := dk_113 (dk_at dksX2_drawOf_0 16 rfl rfl)
theorem dX2_drawOf_17 : decode cX2_drawOf 17 = .ok (.putfield 339, 3) := dk_181 1 83 (dk_at dksX2_drawOf_0 17 rfl rfl)
theorem dX2_drawOf_20 : decode cX2_drawOf 20 = .ok (.aload_n 0, 1) := dk_42 (dk_at dksX2_drawOf_0 20 rfl rfl)
theorem dX2_drawOf_21 : decode cX2_drawOf 21 = .ok (.getfield 339, 3) := dk_180 1 83 (dk_at dksX2_drawOf_0 21 rfl rfl)
theorem dX2_drawOf_24 : decode cX2_drawOf 24 = .ok (.ldc2_w 347, 3) := dk_20 1 91 (dk_at dksX2_drawOf_1 0 rfl rfl)
theorem dX2_drawOf_27 : decode cX2_drawOf 27 = .ok (.ldiv, 1) := dk_109 (dk_at dksX2_drawOf_1 3 rfl rfl)
theorem dX2_drawOf_28 : decode cX2_drawOf 28 = .ok (.iload_n 1, 1) := dk_27 (dk_at dksX2_drawOf_1 4 rfl rfl)
theorem dX2_drawOf_29 : decode cX2_drawOf 29 = .ok (.i2l, 1) := dk_133 (dk_at dksX2_drawOf_1 5 rfl rfl)
theorem dX2_drawOf_30 : decode cX2_drawOf 30 = .ok (.lrem, 1) := dk_113 (dk_at dksX2_drawOf_1 6 rfl rfl)
theorem dX2_drawOf_31 : decode cX2_drawOf 31 = .ok (.l2i, 1) := dk_136 (dk_at dksX2_drawOf_1 7 rfl rfl)
theorem dX2_drawOf_32 : decode cX2_drawOf 32 = .ok (.ireturn, 1) := dk_172 (dk_at dksX2_drawOf_1 8 rfl rfl)
abbrev cX2_image : ByteArray := prog_17_method_105_code
def yX2_image : MethodName := ⟨RX2, "image", "()I"⟩
def dkwX2_image_3 : List UInt8 := [184, 1, 105, 42, 180, 0, 116, 172]
abbrev dktX2_image_3 : List UInt8 := dkwX2_image_3 ++ []
def dkwX2_image_2 : List UInt8 := [42, 180, 0, 13, 42, 180, 0, 62, 16, 32, 184, 1, 105, 42, 180, 0, 16, 42, 180, 0, 65, 16, 8]
abbrev dktX2_image_2 : List UInt8 := dkwX2_image_2 ++ dktX2_image_3
def dkwX2_image_1 : List UInt8 := [181, 1, 99, 42, 42, 180, 1, 63, 181, 1, 102, 42, 180, 0, 7, 42, 180, 0, 59, 16, 8, 184, 1, 105]
abbrev dktX2_image_1 : List UInt8 := dkwX2_image_1 ++ dktX2_image_2
def dkwX2_image_0 : List UInt8 := [42, 180, 0, 116, 154, 0, 6, 18, 115, 172, 42, 42, 180, 0, 119, 181, 0, 55, 42, 42, 180, 0, 116]
abbrev dktX2_image_0 : List UInt8 := dkwX2_image_0 ++ dktX2_image_1
theorem dksX2_image_0 : cX2_image.data.toList.drop 0 = dktX2_image_0 := by decide +kernel
theorem dksX2_image_1 : cX2_image.data.toList.drop 23 = dktX2_image_1 := dk_seg dksX2_image_0 23 rfl rfl
theorem dksX2_image_2 : cX2_image.data.toList.drop 47 = dktX2_image_2 := dk_seg dksX2_image_1 24 rfl rfl
theorem dksX2_image_3 : cX2_image.data.toList.drop 70 = dktX2_image_3 := dk_seg dksX2_image_2 23 rfl rfl
theorem dX2_image_0 : decode cX2_image 0 = .ok (.aload_n 0, 1) := dk_42 (dk_at dksX2_image_0 0 rfl rfl)
theorem dX2_image_1 : decode cX2_image 1 = .ok (.getfield 116, 3) := dk_180 0 116 (dk_at dksX2_image_0 1 rfl rfl)
theorem dX2_image_4 : decode cX2_image 4 = .ok (.ifCond .ne 6, 3) := dk_154 0 6 (dk_at dksX2_image_0 4 rfl rfl)
theorem dX2_image_7 : decode cX2_image 7 = .ok (.ldc 115, 2) := dk_18 115 (dk_at dksX2_image_0 7 rfl rfl)
theorem dX2_image_9 : decode cX2_image 9 = .ok (.ireturn, 1) := dk_172 (dk_at dksX2_image_0 9 rfl rfl)
theorem dX2_image_10 : decode cX2_image 10 = .ok (.aload_n 0, 1) := dk_42 (dk_at dksX2_image_0 10 rfl rfl)
theorem dX2_image_11 : decode cX2_image 11 = .ok (.aload_n 0, 1) := dk_42 (dk_at dksX2_image_0 11 rfl rfl)
theorem dX2_image_12 : decode cX2_image 12 = .ok (.getfield 119, 3) := dk_180 0 119 (dk_at dksX2_image_0 12 rfl rfl)
theorem dX2_image_15 : decode cX2_image 15 = .ok (.putfield 55, 3) := dk_181 0 55 (dk_at dksX2_image_0 15 rfl rfl)
theorem dX2_image_18 : decode cX2_image 18 = .ok (.aload_n 0, 1) := dk_42 (dk_at dksX2_image_0 18 rfl rfl)
theorem dX2_image_19 : decode cX2_image 19 = .ok (.aload_n 0, 1) := dk_42 (dk_at dksX2_image_0 19 rfl rfl)
theorem dX2_image_20 : decode cX2_image 20 = .ok (.getfield 116, 3) := dk_180 0 116 (dk_at dksX2_image_0 20 rfl rfl)
theorem dX2_image_23 : decode cX2_image 23 = .ok (.putfield 355, 3) := dk_181 1 99 (dk_at dksX2_image_1 0 rfl rfl)
theorem dX2_image_26 : decode cX2_image 26 = .ok (.aload_n 0, 1) := dk_42 (dk_at dksX2_image_1 3 rfl rfl)
theorem dX2_image_27 : decode cX2_image 27 = .ok (.aload_n 0, 1) := dk_42 (dk_at dksX2_image_1 4 rfl rfl)
theorem dX2_image_28 : decode cX2_image 28 = .ok (.getfield 319, 3) := dk_180 1 63 (dk_at dksX2_image_1 5 rfl rfl)
theorem dX2_image_31 : decode cX2_image 31 = .ok (.putfield 358, 3) := dk_181 1 102 (dk_at dksX2_image_1 8 rfl rfl)
theorem dX2_image_34 : decode cX2_image 34 = .ok (.aload_n 0, 1) := dk_42 (dk_at dksX2_image_1 11 rfl rfl)
theorem dX2_image_35 : decode cX2_image 35 = .ok (.getfield 7, 3) := dk_180 0 7 (dk_at dksX2_image_1 12 rfl rfl)
theorem dX2_image_38 : decode cX2_image 38 = .ok (.aload_n 0, 1) := dk_42 (dk_at dksX2_image_1 15 rfl rfl)
theorem dX2_image_39 : decode cX2_image 39 = .ok (.getfield 59, 3) := dk_180 0 59 (dk_at dksX2_image_1 16 rfl rfl)
theorem dX2_image_42 : decode cX2_image 42 = .ok (.bipush 8, 2) := dk_16 8 (dk_at dksX2_image_1 19 rfl rfl)
theorem dX2_image_44 : decode cX2_image 44 = .ok (.invokestatic 361, 3) := dk_184 1 105 (dk_at dksX2_image_1 21 rfl rfl)
theorem dX2_image_47 : decode cX2_image 47 = .ok (.aload_n 0, 1) := dk_42 (dk_at dksX2_image_2 0 rfl rfl)
theorem dX2_image_48 : decode cX2_image 48 = .ok (.getfield 13, 3) := dk_180 0 13 (dk_at dksX2_image_2 1 rfl rfl)
theorem dX2_image_51 : decode cX2_image 51 = .ok (.aload_n 0, 1) := dk_42 (dk_at dksX2_image_2 4 rfl rfl)
theorem dX2_image_52 : decode cX2_image 52 = .ok (.getfield 62, 3) := dk_180 0 62 (dk_at dksX2_image_2 5 rfl rfl)
theorem dX2_image_55 : decode cX2_image 55 = .ok (.bipush 32, 2) := dk_16 32 (dk_at dksX2_image_2 8 rfl rfl)
theorem dX2_image_57 : decode cX2_image 57 = .ok (.invokestatic 361, 3) := dk_184 1 105 (dk_at dksX2_image_2 10 rfl rfl)
theorem dX2_image_60 : decode cX2_image 60 = .ok (.aload_n 0, 1) := dk_42 (dk_at dksX2_image_2 13 rfl rfl)
theorem dX2_image_61 : decode cX2_image 61 = .ok (.getfield 16, 3) := dk_180 0 16 (dk_at dksX2_image_2 14 rfl rfl)
theorem dX2_image_64 : decode cX2_image 64 = .ok (.aload_n 0, 1) := dk_42 (dk_at dksX2_image_2 17 rfl rfl)
theorem dX2_image_65 : decode cX2_image 65 = .ok (.getfield 65, 3) := dk_180 0 65 (dk_at dksX2_image_2 18 rfl rfl)
theorem dX2_image_68 : decode cX2_image 68 = .ok (.bipush 8, 2) := dk_16 8 (dk_at dksX2_image_2 21 rfl rfl)
theorem dX2_image_70 : decode cX2_image 70 = .ok (.invokestatic 361, 3) := dk_184 1 105 (dk_at dksX2_image_3 0 rfl rfl)
theorem dX2_image_73 : decode cX2_image 73 = .ok (.aload_n 0, 1) := dk_42 (dk_at dksX2_image_3 3 rfl rfl)
theorem dX2_image_74 : decode cX2_image 74 = .ok (.getfield 116, 3) := dk_180 0 116 (dk_at dksX2_image_3 4 rfl rfl)
theorem dX2_image_77 : decode cX2_image 77 = .ok (.ireturn, 1) := dk_172 (dk_at dksX2_image_3 7 rfl rfl)
abbrev cX2_copy : ByteArray := prog_17_method_104_code
def yX2_copy : MethodName := ⟨RX2, "copy", "([I[II)V"⟩
def dkwX2_copy_0 : List UInt8 := [3, 62, 29, 28, 162, 0, 15, 43, 29, 42, 29, 46, 79, 132, 3, 1, 167, 255, 242, 177]
abbrev dktX2_copy_0 : List UInt8 := dkwX2_copy_0 ++ []
theorem dksX2_copy_0 : cX2_copy.data.toList.drop 0 = dktX2_copy_0 := by decide +kernel
theorem dX2_copy_0 : decode cX2_copy 0 = .ok (.iconst 0, 1) := dk_3 (dk_at dksX2_copy_0 0 rfl rfl)
theorem dX2_copy_1 : decode cX2_copy 1 = .ok (.istore_n 3, 1) := dk_62 (dk_at dksX2_copy_0 1 rfl rfl)
theorem dX2_copy_2 : decode cX2_copy 2 = .ok (.iload_n 3, 1) := dk_29 (dk_at dksX2_copy_0 2 rfl rfl)
theorem dX2_copy_3 : decode cX2_copy 3 = .ok (.iload_n 2, 1) := dk_28 (dk_at dksX2_copy_0 3 rfl rfl)
theorem dX2_copy_4 : decode cX2_copy 4 = .ok (.if_icmp .ge 15, 3) := dk_162 0 15 (dk_at dksX2_copy_0 4 rfl rfl)
theorem dX2_copy_7 : decode cX2_copy 7 = .ok (.aload_n 1, 1) := dk_43 (dk_at dksX2_copy_0 7 rfl rfl)
theorem dX2_copy_8 : decode cX2_copy 8 = .ok (.iload_n 3, 1) := dk_29 (dk_at dksX2_copy_0 8 rfl rfl)
theorem dX2_copy_9 : decode cX2_copy 9 = .ok (.aload_n 0, 1) := dk_42 (dk_at dksX2_copy_0 9 rfl rfl)
theorem dX2_copy_10 : decode cX2_copy 10 = .ok (.iload_n 3, 1) := dk_29 (dk_at dksX2_copy_0 10 rfl rfl)
theorem dX2_copy_11 : decode cX2_copy 11 = .ok (.iaload, 1) := dk_46 (dk_at dksX2_copy_0 11 rfl rfl)
theorem dX2_copy_12 : decode cX2_copy 12 = .ok (.iastore, 1) := dk_79 (dk_at dksX2_copy_0 12 rfl rfl)
theorem dX2_copy_13 : decode cX2_copy 13 = .ok (.iinc 3 1, 3) := dk_132 3 1 (dk_at dksX2_copy_0 13 rfl rfl)
theorem dX2_copy_16 : decode cX2_copy 16 = .ok (.goto (-14), 3) := dk_167 255 242 (dk_at dksX2_copy_0 16 rfl rfl)
theorem dX2_copy_19 : decode cX2_copy 19 = .ok (.return_, 1) := dk_177 (dk_at dksX2_copy_0 19 rfl rfl)
abbrev cX2_restore : ByteArray := prog_17_method_106_code
def yX2_restore : MethodName := ⟨RX2, "restore", "()I"⟩
def dkwX2_restore_3 : List UInt8 := [182, 0, 122, 42, 180, 0, 116, 172]
abbrev dktX2_restore_3 : List UInt8 := dkwX2_restore_3 ++ []
def dkwX2_restore_2 : List UInt8 := [180, 0, 13, 16, 32, 184, 1, 105, 42, 180, 0, 65, 42, 180, 0, 16, 16, 8, 184, 1, 105, 42]
abbrev dktX2_restore_2 : List UInt8 := dkwX2_restore_2 ++ dktX2_restore_3
def dkwX2_restore_1 : List UInt8 := [180, 1, 102, 181, 1, 63, 42, 180, 0, 59, 42, 180, 0, 7, 16, 8, 184, 1, 105, 42, 180, 0, 62, 42]
abbrev dktX2_restore_1 : List UInt8 := dkwX2_restore_1 ++ dktX2_restore_2
def dkwX2_restore_0 : List UInt8 := [42, 180, 0, 55, 42, 180, 0, 119, 159, 0, 6, 18, 115, 172, 42, 42, 180, 1, 99, 181, 0, 116, 42, 42]
abbrev dktX2_restore_0 : List UInt8 := dkwX2_restore_0 ++ dktX2_restore_1
theorem dksX2_restore_0 : cX2_restore.data.toList.drop 0 = dktX2_restore_0 := by decide +kernel
theorem dksX2_restore_1 : cX2_restore.data.toList.drop 24 = dktX2_restore_1 := dk_seg dksX2_restore_0 24 rfl rfl
theorem dksX2_restore_2 : cX2_restore.data.toList.drop 48 = dktX2_restore_2 := dk_seg dksX2_restore_1 24 rfl rfl
theorem dksX2_restore_3 : cX2_restore.data.toList.drop 70 = dktX2_restore_3 := dk_seg dksX2_restore_2 22 rfl rfl
theorem dX2_restore_0 : decode cX2_restore 0 = .ok (.aload_n 0, 1) := dk_42 (dk_at dksX2_restore_0 0 rfl rfl)
theorem dX2_restore_1 : decode cX2_restore 1 = .ok (.getfield 55, 3) := dk_180 0 55 (dk_at dksX2_restore_0 1 rfl rfl)
theorem dX2_restore_4 : decode cX2_restore 4 = .ok (.aload_n 0, 1) := dk_42 (dk_at dksX2_restore_0 4 rfl rfl)
theorem dX2_restore_5 : decode cX2_restore 5 = .ok (.getfield 119, 3) := dk_180 0 119 (dk_at dksX2_restore_0 5 rfl rfl)
theorem dX2_restore_8 : decode cX2_restore 8 = .ok (.if_icmp .eq 6, 3) := dk_159 0 6 (dk_at dksX2_restore_0 8 rfl rfl)
theorem dX2_restore_11 : decode cX2_restore 11 = .ok (.ldc 115, 2) := dk_18 115 (dk_at dksX2_restore_0 11 rfl rfl)
theorem dX2_restore_13 : decode cX2_restore 13 = .ok (.ireturn, 1) := dk_172 (dk_at dksX2_restore_0 13 rfl rfl)
theorem dX2_restore_14 : decode cX2_restore 14 = .ok (.aload_n 0, 1) := dk_42 (dk_at dksX2_restore_0 14 rfl rfl)
theorem dX2_restore_15 : decode cX2_restore 15 = .ok (.aload_n 0, 1) := dk_42 (dk_at dksX2_restore_0 15 rfl rfl)
theorem dX2_restore_16 : decode cX2_restore 16 = .ok (.getfield 355, 3) := dk_180 1 99 (dk_at dksX2_restore_0 16 rfl rfl)
theorem dX2_restore_19 : decode cX2_restore 19 = .ok (.putfield 116, 3) := dk_181 0 116 (dk_at dksX2_restore_0 19 rfl rfl)
theorem dX2_restore_22 : decode cX2_restore 22 = .ok (.aload_n 0, 1) := dk_42 (dk_at dksX2_restore_0 22 rfl rfl)
theorem dX2_restore_23 : decode cX2_restore 23 = .ok (.aload_n 0, 1) := dk_42 (dk_at dksX2_restore_0 23 rfl rfl)
theorem dX2_restore_24 : decode cX2_restore 24 = .ok (.getfield 358, 3) := dk_180 1 102 (dk_at dksX2_restore_1 0 rfl rfl)
theorem dX2_restore_27 : decode cX2_restore 27 = .ok (.putfield 319, 3) := dk_181 1 63 (dk_at dksX2_restore_1 3 rfl rfl)
theorem dX2_restore_30 : decode cX2_restore 30 = .ok (.aload_n 0, 1) := dk_42 (dk_at dksX2_restore_1 6 rfl rfl)
theorem dX2_restore_31 : decode cX2_restore 31 = .ok (.getfield 59, 3) := dk_180 0 59 (dk_at dksX2_restore_1 7 rfl rfl)
theorem dX2_restore_34 : decode cX2_restore 34 = .ok (.aload_n 0, 1) := dk_42 (dk_at dksX2_restore_1 10 rfl rfl)
theorem dX2_restore_35 : decode cX2_restore 35 = .ok (.getfield 7, 3) := dk_180 0 7 (dk_at dksX2_restore_1 11 rfl rfl)
theorem dX2_restore_38 : decode cX2_restore 38 = .ok (.bipush 8, 2) := dk_16 8 (dk_at dksX2_restore_1 14 rfl rfl)
theorem dX2_restore_40 : decode cX2_restore 40 = .ok (.invokestatic 361, 3) := dk_184 1 105 (dk_at dksX2_restore_1 16 rfl rfl)
theorem dX2_restore_43 : decode cX2_restore 43 = .ok (.aload_n 0, 1) := dk_42 (dk_at dksX2_restore_1 19 rfl rfl)
theorem dX2_restore_44 : decode cX2_restore 44 = .ok (.getfield 62, 3) := dk_180 0 62 (dk_at dksX2_restore_1 20 rfl rfl)
theorem dX2_restore_47 : decode cX2_restore 47 = .ok (.aload_n 0, 1) := dk_42 (dk_at dksX2_restore_1 23 rfl rfl)
theorem dX2_restore_48 : decode cX2_restore 48 = .ok (.getfield 13, 3) := dk_180 0 13 (dk_at dksX2_restore_2 0 rfl rfl)
theorem dX2_restore_51 : decode cX2_restore 51 = .ok (.bipush 32, 2) := dk_16 32 (dk_at dksX2_restore_2 3 rfl rfl)
theorem dX2_restore_53 : decode cX2_restore 53 = .ok (.invokestatic 361, 3) := dk_184 1 105 (dk_at dksX2_restore_2 5 rfl rfl)
theorem dX2_restore_56 : decode cX2_restore 56 = .ok (.aload_n 0, 1) := dk_42 (dk_at dksX2_restore_2 8 rfl rfl)
theorem dX2_restore_57 : decode cX2_restore 57 = .ok (.getfield 65, 3) := dk_180 0 65 (dk_at dksX2_restore_2 9 rfl rfl)
theorem dX2_restore_60 : decode cX2_restore 60 = .ok (.aload_n 0, 1) := dk_42 (dk_at dksX2_restore_2 12 rfl rfl)
theorem dX2_restore_61 : decode cX2_restore 61 = .ok (.getfield 16, 3) := dk_180 0 16 (dk_at dksX2_restore_2 13 rfl rfl)
theorem dX2_restore_64 : decode cX2_restore 64 = .ok (.bipush 8, 2) := dk_16 8 (dk_at dksX2_restore_2 16 rfl rfl)
theorem dX2_restore_66 : decode cX2_restore 66 = .ok (.invokestatic 361, 3) := dk_184 1 105 (dk_at dksX2_restore_2 18 rfl rfl)
theorem dX2_restore_69 : decode cX2_restore 69 = .ok (.aload_n 0, 1) := dk_42 (dk_at dksX2_restore_2 21 rfl rfl)
theorem dX2_restore_70 : decode cX2_restore 70 = .ok (.invokevirtual 122, 3) := dk_182 0 122 (dk_at dksX2_restore_3 0 rfl rfl)
theorem dX2_restore_73 : decode cX2_restore 73 = .ok (.aload_n 0, 1) := dk_42 (dk_at dksX2_restore_3 3 rfl rfl)
theorem dX2_restore_74 : decode cX2_restore 74 = .ok (.getfield 116, 3) := dk_180 0 116 (dk_at dksX2_restore_3 4 rfl rfl)
theorem dX2_restore_77 : decode cX2_restore 77 = .ok (.ireturn, 1) := dk_172 (dk_at dksX2_restore_3 7 rfl rfl)
abbrev cX2_count : ByteArray := prog_17_method_109_code
def yX2_count : MethodName := ⟨RX2, "count", "(I)I"⟩
def dkwX2_count_0 : List UInt8 := [42, 27, 182, 1, 113, 172]
abbrev dktX2_count_0 : List UInt8 := dkwX2_count_0 ++ []
theorem dksX2_count_0 : cX2_count.data.toList.drop 0 = dktX2_count_0 := by decide +kernel
theorem dX2_count_0 : decode cX2_count 0 = .ok (.aload_n 0, 1) := dk_42 (dk_at dksX2_count_0 0 rfl rfl)
theorem dX2_count_1 : decode cX2_count 1 = .ok (.iload_n 1, 1) := dk_27 (dk_at dksX2_count_0 1 rfl rfl)
theorem dX2_count_2 : decode cX2_count 2 = .ok (.invokevirtual 369, 3) := dk_182 1 113 (dk_at dksX2_count_0 2 rfl rfl)
theorem dX2_count_5 : decode cX2_count 5 = .ok (.ireturn, 1) := dk_172 (dk_at dksX2_count_0 5 rfl rfl)
abbrev cX2_howMany : ByteArray := prog_17_method_108_code
def yX2_howMany : MethodName := ⟨RX2, "howMany", "(I)I"⟩
def dkwX2_howMany_3 : List UInt8 := [180, 0, 73, 172, 42, 180, 0, 119, 172, 18, 72, 172]
abbrev dktX2_howMany_3 : List UInt8 := dkwX2_howMany_3 ++ []
def dkwX2_howMany_2 : List UInt8 := [42, 180, 0, 116, 172, 42, 3, 182, 1, 109, 172, 42, 4, 182, 1, 109, 172, 42, 180, 1, 63, 172, 42]
abbrev dktX2_howMany_2 : List UInt8 := dkwX2_howMany_2 ++ dktX2_howMany_3
def dkwX2_howMany_1 : List UInt8 := [170, 0, 0, 0, 0, 0, 71, 0, 0, 0, 0, 0, 0, 0, 5, 0, 0, 0, 39, 0, 0, 0, 44, 0, 0, 0, 50, 0, 0, 0, 56, 0, 0, 0, 61, 0, 0, 0, 66]
abbrev dktX2_howMany_1 : List UInt8 := dkwX2_howMany_1 ++ dktX2_howMany_2
def dkwX2_howMany_0 : List UInt8 := [27]
abbrev dktX2_howMany_0 : List UInt8 := dkwX2_howMany_0 ++ dktX2_howMany_1
theorem dksX2_howMany_0 : cX2_howMany.data.toList.drop 0 = dktX2_howMany_0 := by decide +kernel
theorem dksX2_howMany_1 : cX2_howMany.data.toList.drop 1 = dktX2_howMany_1 := dk_seg dksX2_howMany_0 1 rfl rfl
theorem dksX2_howMany_2 : cX2_howMany.data.toList.drop 40 = dktX2_howMany_2 := dk_seg dksX2_howMany_1 39 rfl rfl
theorem dksX2_howMany_3 : cX2_howMany.data.toList.drop 63 = dktX2_howMany_3 := dk_seg dksX2_howMany_2 23 rfl rfl
theorem dX2_howMany_0 : decode cX2_howMany 0 = .ok (.iload_n 1, 1) := dk_27 (dk_at dksX2_howMany_0 0 rfl rfl)
theorem dX2_howMany_1 : decode cX2_howMany 1 = .ok (.tableswitch 71 0 5 #[39, 44, 50, 56, 61, 66], 39) := by decide +kernel
theorem dX2_howMany_40 : decode cX2_howMany 40 = .ok (.aload_n 0, 1) := dk_42 (dk_at dksX2_howMany_2 0 rfl rfl)
theorem dX2_howMany_41 : decode cX2_howMany 41 = .ok (.getfield 116, 3) := dk_180 0 116 (dk_at dksX2_howMany_2 1 rfl rfl)
theorem dX2_howMany_44 : decode cX2_howMany 44 = .ok (.ireturn, 1) := dk_172 (dk_at dksX2_howMany_2 4 rfl rfl)
theorem dX2_howMany_45 : decode cX2_howMany 45 = .ok (.aload_n 0, 1) := dk_42 (dk_at dksX2_howMany_2 5 rfl rfl)
theorem dX2_howMany_46 : decode cX2_howMany 46 = .ok (.iconst 0, 1) := dk_3 (dk_at dksX2_howMany_2 6 rfl rfl)
theorem dX2_howMany_47 : decode cX2_howMany 47 = .ok (.invokevirtual 365, 3) := dk_182 1 109 (dk_at dksX2_howMany_2 7 rfl rfl)
theorem dX2_howMany_50 : decode cX2_howMany 50 = .ok (.ireturn, 1) := dk_172 (dk_at dksX2_howMany_2 10 rfl rfl)
theorem dX2_howMany_51 : decode cX2_howMany 51 = .ok (.aload_n 0, 1) := dk_42 (dk_at dksX2_howMany_2 11 rfl rfl)
theorem dX2_howMany_52 : decode cX2_howMany 52 = .ok (.iconst 1, 1) := dk_4 (dk_at dksX2_howMany_2 12 rfl rfl)
theorem dX2_howMany_53 : decode cX2_howMany 53 = .ok (.invokevirtual 365, 3) := dk_182 1 109 (dk_at dksX2_howMany_2 13 rfl rfl)
theorem dX2_howMany_56 : decode cX2_howMany 56 = .ok (.ireturn, 1) := dk_172 (dk_at dksX2_howMany_2 16 rfl rfl)
theorem dX2_howMany_57 : decode cX2_howMany 57 = .ok (.aload_n 0, 1) := dk_42 (dk_at dksX2_howMany_2 17 rfl rfl)
theorem dX2_howMany_58 : decode cX2_howMany 58 = .ok (.getfield 319, 3) := dk_180 1 63 (dk_at dksX2_howMany_2 18 rfl rfl)
theorem dX2_howMany_61 : decode cX2_howMany 61 = .ok (.ireturn, 1) := dk_172 (dk_at dksX2_howMany_2 21 rfl rfl)
theorem dX2_howMany_62 : decode cX2_howMany 62 = .ok (.aload_n 0, 1) := dk_42 (dk_at dksX2_howMany_2 22 rfl rfl)
theorem dX2_howMany_63 : decode cX2_howMany 63 = .ok (.getfield 73, 3) := dk_180 0 73 (dk_at dksX2_howMany_3 0 rfl rfl)
theorem dX2_howMany_66 : decode cX2_howMany 66 = .ok (.ireturn, 1) := dk_172 (dk_at dksX2_howMany_3 3 rfl rfl)
theorem dX2_howMany_67 : decode cX2_howMany 67 = .ok (.aload_n 0, 1) := dk_42 (dk_at dksX2_howMany_3 4 rfl rfl)
theorem dX2_howMany_68 : decode cX2_howMany 68 = .ok (.getfield 119, 3) := dk_180 0 119 (dk_at dksX2_howMany_3 5 rfl rfl)
theorem dX2_howMany_71 : decode cX2_howMany 71 = .ok (.ireturn, 1) := dk_172 (dk_at dksX2_howMany_3 8 rfl rfl)
theorem dX2_howMany_72 : decode cX2_howMany 72 = .ok (.ldc 72, 2) := dk_18 72 (dk_at dksX2_howMany_3 9 rfl rfl)
theorem dX2_howMany_74 : decode cX2_howMany 74 = .ok (.ireturn, 1) := dk_172 (dk_at dksX2_howMany_3 11 rfl rfl)
abbrev cX2_toldMany : ByteArray := prog_17_method_107_code
def yX2_toldMany : MethodName := ⟨RX2, "toldMany", "(Z)I"⟩
def dkwX2_toldMany_2 : List UInt8 := [158, 0, 7, 4, 167, 0, 4, 3, 96, 61, 132, 3, 1, 167, 255, 201, 28, 172]
abbrev dktX2_toldMany_2 : List UInt8 := dkwX2_toldMany_2 ++ []
def dkwX2_toldMany_1 : List UInt8 := [153, 0, 27, 42, 180, 0, 13, 7, 29, 104, 46, 42, 180, 0, 13, 7, 29, 104, 4, 96, 46, 184, 1, 16]
abbrev dktX2_toldMany_1 : List UInt8 := dkwX2_toldMany_1 ++ dktX2_toldMany_2
def dkwX2_toldMany_0 : List UInt8 := [3, 61, 3, 62, 29, 42, 180, 0, 116, 162, 0, 53, 28, 42, 29, 182, 0, 245, 153, 0, 35, 27]
abbrev dktX2_toldMany_0 : List UInt8 := dkwX2_toldMany_0 ++ dktX2_toldMany_1
theorem dksX2_toldMany_0 : cX2_toldMany.data.toList.drop 0 = dktX2_toldMany_0 := by decide +kernel
theorem dksX2_toldMany_1 : cX2_toldMany.data.toList.drop 22 = dktX2_toldMany_1 := dk_seg dksX2_toldMany_0 22 rfl rfl
theorem dksX2_toldMany_2 : cX2_toldMany.data.toList.drop 46 = dktX2_toldMany_2 := dk_seg dksX2_toldMany_1 24 rfl rfl
theorem dX2_toldMany_0 : decode cX2_toldMany 0 = .ok (.iconst 0, 1) := dk_3 (dk_at dksX2_toldMany_0 0 rfl rfl)
theorem dX2_toldMany_1 : decode cX2_toldMany 1 = .ok (.istore_n 2, 1) := dk_61 (dk_at dksX2_toldMany_0 1 rfl rfl)
theorem dX2_toldMany_2 : decode cX2_toldMany 2 = .ok (.iconst 0, 1) := dk_3 (dk_at dksX2_toldMany_0 2 rfl rfl)
theorem dX2_toldMany_3 : decode cX2_toldMany 3 = .ok (.istore_n 3, 1) := dk_62 (dk_at dksX2_toldMany_0 3 rfl rfl)
theorem dX2_toldMany_4 : decode cX2_toldMany 4 = .ok (.iload_n 3, 1) := dk_29 (dk_at dksX2_toldMany_0 4 rfl rfl)
theorem dX2_toldMany_5 : decode cX2_toldMany 5 = .ok (.aload_n 0, 1) := dk_42 (dk_at dksX2_toldMany_0 5 rfl rfl)
theorem dX2_toldMany_6 : decode cX2_toldMany 6 = .ok (.getfield 116, 3) := dk_180 0 116 (dk_at dksX2_toldMany_0 6 rfl rfl)
theorem dX2_toldMany_9 : decode cX2_toldMany 9 = .ok (.if_icmp .ge 53, 3) := dk_162 0 53 (dk_at dksX2_toldMany_0 9 rfl rfl)
theorem dX2_toldMany_12 : decode cX2_toldMany 12 = .ok (.iload_n 2, 1) := dk_28 (dk_at dksX2_toldMany_0 12 rfl rfl)
theorem dX2_toldMany_13 : decode cX2_toldMany 13 = .ok (.aload_n 0, 1) := dk_42 (dk_at dksX2_toldMany_0 13 rfl rfl)
theorem dX2_toldMany_14 : decode cX2_toldMany 14 = .ok (.iload_n 3, 1) := dk_29 (dk_at dksX2_toldMany_0 14 rfl rfl)
theorem dX2_toldMany_15 : decode cX2_toldMany 15 = .ok (.invokevirtual 245, 3) := dk_182 0 245 (dk_at dksX2_toldMany_0 15 rfl rfl)
theorem dX2_toldMany_18 : decode cX2_toldMany 18 = .ok (.ifCond .eq 35, 3) := dk_153 0 35 (dk_at dksX2_toldMany_0 18 rfl rfl)
theorem dX2_toldMany_21 : decode cX2_toldMany 21 = .ok (.iload_n 1, 1) := dk_27 (dk_at dksX2_toldMany_0 21 rfl rfl)
theorem dX2_toldMany_22 : decode cX2_toldMany 22 = .ok (.ifCond .eq 27, 3) := dk_153 0 27 (dk_at dksX2_toldMany_1 0 rfl rfl)
theorem dX2_toldMany_25 : decode cX2_toldMany 25 = .ok (.aload_n 0, 1) := dk_42 (dk_at dksX2_toldMany_1 3 rfl rfl)
theorem dX2_toldMany_26 : decode cX2_toldMany 26 = .ok (.getfield 13, 3) := dk_180 0 13 (dk_at dksX2_toldMany_1 4 rfl rfl)
theorem dX2_toldMany_29 : decode cX2_toldMany 29 = .ok (.iconst 4, 1) := dk_7 (dk_at dksX2_toldMany_1 7 rfl rfl)
theorem dX2_toldMany_30 : decode cX2_toldMany 30 = .ok (.iload_n 3, 1) := dk_29 (dk_at dksX2_toldMany_1 8 rfl rfl)
theorem dX2_toldMany_31 : decode cX2_toldMany 31 = .ok (.imul, 1) := dk_104 (dk_at dksX2_toldMany_1 9 rfl rfl)
theorem dX2_toldMany_32 : decode cX2_toldMany 32 = .ok (.iaload, 1) := dk_46 (dk_at dksX2_toldMany_1 10 rfl rfl)
theorem dX2_toldMany_33 : decode cX2_toldMany 33 = .ok (.aload_n 0, 1) := dk_42 (dk_at dksX2_toldMany_1 11 rfl rfl)
theorem dX2_toldMany_34 : decode cX2_toldMany 34 = .ok (.getfield 13, 3) := dk_180 0 13 (dk_at dksX2_toldMany_1 12 rfl rfl)
theorem dX2_toldMany_37 : decode cX2_toldMany 37 = .ok (.iconst 4, 1) := dk_7 (dk_at dksX2_toldMany_1 15 rfl rfl)
theorem dX2_toldMany_38 : decode cX2_toldMany 38 = .ok (.iload_n 3, 1) := dk_29 (dk_at dksX2_toldMany_1 16 rfl rfl)
theorem dX2_toldMany_39 : decode cX2_toldMany 39 = .ok (.imul, 1) := dk_104 (dk_at dksX2_toldMany_1 17 rfl rfl)
theorem dX2_toldMany_40 : decode cX2_toldMany 40 = .ok (.iconst 1, 1) := dk_4 (dk_at dksX2_toldMany_1 18 rfl rfl)
theorem dX2_toldMany_41 : decode cX2_toldMany 41 = .ok (.iadd, 1) := dk_96 (dk_at dksX2_toldMany_1 19 rfl rfl)
theorem dX2_toldMany_42 : decode cX2_toldMany 42 = .ok (.iaload, 1) := dk_46 (dk_at dksX2_toldMany_1 20 rfl rfl)
theorem dX2_toldMany_43 : decode cX2_toldMany 43 = .ok (.invokestatic 272, 3) := dk_184 1 16 (dk_at dksX2_toldMany_1 21 rfl rfl)
theorem dX2_toldMany_46 : decode cX2_toldMany 46 = .ok (.ifCond .le 7, 3) := dk_158 0 7 (dk_at dksX2_toldMany_2 0 rfl rfl)
theorem dX2_toldMany_49 : decode cX2_toldMany 49 = .ok (.iconst 1, 1) := dk_4 (dk_at dksX2_toldMany_2 3 rfl rfl)
theorem dX2_toldMany_50 : decode cX2_toldMany 50 = .ok (.goto 4, 3) := dk_167 0 4 (dk_at dksX2_toldMany_2 4 rfl rfl)
theorem dX2_toldMany_53 : decode cX2_toldMany 53 = .ok (.iconst 0, 1) := dk_3 (dk_at dksX2_toldMany_2 7 rfl rfl)
theorem dX2_toldMany_54 : decode cX2_toldMany 54 = .ok (.iadd, 1) := dk_96 (dk_at dksX2_toldMany_2 8 rfl rfl)
theorem dX2_toldMany_55 : decode cX2_toldMany 55 = .ok (.istore_n 2, 1) := dk_61 (dk_at dksX2_toldMany_2 9 rfl rfl)
theorem dX2_toldMany_56 : decode cX2_toldMany 56 = .ok (.iinc 3 1, 3) := dk_132 3 1 (dk_at dksX2_toldMany_2 10 rfl rfl)
theorem dX2_toldMany_59 : decode cX2_toldMany 59 = .ok (.goto (-55), 3) := dk_167 255 201 (dk_at dksX2_toldMany_2 13 rfl rfl)
theorem dX2_toldMany_62 : decode cX2_toldMany 62 = .ok (.iload_n 2, 1) := dk_28 (dk_at dksX2_toldMany_2 16 rfl rfl)
theorem dX2_toldMany_63 : decode cX2_toldMany 63 = .ok (.ireturn, 1) := dk_172 (dk_at dksX2_toldMany_2 17 rfl rfl)
abbrev cX2_digest : ByteArray := prog_17_method_112_code
def yX2_digest : MethodName := ⟨RX2, "digest", "()J"⟩
def dkwX2_digest_5 : List UInt8 := [182, 1, 113, 133, 182, 1, 121, 132, 1, 1, 167, 255, 237, 42, 180, 1, 118, 173]
abbrev dktX2_digest_5 : List UInt8 := dkwX2_digest_5 ++ []
def dkwX2_digest_4 : List UInt8 := [27, 51, 133, 182, 1, 121, 132, 1, 1, 167, 255, 234, 3, 60, 27, 16, 6, 162, 0, 19, 42, 42, 27]
abbrev dktX2_digest_4 : List UInt8 := dkwX2_digest_4 ++ dktX2_digest_5
def dkwX2_digest_3 : List UInt8 := [182, 1, 121, 132, 1, 1, 167, 255, 238, 3, 60, 27, 42, 180, 0, 73, 162, 0, 20, 42, 42, 180, 0, 19]
abbrev dktX2_digest_3 : List UInt8 := dkwX2_digest_3 ++ dktX2_digest_4
def dkwX2_digest_2 : List UInt8 := [182, 1, 121, 132, 1, 1, 167, 255, 234, 3, 60, 27, 6, 162, 0, 19, 42, 42, 27, 182, 1, 78, 133]
abbrev dktX2_digest_2 : List UInt8 := dkwX2_digest_2 ++ dktX2_digest_3
def dkwX2_digest_1 : List UInt8 := [132, 1, 1, 167, 255, 240, 3, 60, 27, 42, 180, 1, 63, 162, 0, 20, 42, 42, 180, 0, 16, 27, 46, 133]
abbrev dktX2_digest_1 : List UInt8 := dkwX2_digest_1 ++ dktX2_digest_2
def dkwX2_digest_0 : List UInt8 := [42, 20, 1, 126, 181, 1, 118, 3, 60, 27, 42, 180, 0, 116, 162, 0, 14, 42, 27, 182, 1, 128]
abbrev dktX2_digest_0 : List UInt8 := dkwX2_digest_0 ++ dktX2_digest_1
theorem dksX2_digest_0 : cX2_digest.data.toList.drop 0 = dktX2_digest_0 := by decide +kernel
theorem dksX2_digest_1 : cX2_digest.data.toList.drop 22 = dktX2_digest_1 := dk_seg dksX2_digest_0 22 rfl rfl
theorem dksX2_digest_2 : cX2_digest.data.toList.drop 46 = dktX2_digest_2 := dk_seg dksX2_digest_1 24 rfl rfl
theorem dksX2_digest_3 : cX2_digest.data.toList.drop 69 = dktX2_digest_3 := dk_seg dksX2_digest_2 23 rfl rfl
theorem dksX2_digest_4 : cX2_digest.data.toList.drop 93 = dktX2_digest_4 := dk_seg dksX2_digest_3 24 rfl rfl
theorem dksX2_digest_5 : cX2_digest.data.toList.drop 116 = dktX2_digest_5 := dk_seg dksX2_digest_4 23 rfl rfl
theorem dX2_digest_0 : decode cX2_digest 0 = .ok (.aload_n 0, 1) := dk_42 (dk_at dksX2_digest_0 0 rfl rfl)
theorem dX2_digest_1 : decode cX2_digest 1 = .ok (.ldc2_w 382, 3) := dk_20 1 126 (dk_at dksX2_digest_0 1 rfl rfl)
theorem dX2_digest_4 : decode cX2_digest 4 = .ok (.putfield 374, 3) := dk_181 1 118 (dk_at dksX2_digest_0 4 rfl rfl)
theorem dX2_digest_7 : decode cX2_digest 7 = .ok (.iconst 0, 1) := dk_3 (dk_at dksX2_digest_0 7 rfl rfl)
theorem dX2_digest_8 : decode cX2_digest 8 = .ok (.istore_n 1, 1) := dk_60 (dk_at dksX2_digest_0 8 rfl rfl)
theorem dX2_digest_9 : decode cX2_digest 9 = .ok (.iload_n 1, 1) := dk_27 (dk_at dksX2_digest_0 9 rfl rfl)
theorem dX2_digest_10 : decode cX2_digest 10 = .ok (.aload_n 0, 1) := dk_42 (dk_at dksX2_digest_0 10 rfl rfl)
theorem dX2_digest_11 : decode cX2_digest 11 = .ok (.getfield 116, 3) := dk_180 0 116 (dk_at dksX2_digest_0 11 rfl rfl)
theorem dX2_digest_14 : decode cX2_digest 14 = .ok (.if_icmp .ge 14, 3) := dk_162 0 14 (dk_at dksX2_digest_0 14 rfl rfl)
theorem dX2_digest_17 : decode cX2_digest 17 = .ok (.aload_n 0, 1) := dk_42 (dk_at dksX2_digest_0 17 rfl rfl)
theorem dX2_digest_18 : decode cX2_digest 18 = .ok (.iload_n 1, 1) := dk_27 (dk_at dksX2_digest_0 18 rfl rfl)
theorem dX2_digest_19 : decode cX2_digest 19 = .ok (.invokevirtual 384, 3) := dk_182 1 128 (dk_at dksX2_digest_0 19 rfl rfl)
theorem dX2_digest_22 : decode cX2_digest 22 = .ok (.iinc 1 1, 3) := dk_132 1 1 (dk_at dksX2_digest_1 0 rfl rfl)
theorem dX2_digest_25 : decode cX2_digest 25 = .ok (.goto (-16), 3) := dk_167 255 240 (dk_at dksX2_digest_1 3 rfl rfl)
theorem dX2_digest_28 : decode cX2_digest 28 = .ok (.iconst 0, 1) := dk_3 (dk_at dksX2_digest_1 6 rfl rfl)
theorem dX2_digest_29 : decode cX2_digest 29 = .ok (.istore_n 1, 1) := dk_60 (dk_at dksX2_digest_1 7 rfl rfl)
theorem dX2_digest_30 : decode cX2_digest 30 = .ok (.iload_n 1, 1) := dk_27 (dk_at dksX2_digest_1 8 rfl rfl)
theorem dX2_digest_31 : decode cX2_digest 31 = .ok (.aload_n 0, 1) := dk_42 (dk_at dksX2_digest_1 9 rfl rfl)
theorem dX2_digest_32 : decode cX2_digest 32 = .ok (.getfield 319, 3) := dk_180 1 63 (dk_at dksX2_digest_1 10 rfl rfl)
theorem dX2_digest_35 : decode cX2_digest 35 = .ok (.if_icmp .ge 20, 3) := dk_162 0 20 (dk_at dksX2_digest_1 13 rfl rfl)
theorem dX2_digest_38 : decode cX2_digest 38 = .ok (.aload_n 0, 1) := dk_42 (dk_at dksX2_digest_1 16 rfl rfl)
theorem dX2_digest_39 : decode cX2_digest 39 = .ok (.aload_n 0, 1) := dk_42 (dk_at dksX2_digest_1 17 rfl rfl)
theorem dX2_digest_40 : decode cX2_digest 40 = .ok (.getfield 16, 3) := dk_180 0 16 (dk_at dksX2_digest_1 18 rfl rfl)
theorem dX2_digest_43 : decode cX2_digest 43 = .ok (.iload_n 1, 1) := dk_27 (dk_at dksX2_digest_1 21 rfl rfl)
theorem dX2_digest_44 : decode cX2_digest 44 = .ok (.iaload, 1) := dk_46 (dk_at dksX2_digest_1 22 rfl rfl)
theorem dX2_digest_45 : decode cX2_digest 45 = .ok (.i2l, 1) := dk_133 (dk_at dksX2_digest_1 23 rfl rfl)
theorem dX2_digest_46 : decode cX2_digest 46 = .ok (.invokevirtual 377, 3) := dk_182 1 121 (dk_at dksX2_digest_2 0 rfl rfl)
theorem dX2_digest_49 : decode cX2_digest 49 = .ok (.iinc 1 1, 3) := dk_132 1 1 (dk_at dksX2_digest_2 3 rfl rfl)
theorem dX2_digest_52 : decode cX2_digest 52 = .ok (.goto (-22), 3) := dk_167 255 234 (dk_at dksX2_digest_2 6 rfl rfl)
theorem dX2_digest_55 : decode cX2_digest 55 = .ok (.iconst 0, 1) := dk_3 (dk_at dksX2_digest_2 9 rfl rfl)
theorem dX2_digest_56 : decode cX2_digest 56 = .ok (.istore_n 1, 1) := dk_60 (dk_at dksX2_digest_2 10 rfl rfl)
theorem dX2_digest_57 : decode cX2_digest 57 = .ok (.iload_n 1, 1) := dk_27 (dk_at dksX2_digest_2 11 rfl rfl)
theorem dX2_digest_58 : decode cX2_digest 58 = .ok (.iconst 3, 1) := dk_6 (dk_at dksX2_digest_2 12 rfl rfl)
theorem dX2_digest_59 : decode cX2_digest 59 = .ok (.if_icmp .ge 19, 3) := dk_162 0 19 (dk_at dksX2_digest_2 13 rfl rfl)
theorem dX2_digest_62 : decode cX2_digest 62 = .ok (.aload_n 0, 1) := dk_42 (dk_at dksX2_digest_2 16 rfl rfl)
theorem dX2_digest_63 : decode cX2_digest 63 = .ok (.aload_n 0, 1) := dk_42 (dk_at dksX2_digest_2 17 rfl rfl)
theorem dX2_digest_64 : decode cX2_digest 64 = .ok (.iload_n 1, 1) := dk_27 (dk_at dksX2_digest_2 18 rfl rfl)
theorem dX2_digest_65 : decode cX2_digest 65 = .ok (.invokevirtual 334, 3) := dk_182 1 78 (dk_at dksX2_digest_2 19 rfl rfl)
theorem dX2_digest_68 : decode cX2_digest 68 = .ok (.i2l, 1) := dk_133 (dk_at dksX2_digest_2 22 rfl rfl)
theorem dX2_digest_69 : decode cX2_digest 69 = .ok (.invokevirtual 377, 3) := dk_182 1 121 (dk_at dksX2_digest_3 0 rfl rfl)
theorem dX2_digest_72 : decode cX2_digest 72 = .ok (.iinc 1 1, 3) := dk_132 1 1 (dk_at dksX2_digest_3 3 rfl rfl)
theorem dX2_digest_75 : decode cX2_digest 75 = .ok (.goto (-18), 3) := dk_167 255 238 (dk_at dksX2_digest_3 6 rfl rfl)
theorem dX2_digest_78 : decode cX2_digest 78 = .ok (.iconst 0, 1) := dk_3 (dk_at dksX2_digest_3 9 rfl rfl)
theorem dX2_digest_79 : decode cX2_digest 79 = .ok (.istore_n 1, 1) := dk_60 (dk_at dksX2_digest_3 10 rfl rfl)
theorem dX2_digest_80 : decode cX2_digest 80 = .ok (.iload_n 1, 1) := dk_27 (dk_at dksX2_digest_3 11 rfl rfl)
theorem dX2_digest_81 : decode cX2_digest 81 = .ok (.aload_n 0, 1) := dk_42 (dk_at dksX2_digest_3 12 rfl rfl)
theorem dX2_digest_82 : decode cX2_digest 82 = .ok (.getfield 73, 3) := dk_180 0 73 (dk_at dksX2_digest_3 13 rfl rfl)
theorem dX2_digest_85 : decode cX2_digest 85 = .ok (.if_icmp .ge 20, 3) := dk_162 0 20 (dk_at dksX2_digest_3 16 rfl rfl)
theorem dX2_digest_88 : decode cX2_digest 88 = .ok (.aload_n 0, 1) := dk_42 (dk_at dksX2_digest_3 19 rfl rfl)
theorem dX2_digest_89 : decode cX2_digest 89 = .ok (.aload_n 0, 1) := dk_42 (dk_at dksX2_digest_3 20 rfl rfl)
theorem dX2_digest_90 : decode cX2_digest 90 = .ok (.getfield 19, 3) := dk_180 0 19 (dk_at dksX2_digest_3 21 rfl rfl)
theorem dX2_digest_93 : decode cX2_digest 93 = .ok (.iload_n 1, 1) := dk_27 (dk_at dksX2_digest_4 0 rfl rfl)
theorem dX2_digest_94 : decode cX2_digest 94 = .ok (.baload, 1) := dk_51 (dk_at dksX2_digest_4 1 rfl rfl)
theorem dX2_digest_95 : decode cX2_digest 95 = .ok (.i2l, 1) := dk_133 (dk_at dksX2_digest_4 2 rfl rfl)
theorem dX2_digest_96 : decode cX2_digest 96 = .ok (.invokevirtual 377, 3) := dk_182 1 121 (dk_at dksX2_digest_4 3 rfl rfl)
theorem dX2_digest_99 : decode cX2_digest 99 = .ok (.iinc 1 1, 3) := dk_132 1 1 (dk_at dksX2_digest_4 6 rfl rfl)
theorem dX2_digest_102 : decode cX2_digest 102 = .ok (.goto (-22), 3) := dk_167 255 234 (dk_at dksX2_digest_4 9 rfl rfl)
theorem dX2_digest_105 : decode cX2_digest 105 = .ok (.iconst 0, 1) := dk_3 (dk_at dksX2_digest_4 12 rfl rfl)
theorem dX2_digest_106 : decode cX2_digest 106 = .ok (.istore_n 1, 1) := dk_60 (dk_at dksX2_digest_4 13 rfl rfl)
theorem dX2_digest_107 : decode cX2_digest 107 = .ok (.iload_n 1, 1) := dk_27 (dk_at dksX2_digest_4 14 rfl rfl)
theorem dX2_digest_108 : decode cX2_digest 108 = .ok (.bipush 6, 2) := dk_16 6 (dk_at dksX2_digest_4 15 rfl rfl)
theorem dX2_digest_110 : decode cX2_digest 110 = .ok (.if_icmp .ge 19, 3) := dk_162 0 19 (dk_at dksX2_digest_4 17 rfl rfl)
theorem dX2_digest_113 : decode cX2_digest 113 = .ok (.aload_n 0, 1) := dk_42 (dk_at dksX2_digest_4 20 rfl rfl)
theorem dX2_digest_114 : decode cX2_digest 114 = .ok (.aload_n 0, 1) := dk_42 (dk_at dksX2_digest_4 21 rfl rfl)
theorem dX2_digest_115 : decode cX2_digest 115 = .ok (.iload_n 1, 1) := dk_27 (dk_at dksX2_digest_4 22 rfl rfl)
theorem dX2_digest_116 : decode cX2_digest 116 = .ok (.invokevirtual 369, 3) := dk_182 1 113 (dk_at dksX2_digest_5 0 rfl rfl)
theorem dX2_digest_119 : decode cX2_digest 119 = .ok (.i2l, 1) := dk_133 (dk_at dksX2_digest_5 3 rfl rfl)
theorem dX2_digest_120 : decode cX2_digest 120 = .ok (.invokevirtual 377, 3) := dk_182 1 121 (dk_at dksX2_digest_5 4 rfl rfl)
theorem dX2_digest_123 : decode cX2_digest 123 = .ok (.iinc 1 1, 3) := dk_132 1 1 (dk_at dksX2_digest_5 7 rfl rfl)
theorem dX2_digest_126 : decode cX2_digest 126 = .ok (.goto (-19), 3) := dk_167 255 237 (dk_at dksX2_digest_5 10 rfl rfl)
theorem dX2_digest_129 : decode cX2_digest 129 = .ok (.aload_n 0, 1) := dk_42 (dk_at dksX2_digest_5 13 rfl rfl)
theorem dX2_digest_130 : decode cX2_digest 130 = .ok (.getfield 374, 3) := dk_180 1 118 (dk_at dksX2_digest_5 14 rfl rfl)
theorem dX2_digest_133 : decode cX2_digest 133 = .ok (.lreturn, 1) := dk_173 (dk_at dksX2_digest_5 17 rfl rfl)
abbrev cX2_mixRow : ByteArray := prog_17_method_111_code
def yX2_mixRow : MethodName := ⟨RX2, "mixRow", "(I)V"⟩
def dkwX2_mixRow_4 : List UInt8 := [182, 1, 121, 132, 2, 1, 167, 255, 236, 42, 42, 27, 182, 1, 22, 133, 182, 1, 121, 177]
abbrev dktX2_mixRow_4 : List UInt8 := dkwX2_mixRow_4 ++ []
def dkwX2_mixRow_3 : List UInt8 := [182, 0, 207, 133, 182, 1, 121, 3, 61, 28, 6, 162, 0, 21, 42, 42, 27, 8, 28, 182, 0, 213, 133]
abbrev dktX2_mixRow_3 : List UInt8 := dkwX2_mixRow_3 ++ dktX2_mixRow_4
def dkwX2_mixRow_2 : List UInt8 := [42, 27, 28, 182, 0, 201, 133, 182, 1, 121, 132, 2, 1, 167, 255, 236, 42, 42, 27, 19, 1, 125, 16, 7]
abbrev dktX2_mixRow_2 : List UInt8 := dkwX2_mixRow_2 ++ dktX2_mixRow_3
def dkwX2_mixRow_1 : List UInt8 := [27, 104, 28, 96, 46, 133, 182, 1, 121, 132, 2, 1, 167, 255, 233, 3, 61, 28, 16, 8, 162, 0, 20, 42]
abbrev dktX2_mixRow_1 : List UInt8 := dkwX2_mixRow_1 ++ dktX2_mixRow_2
def dkwX2_mixRow_0 : List UInt8 := [42, 42, 180, 0, 7, 27, 46, 133, 182, 1, 121, 3, 61, 28, 7, 162, 0, 24, 42, 42, 180, 0, 13, 7]
abbrev dktX2_mixRow_0 : List UInt8 := dkwX2_mixRow_0 ++ dktX2_mixRow_1
theorem dksX2_mixRow_0 : cX2_mixRow.data.toList.drop 0 = dktX2_mixRow_0 := by decide +kernel
theorem dksX2_mixRow_1 : cX2_mixRow.data.toList.drop 24 = dktX2_mixRow_1 := dk_seg dksX2_mixRow_0 24 rfl rfl
theorem dksX2_mixRow_2 : cX2_mixRow.data.toList.drop 48 = dktX2_mixRow_2 := dk_seg dksX2_mixRow_1 24 rfl rfl
theorem dksX2_mixRow_3 : cX2_mixRow.data.toList.drop 72 = dktX2_mixRow_3 := dk_seg dksX2_mixRow_2 24 rfl rfl
theorem dksX2_mixRow_4 : cX2_mixRow.data.toList.drop 95 = dktX2_mixRow_4 := dk_seg dksX2_mixRow_3 23 rfl rfl
theorem dX2_mixRow_0 : decode cX2_mixRow 0 = .ok (.aload_n 0, 1) := dk_42 (dk_at dksX2_mixRow_0 0 rfl rfl)
theorem dX2_mixRow_1 : decode cX2_mixRow 1 = .ok (.aload_n 0, 1) := dk_42 (dk_at dksX2_mixRow_0 1 rfl rfl)
theorem dX2_mixRow_2 : decode cX2_mixRow 2 = .ok (.getfield 7, 3) := dk_180 0 7 (dk_at dksX2_mixRow_0 2 rfl rfl)
theorem dX2_mixRow_5 : decode cX2_mixRow 5 = .ok (.iload_n 1, 1) := dk_27 (dk_at dksX2_mixRow_0 5 rfl rfl)
theorem dX2_mixRow_6 : decode cX2_mixRow 6 = .ok (.iaload, 1) := dk_46 (dk_at dksX2_mixRow_0 6 rfl rfl)
theorem dX2_mixRow_7 : decode cX2_mixRow 7 = .ok (.i2l, 1) := dk_133 (dk_at dksX2_mixRow_0 7 rfl rfl)
theorem dX2_mixRow_8 : decode cX2_mixRow 8 = .ok (.invokevirtual 377, 3) := dk_182 1 121 (dk_at dksX2_mixRow_0 8 rfl rfl)
theorem dX2_mixRow_11 : decode cX2_mixRow 11 = .ok (.iconst 0, 1) := dk_3 (dk_at dksX2_mixRow_0 11 rfl rfl)
theorem dX2_mixRow_12 : decode cX2_mixRow 12 = .ok (.istore_n 2, 1) := dk_61 (dk_at dksX2_mixRow_0 12 rfl rfl)
theorem dX2_mixRow_13 : decode cX2_mixRow 13 = .ok (.iload_n 2, 1) := dk_28 (dk_at dksX2_mixRow_0 13 rfl rfl)
theorem dX2_mixRow_14 : decode cX2_mixRow 14 = .ok (.iconst 4, 1) := dk_7 (dk_at dksX2_mixRow_0 14 rfl rfl)
theorem dX2_mixRow_15 : decode cX2_mixRow 15 = .ok (.if_icmp .ge 24, 3) := dk_162 0 24 (dk_at dksX2_mixRow_0 15 rfl rfl)
theorem dX2_mixRow_18 : decode cX2_mixRow 18 = .ok (.aload_n 0, 1) := dk_42 (dk_at dksX2_mixRow_0 18 rfl rfl)
theorem dX2_mixRow_19 : decode cX2_mixRow 19 = .ok (.aload_n 0, 1) := dk_42 (dk_at dksX2_mixRow_0 19 rfl rfl)
theorem dX2_mixRow_20 : decode cX2_mixRow 20 = .ok (.getfield 13, 3) := dk_180 0 13 (dk_at dksX2_mixRow_0 20 rfl rfl)
theorem dX2_mixRow_23 : decode cX2_mixRow 23 = .ok (.iconst 4, 1) := dk_7 (dk_at dksX2_mixRow_0 23 rfl rfl)
theorem dX2_mixRow_24 : decode cX2_mixRow 24 = .ok (.iload_n 1, 1) := dk_27 (dk_at dksX2_mixRow_1 0 rfl rfl)
theorem dX2_mixRow_25 : decode cX2_mixRow 25 = .ok (.imul, 1) := dk_104 (dk_at dksX2_mixRow_1 1 rfl rfl)
theorem dX2_mixRow_26 : decode cX2_mixRow 26 = .ok (.iload_n 2, 1) := dk_28 (dk_at dksX2_mixRow_1 2 rfl rfl)
theorem dX2_mixRow_27 : decode cX2_mixRow 27 = .ok (.iadd, 1) := dk_96 (dk_at dksX2_mixRow_1 3 rfl rfl)
theorem dX2_mixRow_28 : decode cX2_mixRow 28 = .ok (.iaload, 1) := dk_46 (dk_at dksX2_mixRow_1 4 rfl rfl)
theorem dX2_mixRow_29 : decode cX2_mixRow 29 = .ok (.i2l, 1) := dk_133 (dk_at dksX2_mixRow_1 5 rfl rfl)
theorem dX2_mixRow_30 : decode cX2_mixRow 30 = .ok (.invokevirtual 377, 3) := dk_182 1 121 (dk_at dksX2_mixRow_1 6 rfl rfl)
theorem dX2_mixRow_33 : decode cX2_mixRow 33 = .ok (.iinc 2 1, 3) := dk_132 2 1 (dk_at dksX2_mixRow_1 9 rfl rfl)
theorem dX2_mixRow_36 : decode cX2_mixRow 36 = .ok (.goto (-23), 3) := dk_167 255 233 (dk_at dksX2_mixRow_1 12 rfl rfl)
theorem dX2_mixRow_39 : decode cX2_mixRow 39 = .ok (.iconst 0, 1) := dk_3 (dk_at dksX2_mixRow_1 15 rfl rfl)
theorem dX2_mixRow_40 : decode cX2_mixRow 40 = .ok (.istore_n 2, 1) := dk_61 (dk_at dksX2_mixRow_1 16 rfl rfl)
theorem dX2_mixRow_41 : decode cX2_mixRow 41 = .ok (.iload_n 2, 1) := dk_28 (dk_at dksX2_mixRow_1 17 rfl rfl)
theorem dX2_mixRow_42 : decode cX2_mixRow 42 = .ok (.bipush 8, 2) := dk_16 8 (dk_at dksX2_mixRow_1 18 rfl rfl)
theorem dX2_mixRow_44 : decode cX2_mixRow 44 = .ok (.if_icmp .ge 20, 3) := dk_162 0 20 (dk_at dksX2_mixRow_1 20 rfl rfl)
theorem dX2_mixRow_47 : decode cX2_mixRow 47 = .ok (.aload_n 0, 1) := dk_42 (dk_at dksX2_mixRow_1 23 rfl rfl)
theorem dX2_mixRow_48 : decode cX2_mixRow 48 = .ok (.aload_n 0, 1) := dk_42 (dk_at dksX2_mixRow_2 0 rfl rfl)
theorem dX2_mixRow_49 : decode cX2_mixRow 49 = .ok (.iload_n 1, 1) := dk_27 (dk_at dksX2_mixRow_2 1 rfl rfl)
theorem dX2_mixRow_50 : decode cX2_mixRow 50 = .ok (.iload_n 2, 1) := dk_28 (dk_at dksX2_mixRow_2 2 rfl rfl)
theorem dX2_mixRow_51 : decode cX2_mixRow 51 = .ok (.invokevirtual 201, 3) := dk_182 0 201 (dk_at dksX2_mixRow_2 3 rfl rfl)
theorem dX2_mixRow_54 : decode cX2_mixRow 54 = .ok (.i2l, 1) := dk_133 (dk_at dksX2_mixRow_2 6 rfl rfl)
theorem dX2_mixRow_55 : decode cX2_mixRow 55 = .ok (.invokevirtual 377, 3) := dk_182 1 121 (dk_at dksX2_mixRow_2 7 rfl rfl)
theorem dX2_mixRow_58 : decode cX2_mixRow 58 = .ok (.iinc 2 1, 3) := dk_132 2 1 (dk_at dksX2_mixRow_2 10 rfl rfl)
theorem dX2_mixRow_61 : decode cX2_mixRow 61 = .ok (.goto (-20), 3) := dk_167 255 236 (dk_at dksX2_mixRow_2 13 rfl rfl)
theorem dX2_mixRow_64 : decode cX2_mixRow 64 = .ok (.aload_n 0, 1) := dk_42 (dk_at dksX2_mixRow_2 16 rfl rfl)
theorem dX2_mixRow_65 : decode cX2_mixRow 65 = .ok (.aload_n 0, 1) := dk_42 (dk_at dksX2_mixRow_2 17 rfl rfl)
theorem dX2_mixRow_66 : decode cX2_mixRow 66 = .ok (.iload_n 1, 1) := dk_27 (dk_at dksX2_mixRow_2 18 rfl rfl)
theorem dX2_mixRow_67 : decode cX2_mixRow 67 = .ok (.ldc_w 381, 3) := dk_19 1 125 (dk_at dksX2_mixRow_2 19 rfl rfl)
theorem dX2_mixRow_70 : decode cX2_mixRow 70 = .ok (.bipush 7, 2) := dk_16 7 (dk_at dksX2_mixRow_2 22 rfl rfl)
theorem dX2_mixRow_72 : decode cX2_mixRow 72 = .ok (.invokevirtual 207, 3) := dk_182 0 207 (dk_at dksX2_mixRow_3 0 rfl rfl)
theorem dX2_mixRow_75 : decode cX2_mixRow 75 = .ok (.i2l, 1) := dk_133 (dk_at dksX2_mixRow_3 3 rfl rfl)
theorem dX2_mixRow_76 : decode cX2_mixRow 76 = .ok (.invokevirtual 377, 3) := dk_182 1 121 (dk_at dksX2_mixRow_3 4 rfl rfl)
theorem dX2_mixRow_79 : decode cX2_mixRow 79 = .ok (.iconst 0, 1) := dk_3 (dk_at dksX2_mixRow_3 7 rfl rfl)
theorem dX2_mixRow_80 : decode cX2_mixRow 80 = .ok (.istore_n 2, 1) := dk_61 (dk_at dksX2_mixRow_3 8 rfl rfl)
theorem dX2_mixRow_81 : decode cX2_mixRow 81 = .ok (.iload_n 2, 1) := dk_28 (dk_at dksX2_mixRow_3 9 rfl rfl)
theorem dX2_mixRow_82 : decode cX2_mixRow 82 = .ok (.iconst 3, 1) := dk_6 (dk_at dksX2_mixRow_3 10 rfl rfl)
theorem dX2_mixRow_83 : decode cX2_mixRow 83 = .ok (.if_icmp .ge 21, 3) := dk_162 0 21 (dk_at dksX2_mixRow_3 11 rfl rfl)
theorem dX2_mixRow_86 : decode cX2_mixRow 86 = .ok (.aload_n 0, 1) := dk_42 (dk_at dksX2_mixRow_3 14 rfl rfl)
theorem dX2_mixRow_87 : decode cX2_mixRow 87 = .ok (.aload_n 0, 1) := dk_42 (dk_at dksX2_mixRow_3 15 rfl rfl)
theorem dX2_mixRow_88 : decode cX2_mixRow 88 = .ok (.iload_n 1, 1) := dk_27 (dk_at dksX2_mixRow_3 16 rfl rfl)
theorem dX2_mixRow_89 : decode cX2_mixRow 89 = .ok (.iconst 5, 1) := dk_8 (dk_at dksX2_mixRow_3 17 rfl rfl)
theorem dX2_mixRow_90 : decode cX2_mixRow 90 = .ok (.iload_n 2, 1) := dk_28 (dk_at dksX2_mixRow_3 18 rfl rfl)
theorem dX2_mixRow_91 : decode cX2_mixRow 91 = .ok (.invokevirtual 213, 3) := dk_182 0 213 (dk_at dksX2_mixRow_3 19 rfl rfl)
theorem dX2_mixRow_94 : decode cX2_mixRow 94 = .ok (.i2l, 1) := dk_133 (dk_at dksX2_mixRow_3 22 rfl rfl)
theorem dX2_mixRow_95 : decode cX2_mixRow 95 = .ok (.invokevirtual 377, 3) := dk_182 1 121 (dk_at dksX2_mixRow_4 0 rfl rfl)
theorem dX2_mixRow_98 : decode cX2_mixRow 98 = .ok (.iinc 2 1, 3) := dk_132 2 1 (dk_at dksX2_mixRow_4 3 rfl rfl)
theorem dX2_mixRow_101 : decode cX2_mixRow 101 = .ok (.goto (-20), 3) := dk_167 255 236 (dk_at dksX2_mixRow_4 6 rfl rfl)
theorem dX2_mixRow_104 : decode cX2_mixRow 104 = .ok (.aload_n 0, 1) := dk_42 (dk_at dksX2_mixRow_4 9 rfl rfl)
theorem dX2_mixRow_105 : decode cX2_mixRow 105 = .ok (.aload_n 0, 1) := dk_42 (dk_at dksX2_mixRow_4 10 rfl rfl)
theorem dX2_mixRow_106 : decode cX2_mixRow 106 = .ok (.iload_n 1, 1) := dk_27 (dk_at dksX2_mixRow_4 11 rfl rfl)
theorem dX2_mixRow_107 : decode cX2_mixRow 107 = .ok (.invokevirtual 278, 3) := dk_182 1 22 (dk_at dksX2_mixRow_4 12 rfl rfl)
theorem dX2_mixRow_110 : decode cX2_mixRow 110 = .ok (.i2l, 1) := dk_133 (dk_at dksX2_mixRow_4 15 rfl rfl)
theorem dX2_mixRow_111 : decode cX2_mixRow 111 = .ok (.invokevirtual 377, 3) := dk_182 1 121 (dk_at dksX2_mixRow_4 16 rfl rfl)
theorem dX2_mixRow_114 : decode cX2_mixRow 114 = .ok (.return_, 1) := dk_177 (dk_at dksX2_mixRow_4 19 rfl rfl)
abbrev cX2_mix : ByteArray := prog_17_method_110_code
def yX2_mix : MethodName := ⟨RX2, "mix", "(J)V"⟩
def dkwX2_mix_0 : List UInt8 := [42, 20, 1, 116, 42, 180, 1, 118, 105, 31, 97, 181, 1, 118, 177]
abbrev dktX2_mix_0 : List UInt8 := dkwX2_mix_0 ++ []
theorem dksX2_mix_0 : cX2_mix.data.toList.drop 0 = dktX2_mix_0 := by decide +kernel
theorem dX2_mix_0 : decode cX2_mix 0 = .ok (.aload_n 0, 1) := dk_42 (dk_at dksX2_mix_0 0 rfl rfl)
theorem dX2_mix_1 : decode cX2_mix 1 = .ok (.ldc2_w 372, 3) := dk_20 1 116 (dk_at dksX2_mix_0 1 rfl rfl)
theorem dX2_mix_4 : decode cX2_mix 4 = .ok (.aload_n 0, 1) := dk_42 (dk_at dksX2_mix_0 4 rfl rfl)
theorem dX2_mix_5 : decode cX2_mix 5 = .ok (.getfield 374, 3) := dk_180 1 118 (dk_at dksX2_mix_0 5 rfl rfl)
theorem dX2_mix_8 : decode cX2_mix 8 = .ok (.lmul, 1) := dk_105 (dk_at dksX2_mix_0 8 rfl rfl)
theorem dX2_mix_9 : decode cX2_mix 9 = .ok (.lload_n 1, 1) := dk_31 (dk_at dksX2_mix_0 9 rfl rfl)
theorem dX2_mix_10 : decode cX2_mix 10 = .ok (.ladd, 1) := dk_97 (dk_at dksX2_mix_0 10 rfl rfl)
theorem dX2_mix_11 : decode cX2_mix 11 = .ok (.putfield 374, 3) := dk_181 1 118 (dk_at dksX2_mix_0 11 rfl rfl)
theorem dX2_mix_14 : decode cX2_mix 14 = .ok (.return_, 1) := dk_177 (dk_at dksX2_mix_0 14 rfl rfl)
theorem q102 : (Jvm.Cond.initialized "AheadRowsModel") ∈ lw_all := lw_g (lw_at lw_m1 6 rfl) rfl
theorem q471 : (Jvm.Cond.selects "AheadRowsModel" ({ cls := "java/lang/Object", name := "getClass", desc := "()Ljava/lang/Class;" } : Jvm.MethodName) ({ cls := "java/lang/Object", name := "getClass", desc := "()Ljava/lang/Class;" } : Jvm.MethodName)) ∈ lw_all := lw_g (lw_at lw_m2 135 rfl) rfl
theorem q1236 : (Jvm.Cond.instantiable "AheadRowsModel" (33 : Nat)) ∈ lw_all := lw_g (lw_at lw_m5 180 rfl) rfl
theorem q1238 : (Jvm.Cond.instanceMethod ({ cls := "AheadRowsModel", name := "<init>", desc := "()V" } : Jvm.MethodName)) ∈ lw_all := lw_g (lw_at lw_m5 182 rfl) rfl
theorem q1239 : (Jvm.Cond.code ({ cls := "AheadRowsModel", name := "<init>", desc := "()V" } : Jvm.MethodName) prog_17_method_1_code (1 : Nat) (Option.none : Option Jvm.ClassFile.FieldType)) ∈ lw_all := lw_g (lw_at lw_m5 183 rfl) rfl
theorem q1240 : (Jvm.Cond.methodLink "AheadRowsModel" (1 : Nat) ({ cls := "java/lang/Object", name := "<init>", desc := "()V" } : Jvm.MethodName)) ∈ lw_all := lw_g (lw_at lw_m5 184 rfl) rfl
theorem q1241 : (Jvm.Cond.constant "AheadRowsModel" (54 : Nat) (2000000001 : Int32)) ∈ lw_all := lw_g (lw_at lw_m5 185 rfl) rfl
theorem q1242 : (Jvm.Cond.fieldLink "AheadRowsModel" (116 : Nat) "AheadRowsModel" "rowMany" "I") ∈ lw_all := lw_g (lw_at lw_m5 186 rfl) rfl
theorem q1243 : (Jvm.Cond.fieldLink "AheadRowsModel" (7 : Nat) "AheadRowsModel" "kind" "[I") ∈ lw_all := lw_g (lw_at lw_m5 187 rfl) rfl
theorem q1244 : (Jvm.Cond.fieldLink "AheadRowsModel" (13 : Nat) "AheadRowsModel" "part" "[I") ∈ lw_all := lw_g (lw_at lw_m5 188 rfl) rfl
theorem q1245 : (Jvm.Cond.fieldLink "AheadRowsModel" (119 : Nat) "AheadRowsModel" "reads" "I") ∈ lw_all := lw_g (lw_at lw_m5 189 rfl) rfl
theorem q1246 : (Jvm.Cond.fieldLink "AheadRowsModel" (319 : Nat) "AheadRowsModel" "given" "I") ∈ lw_all := lw_g (lw_at lw_m5 190 rfl) rfl
theorem q1247 : (Jvm.Cond.fieldLink "AheadRowsModel" (16 : Nat) "AheadRowsModel" "givenAt" "[I") ∈ lw_all := lw_g (lw_at lw_m5 191 rfl) rfl
theorem q1248 : (Jvm.Cond.fieldLink "AheadRowsModel" (73 : Nat) "AheadRowsModel" "pageLength" "I") ∈ lw_all := lw_g (lw_at lw_m5 192 rfl) rfl
theorem q1249 : (Jvm.Cond.fieldLink "AheadRowsModel" (19 : Nat) "AheadRowsModel" "page" "[B") ∈ lw_all := lw_g (lw_at lw_m5 193 rfl) rfl
theorem q1250 : (Jvm.Cond.fieldLink "AheadRowsModel" (77 : Nat) "AheadRowsModel" "newMany" "I") ∈ lw_all := lw_g (lw_at lw_m5 194 rfl) rfl
theorem q1251 : (Jvm.Cond.fieldLink "AheadRowsModel" (84 : Nat) "AheadRowsModel" "newSigns" "I") ∈ lw_all := lw_g (lw_at lw_m5 195 rfl) rfl
theorem q1252 : (Jvm.Cond.fieldLink "AheadRowsModel" (23 : Nat) "AheadRowsModel" "newKind" "[I") ∈ lw_all := lw_g (lw_at lw_m5 196 rfl) rfl
theorem q1253 : (Jvm.Cond.fieldLink "AheadRowsModel" (26 : Nat) "AheadRowsModel" "newPart" "[I") ∈ lw_all := lw_g (lw_at lw_m5 197 rfl) rfl
theorem q1254 : (Jvm.Cond.fieldLink "AheadRowsModel" (90 : Nat) "AheadRowsModel" "begins" "Z") ∈ lw_all := lw_g (lw_at lw_m5 198 rfl) rfl
theorem q1255 : (Jvm.Cond.fieldLink "AheadRowsModel" (125 : Nat) "AheadRowsModel" "isLaid" "Z") ∈ lw_all := lw_g (lw_at lw_m5 199 rfl) rfl
theorem q1256 : (Jvm.Cond.fieldLink "AheadRowsModel" (128 : Nat) "AheadRowsModel" "laidBy" "I") ∈ lw_all := lw_g (lw_at lw_m5 200 rfl) rfl
theorem q1257 : (Jvm.Cond.fieldLink "AheadRowsModel" (29 : Nat) "AheadRowsModel" "terms" "[I") ∈ lw_all := lw_g (lw_at lw_m5 201 rfl) rfl
theorem q1258 : (Jvm.Cond.fieldLink "AheadRowsModel" (32 : Nat) "AheadRowsModel" "lead" "[I") ∈ lw_all := lw_g (lw_at lw_m5 202 rfl) rfl
theorem q1259 : (Jvm.Cond.fieldLink "AheadRowsModel" (35 : Nat) "AheadRowsModel" "turn" "[I") ∈ lw_all := lw_g (lw_at lw_m5 203 rfl) rfl
theorem q1260 : (Jvm.Cond.fieldLink "AheadRowsModel" (38 : Nat) "AheadRowsModel" "rests" "[B") ∈ lw_all := lw_g (lw_at lw_m5 204 rfl) rfl
theorem q1261 : (Jvm.Cond.fieldLink "AheadRowsModel" (41 : Nat) "AheadRowsModel" "met" "[I") ∈ lw_all := lw_g (lw_at lw_m5 205 rfl) rfl
theorem q1262 : (Jvm.Cond.fieldLink "AheadRowsModel" (44 : Nat) "AheadRowsModel" "table" "[I") ∈ lw_all := lw_g (lw_at lw_m5 206 rfl) rfl
theorem q1263 : (Jvm.Cond.fieldLink "AheadRowsModel" (47 : Nat) "AheadRowsModel" "found" "[I") ∈ lw_all := lw_g (lw_at lw_m5 207 rfl) rfl
theorem q1264 : (Jvm.Cond.fieldLink "AheadRowsModel" (50 : Nat) "AheadRowsModel" "isOpen" "[Z") ∈ lw_all := lw_g (lw_at lw_m5 208 rfl) rfl
theorem q1265 : (Jvm.Cond.fieldLink "AheadRowsModel" (322 : Nat) "AheadRowsModel" "guessU" "I") ∈ lw_all := lw_g (lw_at lw_m5 209 rfl) rfl
theorem q1266 : (Jvm.Cond.fieldLink "AheadRowsModel" (325 : Nat) "AheadRowsModel" "guessV" "I") ∈ lw_all := lw_g (lw_at lw_m5 210 rfl) rfl
theorem q1267 : (Jvm.Cond.fieldLink "AheadRowsModel" (339 : Nat) "AheadRowsModel" "seedNow" "J") ∈ lw_all := lw_g (lw_at lw_m5 211 rfl) rfl
theorem q1268 : (Jvm.Cond.fieldLink "AheadRowsModel" (55 : Nat) "AheadRowsModel" "keptReads" "I") ∈ lw_all := lw_g (lw_at lw_m5 212 rfl) rfl
theorem q1269 : (Jvm.Cond.fieldLink "AheadRowsModel" (355 : Nat) "AheadRowsModel" "keptRows" "I") ∈ lw_all := lw_g (lw_at lw_m5 213 rfl) rfl
theorem q1270 : (Jvm.Cond.fieldLink "AheadRowsModel" (358 : Nat) "AheadRowsModel" "keptGiven" "I") ∈ lw_all := lw_g (lw_at lw_m5 214 rfl) rfl
theorem q1271 : (Jvm.Cond.fieldLink "AheadRowsModel" (59 : Nat) "AheadRowsModel" "keptKind" "[I") ∈ lw_all := lw_g (lw_at lw_m5 215 rfl) rfl
theorem q1272 : (Jvm.Cond.fieldLink "AheadRowsModel" (62 : Nat) "AheadRowsModel" "keptPart" "[I") ∈ lw_all := lw_g (lw_at lw_m5 216 rfl) rfl
theorem q1273 : (Jvm.Cond.fieldLink "AheadRowsModel" (65 : Nat) "AheadRowsModel" "keptAt" "[I") ∈ lw_all := lw_g (lw_at lw_m5 217 rfl) rfl
theorem q1274 : (Jvm.Cond.fieldLink "AheadRowsModel" (374 : Nat) "AheadRowsModel" "h" "J") ∈ lw_all := lw_g (lw_at lw_m5 218 rfl) rfl
theorem q1275 : (Jvm.Cond.lays "AheadRowsModel" "AheadRowsModel" "rowMany" "I") ∈ lw_all := lw_g (lw_at lw_m5 219 rfl) rfl
theorem q1276 : (Jvm.Cond.soleField "AheadRowsModel" "rowMany") ∈ lw_all := lw_g (lw_at lw_m5 220 rfl) rfl
theorem q1277 : (Jvm.Cond.laysFinal "AheadRowsModel" "AheadRowsModel" "kind" "[I") ∈ lw_all := lw_g (lw_at lw_m5 221 rfl) rfl
theorem q1278 : (Jvm.Cond.soleField "AheadRowsModel" "kind") ∈ lw_all := lw_g (lw_at lw_m5 222 rfl) rfl
theorem q1279 : (Jvm.Cond.laysFinal "AheadRowsModel" "AheadRowsModel" "part" "[I") ∈ lw_all := lw_g (lw_at lw_m5 223 rfl) rfl
theorem q1280 : (Jvm.Cond.soleField "AheadRowsModel" "part") ∈ lw_all := lw_g (lw_at lw_m5 224 rfl) rfl
theorem q1281 : (Jvm.Cond.lays "AheadRowsModel" "AheadRowsModel" "reads" "I") ∈ lw_all := lw_g (lw_at lw_m5 225 rfl) rfl
theorem q1282 : (Jvm.Cond.soleField "AheadRowsModel" "reads") ∈ lw_all := lw_g (lw_at lw_m5 226 rfl) rfl
theorem q1283 : (Jvm.Cond.lays "AheadRowsModel" "AheadRowsModel" "given" "I") ∈ lw_all := lw_g (lw_at lw_m5 227 rfl) rfl
theorem q1284 : (Jvm.Cond.soleField "AheadRowsModel" "given") ∈ lw_all := lw_g (lw_at lw_m5 228 rfl) rfl
theorem q1285 : (Jvm.Cond.laysFinal "AheadRowsModel" "AheadRowsModel" "givenAt" "[I") ∈ lw_all := lw_g (lw_at lw_m5 229 rfl) rfl
theorem q1286 : (Jvm.Cond.soleField "AheadRowsModel" "givenAt") ∈ lw_all := lw_g (lw_at lw_m5 230 rfl) rfl
theorem q1287 : (Jvm.Cond.lays "AheadRowsModel" "AheadRowsModel" "pageLength" "I") ∈ lw_all := lw_g (lw_at lw_m5 231 rfl) rfl
theorem q1288 : (Jvm.Cond.soleField "AheadRowsModel" "pageLength") ∈ lw_all := lw_g (lw_at lw_m5 232 rfl) rfl
theorem q1289 : (Jvm.Cond.laysFinal "AheadRowsModel" "AheadRowsModel" "page" "[B") ∈ lw_all := lw_g (lw_at lw_m5 233 rfl) rfl
theorem q1290 : (Jvm.Cond.soleField "AheadRowsModel" "page") ∈ lw_all := lw_g (lw_at lw_m5 234 rfl) rfl
theorem q1291 : (Jvm.Cond.lays "AheadRowsModel" "AheadRowsModel" "newMany" "I") ∈ lw_all := lw_g (lw_at lw_m5 235 rfl) rfl
theorem q1292 : (Jvm.Cond.soleField "AheadRowsModel" "newMany") ∈ lw_all := lw_g (lw_at lw_m5 236 rfl) rfl
theorem q1293 : (Jvm.Cond.lays "AheadRowsModel" "AheadRowsModel" "newSigns" "I") ∈ lw_all := lw_g (lw_at lw_m5 237 rfl) rfl
theorem q1294 : (Jvm.Cond.soleField "AheadRowsModel" "newSigns") ∈ lw_all := lw_g (lw_at lw_m5 238 rfl) rfl
theorem q1295 : (Jvm.Cond.laysFinal "AheadRowsModel" "AheadRowsModel" "newKind" "[I") ∈ lw_all := lw_g (lw_at lw_m5 239 rfl) rfl
theorem q1296 : (Jvm.Cond.soleField "AheadRowsModel" "newKind") ∈ lw_all := lw_g (lw_at lw_m6 0 rfl) rfl
theorem q1297 : (Jvm.Cond.laysFinal "AheadRowsModel" "AheadRowsModel" "newPart" "[I") ∈ lw_all := lw_g (lw_at lw_m6 1 rfl) rfl
theorem q1298 : (Jvm.Cond.soleField "AheadRowsModel" "newPart") ∈ lw_all := lw_g (lw_at lw_m6 2 rfl) rfl
theorem q1299 : (Jvm.Cond.lays "AheadRowsModel" "AheadRowsModel" "begins" "Z") ∈ lw_all := lw_g (lw_at lw_m6 3 rfl) rfl
theorem q1300 : (Jvm.Cond.soleField "AheadRowsModel" "begins") ∈ lw_all := lw_g (lw_at lw_m6 4 rfl) rfl
theorem q1301 : (Jvm.Cond.lays "AheadRowsModel" "AheadRowsModel" "isLaid" "Z") ∈ lw_all := lw_g (lw_at lw_m6 5 rfl) rfl
theorem q1302 : (Jvm.Cond.soleField "AheadRowsModel" "isLaid") ∈ lw_all := lw_g (lw_at lw_m6 6 rfl) rfl
theorem q1303 : (Jvm.Cond.lays "AheadRowsModel" "AheadRowsModel" "laidBy" "I") ∈ lw_all := lw_g (lw_at lw_m6 7 rfl) rfl
theorem q1304 : (Jvm.Cond.soleField "AheadRowsModel" "laidBy") ∈ lw_all := lw_g (lw_at lw_m6 8 rfl) rfl
theorem q1305 : (Jvm.Cond.laysFinal "AheadRowsModel" "AheadRowsModel" "terms" "[I") ∈ lw_all := lw_g (lw_at lw_m6 9 rfl) rfl
theorem q1306 : (Jvm.Cond.soleField "AheadRowsModel" "terms") ∈ lw_all := lw_g (lw_at lw_m6 10 rfl) rfl
theorem q1307 : (Jvm.Cond.laysFinal "AheadRowsModel" "AheadRowsModel" "lead" "[I") ∈ lw_all := lw_g (lw_at lw_m6 11 rfl) rfl
theorem q1308 : (Jvm.Cond.soleField "AheadRowsModel" "lead") ∈ lw_all := lw_g (lw_at lw_m6 12 rfl) rfl
theorem q1309 : (Jvm.Cond.laysFinal "AheadRowsModel" "AheadRowsModel" "turn" "[I") ∈ lw_all := lw_g (lw_at lw_m6 13 rfl) rfl
theorem q1310 : (Jvm.Cond.soleField "AheadRowsModel" "turn") ∈ lw_all := lw_g (lw_at lw_m6 14 rfl) rfl
theorem q1311 : (Jvm.Cond.laysFinal "AheadRowsModel" "AheadRowsModel" "rests" "[B") ∈ lw_all := lw_g (lw_at lw_m6 15 rfl) rfl
theorem q1312 : (Jvm.Cond.soleField "AheadRowsModel" "rests") ∈ lw_all := lw_g (lw_at lw_m6 16 rfl) rfl
theorem q1313 : (Jvm.Cond.laysFinal "AheadRowsModel" "AheadRowsModel" "met" "[I") ∈ lw_all := lw_g (lw_at lw_m6 17 rfl) rfl
theorem q1314 : (Jvm.Cond.soleField "AheadRowsModel" "met") ∈ lw_all := lw_g (lw_at lw_m6 18 rfl) rfl
theorem q1315 : (Jvm.Cond.laysFinal "AheadRowsModel" "AheadRowsModel" "table" "[I") ∈ lw_all := lw_g (lw_at lw_m6 19 rfl) rfl
theorem q1316 : (Jvm.Cond.soleField "AheadRowsModel" "table") ∈ lw_all := lw_g (lw_at lw_m6 20 rfl) rfl
theorem q1317 : (Jvm.Cond.laysFinal "AheadRowsModel" "AheadRowsModel" "found" "[I") ∈ lw_all := lw_g (lw_at lw_m6 21 rfl) rfl
theorem q1318 : (Jvm.Cond.soleField "AheadRowsModel" "found") ∈ lw_all := lw_g (lw_at lw_m6 22 rfl) rfl
theorem q1319 : (Jvm.Cond.laysFinal "AheadRowsModel" "AheadRowsModel" "isOpen" "[Z") ∈ lw_all := lw_g (lw_at lw_m6 23 rfl) rfl
theorem q1320 : (Jvm.Cond.soleField "AheadRowsModel" "isOpen") ∈ lw_all := lw_g (lw_at lw_m6 24 rfl) rfl
theorem q1321 : (Jvm.Cond.lays "AheadRowsModel" "AheadRowsModel" "guessU" "I") ∈ lw_all := lw_g (lw_at lw_m6 25 rfl) rfl
theorem q1322 : (Jvm.Cond.soleField "AheadRowsModel" "guessU") ∈ lw_all := lw_g (lw_at lw_m6 26 rfl) rfl
theorem q1323 : (Jvm.Cond.lays "AheadRowsModel" "AheadRowsModel" "guessV" "I") ∈ lw_all := lw_g (lw_at lw_m6 27 rfl) rfl
theorem q1324 : (Jvm.Cond.soleField "AheadRowsModel" "guessV") ∈ lw_all := lw_g (lw_at lw_m6 28 rfl) rfl
theorem q1325 : (Jvm.Cond.lays "AheadRowsModel" "AheadRowsModel" "seedNow" "J") ∈ lw_all := lw_g (lw_at lw_m6 29 rfl) rfl
theorem q1326 : (Jvm.Cond.soleField "AheadRowsModel" "seedNow") ∈ lw_all := lw_g (lw_at lw_m6 30 rfl) rfl
theorem q1327 : (Jvm.Cond.lays "AheadRowsModel" "AheadRowsModel" "keptReads" "I") ∈ lw_all := lw_g (lw_at lw_m6 31 rfl) rfl
theorem q1328 : (Jvm.Cond.soleField "AheadRowsModel" "keptReads") ∈ lw_all := lw_g (lw_at lw_m6 32 rfl) rfl
theorem q1329 : (Jvm.Cond.lays "AheadRowsModel" "AheadRowsModel" "keptRows" "I") ∈ lw_all := lw_g (lw_at lw_m6 33 rfl) rfl
theorem q1330 : (Jvm.Cond.soleField "AheadRowsModel" "keptRows") ∈ lw_all := lw_g (lw_at lw_m6 34 rfl) rfl
theorem q1331 : (Jvm.Cond.lays "AheadRowsModel" "AheadRowsModel" "keptGiven" "I") ∈ lw_all := lw_g (lw_at lw_m6 35 rfl) rfl
theorem q1332 : (Jvm.Cond.soleField "AheadRowsModel" "keptGiven") ∈ lw_all := lw_g (lw_at lw_m6 36 rfl) rfl
theorem q1333 : (Jvm.Cond.laysFinal "AheadRowsModel" "AheadRowsModel" "keptKind" "[I") ∈ lw_all := lw_g (lw_at lw_m6 37 rfl) rfl
theorem q1334 : (Jvm.Cond.soleField "AheadRowsModel" "keptKind") ∈ lw_all := lw_g (lw_at lw_m6 38 rfl) rfl
theorem q1335 : (Jvm.Cond.laysFinal "AheadRowsModel" "AheadRowsModel" "keptPart" "[I") ∈ lw_all := lw_g (lw_at lw_m6 39 rfl) rfl
theorem q1336 : (Jvm.Cond.soleField "AheadRowsModel" "keptPart") ∈ lw_all := lw_g (lw_at lw_m6 40 rfl) rfl
theorem q1337 : (Jvm.Cond.laysFinal "AheadRowsModel" "AheadRowsModel" "keptAt" "[I") ∈ lw_all := lw_g (lw_at lw_m6 41 rfl) rfl
theorem q1338 : (Jvm.Cond.soleField "AheadRowsModel" "keptAt") ∈ lw_all := lw_g (lw_at lw_m6 42 rfl) rfl
theorem q1339 : (Jvm.Cond.lays "AheadRowsModel" "AheadRowsModel" "h" "J") ∈ lw_all := lw_g (lw_at lw_m6 43 rfl) rfl
theorem q1340 : (Jvm.Cond.soleField "AheadRowsModel" "h") ∈ lw_all := lw_g (lw_at lw_m6 44 rfl) rfl
theorem q1341 : (Jvm.Cond.superclass "AheadRowsModel" "java/lang/Object") ∈ lw_all := lw_g (lw_at lw_m6 45 rfl) rfl
theorem q1344 : (Jvm.Cond.instanceMethod ({ cls := "AheadRowsModel", name := "letter", desc := "(I)I" } : Jvm.MethodName)) ∈ lw_all := lw_g (lw_at lw_m6 48 rfl) rfl
theorem q1345 : (Jvm.Cond.selects "AheadRowsModel" ({ cls := "AheadRowsModel", name := "letter", desc := "(I)I" } : Jvm.MethodName) ({ cls := "AheadRowsModel", name := "letter", desc := "(I)I" } : Jvm.MethodName)) ∈ lw_all := lw_g (lw_at lw_m6 49 rfl) rfl
theorem q1346 : (Jvm.Cond.code ({ cls := "AheadRowsModel", name := "letter", desc := "(I)I" } : Jvm.MethodName) prog_17_method_4_code (2 : Nat) (Option.some Jvm.ClassFile.FieldType.int)) ∈ lw_all := lw_g (lw_at lw_m6 50 rfl) rfl
theorem q1347 : (Jvm.Cond.methodLink "AheadRowsModel" (68 : Nat) ({ cls := "AheadRowsModel", name := "within", desc := "(III)Z" } : Jvm.MethodName)) ∈ lw_all := lw_g (lw_at lw_m6 51 rfl) rfl
theorem q1348 : (Jvm.Cond.static ({ cls := "AheadRowsModel", name := "within", desc := "(III)Z" } : Jvm.MethodName)) ∈ lw_all := lw_g (lw_at lw_m6 52 rfl) rfl
theorem q1349 : (Jvm.Cond.code ({ cls := "AheadRowsModel", name := "within", desc := "(III)Z" } : Jvm.MethodName) prog_17_method_3_code (3 : Nat) (Option.some Jvm.ClassFile.FieldType.boolean)) ∈ lw_all := lw_g (lw_at lw_m6 53 rfl) rfl
theorem q1350 : (Jvm.Cond.constant "AheadRowsModel" (72 : Nat) (2000000102 : Int32)) ∈ lw_all := lw_g (lw_at lw_m6 54 rfl) rfl
theorem q1351 : (Jvm.Cond.constant "AheadRowsModel" (76 : Nat) (2000000104 : Int32)) ∈ lw_all := lw_g (lw_at lw_m6 55 rfl) rfl
theorem q1353 : (Jvm.Cond.instanceMethod ({ cls := "AheadRowsModel", name := "blank", desc := "()I" } : Jvm.MethodName)) ∈ lw_all := lw_g (lw_at lw_m6 57 rfl) rfl
theorem q1354 : (Jvm.Cond.selects "AheadRowsModel" ({ cls := "AheadRowsModel", name := "blank", desc := "()I" } : Jvm.MethodName) ({ cls := "AheadRowsModel", name := "blank", desc := "()I" } : Jvm.MethodName)) ∈ lw_all := lw_g (lw_at lw_m6 58 rfl) rfl
theorem q1355 : (Jvm.Cond.code ({ cls := "AheadRowsModel", name := "blank", desc := "()I" } : Jvm.MethodName) prog_17_method_5_code (2 : Nat) (Option.some Jvm.ClassFile.FieldType.int)) ∈ lw_all := lw_g (lw_at lw_m6 59 rfl) rfl
theorem q1357 : (Jvm.Cond.instanceMethod ({ cls := "AheadRowsModel", name := "fault", desc := "()I" } : Jvm.MethodName)) ∈ lw_all := lw_g (lw_at lw_m6 61 rfl) rfl
theorem q1358 : (Jvm.Cond.selects "AheadRowsModel" ({ cls := "AheadRowsModel", name := "fault", desc := "()I" } : Jvm.MethodName) ({ cls := "AheadRowsModel", name := "fault", desc := "()I" } : Jvm.MethodName)) ∈ lw_all := lw_g (lw_at lw_m6 62 rfl) rfl
theorem q1359 : (Jvm.Cond.code ({ cls := "AheadRowsModel", name := "fault", desc := "()I" } : Jvm.MethodName) prog_17_method_14_code (1 : Nat) (Option.some Jvm.ClassFile.FieldType.int)) ∈ lw_all := lw_g (lw_at lw_m6 63 rfl) rfl
theorem q1360 : (Jvm.Cond.methodLink "AheadRowsModel" (111 : Nat) ({ cls := "AheadRowsModel", name := "read", desc := "()I" } : Jvm.MethodName)) ∈ lw_all := lw_g (lw_at lw_m6 64 rfl) rfl
theorem q1361 : (Jvm.Cond.privateMethod ({ cls := "AheadRowsModel", name := "read", desc := "()I" } : Jvm.MethodName)) ∈ lw_tbl := lw_at lw_m6 65 rfl
theorem q1362 : (Jvm.Cond.instanceMethod ({ cls := "AheadRowsModel", name := "read", desc := "()I" } : Jvm.MethodName)) ∈ lw_all := lw_g (lw_at lw_m6 66 rfl) rfl
theorem q1363 : (Jvm.Cond.code ({ cls := "AheadRowsModel", name := "read", desc := "()I" } : Jvm.MethodName) prog_17_method_13_code (2 : Nat) (Option.some Jvm.ClassFile.FieldType.int)) ∈ lw_all := lw_g (lw_at lw_m6 67 rfl) rfl
theorem q1364 : (Jvm.Cond.methodLink "AheadRowsModel" (108 : Nat) ({ cls := "AheadRowsModel", name := "takes", desc := "(I)Z" } : Jvm.MethodName)) ∈ lw_all := lw_g (lw_at lw_m6 68 rfl) rfl
theorem q1365 : (Jvm.Cond.privateMethod ({ cls := "AheadRowsModel", name := "takes", desc := "(I)Z" } : Jvm.MethodName)) ∈ lw_tbl := lw_at lw_m6 69 rfl
theorem q1366 : (Jvm.Cond.instanceMethod ({ cls := "AheadRowsModel", name := "takes", desc := "(I)Z" } : Jvm.MethodName)) ∈ lw_all := lw_g (lw_at lw_m6 70 rfl) rfl
theorem q1367 : (Jvm.Cond.code ({ cls := "AheadRowsModel", name := "takes", desc := "(I)Z" } : Jvm.MethodName) prog_17_method_11_code (2 : Nat) (Option.some Jvm.ClassFile.FieldType.boolean)) ∈ lw_all := lw_g (lw_at lw_m6 71 rfl) rfl
theorem q1368 : (Jvm.Cond.methodLink "AheadRowsModel" (94 : Nat) ({ cls := "AheadRowsModel", name := "takesKind", desc := "(I)Z" } : Jvm.MethodName)) ∈ lw_all := lw_g (lw_at lw_m6 72 rfl) rfl
theorem q1369 : (Jvm.Cond.privateMethod ({ cls := "AheadRowsModel", name := "takesKind", desc := "(I)Z" } : Jvm.MethodName)) ∈ lw_tbl := lw_at lw_m6 73 rfl
theorem q1370 : (Jvm.Cond.instanceMethod ({ cls := "AheadRowsModel", name := "takesKind", desc := "(I)Z" } : Jvm.MethodName)) ∈ lw_all := lw_g (lw_at lw_m6 74 rfl) rfl
theorem q1371 : (Jvm.Cond.code ({ cls := "AheadRowsModel", name := "takesKind", desc := "(I)Z" } : Jvm.MethodName) prog_17_method_12_code (4 : Nat) (Option.some Jvm.ClassFile.FieldType.boolean)) ∈ lw_all := lw_g (lw_at lw_m6 75 rfl) rfl
theorem q1372 : (Jvm.Cond.methodLink "AheadRowsModel" (105 : Nat) ({ cls := "AheadRowsModel", name := "kindBy", desc := "(I)I" } : Jvm.MethodName)) ∈ lw_all := lw_g (lw_at lw_m6 76 rfl) rfl
theorem q1373 : (Jvm.Cond.static ({ cls := "AheadRowsModel", name := "kindBy", desc := "(I)I" } : Jvm.MethodName)) ∈ lw_all := lw_g (lw_at lw_m6 77 rfl) rfl
theorem q1374 : (Jvm.Cond.code ({ cls := "AheadRowsModel", name := "kindBy", desc := "(I)I" } : Jvm.MethodName) prog_17_method_6_code (1 : Nat) (Option.some Jvm.ClassFile.FieldType.int)) ∈ lw_all := lw_g (lw_at lw_m6 78 rfl) rfl
theorem q1375 : (Jvm.Cond.methodLink "AheadRowsModel" (98 : Nat) ({ cls := "AheadRowsModel", name := "isDone", desc := "()Z" } : Jvm.MethodName)) ∈ lw_all := lw_g (lw_at lw_m6 79 rfl) rfl
theorem q1376 : (Jvm.Cond.privateMethod ({ cls := "AheadRowsModel", name := "isDone", desc := "()Z" } : Jvm.MethodName)) ∈ lw_tbl := lw_at lw_m6 80 rfl
theorem q1377 : (Jvm.Cond.instanceMethod ({ cls := "AheadRowsModel", name := "isDone", desc := "()Z" } : Jvm.MethodName)) ∈ lw_all := lw_g (lw_at lw_m6 81 rfl) rfl
theorem q1378 : (Jvm.Cond.code ({ cls := "AheadRowsModel", name := "isDone", desc := "()Z" } : Jvm.MethodName) prog_17_method_10_code (1 : Nat) (Option.some Jvm.ClassFile.FieldType.boolean)) ∈ lw_all := lw_g (lw_at lw_m6 82 rfl) rfl
theorem q1379 : (Jvm.Cond.methodLink "AheadRowsModel" (87 : Nat) ({ cls := "AheadRowsModel", name := "signsOf", desc := "(I)I" } : Jvm.MethodName)) ∈ lw_all := lw_g (lw_at lw_m6 83 rfl) rfl
theorem q1380 : (Jvm.Cond.static ({ cls := "AheadRowsModel", name := "signsOf", desc := "(I)I" } : Jvm.MethodName)) ∈ lw_all := lw_g (lw_at lw_m6 84 rfl) rfl
theorem q1381 : (Jvm.Cond.code ({ cls := "AheadRowsModel", name := "signsOf", desc := "(I)I" } : Jvm.MethodName) prog_17_method_7_code (1 : Nat) (Option.some Jvm.ClassFile.FieldType.int)) ∈ lw_all := lw_g (lw_at lw_m6 85 rfl) rfl
theorem q1382 : (Jvm.Cond.methodLink "AheadRowsModel" (102 : Nat) ({ cls := "AheadRowsModel", name := "fitsSign", desc := "(I)Z" } : Jvm.MethodName)) ∈ lw_all := lw_g (lw_at lw_m6 86 rfl) rfl
theorem q1383 : (Jvm.Cond.privateMethod ({ cls := "AheadRowsModel", name := "fitsSign", desc := "(I)Z" } : Jvm.MethodName)) ∈ lw_tbl := lw_at lw_m6 87 rfl
theorem q1384 : (Jvm.Cond.instanceMethod ({ cls := "AheadRowsModel", name := "fitsSign", desc := "(I)Z" } : Jvm.MethodName)) ∈ lw_all := lw_g (lw_at lw_m6 88 rfl) rfl
theorem q1385 : (Jvm.Cond.code ({ cls := "AheadRowsModel", name := "fitsSign", desc := "(I)Z" } : Jvm.MethodName) prog_17_method_9_code (3 : Nat) (Option.some Jvm.ClassFile.FieldType.boolean)) ∈ lw_all := lw_g (lw_at lw_m6 89 rfl) rfl
theorem q1386 : (Jvm.Cond.methodLink "AheadRowsModel" (80 : Nat) ({ cls := "AheadRowsModel", name := "valueOf", desc := "(I)I" } : Jvm.MethodName)) ∈ lw_all := lw_g (lw_at lw_m6 90 rfl) rfl
theorem q1387 : (Jvm.Cond.static ({ cls := "AheadRowsModel", name := "valueOf", desc := "(I)I" } : Jvm.MethodName)) ∈ lw_all := lw_g (lw_at lw_m6 91 rfl) rfl
theorem q1388 : (Jvm.Cond.code ({ cls := "AheadRowsModel", name := "valueOf", desc := "(I)I" } : Jvm.MethodName) prog_17_method_8_code (1 : Nat) (Option.some Jvm.ClassFile.FieldType.int)) ∈ lw_all := lw_g (lw_at lw_m6 92 rfl) rfl
theorem q1390 : (Jvm.Cond.instanceMethod ({ cls := "AheadRowsModel", name := "rows", desc := "()I" } : Jvm.MethodName)) ∈ lw_all := lw_g (lw_at lw_m6 94 rfl) rfl
theorem q1391 : (Jvm.Cond.selects "AheadRowsModel" ({ cls := "AheadRowsModel", name := "rows", desc := "()I" } : Jvm.MethodName) ({ cls := "AheadRowsModel", name := "rows", desc := "()I" } : Jvm.MethodName)) ∈ lw_all := lw_g (lw_at lw_m6 95 rfl) rfl
theorem q1392 : (Jvm.Cond.code ({ cls := "AheadRowsModel", name := "rows", desc := "()I" } : Jvm.MethodName) prog_17_method_15_code (2 : Nat) (Option.some Jvm.ClassFile.FieldType.int)) ∈ lw_all := lw_g (lw_at lw_m6 96 rfl) rfl
theorem q1393 : (Jvm.Cond.constant "AheadRowsModel" (115 : Nat) (2000000103 : Int32)) ∈ lw_all := lw_g (lw_at lw_m6 97 rfl) rfl
theorem q1394 : (Jvm.Cond.methodLink "AheadRowsModel" (122 : Nat) ({ cls := "AheadRowsModel", name := "changes", desc := "()V" } : Jvm.MethodName)) ∈ lw_all := lw_g (lw_at lw_m6 98 rfl) rfl
theorem q1395 : (Jvm.Cond.privateMethod ({ cls := "AheadRowsModel", name := "changes", desc := "()V" } : Jvm.MethodName)) ∈ lw_tbl := lw_at lw_m6 99 rfl
theorem q1396 : (Jvm.Cond.instanceMethod ({ cls := "AheadRowsModel", name := "changes", desc := "()V" } : Jvm.MethodName)) ∈ lw_all := lw_g (lw_at lw_m6 100 rfl) rfl
theorem q1397 : (Jvm.Cond.code ({ cls := "AheadRowsModel", name := "changes", desc := "()V" } : Jvm.MethodName) prog_17_method_16_code (1 : Nat) (Option.none : Option Jvm.ClassFile.FieldType)) ∈ lw_all := lw_g (lw_at lw_m6 101 rfl) rfl
theorem q1399 : (Jvm.Cond.instanceMethod ({ cls := "AheadRowsModel", name := "row", desc := "(II)I" } : Jvm.MethodName)) ∈ lw_all := lw_g (lw_at lw_m6 103 rfl) rfl
theorem q1400 : (Jvm.Cond.selects "AheadRowsModel" ({ cls := "AheadRowsModel", name := "row", desc := "(II)I" } : Jvm.MethodName) ({ cls := "AheadRowsModel", name := "row", desc := "(II)I" } : Jvm.MethodName)) ∈ lw_all := lw_g (lw_at lw_m6 104 rfl) rfl
theorem q1401 : (Jvm.Cond.code ({ cls := "AheadRowsModel", name := "row", desc := "(II)I" } : Jvm.MethodName) prog_17_method_38_code (3 : Nat) (Option.some Jvm.ClassFile.FieldType.int)) ∈ lw_all := lw_g (lw_at lw_m6 105 rfl) rfl
theorem q1402 : (Jvm.Cond.methodLink "AheadRowsModel" (193 : Nat) ({ cls := "AheadRowsModel", name := "isRow", desc := "(I)Z" } : Jvm.MethodName)) ∈ lw_all := lw_g (lw_at lw_m6 106 rfl) rfl
theorem q1403 : (Jvm.Cond.privateMethod ({ cls := "AheadRowsModel", name := "isRow", desc := "(I)Z" } : Jvm.MethodName)) ∈ lw_tbl := lw_at lw_m6 107 rfl
theorem q1404 : (Jvm.Cond.instanceMethod ({ cls := "AheadRowsModel", name := "isRow", desc := "(I)Z" } : Jvm.MethodName)) ∈ lw_all := lw_g (lw_at lw_m6 108 rfl) rfl
theorem q1405 : (Jvm.Cond.code ({ cls := "AheadRowsModel", name := "isRow", desc := "(I)Z" } : Jvm.MethodName) prog_17_method_37_code (2 : Nat) (Option.some Jvm.ClassFile.FieldType.boolean)) ∈ lw_all := lw_g (lw_at lw_m6 109 rfl) rfl
theorem q1406 : (Jvm.Cond.constant "AheadRowsModel" (196 : Nat) (2000000101 : Int32)) ∈ lw_all := lw_g (lw_at lw_m6 110 rfl) rfl
theorem q1408 : (Jvm.Cond.instanceMethod ({ cls := "AheadRowsModel", name := "as", desc := "(II)I" } : Jvm.MethodName)) ∈ lw_all := lw_g (lw_at lw_m6 112 rfl) rfl
theorem q1409 : (Jvm.Cond.selects "AheadRowsModel" ({ cls := "AheadRowsModel", name := "as", desc := "(II)I" } : Jvm.MethodName) ({ cls := "AheadRowsModel", name := "as", desc := "(II)I" } : Jvm.MethodName)) ∈ lw_all := lw_g (lw_at lw_m6 113 rfl) rfl
theorem q1410 : (Jvm.Cond.code ({ cls := "AheadRowsModel", name := "as", desc := "(II)I" } : Jvm.MethodName) prog_17_method_40_code (3 : Nat) (Option.some Jvm.ClassFile.FieldType.int)) ∈ lw_all := lw_g (lw_at lw_m6 114 rfl) rfl
theorem q1411 : (Jvm.Cond.methodLink "AheadRowsModel" (197 : Nat) ({ cls := "AheadRowsModel", name := "isSuch", desc := "(II)Z" } : Jvm.MethodName)) ∈ lw_all := lw_g (lw_at lw_m6 115 rfl) rfl
theorem q1412 : (Jvm.Cond.static ({ cls := "AheadRowsModel", name := "isSuch", desc := "(II)Z" } : Jvm.MethodName)) ∈ lw_all := lw_g (lw_at lw_m6 116 rfl) rfl
theorem q1413 : (Jvm.Cond.code ({ cls := "AheadRowsModel", name := "isSuch", desc := "(II)Z" } : Jvm.MethodName) prog_17_method_39_code (2 : Nat) (Option.some Jvm.ClassFile.FieldType.boolean)) ∈ lw_all := lw_g (lw_at lw_m6 117 rfl) rfl
theorem q1415 : (Jvm.Cond.instanceMethod ({ cls := "AheadRowsModel", name := "term", desc := "(II)I" } : Jvm.MethodName)) ∈ lw_all := lw_g (lw_at lw_m6 119 rfl) rfl
theorem q1416 : (Jvm.Cond.selects "AheadRowsModel" ({ cls := "AheadRowsModel", name := "term", desc := "(II)I" } : Jvm.MethodName) ({ cls := "AheadRowsModel", name := "term", desc := "(II)I" } : Jvm.MethodName)) ∈ lw_all := lw_g (lw_at lw_m6 120 rfl) rfl
theorem q1417 : (Jvm.Cond.code ({ cls := "AheadRowsModel", name := "term", desc := "(II)I" } : Jvm.MethodName) prog_17_method_41_code (3 : Nat) (Option.some Jvm.ClassFile.FieldType.int)) ∈ lw_all := lw_g (lw_at lw_m6 121 rfl) rfl
theorem q1418 : (Jvm.Cond.methodLink "AheadRowsModel" (201 : Nat) ({ cls := "AheadRowsModel", name := "termOf", desc := "(II)I" } : Jvm.MethodName)) ∈ lw_all := lw_g (lw_at lw_m6 122 rfl) rfl
theorem q1419 : (Jvm.Cond.privateMethod ({ cls := "AheadRowsModel", name := "termOf", desc := "(II)I" } : Jvm.MethodName)) ∈ lw_tbl := lw_at lw_m6 123 rfl
theorem q1420 : (Jvm.Cond.instanceMethod ({ cls := "AheadRowsModel", name := "termOf", desc := "(II)I" } : Jvm.MethodName)) ∈ lw_all := lw_g (lw_at lw_m6 124 rfl) rfl
theorem q1421 : (Jvm.Cond.code ({ cls := "AheadRowsModel", name := "termOf", desc := "(II)I" } : Jvm.MethodName) prog_17_method_24_code (3 : Nat) (Option.some Jvm.ClassFile.FieldType.int)) ∈ lw_all := lw_g (lw_at lw_m6 125 rfl) rfl
theorem q1422 : (Jvm.Cond.methodLink "AheadRowsModel" (156 : Nat) ({ cls := "AheadRowsModel", name := "layTerms", desc := "()V" } : Jvm.MethodName)) ∈ lw_all := lw_g (lw_at lw_m6 126 rfl) rfl
theorem q1423 : (Jvm.Cond.privateMethod ({ cls := "AheadRowsModel", name := "layTerms", desc := "()V" } : Jvm.MethodName)) ∈ lw_tbl := lw_at lw_m6 127 rfl
theorem q1424 : (Jvm.Cond.instanceMethod ({ cls := "AheadRowsModel", name := "layTerms", desc := "()V" } : Jvm.MethodName)) ∈ lw_all := lw_g (lw_at lw_m6 128 rfl) rfl
theorem q1425 : (Jvm.Cond.code ({ cls := "AheadRowsModel", name := "layTerms", desc := "()V" } : Jvm.MethodName) prog_17_method_23_code (2 : Nat) (Option.none : Option Jvm.ClassFile.FieldType)) ∈ lw_all := lw_g (lw_at lw_m6 129 rfl) rfl
theorem q1426 : (Jvm.Cond.methodLink "AheadRowsModel" (153 : Nat) ({ cls := "AheadRowsModel", name := "madeTerm", desc := "(II)I" } : Jvm.MethodName)) ∈ lw_all := lw_g (lw_at lw_m6 130 rfl) rfl
theorem q1427 : (Jvm.Cond.privateMethod ({ cls := "AheadRowsModel", name := "madeTerm", desc := "(II)I" } : Jvm.MethodName)) ∈ lw_tbl := lw_at lw_m6 131 rfl
theorem q1428 : (Jvm.Cond.instanceMethod ({ cls := "AheadRowsModel", name := "madeTerm", desc := "(II)I" } : Jvm.MethodName)) ∈ lw_all := lw_g (lw_at lw_m6 132 rfl) rfl
theorem q1429 : (Jvm.Cond.code ({ cls := "AheadRowsModel", name := "madeTerm", desc := "(II)I" } : Jvm.MethodName) prog_17_method_22_code (3 : Nat) (Option.some Jvm.ClassFile.FieldType.int)) ∈ lw_all := lw_g (lw_at lw_m6 133 rfl) rfl
theorem q1430 : (Jvm.Cond.methodLink "AheadRowsModel" (144 : Nat) ({ cls := "AheadRowsModel", name := "toldTerm", desc := "(II)I" } : Jvm.MethodName)) ∈ lw_all := lw_g (lw_at lw_m6 134 rfl) rfl
theorem q1431 : (Jvm.Cond.privateMethod ({ cls := "AheadRowsModel", name := "toldTerm", desc := "(II)I" } : Jvm.MethodName)) ∈ lw_tbl := lw_at lw_m6 135 rfl
theorem q1432 : (Jvm.Cond.instanceMethod ({ cls := "AheadRowsModel", name := "toldTerm", desc := "(II)I" } : Jvm.MethodName)) ∈ lw_all := lw_g (lw_at lw_m6 136 rfl) rfl
theorem q1433 : (Jvm.Cond.code ({ cls := "AheadRowsModel", name := "toldTerm", desc := "(II)I" } : Jvm.MethodName) prog_17_method_19_code (5 : Nat) (Option.some Jvm.ClassFile.FieldType.int)) ∈ lw_all := lw_g (lw_at lw_m6 137 rfl) rfl
theorem q1434 : (Jvm.Cond.methodLink "AheadRowsModel" (136 : Nat) ({ cls := "AheadRowsModel", name := "termAt", desc := "(II)I" } : Jvm.MethodName)) ∈ lw_all := lw_g (lw_at lw_m6 138 rfl) rfl
theorem q1435 : (Jvm.Cond.privateMethod ({ cls := "AheadRowsModel", name := "termAt", desc := "(II)I" } : Jvm.MethodName)) ∈ lw_tbl := lw_at lw_m6 139 rfl
theorem q1436 : (Jvm.Cond.instanceMethod ({ cls := "AheadRowsModel", name := "termAt", desc := "(II)I" } : Jvm.MethodName)) ∈ lw_all := lw_g (lw_at lw_m6 140 rfl) rfl
theorem q1437 : (Jvm.Cond.code ({ cls := "AheadRowsModel", name := "termAt", desc := "(II)I" } : Jvm.MethodName) prog_17_method_17_code (3 : Nat) (Option.some Jvm.ClassFile.FieldType.int)) ∈ lw_all := lw_g (lw_at lw_m6 141 rfl) rfl
theorem q1438 : (Jvm.Cond.constant "AheadRowsModel" (131 : Nat) (2000000002 : Int32)) ∈ lw_all := lw_g (lw_at lw_m6 142 rfl) rfl
theorem q1439 : (Jvm.Cond.methodLink "AheadRowsModel" (140 : Nat) ({ cls := "AheadRowsModel", name := "near", desc := "(J)I" } : Jvm.MethodName)) ∈ lw_all := lw_g (lw_at lw_m6 143 rfl) rfl
theorem q1440 : (Jvm.Cond.static ({ cls := "AheadRowsModel", name := "near", desc := "(J)I" } : Jvm.MethodName)) ∈ lw_all := lw_g (lw_at lw_m6 144 rfl) rfl
theorem q1441 : (Jvm.Cond.code ({ cls := "AheadRowsModel", name := "near", desc := "(J)I" } : Jvm.MethodName) prog_17_method_18_code (2 : Nat) (Option.some Jvm.ClassFile.FieldType.int)) ∈ lw_all := lw_g (lw_at lw_m6 145 rfl) rfl
theorem q1442 : (Jvm.Cond.constantLong "AheadRowsModel" (132 : Nat) (1000000000 : Int64)) ∈ lw_all := lw_g (lw_at lw_m6 146 rfl) rfl
theorem q1443 : (Jvm.Cond.constantLong "AheadRowsModel" (134 : Nat) (-1000000000 : Int64)) ∈ lw_all := lw_g (lw_at lw_m6 147 rfl) rfl
theorem q1444 : (Jvm.Cond.methodLink "AheadRowsModel" (147 : Nat) ({ cls := "AheadRowsModel", name := "stepTerm", desc := "(II)I" } : Jvm.MethodName)) ∈ lw_all := lw_g (lw_at lw_m6 148 rfl) rfl
theorem q1445 : (Jvm.Cond.privateMethod ({ cls := "AheadRowsModel", name := "stepTerm", desc := "(II)I" } : Jvm.MethodName)) ∈ lw_tbl := lw_at lw_m6 149 rfl
theorem q1446 : (Jvm.Cond.instanceMethod ({ cls := "AheadRowsModel", name := "stepTerm", desc := "(II)I" } : Jvm.MethodName)) ∈ lw_all := lw_g (lw_at lw_m6 150 rfl) rfl
theorem q1447 : (Jvm.Cond.code ({ cls := "AheadRowsModel", name := "stepTerm", desc := "(II)I" } : Jvm.MethodName) prog_17_method_21_code (5 : Nat) (Option.some Jvm.ClassFile.FieldType.int)) ∈ lw_all := lw_g (lw_at lw_m6 151 rfl) rfl
theorem q1448 : (Jvm.Cond.methodLink "AheadRowsModel" (150 : Nat) ({ cls := "AheadRowsModel", name := "bothTerm", desc := "(II)I" } : Jvm.MethodName)) ∈ lw_all := lw_g (lw_at lw_m6 152 rfl) rfl
theorem q1449 : (Jvm.Cond.privateMethod ({ cls := "AheadRowsModel", name := "bothTerm", desc := "(II)I" } : Jvm.MethodName)) ∈ lw_tbl := lw_at lw_m6 153 rfl
theorem q1450 : (Jvm.Cond.instanceMethod ({ cls := "AheadRowsModel", name := "bothTerm", desc := "(II)I" } : Jvm.MethodName)) ∈ lw_all := lw_g (lw_at lw_m6 154 rfl) rfl
theorem q1451 : (Jvm.Cond.code ({ cls := "AheadRowsModel", name := "bothTerm", desc := "(II)I" } : Jvm.MethodName) prog_17_method_20_code (5 : Nat) (Option.some Jvm.ClassFile.FieldType.int)) ∈ lw_all := lw_g (lw_at lw_m6 155 rfl) rfl
theorem q1453 : (Jvm.Cond.instanceMethod ({ cls := "AheadRowsModel", name := "by", desc := "(III)I" } : Jvm.MethodName)) ∈ lw_all := lw_g (lw_at lw_m6 157 rfl) rfl
theorem q1454 : (Jvm.Cond.selects "AheadRowsModel" ({ cls := "AheadRowsModel", name := "by", desc := "(III)I" } : Jvm.MethodName) ({ cls := "AheadRowsModel", name := "by", desc := "(III)I" } : Jvm.MethodName)) ∈ lw_all := lw_g (lw_at lw_m6 158 rfl) rfl
theorem q1455 : (Jvm.Cond.code ({ cls := "AheadRowsModel", name := "by", desc := "(III)I" } : Jvm.MethodName) prog_17_method_43_code (4 : Nat) (Option.some Jvm.ClassFile.FieldType.int)) ∈ lw_all := lw_g (lw_at lw_m6 159 rfl) rfl
theorem q1456 : (Jvm.Cond.methodLink "AheadRowsModel" (207 : Nat) ({ cls := "AheadRowsModel", name := "byNow", desc := "(III)I" } : Jvm.MethodName)) ∈ lw_all := lw_g (lw_at lw_m6 160 rfl) rfl
theorem q1457 : (Jvm.Cond.privateMethod ({ cls := "AheadRowsModel", name := "byNow", desc := "(III)I" } : Jvm.MethodName)) ∈ lw_tbl := lw_at lw_m6 161 rfl
theorem q1458 : (Jvm.Cond.instanceMethod ({ cls := "AheadRowsModel", name := "byNow", desc := "(III)I" } : Jvm.MethodName)) ∈ lw_all := lw_g (lw_at lw_m6 162 rfl) rfl
theorem q1459 : (Jvm.Cond.code ({ cls := "AheadRowsModel", name := "byNow", desc := "(III)I" } : Jvm.MethodName) prog_17_method_42_code (4 : Nat) (Option.some Jvm.ClassFile.FieldType.int)) ∈ lw_all := lw_g (lw_at lw_m6 163 rfl) rfl
theorem q1460 : (Jvm.Cond.methodLink "AheadRowsModel" (204 : Nat) ({ cls := "AheadRowsModel", name := "layRests", desc := "(I)V" } : Jvm.MethodName)) ∈ lw_all := lw_g (lw_at lw_m6 164 rfl) rfl
theorem q1461 : (Jvm.Cond.privateMethod ({ cls := "AheadRowsModel", name := "layRests", desc := "(I)V" } : Jvm.MethodName)) ∈ lw_tbl := lw_at lw_m6 165 rfl
theorem q1462 : (Jvm.Cond.instanceMethod ({ cls := "AheadRowsModel", name := "layRests", desc := "(I)V" } : Jvm.MethodName)) ∈ lw_all := lw_g (lw_at lw_m6 166 rfl) rfl
theorem q1463 : (Jvm.Cond.code ({ cls := "AheadRowsModel", name := "layRests", desc := "(I)V" } : Jvm.MethodName) prog_17_method_32_code (3 : Nat) (Option.none : Option Jvm.ClassFile.FieldType)) ∈ lw_all := lw_g (lw_at lw_m6 167 rfl) rfl
theorem q1464 : (Jvm.Cond.methodLink "AheadRowsModel" (181 : Nat) ({ cls := "AheadRowsModel", name := "layRest", desc := "(II)V" } : Jvm.MethodName)) ∈ lw_all := lw_g (lw_at lw_m6 168 rfl) rfl
theorem q1465 : (Jvm.Cond.privateMethod ({ cls := "AheadRowsModel", name := "layRest", desc := "(II)V" } : Jvm.MethodName)) ∈ lw_tbl := lw_at lw_m6 169 rfl
theorem q1466 : (Jvm.Cond.instanceMethod ({ cls := "AheadRowsModel", name := "layRest", desc := "(II)V" } : Jvm.MethodName)) ∈ lw_all := lw_g (lw_at lw_m6 170 rfl) rfl
theorem q1467 : (Jvm.Cond.code ({ cls := "AheadRowsModel", name := "layRest", desc := "(II)V" } : Jvm.MethodName) prog_17_method_31_code (4 : Nat) (Option.none : Option Jvm.ClassFile.FieldType)) ∈ lw_all := lw_g (lw_at lw_m6 171 rfl) rfl
theorem q1468 : (Jvm.Cond.methodLink "AheadRowsModel" (169 : Nat) ({ cls := "AheadRowsModel", name := "layTold", desc := "(II)V" } : Jvm.MethodName)) ∈ lw_all := lw_g (lw_at lw_m6 172 rfl) rfl
theorem q1469 : (Jvm.Cond.privateMethod ({ cls := "AheadRowsModel", name := "layTold", desc := "(II)V" } : Jvm.MethodName)) ∈ lw_tbl := lw_at lw_m6 173 rfl
theorem q1470 : (Jvm.Cond.instanceMethod ({ cls := "AheadRowsModel", name := "layTold", desc := "(II)V" } : Jvm.MethodName)) ∈ lw_all := lw_g (lw_at lw_m6 174 rfl) rfl
theorem q1471 : (Jvm.Cond.code ({ cls := "AheadRowsModel", name := "layTold", desc := "(II)V" } : Jvm.MethodName) prog_17_method_28_code (7 : Nat) (Option.none : Option Jvm.ClassFile.FieldType)) ∈ lw_all := lw_g (lw_at lw_m6 175 rfl) rfl
theorem q1472 : (Jvm.Cond.methodLink "AheadRowsModel" (159 : Nat) ({ cls := "AheadRowsModel", name := "mod", desc := "(II)I" } : Jvm.MethodName)) ∈ lw_all := lw_g (lw_at lw_m6 176 rfl) rfl
theorem q1473 : (Jvm.Cond.static ({ cls := "AheadRowsModel", name := "mod", desc := "(II)I" } : Jvm.MethodName)) ∈ lw_all := lw_g (lw_at lw_m6 177 rfl) rfl
theorem q1474 : (Jvm.Cond.code ({ cls := "AheadRowsModel", name := "mod", desc := "(II)I" } : Jvm.MethodName) prog_17_method_27_code (2 : Nat) (Option.some Jvm.ClassFile.FieldType.int)) ∈ lw_all := lw_g (lw_at lw_m6 178 rfl) rfl
theorem q1475 : (Jvm.Cond.methodLink "AheadRowsModel" (173 : Nat) ({ cls := "AheadRowsModel", name := "layTurn", desc := "(I)V" } : Jvm.MethodName)) ∈ lw_all := lw_g (lw_at lw_m6 179 rfl) rfl
theorem q1476 : (Jvm.Cond.privateMethod ({ cls := "AheadRowsModel", name := "layTurn", desc := "(I)V" } : Jvm.MethodName)) ∈ lw_tbl := lw_at lw_m6 180 rfl
theorem q1477 : (Jvm.Cond.instanceMethod ({ cls := "AheadRowsModel", name := "layTurn", desc := "(I)V" } : Jvm.MethodName)) ∈ lw_all := lw_g (lw_at lw_m6 181 rfl) rfl
theorem q1478 : (Jvm.Cond.code ({ cls := "AheadRowsModel", name := "layTurn", desc := "(I)V" } : Jvm.MethodName) prog_17_method_30_code (5 : Nat) (Option.none : Option Jvm.ClassFile.FieldType)) ∈ lw_all := lw_g (lw_at lw_m6 182 rfl) rfl
theorem q1479 : (Jvm.Cond.methodLink "AheadRowsModel" (166 : Nat) ({ cls := "AheadRowsModel", name := "common", desc := "(II)I" } : Jvm.MethodName)) ∈ lw_all := lw_g (lw_at lw_m6 183 rfl) rfl
theorem q1480 : (Jvm.Cond.static ({ cls := "AheadRowsModel", name := "common", desc := "(II)I" } : Jvm.MethodName)) ∈ lw_all := lw_g (lw_at lw_m6 184 rfl) rfl
theorem q1481 : (Jvm.Cond.code ({ cls := "AheadRowsModel", name := "common", desc := "(II)I" } : Jvm.MethodName) prog_17_method_26_code (5 : Nat) (Option.some Jvm.ClassFile.FieldType.int)) ∈ lw_all := lw_g (lw_at lw_m6 185 rfl) rfl
theorem q1482 : (Jvm.Cond.methodLink "AheadRowsModel" (177 : Nat) ({ cls := "AheadRowsModel", name := "madeRest", desc := "(III)I" } : Jvm.MethodName)) ∈ lw_all := lw_g (lw_at lw_m6 186 rfl) rfl
theorem q1483 : (Jvm.Cond.privateMethod ({ cls := "AheadRowsModel", name := "madeRest", desc := "(III)I" } : Jvm.MethodName)) ∈ lw_tbl := lw_at lw_m6 187 rfl
theorem q1484 : (Jvm.Cond.instanceMethod ({ cls := "AheadRowsModel", name := "madeRest", desc := "(III)I" } : Jvm.MethodName)) ∈ lw_all := lw_g (lw_at lw_m6 188 rfl) rfl
theorem q1485 : (Jvm.Cond.code ({ cls := "AheadRowsModel", name := "madeRest", desc := "(III)I" } : Jvm.MethodName) prog_17_method_29_code (5 : Nat) (Option.some Jvm.ClassFile.FieldType.int)) ∈ lw_all := lw_g (lw_at lw_m6 189 rfl) rfl
theorem q1486 : (Jvm.Cond.methodLink "AheadRowsModel" (162 : Nat) ({ cls := "AheadRowsModel", name := "restAt", desc := "(IJ)I" } : Jvm.MethodName)) ∈ lw_all := lw_g (lw_at lw_m6 190 rfl) rfl
theorem q1487 : (Jvm.Cond.privateMethod ({ cls := "AheadRowsModel", name := "restAt", desc := "(IJ)I" } : Jvm.MethodName)) ∈ lw_tbl := lw_at lw_m6 191 rfl
theorem q1488 : (Jvm.Cond.instanceMethod ({ cls := "AheadRowsModel", name := "restAt", desc := "(IJ)I" } : Jvm.MethodName)) ∈ lw_all := lw_g (lw_at lw_m6 192 rfl) rfl
theorem q1489 : (Jvm.Cond.code ({ cls := "AheadRowsModel", name := "restAt", desc := "(IJ)I" } : Jvm.MethodName) prog_17_method_25_code (6 : Nat) (Option.some Jvm.ClassFile.FieldType.int)) ∈ lw_all := lw_g (lw_at lw_m6 193 rfl) rfl
theorem q1491 : (Jvm.Cond.instanceMethod ({ cls := "AheadRowsModel", name := "lap", desc := "(III)I" } : Jvm.MethodName)) ∈ lw_all := lw_g (lw_at lw_m6 195 rfl) rfl
theorem q1492 : (Jvm.Cond.selects "AheadRowsModel" ({ cls := "AheadRowsModel", name := "lap", desc := "(III)I" } : Jvm.MethodName) ({ cls := "AheadRowsModel", name := "lap", desc := "(III)I" } : Jvm.MethodName)) ∈ lw_all := lw_g (lw_at lw_m6 196 rfl) rfl
theorem q1493 : (Jvm.Cond.code ({ cls := "AheadRowsModel", name := "lap", desc := "(III)I" } : Jvm.MethodName) prog_17_method_45_code (4 : Nat) (Option.some Jvm.ClassFile.FieldType.int)) ∈ lw_all := lw_g (lw_at lw_m6 197 rfl) rfl
theorem q1494 : (Jvm.Cond.methodLink "AheadRowsModel" (213 : Nat) ({ cls := "AheadRowsModel", name := "lapNow", desc := "(III)I" } : Jvm.MethodName)) ∈ lw_all := lw_g (lw_at lw_m6 198 rfl) rfl
theorem q1495 : (Jvm.Cond.privateMethod ({ cls := "AheadRowsModel", name := "lapNow", desc := "(III)I" } : Jvm.MethodName)) ∈ lw_tbl := lw_at lw_m6 199 rfl
theorem q1496 : (Jvm.Cond.instanceMethod ({ cls := "AheadRowsModel", name := "lapNow", desc := "(III)I" } : Jvm.MethodName)) ∈ lw_all := lw_g (lw_at lw_m6 200 rfl) rfl
theorem q1497 : (Jvm.Cond.code ({ cls := "AheadRowsModel", name := "lapNow", desc := "(III)I" } : Jvm.MethodName) prog_17_method_44_code (4 : Nat) (Option.some Jvm.ClassFile.FieldType.int)) ∈ lw_all := lw_g (lw_at lw_m6 201 rfl) rfl
theorem q1498 : (Jvm.Cond.methodLink "AheadRowsModel" (187 : Nat) ({ cls := "AheadRowsModel", name := "lapOf", desc := "(I)I" } : Jvm.MethodName)) ∈ lw_all := lw_g (lw_at lw_m6 202 rfl) rfl
theorem q1499 : (Jvm.Cond.privateMethod ({ cls := "AheadRowsModel", name := "lapOf", desc := "(I)I" } : Jvm.MethodName)) ∈ lw_tbl := lw_at lw_m6 203 rfl
theorem q1500 : (Jvm.Cond.instanceMethod ({ cls := "AheadRowsModel", name := "lapOf", desc := "(I)I" } : Jvm.MethodName)) ∈ lw_all := lw_g (lw_at lw_m6 204 rfl) rfl
theorem q1501 : (Jvm.Cond.code ({ cls := "AheadRowsModel", name := "lapOf", desc := "(I)I" } : Jvm.MethodName) prog_17_method_34_code (3 : Nat) (Option.some Jvm.ClassFile.FieldType.int)) ∈ lw_all := lw_g (lw_at lw_m6 205 rfl) rfl
theorem q1502 : (Jvm.Cond.methodLink "AheadRowsModel" (184 : Nat) ({ cls := "AheadRowsModel", name := "comesAgain", desc := "(III)Z" } : Jvm.MethodName)) ∈ lw_all := lw_g (lw_at lw_m6 206 rfl) rfl
theorem q1503 : (Jvm.Cond.privateMethod ({ cls := "AheadRowsModel", name := "comesAgain", desc := "(III)Z" } : Jvm.MethodName)) ∈ lw_tbl := lw_at lw_m6 207 rfl
theorem q1504 : (Jvm.Cond.instanceMethod ({ cls := "AheadRowsModel", name := "comesAgain", desc := "(III)Z" } : Jvm.MethodName)) ∈ lw_all := lw_g (lw_at lw_m6 208 rfl) rfl
theorem q1505 : (Jvm.Cond.code ({ cls := "AheadRowsModel", name := "comesAgain", desc := "(III)Z" } : Jvm.MethodName) prog_17_method_33_code (6 : Nat) (Option.some Jvm.ClassFile.FieldType.boolean)) ∈ lw_all := lw_g (lw_at lw_m6 209 rfl) rfl
theorem q1506 : (Jvm.Cond.methodLink "AheadRowsModel" (190 : Nat) ({ cls := "AheadRowsModel", name := "headOf", desc := "(I)I" } : Jvm.MethodName)) ∈ lw_all := lw_g (lw_at lw_m6 210 rfl) rfl
theorem q1507 : (Jvm.Cond.privateMethod ({ cls := "AheadRowsModel", name := "headOf", desc := "(I)I" } : Jvm.MethodName)) ∈ lw_tbl := lw_at lw_m6 211 rfl
theorem q1508 : (Jvm.Cond.instanceMethod ({ cls := "AheadRowsModel", name := "headOf", desc := "(I)I" } : Jvm.MethodName)) ∈ lw_all := lw_g (lw_at lw_m6 212 rfl) rfl
theorem q1509 : (Jvm.Cond.code ({ cls := "AheadRowsModel", name := "headOf", desc := "(I)I" } : Jvm.MethodName) prog_17_method_35_code (4 : Nat) (Option.some Jvm.ClassFile.FieldType.int)) ∈ lw_all := lw_g (lw_at lw_m6 213 rfl) rfl
theorem q1510 : (Jvm.Cond.methodLink "AheadRowsModel" (210 : Nat) ({ cls := "AheadRowsModel", name := "zerosOf", desc := "(I)I" } : Jvm.MethodName)) ∈ lw_all := lw_g (lw_at lw_m6 214 rfl) rfl
theorem q1511 : (Jvm.Cond.privateMethod ({ cls := "AheadRowsModel", name := "zerosOf", desc := "(I)I" } : Jvm.MethodName)) ∈ lw_tbl := lw_at lw_m6 215 rfl
theorem q1512 : (Jvm.Cond.instanceMethod ({ cls := "AheadRowsModel", name := "zerosOf", desc := "(I)I" } : Jvm.MethodName)) ∈ lw_all := lw_g (lw_at lw_m6 216 rfl) rfl
theorem q1513 : (Jvm.Cond.code ({ cls := "AheadRowsModel", name := "zerosOf", desc := "(I)I" } : Jvm.MethodName) prog_17_method_36_code (6 : Nat) (Option.some Jvm.ClassFile.FieldType.int)) ∈ lw_all := lw_g (lw_at lw_m6 217 rfl) rfl
theorem q1515 : (Jvm.Cond.instanceMethod ({ cls := "AheadRowsModel", name := "least", desc := "(III)I" } : Jvm.MethodName)) ∈ lw_all := lw_g (lw_at lw_m6 219 rfl) rfl
theorem q1516 : (Jvm.Cond.selects "AheadRowsModel" ({ cls := "AheadRowsModel", name := "least", desc := "(III)I" } : Jvm.MethodName) ({ cls := "AheadRowsModel", name := "least", desc := "(III)I" } : Jvm.MethodName)) ∈ lw_all := lw_g (lw_at lw_m6 220 rfl) rfl
theorem q1517 : (Jvm.Cond.code ({ cls := "AheadRowsModel", name := "least", desc := "(III)I" } : Jvm.MethodName) prog_17_method_55_code (4 : Nat) (Option.some Jvm.ClassFile.FieldType.int)) ∈ lw_all := lw_g (lw_at lw_m6 221 rfl) rfl
theorem q1518 : (Jvm.Cond.methodLink "AheadRowsModel" (239 : Nat) ({ cls := "AheadRowsModel", name := "isPrime", desc := "(I)Z" } : Jvm.MethodName)) ∈ lw_all := lw_g (lw_at lw_m6 222 rfl) rfl
theorem q1519 : (Jvm.Cond.static ({ cls := "AheadRowsModel", name := "isPrime", desc := "(I)Z" } : Jvm.MethodName)) ∈ lw_all := lw_g (lw_at lw_m6 223 rfl) rfl
theorem q1520 : (Jvm.Cond.code ({ cls := "AheadRowsModel", name := "isPrime", desc := "(I)Z" } : Jvm.MethodName) prog_17_method_54_code (1 : Nat) (Option.some Jvm.ClassFile.FieldType.boolean)) ∈ lw_all := lw_g (lw_at lw_m6 224 rfl) rfl
theorem q1521 : (Jvm.Cond.methodLink "AheadRowsModel" (242 : Nat) ({ cls := "AheadRowsModel", name := "leastNow", desc := "(III)I" } : Jvm.MethodName)) ∈ lw_all := lw_g (lw_at lw_m6 225 rfl) rfl
theorem q1522 : (Jvm.Cond.privateMethod ({ cls := "AheadRowsModel", name := "leastNow", desc := "(III)I" } : Jvm.MethodName)) ∈ lw_tbl := lw_at lw_m6 226 rfl
theorem q1523 : (Jvm.Cond.instanceMethod ({ cls := "AheadRowsModel", name := "leastNow", desc := "(III)I" } : Jvm.MethodName)) ∈ lw_all := lw_g (lw_at lw_m6 227 rfl) rfl
theorem q1524 : (Jvm.Cond.code ({ cls := "AheadRowsModel", name := "leastNow", desc := "(III)I" } : Jvm.MethodName) prog_17_method_53_code (5 : Nat) (Option.some Jvm.ClassFile.FieldType.int)) ∈ lw_all := lw_g (lw_at lw_m6 228 rfl) rfl
theorem q1525 : (Jvm.Cond.methodLink "AheadRowsModel" (236 : Nat) ({ cls := "AheadRowsModel", name := "isSolved", desc := "(III)Z" } : Jvm.MethodName)) ∈ lw_all := lw_g (lw_at lw_m6 229 rfl) rfl
theorem q1526 : (Jvm.Cond.privateMethod ({ cls := "AheadRowsModel", name := "isSolved", desc := "(III)Z" } : Jvm.MethodName)) ∈ lw_tbl := lw_at lw_m6 230 rfl
theorem q1527 : (Jvm.Cond.instanceMethod ({ cls := "AheadRowsModel", name := "isSolved", desc := "(III)Z" } : Jvm.MethodName)) ∈ lw_all := lw_g (lw_at lw_m6 231 rfl) rfl
theorem q1528 : (Jvm.Cond.code ({ cls := "AheadRowsModel", name := "isSolved", desc := "(III)Z" } : Jvm.MethodName) prog_17_method_51_code (9 : Nat) (Option.some Jvm.ClassFile.FieldType.boolean)) ∈ lw_all := lw_g (lw_at lw_m6 232 rfl) rfl
theorem q1529 : (Jvm.Cond.methodLink "AheadRowsModel" (216 : Nat) ({ cls := "AheadRowsModel", name := "layTable", desc := "(II)V" } : Jvm.MethodName)) ∈ lw_all := lw_g (lw_at lw_m6 233 rfl) rfl
theorem q1530 : (Jvm.Cond.privateMethod ({ cls := "AheadRowsModel", name := "layTable", desc := "(II)V" } : Jvm.MethodName)) ∈ lw_tbl := lw_at lw_m6 234 rfl
theorem q1531 : (Jvm.Cond.instanceMethod ({ cls := "AheadRowsModel", name := "layTable", desc := "(II)V" } : Jvm.MethodName)) ∈ lw_all := lw_g (lw_at lw_m6 235 rfl) rfl
theorem q1532 : (Jvm.Cond.code ({ cls := "AheadRowsModel", name := "layTable", desc := "(II)V" } : Jvm.MethodName) prog_17_method_46_code (5 : Nat) (Option.none : Option Jvm.ClassFile.FieldType)) ∈ lw_all := lw_g (lw_at lw_m6 236 rfl) rfl
theorem q1533 : (Jvm.Cond.methodLink "AheadRowsModel" (219 : Nat) ({ cls := "AheadRowsModel", name := "lineWith", desc := "(III)I" } : Jvm.MethodName)) ∈ lw_all := lw_g (lw_at lw_m6 237 rfl) rfl
theorem q1534 : (Jvm.Cond.privateMethod ({ cls := "AheadRowsModel", name := "lineWith", desc := "(III)I" } : Jvm.MethodName)) ∈ lw_tbl := lw_at lw_m6 238 rfl
theorem q1535 : (Jvm.Cond.instanceMethod ({ cls := "AheadRowsModel", name := "lineWith", desc := "(III)I" } : Jvm.MethodName)) ∈ lw_all := lw_g (lw_at lw_m6 239 rfl) rfl
theorem q1536 : (Jvm.Cond.code ({ cls := "AheadRowsModel", name := "lineWith", desc := "(III)I" } : Jvm.MethodName) prog_17_method_50_code (5 : Nat) (Option.some Jvm.ClassFile.FieldType.int)) ∈ lw_all := lw_g (lw_at lw_m7 0 rfl) rfl
theorem q1537 : (Jvm.Cond.methodLink "AheadRowsModel" (222 : Nat) ({ cls := "AheadRowsModel", name := "swapLines", desc := "(II)V" } : Jvm.MethodName)) ∈ lw_all := lw_g (lw_at lw_m7 1 rfl) rfl
theorem q1538 : (Jvm.Cond.privateMethod ({ cls := "AheadRowsModel", name := "swapLines", desc := "(II)V" } : Jvm.MethodName)) ∈ lw_tbl := lw_at lw_m7 2 rfl
theorem q1539 : (Jvm.Cond.instanceMethod ({ cls := "AheadRowsModel", name := "swapLines", desc := "(II)V" } : Jvm.MethodName)) ∈ lw_all := lw_g (lw_at lw_m7 3 rfl) rfl
theorem q1540 : (Jvm.Cond.code ({ cls := "AheadRowsModel", name := "swapLines", desc := "(II)V" } : Jvm.MethodName) prog_17_method_47_code (5 : Nat) (Option.none : Option Jvm.ClassFile.FieldType)) ∈ lw_all := lw_g (lw_at lw_m7 4 rfl) rfl
theorem q1541 : (Jvm.Cond.methodLink "AheadRowsModel" (225 : Nat) ({ cls := "AheadRowsModel", name := "makeOne", desc := "(III)V" } : Jvm.MethodName)) ∈ lw_all := lw_g (lw_at lw_m7 5 rfl) rfl
theorem q1542 : (Jvm.Cond.privateMethod ({ cls := "AheadRowsModel", name := "makeOne", desc := "(III)V" } : Jvm.MethodName)) ∈ lw_tbl := lw_at lw_m7 6 rfl
theorem q1543 : (Jvm.Cond.instanceMethod ({ cls := "AheadRowsModel", name := "makeOne", desc := "(III)V" } : Jvm.MethodName)) ∈ lw_all := lw_g (lw_at lw_m7 7 rfl) rfl
theorem q1544 : (Jvm.Cond.code ({ cls := "AheadRowsModel", name := "makeOne", desc := "(III)V" } : Jvm.MethodName) prog_17_method_48_code (6 : Nat) (Option.none : Option Jvm.ClassFile.FieldType)) ∈ lw_all := lw_g (lw_at lw_m7 8 rfl) rfl
theorem q1545 : (Jvm.Cond.methodLink "AheadRowsModel" (229 : Nat) ({ cls := "AheadRowsModel", name := "takeAway", desc := "(IIII)V" } : Jvm.MethodName)) ∈ lw_all := lw_g (lw_at lw_m7 9 rfl) rfl
theorem q1546 : (Jvm.Cond.privateMethod ({ cls := "AheadRowsModel", name := "takeAway", desc := "(IIII)V" } : Jvm.MethodName)) ∈ lw_tbl := lw_at lw_m7 10 rfl
theorem q1547 : (Jvm.Cond.instanceMethod ({ cls := "AheadRowsModel", name := "takeAway", desc := "(IIII)V" } : Jvm.MethodName)) ∈ lw_all := lw_g (lw_at lw_m7 11 rfl) rfl
theorem q1548 : (Jvm.Cond.code ({ cls := "AheadRowsModel", name := "takeAway", desc := "(IIII)V" } : Jvm.MethodName) prog_17_method_49_code (7 : Nat) (Option.none : Option Jvm.ClassFile.FieldType)) ∈ lw_all := lw_g (lw_at lw_m7 12 rfl) rfl
theorem q1549 : (Jvm.Cond.methodLink "AheadRowsModel" (233 : Nat) ({ cls := "AheadRowsModel", name := "isMet", desc := "(III)Z" } : Jvm.MethodName)) ∈ lw_all := lw_g (lw_at lw_m7 13 rfl) rfl
theorem q1550 : (Jvm.Cond.privateMethod ({ cls := "AheadRowsModel", name := "isMet", desc := "(III)Z" } : Jvm.MethodName)) ∈ lw_tbl := lw_at lw_m7 14 rfl
theorem q1551 : (Jvm.Cond.instanceMethod ({ cls := "AheadRowsModel", name := "isMet", desc := "(III)Z" } : Jvm.MethodName)) ∈ lw_all := lw_g (lw_at lw_m7 15 rfl) rfl
theorem q1552 : (Jvm.Cond.code ({ cls := "AheadRowsModel", name := "isMet", desc := "(III)Z" } : Jvm.MethodName) prog_17_method_52_code (7 : Nat) (Option.some Jvm.ClassFile.FieldType.boolean)) ∈ lw_all := lw_g (lw_at lw_m7 16 rfl) rfl
theorem q1554 : (Jvm.Cond.instanceMethod ({ cls := "AheadRowsModel", name := "rule", desc := "(II)I" } : Jvm.MethodName)) ∈ lw_all := lw_g (lw_at lw_m7 18 rfl) rfl
theorem q1555 : (Jvm.Cond.selects "AheadRowsModel" ({ cls := "AheadRowsModel", name := "rule", desc := "(II)I" } : Jvm.MethodName) ({ cls := "AheadRowsModel", name := "rule", desc := "(II)I" } : Jvm.MethodName)) ∈ lw_all := lw_g (lw_at lw_m7 19 rfl) rfl
theorem q1556 : (Jvm.Cond.code ({ cls := "AheadRowsModel", name := "rule", desc := "(II)I" } : Jvm.MethodName) prog_17_method_63_code (3 : Nat) (Option.some Jvm.ClassFile.FieldType.int)) ∈ lw_all := lw_g (lw_at lw_m7 20 rfl) rfl
theorem q1557 : (Jvm.Cond.methodLink "AheadRowsModel" (245 : Nat) ({ cls := "AheadRowsModel", name := "isTold", desc := "(I)Z" } : Jvm.MethodName)) ∈ lw_all := lw_g (lw_at lw_m7 21 rfl) rfl
theorem q1558 : (Jvm.Cond.privateMethod ({ cls := "AheadRowsModel", name := "isTold", desc := "(I)Z" } : Jvm.MethodName)) ∈ lw_tbl := lw_at lw_m7 22 rfl
theorem q1559 : (Jvm.Cond.instanceMethod ({ cls := "AheadRowsModel", name := "isTold", desc := "(I)Z" } : Jvm.MethodName)) ∈ lw_all := lw_g (lw_at lw_m7 23 rfl) rfl
theorem q1560 : (Jvm.Cond.code ({ cls := "AheadRowsModel", name := "isTold", desc := "(I)Z" } : Jvm.MethodName) prog_17_method_56_code (2 : Nat) (Option.some Jvm.ClassFile.FieldType.boolean)) ∈ lw_all := lw_g (lw_at lw_m7 24 rfl) rfl
theorem q1561 : (Jvm.Cond.methodLink "AheadRowsModel" (260 : Nat) ({ cls := "AheadRowsModel", name := "arePartsTold", desc := "(I)Z" } : Jvm.MethodName)) ∈ lw_all := lw_g (lw_at lw_m7 25 rfl) rfl
theorem q1562 : (Jvm.Cond.privateMethod ({ cls := "AheadRowsModel", name := "arePartsTold", desc := "(I)Z" } : Jvm.MethodName)) ∈ lw_tbl := lw_at lw_m7 26 rfl
theorem q1563 : (Jvm.Cond.instanceMethod ({ cls := "AheadRowsModel", name := "arePartsTold", desc := "(I)Z" } : Jvm.MethodName)) ∈ lw_all := lw_g (lw_at lw_m7 27 rfl) rfl
theorem q1564 : (Jvm.Cond.code ({ cls := "AheadRowsModel", name := "arePartsTold", desc := "(I)Z" } : Jvm.MethodName) prog_17_method_57_code (3 : Nat) (Option.some Jvm.ClassFile.FieldType.boolean)) ∈ lw_all := lw_g (lw_at lw_m7 28 rfl) rfl
theorem q1565 : (Jvm.Cond.methodLink "AheadRowsModel" (263 : Nat) ({ cls := "AheadRowsModel", name := "ruleNow", desc := "(II)I" } : Jvm.MethodName)) ∈ lw_all := lw_g (lw_at lw_m7 29 rfl) rfl
theorem q1566 : (Jvm.Cond.privateMethod ({ cls := "AheadRowsModel", name := "ruleNow", desc := "(II)I" } : Jvm.MethodName)) ∈ lw_tbl := lw_at lw_m7 30 rfl
theorem q1567 : (Jvm.Cond.instanceMethod ({ cls := "AheadRowsModel", name := "ruleNow", desc := "(II)I" } : Jvm.MethodName)) ∈ lw_all := lw_g (lw_at lw_m7 31 rfl) rfl
theorem q1568 : (Jvm.Cond.code ({ cls := "AheadRowsModel", name := "ruleNow", desc := "(II)I" } : Jvm.MethodName) prog_17_method_62_code (4 : Nat) (Option.some Jvm.ClassFile.FieldType.int)) ∈ lw_all := lw_g (lw_at lw_m7 32 rfl) rfl
theorem q1569 : (Jvm.Cond.methodLink "AheadRowsModel" (254 : Nat) ({ cls := "AheadRowsModel", name := "bothRule", desc := "(II)I" } : Jvm.MethodName)) ∈ lw_all := lw_g (lw_at lw_m7 33 rfl) rfl
theorem q1570 : (Jvm.Cond.privateMethod ({ cls := "AheadRowsModel", name := "bothRule", desc := "(II)I" } : Jvm.MethodName)) ∈ lw_tbl := lw_at lw_m7 34 rfl
theorem q1571 : (Jvm.Cond.instanceMethod ({ cls := "AheadRowsModel", name := "bothRule", desc := "(II)I" } : Jvm.MethodName)) ∈ lw_all := lw_g (lw_at lw_m7 35 rfl) rfl
theorem q1572 : (Jvm.Cond.code ({ cls := "AheadRowsModel", name := "bothRule", desc := "(II)I" } : Jvm.MethodName) prog_17_method_60_code (10 : Nat) (Option.some Jvm.ClassFile.FieldType.int)) ∈ lw_all := lw_g (lw_at lw_m7 36 rfl) rfl
theorem q1573 : (Jvm.Cond.methodLink "AheadRowsModel" (257 : Nat) ({ cls := "AheadRowsModel", name := "twoRule", desc := "(II)I" } : Jvm.MethodName)) ∈ lw_all := lw_g (lw_at lw_m7 37 rfl) rfl
theorem q1574 : (Jvm.Cond.privateMethod ({ cls := "AheadRowsModel", name := "twoRule", desc := "(II)I" } : Jvm.MethodName)) ∈ lw_tbl := lw_at lw_m7 38 rfl
theorem q1575 : (Jvm.Cond.instanceMethod ({ cls := "AheadRowsModel", name := "twoRule", desc := "(II)I" } : Jvm.MethodName)) ∈ lw_all := lw_g (lw_at lw_m7 39 rfl) rfl
theorem q1576 : (Jvm.Cond.code ({ cls := "AheadRowsModel", name := "twoRule", desc := "(II)I" } : Jvm.MethodName) prog_17_method_61_code (7 : Nat) (Option.some Jvm.ClassFile.FieldType.int)) ∈ lw_all := lw_g (lw_at lw_m7 40 rfl) rfl
theorem q1577 : (Jvm.Cond.methodLink "AheadRowsModel" (248 : Nat) ({ cls := "AheadRowsModel", name := "powers", desc := "(III)I" } : Jvm.MethodName)) ∈ lw_all := lw_g (lw_at lw_m7 41 rfl) rfl
theorem q1578 : (Jvm.Cond.static ({ cls := "AheadRowsModel", name := "powers", desc := "(III)I" } : Jvm.MethodName)) ∈ lw_all := lw_g (lw_at lw_m7 42 rfl) rfl
theorem q1579 : (Jvm.Cond.code ({ cls := "AheadRowsModel", name := "powers", desc := "(III)I" } : Jvm.MethodName) prog_17_method_58_code (7 : Nat) (Option.some Jvm.ClassFile.FieldType.int)) ∈ lw_all := lw_g (lw_at lw_m7 43 rfl) rfl
theorem q1580 : (Jvm.Cond.methodLink "AheadRowsModel" (251 : Nat) ({ cls := "AheadRowsModel", name := "power", desc := "(II)I" } : Jvm.MethodName)) ∈ lw_all := lw_g (lw_at lw_m7 44 rfl) rfl
theorem q1581 : (Jvm.Cond.static ({ cls := "AheadRowsModel", name := "power", desc := "(II)I" } : Jvm.MethodName)) ∈ lw_all := lw_g (lw_at lw_m7 45 rfl) rfl
theorem q1582 : (Jvm.Cond.code ({ cls := "AheadRowsModel", name := "power", desc := "(II)I" } : Jvm.MethodName) prog_17_method_59_code (4 : Nat) (Option.some Jvm.ClassFile.FieldType.int)) ∈ lw_all := lw_g (lw_at lw_m7 46 rfl) rfl
theorem q1584 : (Jvm.Cond.instanceMethod ({ cls := "AheadRowsModel", name := "roots", desc := "(II)I" } : Jvm.MethodName)) ∈ lw_all := lw_g (lw_at lw_m7 48 rfl) rfl
theorem q1585 : (Jvm.Cond.selects "AheadRowsModel" ({ cls := "AheadRowsModel", name := "roots", desc := "(II)I" } : Jvm.MethodName) ({ cls := "AheadRowsModel", name := "roots", desc := "(II)I" } : Jvm.MethodName)) ∈ lw_all := lw_g (lw_at lw_m7 49 rfl) rfl
theorem q1586 : (Jvm.Cond.code ({ cls := "AheadRowsModel", name := "roots", desc := "(II)I" } : Jvm.MethodName) prog_17_method_68_code (3 : Nat) (Option.some Jvm.ClassFile.FieldType.int)) ∈ lw_all := lw_g (lw_at lw_m7 50 rfl) rfl
theorem q1587 : (Jvm.Cond.methodLink "AheadRowsModel" (275 : Nat) ({ cls := "AheadRowsModel", name := "rootsNow", desc := "(III)I" } : Jvm.MethodName)) ∈ lw_all := lw_g (lw_at lw_m7 51 rfl) rfl
theorem q1588 : (Jvm.Cond.static ({ cls := "AheadRowsModel", name := "rootsNow", desc := "(III)I" } : Jvm.MethodName)) ∈ lw_all := lw_g (lw_at lw_m7 52 rfl) rfl
theorem q1589 : (Jvm.Cond.code ({ cls := "AheadRowsModel", name := "rootsNow", desc := "(III)I" } : Jvm.MethodName) prog_17_method_67_code (5 : Nat) (Option.some Jvm.ClassFile.FieldType.int)) ∈ lw_all := lw_g (lw_at lw_m7 53 rfl) rfl
theorem q1590 : (Jvm.Cond.methodLink "AheadRowsModel" (266 : Nat) ({ cls := "AheadRowsModel", name := "spread", desc := "(II)I" } : Jvm.MethodName)) ∈ lw_all := lw_g (lw_at lw_m7 54 rfl) rfl
theorem q1591 : (Jvm.Cond.static ({ cls := "AheadRowsModel", name := "spread", desc := "(II)I" } : Jvm.MethodName)) ∈ lw_all := lw_g (lw_at lw_m7 55 rfl) rfl
theorem q1592 : (Jvm.Cond.code ({ cls := "AheadRowsModel", name := "spread", desc := "(II)I" } : Jvm.MethodName) prog_17_method_64_code (2 : Nat) (Option.some Jvm.ClassFile.FieldType.int)) ∈ lw_all := lw_g (lw_at lw_m7 56 rfl) rfl
theorem q1593 : (Jvm.Cond.methodLink "AheadRowsModel" (269 : Nat) ({ cls := "AheadRowsModel", name := "wholeRoot", desc := "(I)I" } : Jvm.MethodName)) ∈ lw_all := lw_g (lw_at lw_m7 57 rfl) rfl
theorem q1594 : (Jvm.Cond.static ({ cls := "AheadRowsModel", name := "wholeRoot", desc := "(I)I" } : Jvm.MethodName)) ∈ lw_all := lw_g (lw_at lw_m7 58 rfl) rfl
theorem q1595 : (Jvm.Cond.code ({ cls := "AheadRowsModel", name := "wholeRoot", desc := "(I)I" } : Jvm.MethodName) prog_17_method_65_code (2 : Nat) (Option.some Jvm.ClassFile.FieldType.int)) ∈ lw_all := lw_g (lw_at lw_m7 59 rfl) rfl
theorem q1596 : (Jvm.Cond.methodLink "AheadRowsModel" (272 : Nat) ({ cls := "AheadRowsModel", name := "degenerate", desc := "(II)I" } : Jvm.MethodName)) ∈ lw_all := lw_g (lw_at lw_m7 60 rfl) rfl
theorem q1597 : (Jvm.Cond.static ({ cls := "AheadRowsModel", name := "degenerate", desc := "(II)I" } : Jvm.MethodName)) ∈ lw_all := lw_g (lw_at lw_m7 61 rfl) rfl
theorem q1598 : (Jvm.Cond.code ({ cls := "AheadRowsModel", name := "degenerate", desc := "(II)I" } : Jvm.MethodName) prog_17_method_66_code (9 : Nat) (Option.some Jvm.ClassFile.FieldType.int)) ∈ lw_all := lw_g (lw_at lw_m7 62 rfl) rfl
theorem q1600 : (Jvm.Cond.instanceMethod ({ cls := "AheadRowsModel", name := "noughts", desc := "(I)I" } : Jvm.MethodName)) ∈ lw_all := lw_g (lw_at lw_m7 64 rfl) rfl
theorem q1601 : (Jvm.Cond.selects "AheadRowsModel" ({ cls := "AheadRowsModel", name := "noughts", desc := "(I)I" } : Jvm.MethodName) ({ cls := "AheadRowsModel", name := "noughts", desc := "(I)I" } : Jvm.MethodName)) ∈ lw_all := lw_g (lw_at lw_m7 65 rfl) rfl
theorem q1602 : (Jvm.Cond.code ({ cls := "AheadRowsModel", name := "noughts", desc := "(I)I" } : Jvm.MethodName) prog_17_method_70_code (2 : Nat) (Option.some Jvm.ClassFile.FieldType.int)) ∈ lw_all := lw_g (lw_at lw_m7 66 rfl) rfl
theorem q1603 : (Jvm.Cond.methodLink "AheadRowsModel" (278 : Nat) ({ cls := "AheadRowsModel", name := "noughtsOf", desc := "(I)I" } : Jvm.MethodName)) ∈ lw_all := lw_g (lw_at lw_m7 67 rfl) rfl
theorem q1604 : (Jvm.Cond.privateMethod ({ cls := "AheadRowsModel", name := "noughtsOf", desc := "(I)I" } : Jvm.MethodName)) ∈ lw_tbl := lw_at lw_m7 68 rfl
theorem q1605 : (Jvm.Cond.instanceMethod ({ cls := "AheadRowsModel", name := "noughtsOf", desc := "(I)I" } : Jvm.MethodName)) ∈ lw_all := lw_g (lw_at lw_m7 69 rfl) rfl
theorem q1606 : (Jvm.Cond.code ({ cls := "AheadRowsModel", name := "noughtsOf", desc := "(I)I" } : Jvm.MethodName) prog_17_method_69_code (4 : Nat) (Option.some Jvm.ClassFile.FieldType.int)) ∈ lw_all := lw_g (lw_at lw_m7 70 rfl) rfl
theorem q1608 : (Jvm.Cond.instanceMethod ({ cls := "AheadRowsModel", name := "ends", desc := "(I)I" } : Jvm.MethodName)) ∈ lw_all := lw_g (lw_at lw_m7 72 rfl) rfl
theorem q1609 : (Jvm.Cond.selects "AheadRowsModel" ({ cls := "AheadRowsModel", name := "ends", desc := "(I)I" } : Jvm.MethodName) ({ cls := "AheadRowsModel", name := "ends", desc := "(I)I" } : Jvm.MethodName)) ∈ lw_all := lw_g (lw_at lw_m7 73 rfl) rfl
theorem q1610 : (Jvm.Cond.code ({ cls := "AheadRowsModel", name := "ends", desc := "(I)I" } : Jvm.MethodName) prog_17_method_71_code (3 : Nat) (Option.some Jvm.ClassFile.FieldType.int)) ∈ lw_all := lw_g (lw_at lw_m7 74 rfl) rfl
theorem q1612 : (Jvm.Cond.instanceMethod ({ cls := "AheadRowsModel", name := "open", desc := "(II)I" } : Jvm.MethodName)) ∈ lw_all := lw_g (lw_at lw_m7 76 rfl) rfl
theorem q1613 : (Jvm.Cond.selects "AheadRowsModel" ({ cls := "AheadRowsModel", name := "open", desc := "(II)I" } : Jvm.MethodName) ({ cls := "AheadRowsModel", name := "open", desc := "(II)I" } : Jvm.MethodName)) ∈ lw_all := lw_g (lw_at lw_m7 77 rfl) rfl
theorem q1614 : (Jvm.Cond.code ({ cls := "AheadRowsModel", name := "open", desc := "(II)I" } : Jvm.MethodName) prog_17_method_74_code (3 : Nat) (Option.some Jvm.ClassFile.FieldType.int)) ∈ lw_all := lw_g (lw_at lw_m7 78 rfl) rfl
theorem q1615 : (Jvm.Cond.methodLink "AheadRowsModel" (284 : Nat) ({ cls := "AheadRowsModel", name := "openNow", desc := "(II)I" } : Jvm.MethodName)) ∈ lw_all := lw_g (lw_at lw_m7 79 rfl) rfl
theorem q1616 : (Jvm.Cond.privateMethod ({ cls := "AheadRowsModel", name := "openNow", desc := "(II)I" } : Jvm.MethodName)) ∈ lw_tbl := lw_at lw_m7 80 rfl
theorem q1617 : (Jvm.Cond.instanceMethod ({ cls := "AheadRowsModel", name := "openNow", desc := "(II)I" } : Jvm.MethodName)) ∈ lw_all := lw_g (lw_at lw_m7 81 rfl) rfl
theorem q1618 : (Jvm.Cond.code ({ cls := "AheadRowsModel", name := "openNow", desc := "(II)I" } : Jvm.MethodName) prog_17_method_73_code (6 : Nat) (Option.some Jvm.ClassFile.FieldType.int)) ∈ lw_all := lw_g (lw_at lw_m7 82 rfl) rfl
theorem q1619 : (Jvm.Cond.methodLink "AheadRowsModel" (281 : Nat) ({ cls := "AheadRowsModel", name := "layOpen", desc := "(I)V" } : Jvm.MethodName)) ∈ lw_all := lw_g (lw_at lw_m7 83 rfl) rfl
theorem q1620 : (Jvm.Cond.privateMethod ({ cls := "AheadRowsModel", name := "layOpen", desc := "(I)V" } : Jvm.MethodName)) ∈ lw_tbl := lw_at lw_m7 84 rfl
theorem q1621 : (Jvm.Cond.instanceMethod ({ cls := "AheadRowsModel", name := "layOpen", desc := "(I)V" } : Jvm.MethodName)) ∈ lw_all := lw_g (lw_at lw_m7 85 rfl) rfl
theorem q1622 : (Jvm.Cond.code ({ cls := "AheadRowsModel", name := "layOpen", desc := "(I)V" } : Jvm.MethodName) prog_17_method_72_code (4 : Nat) (Option.none : Option Jvm.ClassFile.FieldType)) ∈ lw_all := lw_g (lw_at lw_m7 86 rfl) rfl
theorem q1624 : (Jvm.Cond.instanceMethod ({ cls := "AheadRowsModel", name := "meets", desc := "(III)I" } : Jvm.MethodName)) ∈ lw_all := lw_g (lw_at lw_m7 88 rfl) rfl
theorem q1625 : (Jvm.Cond.selects "AheadRowsModel" ({ cls := "AheadRowsModel", name := "meets", desc := "(III)I" } : Jvm.MethodName) ({ cls := "AheadRowsModel", name := "meets", desc := "(III)I" } : Jvm.MethodName)) ∈ lw_all := lw_g (lw_at lw_m7 89 rfl) rfl
theorem q1626 : (Jvm.Cond.code ({ cls := "AheadRowsModel", name := "meets", desc := "(III)I" } : Jvm.MethodName) prog_17_method_76_code (4 : Nat) (Option.some Jvm.ClassFile.FieldType.int)) ∈ lw_all := lw_g (lw_at lw_m7 90 rfl) rfl
theorem q1627 : (Jvm.Cond.methodLink "AheadRowsModel" (287 : Nat) ({ cls := "AheadRowsModel", name := "meetsNow", desc := "(III)I" } : Jvm.MethodName)) ∈ lw_all := lw_g (lw_at lw_m7 91 rfl) rfl
theorem q1628 : (Jvm.Cond.privateMethod ({ cls := "AheadRowsModel", name := "meetsNow", desc := "(III)I" } : Jvm.MethodName)) ∈ lw_tbl := lw_at lw_m7 92 rfl
theorem q1629 : (Jvm.Cond.instanceMethod ({ cls := "AheadRowsModel", name := "meetsNow", desc := "(III)I" } : Jvm.MethodName)) ∈ lw_all := lw_g (lw_at lw_m7 93 rfl) rfl
theorem q1630 : (Jvm.Cond.code ({ cls := "AheadRowsModel", name := "meetsNow", desc := "(III)I" } : Jvm.MethodName) prog_17_method_75_code (6 : Nat) (Option.some Jvm.ClassFile.FieldType.int)) ∈ lw_all := lw_g (lw_at lw_m7 94 rfl) rfl
theorem q1632 : (Jvm.Cond.instanceMethod ({ cls := "AheadRowsModel", name := "told", desc := "(IIII)I" } : Jvm.MethodName)) ∈ lw_all := lw_g (lw_at lw_m7 96 rfl) rfl
theorem q1633 : (Jvm.Cond.selects "AheadRowsModel" ({ cls := "AheadRowsModel", name := "told", desc := "(IIII)I" } : Jvm.MethodName) ({ cls := "AheadRowsModel", name := "told", desc := "(IIII)I" } : Jvm.MethodName)) ∈ lw_all := lw_g (lw_at lw_m7 97 rfl) rfl
theorem q1634 : (Jvm.Cond.code ({ cls := "AheadRowsModel", name := "told", desc := "(IIII)I" } : Jvm.MethodName) prog_17_method_81_code (5 : Nat) (Option.some Jvm.ClassFile.FieldType.int)) ∈ lw_all := lw_g (lw_at lw_m7 98 rfl) rfl
theorem q1635 : (Jvm.Cond.methodLink "AheadRowsModel" (294 : Nat) ({ cls := "AheadRowsModel", name := "isFew", desc := "(I)Z" } : Jvm.MethodName)) ∈ lw_all := lw_g (lw_at lw_m7 99 rfl) rfl
theorem q1636 : (Jvm.Cond.static ({ cls := "AheadRowsModel", name := "isFew", desc := "(I)Z" } : Jvm.MethodName)) ∈ lw_all := lw_g (lw_at lw_m7 100 rfl) rfl
theorem q1637 : (Jvm.Cond.code ({ cls := "AheadRowsModel", name := "isFew", desc := "(I)Z" } : Jvm.MethodName) prog_17_method_79_code (1 : Nat) (Option.some Jvm.ClassFile.FieldType.boolean)) ∈ lw_all := lw_g (lw_at lw_m7 101 rfl) rfl
theorem q1638 : (Jvm.Cond.methodLink "AheadRowsModel" (297 : Nat) ({ cls := "AheadRowsModel", name := "isMany", desc := "(I)Z" } : Jvm.MethodName)) ∈ lw_all := lw_g (lw_at lw_m7 102 rfl) rfl
theorem q1639 : (Jvm.Cond.static ({ cls := "AheadRowsModel", name := "isMany", desc := "(I)Z" } : Jvm.MethodName)) ∈ lw_all := lw_g (lw_at lw_m7 103 rfl) rfl
theorem q1640 : (Jvm.Cond.code ({ cls := "AheadRowsModel", name := "isMany", desc := "(I)Z" } : Jvm.MethodName) prog_17_method_80_code (1 : Nat) (Option.some Jvm.ClassFile.FieldType.boolean)) ∈ lw_all := lw_g (lw_at lw_m7 104 rfl) rfl
theorem q1641 : (Jvm.Cond.methodLink "AheadRowsModel" (300 : Nat) ({ cls := "AheadRowsModel", name := "comes", desc := "(IIIII)I" } : Jvm.MethodName)) ∈ lw_all := lw_g (lw_at lw_m7 105 rfl) rfl
theorem q1642 : (Jvm.Cond.privateMethod ({ cls := "AheadRowsModel", name := "comes", desc := "(IIIII)I" } : Jvm.MethodName)) ∈ lw_tbl := lw_at lw_m7 106 rfl
theorem q1643 : (Jvm.Cond.instanceMethod ({ cls := "AheadRowsModel", name := "comes", desc := "(IIIII)I" } : Jvm.MethodName)) ∈ lw_all := lw_g (lw_at lw_m7 107 rfl) rfl
theorem q1644 : (Jvm.Cond.code ({ cls := "AheadRowsModel", name := "comes", desc := "(IIIII)I" } : Jvm.MethodName) prog_17_method_78_code (6 : Nat) (Option.some Jvm.ClassFile.FieldType.int)) ∈ lw_all := lw_g (lw_at lw_m7 108 rfl) rfl
theorem q1645 : (Jvm.Cond.methodLink "AheadRowsModel" (290 : Nat) ({ cls := "AheadRowsModel", name := "lay", desc := "(IIIIII)V" } : Jvm.MethodName)) ∈ lw_all := lw_g (lw_at lw_m7 109 rfl) rfl
theorem q1646 : (Jvm.Cond.privateMethod ({ cls := "AheadRowsModel", name := "lay", desc := "(IIIIII)V" } : Jvm.MethodName)) ∈ lw_tbl := lw_at lw_m7 110 rfl
theorem q1647 : (Jvm.Cond.instanceMethod ({ cls := "AheadRowsModel", name := "lay", desc := "(IIIIII)V" } : Jvm.MethodName)) ∈ lw_all := lw_g (lw_at lw_m7 111 rfl) rfl
theorem q1648 : (Jvm.Cond.code ({ cls := "AheadRowsModel", name := "lay", desc := "(IIIIII)V" } : Jvm.MethodName) prog_17_method_77_code (7 : Nat) (Option.none : Option Jvm.ClassFile.FieldType)) ∈ lw_all := lw_g (lw_at lw_m7 112 rfl) rfl
theorem q1650 : (Jvm.Cond.instanceMethod ({ cls := "AheadRowsModel", name := "sum", desc := "(II)I" } : Jvm.MethodName)) ∈ lw_all := lw_g (lw_at lw_m7 114 rfl) rfl
theorem q1651 : (Jvm.Cond.selects "AheadRowsModel" ({ cls := "AheadRowsModel", name := "sum", desc := "(II)I" } : Jvm.MethodName) ({ cls := "AheadRowsModel", name := "sum", desc := "(II)I" } : Jvm.MethodName)) ∈ lw_all := lw_g (lw_at lw_m7 115 rfl) rfl
theorem q1652 : (Jvm.Cond.code ({ cls := "AheadRowsModel", name := "sum", desc := "(II)I" } : Jvm.MethodName) prog_17_method_82_code (3 : Nat) (Option.some Jvm.ClassFile.FieldType.int)) ∈ lw_all := lw_g (lw_at lw_m7 116 rfl) rfl
theorem q1654 : (Jvm.Cond.instanceMethod ({ cls := "AheadRowsModel", name := "product", desc := "(II)I" } : Jvm.MethodName)) ∈ lw_all := lw_g (lw_at lw_m7 118 rfl) rfl
theorem q1655 : (Jvm.Cond.selects "AheadRowsModel" ({ cls := "AheadRowsModel", name := "product", desc := "(II)I" } : Jvm.MethodName) ({ cls := "AheadRowsModel", name := "product", desc := "(II)I" } : Jvm.MethodName)) ∈ lw_all := lw_g (lw_at lw_m7 119 rfl) rfl
theorem q1656 : (Jvm.Cond.code ({ cls := "AheadRowsModel", name := "product", desc := "(II)I" } : Jvm.MethodName) prog_17_method_83_code (3 : Nat) (Option.some Jvm.ClassFile.FieldType.int)) ∈ lw_all := lw_g (lw_at lw_m7 120 rfl) rfl
theorem q1658 : (Jvm.Cond.instanceMethod ({ cls := "AheadRowsModel", name := "each", desc := "(III)I" } : Jvm.MethodName)) ∈ lw_all := lw_g (lw_at lw_m7 122 rfl) rfl
theorem q1659 : (Jvm.Cond.selects "AheadRowsModel" ({ cls := "AheadRowsModel", name := "each", desc := "(III)I" } : Jvm.MethodName) ({ cls := "AheadRowsModel", name := "each", desc := "(III)I" } : Jvm.MethodName)) ∈ lw_all := lw_g (lw_at lw_m7 123 rfl) rfl
theorem q1660 : (Jvm.Cond.code ({ cls := "AheadRowsModel", name := "each", desc := "(III)I" } : Jvm.MethodName) prog_17_method_84_code (4 : Nat) (Option.some Jvm.ClassFile.FieldType.int)) ∈ lw_all := lw_g (lw_at lw_m7 124 rfl) rfl
theorem q1662 : (Jvm.Cond.instanceMethod ({ cls := "AheadRowsModel", name := "step", desc := "(I)I" } : Jvm.MethodName)) ∈ lw_all := lw_g (lw_at lw_m7 126 rfl) rfl
theorem q1663 : (Jvm.Cond.selects "AheadRowsModel" ({ cls := "AheadRowsModel", name := "step", desc := "(I)I" } : Jvm.MethodName) ({ cls := "AheadRowsModel", name := "step", desc := "(I)I" } : Jvm.MethodName)) ∈ lw_all := lw_g (lw_at lw_m7 127 rfl) rfl
theorem q1664 : (Jvm.Cond.code ({ cls := "AheadRowsModel", name := "step", desc := "(I)I" } : Jvm.MethodName) prog_17_method_85_code (2 : Nat) (Option.some Jvm.ClassFile.FieldType.int)) ∈ lw_all := lw_g (lw_at lw_m7 128 rfl) rfl
theorem q1666 : (Jvm.Cond.instanceMethod ({ cls := "AheadRowsModel", name := "put", desc := "(III)I" } : Jvm.MethodName)) ∈ lw_all := lw_g (lw_at lw_m7 130 rfl) rfl
theorem q1667 : (Jvm.Cond.selects "AheadRowsModel" ({ cls := "AheadRowsModel", name := "put", desc := "(III)I" } : Jvm.MethodName) ({ cls := "AheadRowsModel", name := "put", desc := "(III)I" } : Jvm.MethodName)) ∈ lw_all := lw_g (lw_at lw_m7 131 rfl) rfl
theorem q1668 : (Jvm.Cond.code ({ cls := "AheadRowsModel", name := "put", desc := "(III)I" } : Jvm.MethodName) prog_17_method_86_code (5 : Nat) (Option.some Jvm.ClassFile.FieldType.int)) ∈ lw_all := lw_g (lw_at lw_m7 132 rfl) rfl
theorem q1670 : (Jvm.Cond.instanceMethod ({ cls := "AheadRowsModel", name := "drop", desc := "()I" } : Jvm.MethodName)) ∈ lw_all := lw_g (lw_at lw_m7 134 rfl) rfl
theorem q1671 : (Jvm.Cond.selects "AheadRowsModel" ({ cls := "AheadRowsModel", name := "drop", desc := "()I" } : Jvm.MethodName) ({ cls := "AheadRowsModel", name := "drop", desc := "()I" } : Jvm.MethodName)) ∈ lw_all := lw_g (lw_at lw_m7 135 rfl) rfl
theorem q1672 : (Jvm.Cond.code ({ cls := "AheadRowsModel", name := "drop", desc := "()I" } : Jvm.MethodName) prog_17_method_87_code (1 : Nat) (Option.some Jvm.ClassFile.FieldType.int)) ∈ lw_all := lw_g (lw_at lw_m7 136 rfl) rfl
theorem q1674 : (Jvm.Cond.instanceMethod ({ cls := "AheadRowsModel", name := "ease", desc := "(I)I" } : Jvm.MethodName)) ∈ lw_all := lw_g (lw_at lw_m7 138 rfl) rfl
theorem q1675 : (Jvm.Cond.selects "AheadRowsModel" ({ cls := "AheadRowsModel", name := "ease", desc := "(I)I" } : Jvm.MethodName) ({ cls := "AheadRowsModel", name := "ease", desc := "(I)I" } : Jvm.MethodName)) ∈ lw_all := lw_g (lw_at lw_m7 139 rfl) rfl
theorem q1676 : (Jvm.Cond.code ({ cls := "AheadRowsModel", name := "ease", desc := "(I)I" } : Jvm.MethodName) prog_17_method_93_code (7 : Nat) (Option.some Jvm.ClassFile.FieldType.int)) ∈ lw_all := lw_g (lw_at lw_m7 140 rfl) rfl
theorem q1677 : (Jvm.Cond.methodLink "AheadRowsModel" (310 : Nat) ({ cls := "AheadRowsModel", name := "canBe", desc := "(I)Z" } : Jvm.MethodName)) ∈ lw_all := lw_g (lw_at lw_m7 141 rfl) rfl
theorem q1678 : (Jvm.Cond.privateMethod ({ cls := "AheadRowsModel", name := "canBe", desc := "(I)Z" } : Jvm.MethodName)) ∈ lw_tbl := lw_at lw_m7 142 rfl
theorem q1679 : (Jvm.Cond.instanceMethod ({ cls := "AheadRowsModel", name := "canBe", desc := "(I)Z" } : Jvm.MethodName)) ∈ lw_all := lw_g (lw_at lw_m7 143 rfl) rfl
theorem q1680 : (Jvm.Cond.code ({ cls := "AheadRowsModel", name := "canBe", desc := "(I)Z" } : Jvm.MethodName) prog_17_method_90_code (4 : Nat) (Option.some Jvm.ClassFile.FieldType.boolean)) ∈ lw_all := lw_g (lw_at lw_m7 144 rfl) rfl
theorem q1681 : (Jvm.Cond.methodLink "AheadRowsModel" (307 : Nat) ({ cls := "AheadRowsModel", name := "powersIn", desc := "(I)I" } : Jvm.MethodName)) ∈ lw_all := lw_g (lw_at lw_m7 145 rfl) rfl
theorem q1682 : (Jvm.Cond.privateMethod ({ cls := "AheadRowsModel", name := "powersIn", desc := "(I)I" } : Jvm.MethodName)) ∈ lw_tbl := lw_at lw_m7 146 rfl
theorem q1683 : (Jvm.Cond.instanceMethod ({ cls := "AheadRowsModel", name := "powersIn", desc := "(I)I" } : Jvm.MethodName)) ∈ lw_all := lw_g (lw_at lw_m7 147 rfl) rfl
theorem q1684 : (Jvm.Cond.code ({ cls := "AheadRowsModel", name := "powersIn", desc := "(I)I" } : Jvm.MethodName) prog_17_method_89_code (4 : Nat) (Option.some Jvm.ClassFile.FieldType.int)) ∈ lw_all := lw_g (lw_at lw_m7 148 rfl) rfl
theorem q1685 : (Jvm.Cond.methodLink "AheadRowsModel" (304 : Nat) ({ cls := "AheadRowsModel", name := "isPower", desc := "(I)Z" } : Jvm.MethodName)) ∈ lw_all := lw_g (lw_at lw_m7 149 rfl) rfl
theorem q1686 : (Jvm.Cond.privateMethod ({ cls := "AheadRowsModel", name := "isPower", desc := "(I)Z" } : Jvm.MethodName)) ∈ lw_tbl := lw_at lw_m7 150 rfl
theorem q1687 : (Jvm.Cond.instanceMethod ({ cls := "AheadRowsModel", name := "isPower", desc := "(I)Z" } : Jvm.MethodName)) ∈ lw_all := lw_g (lw_at lw_m7 151 rfl) rfl
theorem q1688 : (Jvm.Cond.code ({ cls := "AheadRowsModel", name := "isPower", desc := "(I)Z" } : Jvm.MethodName) prog_17_method_88_code (2 : Nat) (Option.some Jvm.ClassFile.FieldType.boolean)) ∈ lw_all := lw_g (lw_at lw_m7 152 rfl) rfl
theorem q1689 : (Jvm.Cond.methodLink "AheadRowsModel" (313 : Nat) ({ cls := "AheadRowsModel", name := "easedC", desc := "(I)I" } : Jvm.MethodName)) ∈ lw_all := lw_g (lw_at lw_m7 153 rfl) rfl
theorem q1690 : (Jvm.Cond.privateMethod ({ cls := "AheadRowsModel", name := "easedC", desc := "(I)I" } : Jvm.MethodName)) ∈ lw_tbl := lw_at lw_m7 154 rfl
theorem q1691 : (Jvm.Cond.instanceMethod ({ cls := "AheadRowsModel", name := "easedC", desc := "(I)I" } : Jvm.MethodName)) ∈ lw_all := lw_g (lw_at lw_m7 155 rfl) rfl
theorem q1692 : (Jvm.Cond.code ({ cls := "AheadRowsModel", name := "easedC", desc := "(I)I" } : Jvm.MethodName) prog_17_method_91_code (3 : Nat) (Option.some Jvm.ClassFile.FieldType.int)) ∈ lw_all := lw_g (lw_at lw_m7 156 rfl) rfl
theorem q1693 : (Jvm.Cond.methodLink "AheadRowsModel" (316 : Nat) ({ cls := "AheadRowsModel", name := "easedD", desc := "(I)I" } : Jvm.MethodName)) ∈ lw_all := lw_g (lw_at lw_m7 157 rfl) rfl
theorem q1694 : (Jvm.Cond.privateMethod ({ cls := "AheadRowsModel", name := "easedD", desc := "(I)I" } : Jvm.MethodName)) ∈ lw_tbl := lw_at lw_m7 158 rfl
theorem q1695 : (Jvm.Cond.instanceMethod ({ cls := "AheadRowsModel", name := "easedD", desc := "(I)I" } : Jvm.MethodName)) ∈ lw_all := lw_g (lw_at lw_m7 159 rfl) rfl
theorem q1696 : (Jvm.Cond.code ({ cls := "AheadRowsModel", name := "easedD", desc := "(I)I" } : Jvm.MethodName) prog_17_method_92_code (5 : Nat) (Option.some Jvm.ClassFile.FieldType.int)) ∈ lw_all := lw_g (lw_at lw_m7 160 rfl) rfl
theorem q1698 : (Jvm.Cond.instanceMethod ({ cls := "AheadRowsModel", name := "give", desc := "(I)I" } : Jvm.MethodName)) ∈ lw_all := lw_g (lw_at lw_m7 162 rfl) rfl
theorem q1699 : (Jvm.Cond.selects "AheadRowsModel" ({ cls := "AheadRowsModel", name := "give", desc := "(I)I" } : Jvm.MethodName) ({ cls := "AheadRowsModel", name := "give", desc := "(I)I" } : Jvm.MethodName)) ∈ lw_all := lw_g (lw_at lw_m7 163 rfl) rfl
theorem q1700 : (Jvm.Cond.code ({ cls := "AheadRowsModel", name := "give", desc := "(I)I" } : Jvm.MethodName) prog_17_method_94_code (2 : Nat) (Option.some Jvm.ClassFile.FieldType.int)) ∈ lw_all := lw_g (lw_at lw_m7 164 rfl) rfl
theorem q1702 : (Jvm.Cond.instanceMethod ({ cls := "AheadRowsModel", name := "forget", desc := "()I" } : Jvm.MethodName)) ∈ lw_all := lw_g (lw_at lw_m7 166 rfl) rfl
theorem q1703 : (Jvm.Cond.selects "AheadRowsModel" ({ cls := "AheadRowsModel", name := "forget", desc := "()I" } : Jvm.MethodName) ({ cls := "AheadRowsModel", name := "forget", desc := "()I" } : Jvm.MethodName)) ∈ lw_all := lw_g (lw_at lw_m7 167 rfl) rfl
theorem q1704 : (Jvm.Cond.code ({ cls := "AheadRowsModel", name := "forget", desc := "()I" } : Jvm.MethodName) prog_17_method_95_code (2 : Nat) (Option.some Jvm.ClassFile.FieldType.int)) ∈ lw_all := lw_g (lw_at lw_m7 168 rfl) rfl
theorem q1706 : (Jvm.Cond.instanceMethod ({ cls := "AheadRowsModel", name := "guess", desc := "(I)I" } : Jvm.MethodName)) ∈ lw_all := lw_g (lw_at lw_m7 170 rfl) rfl
theorem q1707 : (Jvm.Cond.selects "AheadRowsModel" ({ cls := "AheadRowsModel", name := "guess", desc := "(I)I" } : Jvm.MethodName) ({ cls := "AheadRowsModel", name := "guess", desc := "(I)I" } : Jvm.MethodName)) ∈ lw_all := lw_g (lw_at lw_m7 171 rfl) rfl
theorem q1708 : (Jvm.Cond.code ({ cls := "AheadRowsModel", name := "guess", desc := "(I)I" } : Jvm.MethodName) prog_17_method_99_code (2 : Nat) (Option.some Jvm.ClassFile.FieldType.int)) ∈ lw_all := lw_g (lw_at lw_m7 172 rfl) rfl
theorem q1709 : (Jvm.Cond.methodLink "AheadRowsModel" (334 : Nat) ({ cls := "AheadRowsModel", name := "guessTold", desc := "(I)I" } : Jvm.MethodName)) ∈ lw_all := lw_g (lw_at lw_m7 173 rfl) rfl
theorem q1710 : (Jvm.Cond.privateMethod ({ cls := "AheadRowsModel", name := "guessTold", desc := "(I)I" } : Jvm.MethodName)) ∈ lw_tbl := lw_at lw_m7 174 rfl
theorem q1711 : (Jvm.Cond.instanceMethod ({ cls := "AheadRowsModel", name := "guessTold", desc := "(I)I" } : Jvm.MethodName)) ∈ lw_all := lw_g (lw_at lw_m7 175 rfl) rfl
theorem q1712 : (Jvm.Cond.code ({ cls := "AheadRowsModel", name := "guessTold", desc := "(I)I" } : Jvm.MethodName) prog_17_method_98_code (3 : Nat) (Option.some Jvm.ClassFile.FieldType.int)) ∈ lw_all := lw_g (lw_at lw_m7 176 rfl) rfl
theorem q1713 : (Jvm.Cond.methodLink "AheadRowsModel" (331 : Nat) ({ cls := "AheadRowsModel", name := "guessNow", desc := "()I" } : Jvm.MethodName)) ∈ lw_all := lw_g (lw_at lw_m7 177 rfl) rfl
theorem q1714 : (Jvm.Cond.privateMethod ({ cls := "AheadRowsModel", name := "guessNow", desc := "()I" } : Jvm.MethodName)) ∈ lw_tbl := lw_at lw_m7 178 rfl
theorem q1715 : (Jvm.Cond.instanceMethod ({ cls := "AheadRowsModel", name := "guessNow", desc := "()I" } : Jvm.MethodName)) ∈ lw_all := lw_g (lw_at lw_m7 179 rfl) rfl
theorem q1716 : (Jvm.Cond.code ({ cls := "AheadRowsModel", name := "guessNow", desc := "()I" } : Jvm.MethodName) prog_17_method_97_code (3 : Nat) (Option.some Jvm.ClassFile.FieldType.int)) ∈ lw_all := lw_g (lw_at lw_m7 180 rfl) rfl
theorem q1717 : (Jvm.Cond.methodLink "AheadRowsModel" (328 : Nat) ({ cls := "AheadRowsModel", name := "isGuess", desc := "(III)Z" } : Jvm.MethodName)) ∈ lw_all := lw_g (lw_at lw_m7 181 rfl) rfl
theorem q1718 : (Jvm.Cond.privateMethod ({ cls := "AheadRowsModel", name := "isGuess", desc := "(III)Z" } : Jvm.MethodName)) ∈ lw_tbl := lw_at lw_m7 182 rfl
theorem q1719 : (Jvm.Cond.instanceMethod ({ cls := "AheadRowsModel", name := "isGuess", desc := "(III)Z" } : Jvm.MethodName)) ∈ lw_all := lw_g (lw_at lw_m7 183 rfl) rfl
theorem q1720 : (Jvm.Cond.code ({ cls := "AheadRowsModel", name := "isGuess", desc := "(III)Z" } : Jvm.MethodName) prog_17_method_96_code (7 : Nat) (Option.some Jvm.ClassFile.FieldType.boolean)) ∈ lw_all := lw_g (lw_at lw_m7 184 rfl) rfl
theorem q1722 : (Jvm.Cond.instanceMethod ({ cls := "AheadRowsModel", name := "found", desc := "()I" } : Jvm.MethodName)) ∈ lw_all := lw_g (lw_at lw_m7 186 rfl) rfl
theorem q1723 : (Jvm.Cond.selects "AheadRowsModel" ({ cls := "AheadRowsModel", name := "found", desc := "()I" } : Jvm.MethodName) ({ cls := "AheadRowsModel", name := "found", desc := "()I" } : Jvm.MethodName)) ∈ lw_all := lw_g (lw_at lw_m7 187 rfl) rfl
theorem q1724 : (Jvm.Cond.code ({ cls := "AheadRowsModel", name := "found", desc := "()I" } : Jvm.MethodName) prog_17_method_100_code (3 : Nat) (Option.some Jvm.ClassFile.FieldType.int)) ∈ lw_all := lw_g (lw_at lw_m7 188 rfl) rfl
theorem q1726 : (Jvm.Cond.instanceMethod ({ cls := "AheadRowsModel", name := "drawn", desc := "(III)I" } : Jvm.MethodName)) ∈ lw_all := lw_g (lw_at lw_m7 190 rfl) rfl
theorem q1727 : (Jvm.Cond.selects "AheadRowsModel" ({ cls := "AheadRowsModel", name := "drawn", desc := "(III)I" } : Jvm.MethodName) ({ cls := "AheadRowsModel", name := "drawn", desc := "(III)I" } : Jvm.MethodName)) ∈ lw_all := lw_g (lw_at lw_m7 191 rfl) rfl
theorem q1728 : (Jvm.Cond.code ({ cls := "AheadRowsModel", name := "drawn", desc := "(III)I" } : Jvm.MethodName) prog_17_method_103_code (4 : Nat) (Option.some Jvm.ClassFile.FieldType.int)) ∈ lw_all := lw_g (lw_at lw_m7 192 rfl) rfl
theorem q1729 : (Jvm.Cond.methodLink "AheadRowsModel" (352 : Nat) ({ cls := "AheadRowsModel", name := "drawnNow", desc := "(III)I" } : Jvm.MethodName)) ∈ lw_all := lw_g (lw_at lw_m7 193 rfl) rfl
theorem q1730 : (Jvm.Cond.privateMethod ({ cls := "AheadRowsModel", name := "drawnNow", desc := "(III)I" } : Jvm.MethodName)) ∈ lw_tbl := lw_at lw_m7 194 rfl
theorem q1731 : (Jvm.Cond.instanceMethod ({ cls := "AheadRowsModel", name := "drawnNow", desc := "(III)I" } : Jvm.MethodName)) ∈ lw_all := lw_g (lw_at lw_m7 195 rfl) rfl
theorem q1732 : (Jvm.Cond.code ({ cls := "AheadRowsModel", name := "drawnNow", desc := "(III)I" } : Jvm.MethodName) prog_17_method_102_code (8 : Nat) (Option.some Jvm.ClassFile.FieldType.int)) ∈ lw_all := lw_g (lw_at lw_m7 196 rfl) rfl
theorem q1733 : (Jvm.Cond.methodLink "AheadRowsModel" (349 : Nat) ({ cls := "AheadRowsModel", name := "drawOf", desc := "(I)I" } : Jvm.MethodName)) ∈ lw_all := lw_g (lw_at lw_m7 197 rfl) rfl
theorem q1734 : (Jvm.Cond.privateMethod ({ cls := "AheadRowsModel", name := "drawOf", desc := "(I)I" } : Jvm.MethodName)) ∈ lw_tbl := lw_at lw_m7 198 rfl
theorem q1735 : (Jvm.Cond.instanceMethod ({ cls := "AheadRowsModel", name := "drawOf", desc := "(I)I" } : Jvm.MethodName)) ∈ lw_all := lw_g (lw_at lw_m7 199 rfl) rfl
theorem q1736 : (Jvm.Cond.code ({ cls := "AheadRowsModel", name := "drawOf", desc := "(I)I" } : Jvm.MethodName) prog_17_method_101_code (2 : Nat) (Option.some Jvm.ClassFile.FieldType.int)) ∈ lw_all := lw_g (lw_at lw_m7 200 rfl) rfl
theorem q1737 : (Jvm.Cond.constantLong "AheadRowsModel" (337 : Nat) (1103515245 : Int64)) ∈ lw_all := lw_g (lw_at lw_m7 201 rfl) rfl
theorem q1738 : (Jvm.Cond.constantLong "AheadRowsModel" (343 : Nat) (12345 : Int64)) ∈ lw_all := lw_g (lw_at lw_m7 202 rfl) rfl
theorem q1739 : (Jvm.Cond.constantLong "AheadRowsModel" (345 : Nat) (2147483648 : Int64)) ∈ lw_all := lw_g (lw_at lw_m7 203 rfl) rfl
theorem q1740 : (Jvm.Cond.constantLong "AheadRowsModel" (347 : Nat) (65536 : Int64)) ∈ lw_all := lw_g (lw_at lw_m7 204 rfl) rfl
theorem q1742 : (Jvm.Cond.instanceMethod ({ cls := "AheadRowsModel", name := "image", desc := "()I" } : Jvm.MethodName)) ∈ lw_all := lw_g (lw_at lw_m7 206 rfl) rfl
theorem q1743 : (Jvm.Cond.selects "AheadRowsModel" ({ cls := "AheadRowsModel", name := "image", desc := "()I" } : Jvm.MethodName) ({ cls := "AheadRowsModel", name := "image", desc := "()I" } : Jvm.MethodName)) ∈ lw_all := lw_g (lw_at lw_m7 207 rfl) rfl
theorem q1744 : (Jvm.Cond.code ({ cls := "AheadRowsModel", name := "image", desc := "()I" } : Jvm.MethodName) prog_17_method_105_code (1 : Nat) (Option.some Jvm.ClassFile.FieldType.int)) ∈ lw_all := lw_g (lw_at lw_m7 208 rfl) rfl
theorem q1745 : (Jvm.Cond.methodLink "AheadRowsModel" (361 : Nat) ({ cls := "AheadRowsModel", name := "copy", desc := "([I[II)V" } : Jvm.MethodName)) ∈ lw_all := lw_g (lw_at lw_m7 209 rfl) rfl
theorem q1746 : (Jvm.Cond.static ({ cls := "AheadRowsModel", name := "copy", desc := "([I[II)V" } : Jvm.MethodName)) ∈ lw_all := lw_g (lw_at lw_m7 210 rfl) rfl
theorem q1747 : (Jvm.Cond.code ({ cls := "AheadRowsModel", name := "copy", desc := "([I[II)V" } : Jvm.MethodName) prog_17_method_104_code (4 : Nat) (Option.none : Option Jvm.ClassFile.FieldType)) ∈ lw_all := lw_g (lw_at lw_m7 211 rfl) rfl
theorem q1749 : (Jvm.Cond.instanceMethod ({ cls := "AheadRowsModel", name := "restore", desc := "()I" } : Jvm.MethodName)) ∈ lw_all := lw_g (lw_at lw_m7 213 rfl) rfl
theorem q1750 : (Jvm.Cond.selects "AheadRowsModel" ({ cls := "AheadRowsModel", name := "restore", desc := "()I" } : Jvm.MethodName) ({ cls := "AheadRowsModel", name := "restore", desc := "()I" } : Jvm.MethodName)) ∈ lw_all := lw_g (lw_at lw_m7 214 rfl) rfl
theorem q1751 : (Jvm.Cond.code ({ cls := "AheadRowsModel", name := "restore", desc := "()I" } : Jvm.MethodName) prog_17_method_106_code (1 : Nat) (Option.some Jvm.ClassFile.FieldType.int)) ∈ lw_all := lw_g (lw_at lw_m7 215 rfl) rfl
theorem q1753 : (Jvm.Cond.instanceMethod ({ cls := "AheadRowsModel", name := "count", desc := "(I)I" } : Jvm.MethodName)) ∈ lw_all := lw_g (lw_at lw_m7 217 rfl) rfl
theorem q1754 : (Jvm.Cond.selects "AheadRowsModel" ({ cls := "AheadRowsModel", name := "count", desc := "(I)I" } : Jvm.MethodName) ({ cls := "AheadRowsModel", name := "count", desc := "(I)I" } : Jvm.MethodName)) ∈ lw_all := lw_g (lw_at lw_m7 218 rfl) rfl
theorem q1755 : (Jvm.Cond.code ({ cls := "AheadRowsModel", name := "count", desc := "(I)I" } : Jvm.MethodName) prog_17_method_109_code (2 : Nat) (Option.some Jvm.ClassFile.FieldType.int)) ∈ lw_all := lw_g (lw_at lw_m7 219 rfl) rfl
theorem q1756 : (Jvm.Cond.methodLink "AheadRowsModel" (369 : Nat) ({ cls := "AheadRowsModel", name := "howMany", desc := "(I)I" } : Jvm.MethodName)) ∈ lw_all := lw_g (lw_at lw_m7 220 rfl) rfl
theorem q1757 : (Jvm.Cond.privateMethod ({ cls := "AheadRowsModel", name := "howMany", desc := "(I)I" } : Jvm.MethodName)) ∈ lw_tbl := lw_at lw_m7 221 rfl
theorem q1758 : (Jvm.Cond.instanceMethod ({ cls := "AheadRowsModel", name := "howMany", desc := "(I)I" } : Jvm.MethodName)) ∈ lw_all := lw_g (lw_at lw_m7 222 rfl) rfl
theorem q1759 : (Jvm.Cond.code ({ cls := "AheadRowsModel", name := "howMany", desc := "(I)I" } : Jvm.MethodName) prog_17_method_108_code (2 : Nat) (Option.some Jvm.ClassFile.FieldType.int)) ∈ lw_all := lw_g (lw_at lw_m7 223 rfl) rfl
theorem q1760 : (Jvm.Cond.methodLink "AheadRowsModel" (365 : Nat) ({ cls := "AheadRowsModel", name := "toldMany", desc := "(Z)I" } : Jvm.MethodName)) ∈ lw_all := lw_g (lw_at lw_m7 224 rfl) rfl
theorem q1761 : (Jvm.Cond.privateMethod ({ cls := "AheadRowsModel", name := "toldMany", desc := "(Z)I" } : Jvm.MethodName)) ∈ lw_tbl := lw_at lw_m7 225 rfl
theorem q1762 : (Jvm.Cond.instanceMethod ({ cls := "AheadRowsModel", name := "toldMany", desc := "(Z)I" } : Jvm.MethodName)) ∈ lw_all := lw_g (lw_at lw_m7 226 rfl) rfl
theorem q1763 : (Jvm.Cond.code ({ cls := "AheadRowsModel", name := "toldMany", desc := "(Z)I" } : Jvm.MethodName) prog_17_method_107_code (4 : Nat) (Option.some Jvm.ClassFile.FieldType.int)) ∈ lw_all := lw_g (lw_at lw_m7 227 rfl) rfl
theorem q1765 : (Jvm.Cond.instanceMethod ({ cls := "AheadRowsModel", name := "digest", desc := "()J" } : Jvm.MethodName)) ∈ lw_all := lw_g (lw_at lw_m7 229 rfl) rfl
theorem q1766 : (Jvm.Cond.selects "AheadRowsModel" ({ cls := "AheadRowsModel", name := "digest", desc := "()J" } : Jvm.MethodName) ({ cls := "AheadRowsModel", name := "digest", desc := "()J" } : Jvm.MethodName)) ∈ lw_all := lw_g (lw_at lw_m7 230 rfl) rfl
theorem q1767 : (Jvm.Cond.code ({ cls := "AheadRowsModel", name := "digest", desc := "()J" } : Jvm.MethodName) prog_17_method_112_code (2 : Nat) (Option.some Jvm.ClassFile.FieldType.long)) ∈ lw_all := lw_g (lw_at lw_m7 231 rfl) rfl
theorem q1768 : (Jvm.Cond.constantLong "AheadRowsModel" (382 : Nat) (1493 : Int64)) ∈ lw_all := lw_g (lw_at lw_m7 232 rfl) rfl
theorem q1769 : (Jvm.Cond.methodLink "AheadRowsModel" (384 : Nat) ({ cls := "AheadRowsModel", name := "mixRow", desc := "(I)V" } : Jvm.MethodName)) ∈ lw_all := lw_g (lw_at lw_m7 233 rfl) rfl
theorem q1770 : (Jvm.Cond.privateMethod ({ cls := "AheadRowsModel", name := "mixRow", desc := "(I)V" } : Jvm.MethodName)) ∈ lw_tbl := lw_at lw_m7 234 rfl
theorem q1771 : (Jvm.Cond.instanceMethod ({ cls := "AheadRowsModel", name := "mixRow", desc := "(I)V" } : Jvm.MethodName)) ∈ lw_all := lw_g (lw_at lw_m7 235 rfl) rfl
theorem q1772 : (Jvm.Cond.code ({ cls := "AheadRowsModel", name := "mixRow", desc := "(I)V" } : Jvm.MethodName) prog_17_method_111_code (3 : Nat) (Option.none : Option Jvm.ClassFile.FieldType)) ∈ lw_all := lw_g (lw_at lw_m7 236 rfl) rfl
theorem q1773 : (Jvm.Cond.methodLink "AheadRowsModel" (377 : Nat) ({ cls := "AheadRowsModel", name := "mix", desc := "(J)V" } : Jvm.MethodName)) ∈ lw_all := lw_g (lw_at lw_m7 237 rfl) rfl
theorem q1774 : (Jvm.Cond.privateMethod ({ cls := "AheadRowsModel", name := "mix", desc := "(J)V" } : Jvm.MethodName)) ∈ lw_tbl := lw_at lw_m7 238 rfl
theorem q1775 : (Jvm.Cond.instanceMethod ({ cls := "AheadRowsModel", name := "mix", desc := "(J)V" } : Jvm.MethodName)) ∈ lw_all := lw_g (lw_at lw_m7 239 rfl) rfl
theorem q1776 : (Jvm.Cond.code ({ cls := "AheadRowsModel", name := "mix", desc := "(J)V" } : Jvm.MethodName) prog_17_method_110_code (3 : Nat) (Option.none : Option Jvm.ClassFile.FieldType)) ∈ lw_all := lw_g (lw_at lw_m8 0 rfl) rfl
theorem q1777 : (Jvm.Cond.constantLong "AheadRowsModel" (372 : Nat) (31 : Int64)) ∈ lw_all := lw_g (lw_at lw_m8 1 rfl) rfl
theorem q1778 : (Jvm.Cond.constant "AheadRowsModel" (381 : Nat) (1000000 : Int32)) ∈ lw_all := lw_g (lw_at lw_m8 2 rfl) rfl
theorem q1806 : (Jvm.Cond.castable "AheadRowsModel" "java/lang/Object") ∈ lw_tbl := lw_at lw_m8 30 rfl
theorem in_X2 : ∀ w ∈ wsX20, w ∈ lw_all := lw_in wsX20 [1275, 1277, 1279, 1281, 1283, 1285, 1287, 1289, 1291, 1293, 1295, 1297, 1299, 1301, 1303, 1305, 1307, 1309, 1311, 1313, 1315, 1317, 1319, 1321, 1323, 1325, 1327, 1329, 1331, 1333, 1335, 1337, 1339] (by decide +kernel) (by decide +kernel)
