/-! AheadRows -/
set_option maxRecDepth 100000
def RX0 : String := "AheadRows"
def TX0 : u_T := fun k => match k with
  | 0 => ("AheadRows", "rows", "Ljava/util/ArrayList;", true)
  | 1 => ("AheadRows", "wheels", "[LAheadRows$Wheel;", true)
  | 2 => ("AheadRows", "seen", "[I", true)
  | 3 => ("AheadRows", "stamp", "I", false)
  | 4 => ("AheadRows", "rowsRead", "I", false)
  | 5 => ("AheadRows", "page", "[B", true)
  | 6 => ("AheadRows", "pageLength", "I", false)
  | 7 => ("AheadRows", "given", "I", false)
  | 8 => ("AheadRows", "givenAt", "[I", true)
  | 9 => ("AheadRows", "drawn", "J", false)
  | 10 => ("AheadRows", "tried", "LAheadRows$Wheel;", true)
  | 11 => ("AheadRows", "kept", "Ljava/util/ArrayList;", true)
  | 12 => ("AheadRows", "keptRead", "I", false)
  | 13 => ("AheadRows", "keptGiven", "I", false)
  | _ => ("AheadRows", "keptAt", "[I", true)
def tyX0 : Nat → FieldType := fun k => match k with
  | 0 => .object "java/util/ArrayList"
  | 1 => .array (.object "AheadRows$Wheel")
  | 2 => .array .int
  | 3 => .int
  | 4 => .int
  | 5 => .array .byte
  | 6 => .int
  | 7 => .int
  | 8 => .array .int
  | 9 => .long
  | 10 => .object "AheadRows$Wheel"
  | 11 => .object "java/util/ArrayList"
  | 12 => .int
  | 13 => .int
  | _ => .array .int
abbrev wsX00 : List Cond := u_ws RX0 TX0 15
set_option maxRecDepth 100000 in
theorem nmX0 : ∀ a, a < 15 → ∀ b, b < 15 → a ≠ b → (TX0 a).2.1 ≠ (TX0 b).2.1 := by decide +kernel
set_option maxRecDepth 100000 in
theorem tyX0_ok : ∀ k, k < 15 → parseFieldDescriptor (TX0 k).2.2.1 = some (tyX0 k) := by decide +kernel
abbrev cX0_init : ByteArray := prog_1_method_5_code
def yX0_init : MethodName := ⟨RX0, "<init>", "()V"⟩
def dkwX0_init_5 : List UInt8 := [177]
abbrev dktX0_init_5 : List UInt8 := dkwX0_init_5 ++ []
def dkwX0_init_4 : List UInt8 := [42, 180, 0, 26, 27, 187, 0, 24, 89, 183, 0, 41, 83, 132, 1, 1, 167, 255, 231, 42, 4, 181, 0, 57]
abbrev dktX0_init_4 : List UInt8 := dkwX0_init_4 ++ dktX0_init_5
def dkwX0_init_3 : List UInt8 := [18, 49, 181, 0, 50, 42, 16, 8, 188, 10, 181, 0, 54, 3, 60, 27, 42, 180, 0, 26, 190, 162, 0, 22]
abbrev dktX0_init_3 : List UInt8 := dkwX0_init_3 ++ dktX0_init_4
def dkwX0_init_2 : List UInt8 := [42, 187, 0, 24, 89, 183, 0, 41, 181, 0, 42, 42, 187, 0, 17, 89, 183, 0, 19, 181, 0, 46, 42]
abbrev dktX0_init_2 : List UInt8 := dkwX0_init_2 ++ dktX0_init_3
def dkwX0_init_1 : List UInt8 := [42, 16, 100, 188, 10, 181, 0, 30, 42, 16, 47, 188, 8, 181, 0, 34, 42, 16, 8, 188, 10, 181, 0, 38]
abbrev dktX0_init_1 : List UInt8 := dkwX0_init_1 ++ dktX0_init_2
def dkwX0_init_0 : List UInt8 := [42, 183, 0, 11, 42, 187, 0, 17, 89, 183, 0, 19, 181, 0, 20, 42, 16, 88, 189, 0, 24, 181, 0, 26]
abbrev dktX0_init_0 : List UInt8 := dkwX0_init_0 ++ dktX0_init_1
theorem dksX0_init_0 : cX0_init.data.toList.drop 0 = dktX0_init_0 := by decide +kernel
theorem dksX0_init_1 : cX0_init.data.toList.drop 24 = dktX0_init_1 := dk_seg dksX0_init_0 24 rfl rfl
theorem dksX0_init_2 : cX0_init.data.toList.drop 48 = dktX0_init_2 := dk_seg dksX0_init_1 24 rfl rfl
theorem dksX0_init_3 : cX0_init.data.toList.drop 71 = dktX0_init_3 := dk_seg dksX0_init_2 23 rfl rfl
theorem dksX0_init_4 : cX0_init.data.toList.drop 95 = dktX0_init_4 := dk_seg dksX0_init_3 24 rfl rfl
theorem dksX0_init_5 : cX0_init.data.toList.drop 119 = dktX0_init_5 := dk_seg dksX0_init_4 24 rfl rfl
theorem dX0_init_0 : decode cX0_init 0 = .ok (.aload_n 0, 1) := dk_42 (dk_at dksX0_init_0 0 rfl rfl)
theorem dX0_init_1 : decode cX0_init 1 = .ok (.invokespecial 11, 3) := dk_183 0 11 (dk_at dksX0_init_0 1 rfl rfl)
theorem dX0_init_4 : decode cX0_init 4 = .ok (.aload_n 0, 1) := dk_42 (dk_at dksX0_init_0 4 rfl rfl)
theorem dX0_init_5 : decode cX0_init 5 = .ok (.new 17, 3) := dk_187 0 17 (dk_at dksX0_init_0 5 rfl rfl)
theorem dX0_init_8 : decode cX0_init 8 = .ok (.dup, 1) := dk_89 (dk_at dksX0_init_0 8 rfl rfl)
theorem dX0_init_9 : decode cX0_init 9 = .ok (.invokespecial 19, 3) := dk_183 0 19 (dk_at dksX0_init_0 9 rfl rfl)
theorem dX0_init_12 : decode cX0_init 12 = .ok (.putfield 20, 3) := dk_181 0 20 (dk_at dksX0_init_0 12 rfl rfl)
theorem dX0_init_15 : decode cX0_init 15 = .ok (.aload_n 0, 1) := dk_42 (dk_at dksX0_init_0 15 rfl rfl)
theorem dX0_init_16 : decode cX0_init 16 = .ok (.bipush 88, 2) := dk_16 88 (dk_at dksX0_init_0 16 rfl rfl)
theorem dX0_init_18 : decode cX0_init 18 = .ok (.anewarray 24, 3) := dk_189 0 24 (dk_at dksX0_init_0 18 rfl rfl)
theorem dX0_init_21 : decode cX0_init 21 = .ok (.putfield 26, 3) := dk_181 0 26 (dk_at dksX0_init_0 21 rfl rfl)
theorem dX0_init_24 : decode cX0_init 24 = .ok (.aload_n 0, 1) := dk_42 (dk_at dksX0_init_1 0 rfl rfl)
theorem dX0_init_25 : decode cX0_init 25 = .ok (.bipush 100, 2) := dk_16 100 (dk_at dksX0_init_1 1 rfl rfl)
theorem dX0_init_27 : decode cX0_init 27 = .ok (.newarray .int, 2) := dk_188_10 (dk_at dksX0_init_1 3 rfl rfl)
theorem dX0_init_29 : decode cX0_init 29 = .ok (.putfield 30, 3) := dk_181 0 30 (dk_at dksX0_init_1 5 rfl rfl)
theorem dX0_init_32 : decode cX0_init 32 = .ok (.aload_n 0, 1) := dk_42 (dk_at dksX0_init_1 8 rfl rfl)
theorem dX0_init_33 : decode cX0_init 33 = .ok (.bipush 47, 2) := dk_16 47 (dk_at dksX0_init_1 9 rfl rfl)
theorem dX0_init_35 : decode cX0_init 35 = .ok (.newarray .byte, 2) := dk_188_8 (dk_at dksX0_init_1 11 rfl rfl)
theorem dX0_init_37 : decode cX0_init 37 = .ok (.putfield 34, 3) := dk_181 0 34 (dk_at dksX0_init_1 13 rfl rfl)
theorem dX0_init_40 : decode cX0_init 40 = .ok (.aload_n 0, 1) := dk_42 (dk_at dksX0_init_1 16 rfl rfl)
theorem dX0_init_41 : decode cX0_init 41 = .ok (.bipush 8, 2) := dk_16 8 (dk_at dksX0_init_1 17 rfl rfl)
theorem dX0_init_43 : decode cX0_init 43 = .ok (.newarray .int, 2) := dk_188_10 (dk_at dksX0_init_1 19 rfl rfl)
theorem dX0_init_45 : decode cX0_init 45 = .ok (.putfield 38, 3) := dk_181 0 38 (dk_at dksX0_init_1 21 rfl rfl)
theorem dX0_init_48 : decode cX0_init 48 = .ok (.aload_n 0, 1) := dk_42 (dk_at dksX0_init_2 0 rfl rfl)
theorem dX0_init_49 : decode cX0_init 49 = .ok (.new 24, 3) := dk_187 0 24 (dk_at dksX0_init_2 1 rfl rfl)
theorem dX0_init_52 : decode cX0_init 52 = .ok (.dup, 1) := dk_89 (dk_at dksX0_init_2 4 rfl rfl)
theorem dX0_init_53 : decode cX0_init 53 = .ok (.invokespecial 41, 3) := dk_183 0 41 (dk_at dksX0_init_2 5 rfl rfl)
theorem dX0_init_56 : decode cX0_init 56 = .ok (.putfield 42, 3) := dk_181 0 42 (dk_at dksX0_init_2 8 rfl rfl)
theorem dX0_init_59 : decode cX0_init 59 = .ok (.aload_n 0, 1) := dk_42 (dk_at dksX0_init_2 11 rfl rfl)
theorem dX0_init_60 : decode cX0_init 60 = .ok (.new 17, 3) := dk_187 0 17 (dk_at dksX0_init_2 12 rfl rfl)
theorem dX0_init_63 : decode cX0_init 63 = .ok (.dup, 1) := dk_89 (dk_at dksX0_init_2 15 rfl rfl)
theorem dX0_init_64 : decode cX0_init 64 = .ok (.invokespecial 19, 3) := dk_183 0 19 (dk_at dksX0_init_2 16 rfl rfl)
theorem dX0_init_67 : decode cX0_init 67 = .ok (.putfield 46, 3) := dk_181 0 46 (dk_at dksX0_init_2 19 rfl rfl)
theorem dX0_init_70 : decode cX0_init 70 = .ok (.aload_n 0, 1) := dk_42 (dk_at dksX0_init_2 22 rfl rfl)
theorem dX0_init_71 : decode cX0_init 71 = .ok (.ldc 49, 2) := dk_18 49 (dk_at dksX0_init_3 0 rfl rfl)
theorem dX0_init_73 : decode cX0_init 73 = .ok (.putfield 50, 3) := dk_181 0 50 (dk_at dksX0_init_3 2 rfl rfl)
theorem dX0_init_76 : decode cX0_init 76 = .ok (.aload_n 0, 1) := dk_42 (dk_at dksX0_init_3 5 rfl rfl)
theorem dX0_init_77 : decode cX0_init 77 = .ok (.bipush 8, 2) := dk_16 8 (dk_at dksX0_init_3 6 rfl rfl)
theorem dX0_init_79 : decode cX0_init 79 = .ok (.newarray .int, 2) := dk_188_10 (dk_at dksX0_init_3 8 rfl rfl)
theorem dX0_init_81 : decode cX0_init 81 = .ok (.putfield 54, 3) := dk_181 0 54 (dk_at dksX0_init_3 10 rfl rfl)
theorem dX0_init_84 : decode cX0_init 84 = .ok (.iconst 0, 1) := dk_3 (dk_at dksX0_init_3 13 rfl rfl)
theorem dX0_init_85 : decode cX0_init 85 = .ok (.istore_n 1, 1) := dk_60 (dk_at dksX0_init_3 14 rfl rfl)
theorem dX0_init_86 : decode cX0_init 86 = .ok (.iload_n 1, 1) := dk_27 (dk_at dksX0_init_3 15 rfl rfl)
theorem dX0_init_87 : decode cX0_init 87 = .ok (.aload_n 0, 1) := dk_42 (dk_at dksX0_init_3 16 rfl rfl)
theorem dX0_init_88 : decode cX0_init 88 = .ok (.getfield 26, 3) := dk_180 0 26 (dk_at dksX0_init_3 17 rfl rfl)
theorem dX0_init_91 : decode cX0_init 91 = .ok (.arraylength, 1) := dk_190 (dk_at dksX0_init_3 20 rfl rfl)
theorem dX0_init_92 : decode cX0_init 92 = .ok (.if_icmp .ge 22, 3) := dk_162 0 22 (dk_at dksX0_init_3 21 rfl rfl)
theorem dX0_init_95 : decode cX0_init 95 = .ok (.aload_n 0, 1) := dk_42 (dk_at dksX0_init_4 0 rfl rfl)
theorem dX0_init_96 : decode cX0_init 96 = .ok (.getfield 26, 3) := dk_180 0 26 (dk_at dksX0_init_4 1 rfl rfl)
theorem dX0_init_99 : decode cX0_init 99 = .ok (.iload_n 1, 1) := dk_27 (dk_at dksX0_init_4 4 rfl rfl)
theorem dX0_init_100 : decode cX0_init 100 = .ok (.new 24, 3) := dk_187 0 24 (dk_at dksX0_init_4 5 rfl rfl)
theorem dX0_init_103 : decode cX0_init 103 = .ok (.dup, 1) := dk_89 (dk_at dksX0_init_4 8 rfl rfl)
theorem dX0_init_104 : decode cX0_init 104 = .ok (.invokespecial 41, 3) := dk_183 0 41 (dk_at dksX0_init_4 9 rfl rfl)
theorem dX0_init_107 : decode cX0_init 107 = .ok (.aastore, 1) := dk_83 (dk_at dksX0_init_4 12 rfl rfl)
theorem dX0_init_108 : decode cX0_init 108 = .ok (.iinc 1 1, 3) := dk_132 1 1 (dk_at dksX0_init_4 13 rfl rfl)
theorem dX0_init_111 : decode cX0_init 111 = .ok (.goto (-25), 3) := dk_167 255 231 (dk_at dksX0_init_4 16 rfl rfl)
theorem dX0_init_114 : decode cX0_init 114 = .ok (.aload_n 0, 1) := dk_42 (dk_at dksX0_init_4 19 rfl rfl)
theorem dX0_init_115 : decode cX0_init 115 = .ok (.iconst 1, 1) := dk_4 (dk_at dksX0_init_4 20 rfl rfl)
theorem dX0_init_116 : decode cX0_init 116 = .ok (.putfield 57, 3) := dk_181 0 57 (dk_at dksX0_init_4 21 rfl rfl)
theorem dX0_init_119 : decode cX0_init 119 = .ok (.return_, 1) := dk_177 (dk_at dksX0_init_5 0 rfl rfl)
abbrev cX0_letter : ByteArray := prog_1_method_12_code
def yX0_letter : MethodName := ⟨RX0, "letter", "(I)I"⟩
def dkwX0_letter_2 : List UInt8 := [42, 180, 0, 105, 172]
abbrev dktX0_letter_2 : List UInt8 := dkwX0_letter_2 ++ []
def dkwX0_letter_1 : List UInt8 := [18, 108, 172, 42, 180, 0, 34, 42, 180, 0, 105, 27, 145, 84, 42, 89, 180, 0, 105, 4, 96, 181, 0, 105]
abbrev dktX0_letter_1 : List UInt8 := dkwX0_letter_1 ++ dktX0_letter_2
def dkwX0_letter_0 : List UInt8 := [27, 16, 32, 16, 126, 184, 0, 100, 154, 0, 6, 18, 104, 172, 42, 180, 0, 105, 16, 47, 160, 0, 6]
abbrev dktX0_letter_0 : List UInt8 := dkwX0_letter_0 ++ dktX0_letter_1
theorem dksX0_letter_0 : cX0_letter.data.toList.drop 0 = dktX0_letter_0 := by decide +kernel
theorem dksX0_letter_1 : cX0_letter.data.toList.drop 23 = dktX0_letter_1 := dk_seg dksX0_letter_0 23 rfl rfl
theorem dksX0_letter_2 : cX0_letter.data.toList.drop 47 = dktX0_letter_2 := dk_seg dksX0_letter_1 24 rfl rfl
theorem dX0_letter_0 : decode cX0_letter 0 = .ok (.iload_n 1, 1) := dk_27 (dk_at dksX0_letter_0 0 rfl rfl)
theorem dX0_letter_1 : decode cX0_letter 1 = .ok (.bipush 32, 2) := dk_16 32 (dk_at dksX0_letter_0 1 rfl rfl)
theorem dX0_letter_3 : decode cX0_letter 3 = .ok (.bipush 126, 2) := dk_16 126 (dk_at dksX0_letter_0 3 rfl rfl)
theorem dX0_letter_5 : decode cX0_letter 5 = .ok (.invokestatic 100, 3) := dk_184 0 100 (dk_at dksX0_letter_0 5 rfl rfl)
theorem dX0_letter_8 : decode cX0_letter 8 = .ok (.ifCond .ne 6, 3) := dk_154 0 6 (dk_at dksX0_letter_0 8 rfl rfl)
theorem dX0_letter_11 : decode cX0_letter 11 = .ok (.ldc 104, 2) := dk_18 104 (dk_at dksX0_letter_0 11 rfl rfl)
theorem dX0_letter_13 : decode cX0_letter 13 = .ok (.ireturn, 1) := dk_172 (dk_at dksX0_letter_0 13 rfl rfl)
theorem dX0_letter_14 : decode cX0_letter 14 = .ok (.aload_n 0, 1) := dk_42 (dk_at dksX0_letter_0 14 rfl rfl)
theorem dX0_letter_15 : decode cX0_letter 15 = .ok (.getfield 105, 3) := dk_180 0 105 (dk_at dksX0_letter_0 15 rfl rfl)
theorem dX0_letter_18 : decode cX0_letter 18 = .ok (.bipush 47, 2) := dk_16 47 (dk_at dksX0_letter_0 18 rfl rfl)
theorem dX0_letter_20 : decode cX0_letter 20 = .ok (.if_icmp .ne 6, 3) := dk_160 0 6 (dk_at dksX0_letter_0 20 rfl rfl)
theorem dX0_letter_23 : decode cX0_letter 23 = .ok (.ldc 108, 2) := dk_18 108 (dk_at dksX0_letter_1 0 rfl rfl)
theorem dX0_letter_25 : decode cX0_letter 25 = .ok (.ireturn, 1) := dk_172 (dk_at dksX0_letter_1 2 rfl rfl)
theorem dX0_letter_26 : decode cX0_letter 26 = .ok (.aload_n 0, 1) := dk_42 (dk_at dksX0_letter_1 3 rfl rfl)
theorem dX0_letter_27 : decode cX0_letter 27 = .ok (.getfield 34, 3) := dk_180 0 34 (dk_at dksX0_letter_1 4 rfl rfl)
theorem dX0_letter_30 : decode cX0_letter 30 = .ok (.aload_n 0, 1) := dk_42 (dk_at dksX0_letter_1 7 rfl rfl)
theorem dX0_letter_31 : decode cX0_letter 31 = .ok (.getfield 105, 3) := dk_180 0 105 (dk_at dksX0_letter_1 8 rfl rfl)
theorem dX0_letter_34 : decode cX0_letter 34 = .ok (.iload_n 1, 1) := dk_27 (dk_at dksX0_letter_1 11 rfl rfl)
theorem dX0_letter_35 : decode cX0_letter 35 = .ok (.i2b, 1) := dk_145 (dk_at dksX0_letter_1 12 rfl rfl)
theorem dX0_letter_36 : decode cX0_letter 36 = .ok (.bastore, 1) := dk_84 (dk_at dksX0_letter_1 13 rfl rfl)
theorem dX0_letter_37 : decode cX0_letter 37 = .ok (.aload_n 0, 1) := dk_42 (dk_at dksX0_letter_1 14 rfl rfl)
theorem dX0_letter_38 : decode cX0_letter 38 = .ok (.dup, 1) := dk_89 (dk_at dksX0_letter_1 15 rfl rfl)
theorem dX0_letter_39 : decode cX0_letter 39 = .ok (.getfield 105, 3) := dk_180 0 105 (dk_at dksX0_letter_1 16 rfl rfl)
theorem dX0_letter_42 : decode cX0_letter 42 = .ok (.iconst 1, 1) := dk_4 (dk_at dksX0_letter_1 19 rfl rfl)
theorem dX0_letter_43 : decode cX0_letter 43 = .ok (.iadd, 1) := dk_96 (dk_at dksX0_letter_1 20 rfl rfl)
theorem dX0_letter_44 : decode cX0_letter 44 = .ok (.putfield 105, 3) := dk_181 0 105 (dk_at dksX0_letter_1 21 rfl rfl)
theorem dX0_letter_47 : decode cX0_letter 47 = .ok (.aload_n 0, 1) := dk_42 (dk_at dksX0_letter_2 0 rfl rfl)
theorem dX0_letter_48 : decode cX0_letter 48 = .ok (.getfield 105, 3) := dk_180 0 105 (dk_at dksX0_letter_2 1 rfl rfl)
theorem dX0_letter_51 : decode cX0_letter 51 = .ok (.ireturn, 1) := dk_172 (dk_at dksX0_letter_2 4 rfl rfl)
abbrev cX0_in : ByteArray := prog_1_method_1_code
def yX0_in : MethodName := ⟨RX0, "in", "(III)Z"⟩
def dkwX0_in_0 : List UInt8 := [26, 27, 161, 0, 12, 26, 28, 163, 0, 7, 4, 167, 0, 4, 3, 172]
abbrev dktX0_in_0 : List UInt8 := dkwX0_in_0 ++ []
theorem dksX0_in_0 : cX0_in.data.toList.drop 0 = dktX0_in_0 := by decide +kernel
theorem dX0_in_0 : decode cX0_in 0 = .ok (.iload_n 0, 1) := dk_26 (dk_at dksX0_in_0 0 rfl rfl)
theorem dX0_in_1 : decode cX0_in 1 = .ok (.iload_n 1, 1) := dk_27 (dk_at dksX0_in_0 1 rfl rfl)
theorem dX0_in_2 : decode cX0_in 2 = .ok (.if_icmp .lt 12, 3) := dk_161 0 12 (dk_at dksX0_in_0 2 rfl rfl)
theorem dX0_in_5 : decode cX0_in 5 = .ok (.iload_n 0, 1) := dk_26 (dk_at dksX0_in_0 5 rfl rfl)
theorem dX0_in_6 : decode cX0_in 6 = .ok (.iload_n 2, 1) := dk_28 (dk_at dksX0_in_0 6 rfl rfl)
theorem dX0_in_7 : decode cX0_in 7 = .ok (.if_icmp .gt 7, 3) := dk_163 0 7 (dk_at dksX0_in_0 7 rfl rfl)
theorem dX0_in_10 : decode cX0_in 10 = .ok (.iconst 1, 1) := dk_4 (dk_at dksX0_in_0 10 rfl rfl)
theorem dX0_in_11 : decode cX0_in 11 = .ok (.goto 4, 3) := dk_167 0 4 (dk_at dksX0_in_0 11 rfl rfl)
theorem dX0_in_14 : decode cX0_in 14 = .ok (.iconst 0, 1) := dk_3 (dk_at dksX0_in_0 14 rfl rfl)
theorem dX0_in_15 : decode cX0_in 15 = .ok (.ireturn, 1) := dk_172 (dk_at dksX0_in_0 15 rfl rfl)
abbrev cX0_blank : ByteArray := prog_1_method_13_code
def yX0_blank : MethodName := ⟨RX0, "blank", "()I"⟩
def dkwX0_blank_0 : List UInt8 := [42, 180, 0, 105, 60, 42, 3, 181, 0, 105, 27, 172]
abbrev dktX0_blank_0 : List UInt8 := dkwX0_blank_0 ++ []
theorem dksX0_blank_0 : cX0_blank.data.toList.drop 0 = dktX0_blank_0 := by decide +kernel
theorem dX0_blank_0 : decode cX0_blank 0 = .ok (.aload_n 0, 1) := dk_42 (dk_at dksX0_blank_0 0 rfl rfl)
theorem dX0_blank_1 : decode cX0_blank 1 = .ok (.getfield 105, 3) := dk_180 0 105 (dk_at dksX0_blank_0 1 rfl rfl)
theorem dX0_blank_4 : decode cX0_blank 4 = .ok (.istore_n 1, 1) := dk_60 (dk_at dksX0_blank_0 4 rfl rfl)
theorem dX0_blank_5 : decode cX0_blank 5 = .ok (.aload_n 0, 1) := dk_42 (dk_at dksX0_blank_0 5 rfl rfl)
theorem dX0_blank_6 : decode cX0_blank 6 = .ok (.iconst 0, 1) := dk_3 (dk_at dksX0_blank_0 6 rfl rfl)
theorem dX0_blank_7 : decode cX0_blank 7 = .ok (.putfield 105, 3) := dk_181 0 105 (dk_at dksX0_blank_0 7 rfl rfl)
theorem dX0_blank_10 : decode cX0_blank 10 = .ok (.iload_n 1, 1) := dk_27 (dk_at dksX0_blank_0 10 rfl rfl)
theorem dX0_blank_11 : decode cX0_blank 11 = .ok (.ireturn, 1) := dk_172 (dk_at dksX0_blank_0 11 rfl rfl)
abbrev cX0_fault : ByteArray := prog_1_method_14_code
def yX0_fault : MethodName := ⟨RX0, "fault", "()I"⟩
def dkwX0_fault_0 : List UInt8 := [187, 0, 109, 89, 42, 183, 0, 111, 182, 0, 114, 180, 0, 118, 172]
abbrev dktX0_fault_0 : List UInt8 := dkwX0_fault_0 ++ []
theorem dksX0_fault_0 : cX0_fault.data.toList.drop 0 = dktX0_fault_0 := by decide +kernel
theorem dX0_fault_0 : decode cX0_fault 0 = .ok (.new 109, 3) := dk_187 0 109 (dk_at dksX0_fault_0 0 rfl rfl)
theorem dX0_fault_3 : decode cX0_fault 3 = .ok (.dup, 1) := dk_89 (dk_at dksX0_fault_0 3 rfl rfl)
theorem dX0_fault_4 : decode cX0_fault 4 = .ok (.aload_n 0, 1) := dk_42 (dk_at dksX0_fault_0 4 rfl rfl)
theorem dX0_fault_5 : decode cX0_fault 5 = .ok (.invokespecial 111, 3) := dk_183 0 111 (dk_at dksX0_fault_0 5 rfl rfl)
theorem dX0_fault_8 : decode cX0_fault 8 = .ok (.invokevirtual 114, 3) := dk_182 0 114 (dk_at dksX0_fault_0 8 rfl rfl)
theorem dX0_fault_11 : decode cX0_fault 11 = .ok (.getfield 118, 3) := dk_180 0 118 (dk_at dksX0_fault_0 11 rfl rfl)
theorem dX0_fault_14 : decode cX0_fault 14 = .ok (.ireturn, 1) := dk_172 (dk_at dksX0_fault_0 14 rfl rfl)
abbrev cX0_rows : ByteArray := prog_1_method_15_code
def yX0_rows : MethodName := ⟨RX0, "rows", "()I"⟩
def dkwX0_rows_2 : List UInt8 := [181, 0, 133, 42, 182, 0, 136, 42, 180, 0, 20, 182, 0, 96, 172]
abbrev dktX0_rows_2 : List UInt8 := dkwX0_rows_2 ++ []
def dkwX0_rows_1 : List UInt8 := [180, 0, 126, 42, 180, 0, 20, 184, 0, 129, 42, 3, 181, 0, 105, 42, 89, 180, 0, 133, 4, 96]
abbrev dktX0_rows_1 : List UInt8 := dkwX0_rows_1 ++ dktX0_rows_2
def dkwX0_rows_0 : List UInt8 := [187, 0, 109, 89, 42, 183, 0, 111, 182, 0, 114, 76, 43, 180, 0, 121, 153, 0, 6, 18, 125, 172, 43]
abbrev dktX0_rows_0 : List UInt8 := dkwX0_rows_0 ++ dktX0_rows_1
theorem dksX0_rows_0 : cX0_rows.data.toList.drop 0 = dktX0_rows_0 := by decide +kernel
theorem dksX0_rows_1 : cX0_rows.data.toList.drop 23 = dktX0_rows_1 := dk_seg dksX0_rows_0 23 rfl rfl
theorem dksX0_rows_2 : cX0_rows.data.toList.drop 45 = dktX0_rows_2 := dk_seg dksX0_rows_1 22 rfl rfl
theorem dX0_rows_0 : decode cX0_rows 0 = .ok (.new 109, 3) := dk_187 0 109 (dk_at dksX0_rows_0 0 rfl rfl)
theorem dX0_rows_3 : decode cX0_rows 3 = .ok (.dup, 1) := dk_89 (dk_at dksX0_rows_0 3 rfl rfl)
theorem dX0_rows_4 : decode cX0_rows 4 = .ok (.aload_n 0, 1) := dk_42 (dk_at dksX0_rows_0 4 rfl rfl)
theorem dX0_rows_5 : decode cX0_rows 5 = .ok (.invokespecial 111, 3) := dk_183 0 111 (dk_at dksX0_rows_0 5 rfl rfl)
theorem dX0_rows_8 : decode cX0_rows 8 = .ok (.invokevirtual 114, 3) := dk_182 0 114 (dk_at dksX0_rows_0 8 rfl rfl)
theorem dX0_rows_11 : decode cX0_rows 11 = .ok (.astore_n 1, 1) := dk_76 (dk_at dksX0_rows_0 11 rfl rfl)
theorem dX0_rows_12 : decode cX0_rows 12 = .ok (.aload_n 1, 1) := dk_43 (dk_at dksX0_rows_0 12 rfl rfl)
theorem dX0_rows_13 : decode cX0_rows 13 = .ok (.getfield 121, 3) := dk_180 0 121 (dk_at dksX0_rows_0 13 rfl rfl)
theorem dX0_rows_16 : decode cX0_rows 16 = .ok (.ifCond .eq 6, 3) := dk_153 0 6 (dk_at dksX0_rows_0 16 rfl rfl)
theorem dX0_rows_19 : decode cX0_rows 19 = .ok (.ldc 125, 2) := dk_18 125 (dk_at dksX0_rows_0 19 rfl rfl)
theorem dX0_rows_21 : decode cX0_rows 21 = .ok (.ireturn, 1) := dk_172 (dk_at dksX0_rows_0 21 rfl rfl)
theorem dX0_rows_22 : decode cX0_rows 22 = .ok (.aload_n 1, 1) := dk_43 (dk_at dksX0_rows_0 22 rfl rfl)
theorem dX0_rows_23 : decode cX0_rows 23 = .ok (.getfield 126, 3) := dk_180 0 126 (dk_at dksX0_rows_1 0 rfl rfl)
theorem dX0_rows_26 : decode cX0_rows 26 = .ok (.aload_n 0, 1) := dk_42 (dk_at dksX0_rows_1 3 rfl rfl)
theorem dX0_rows_27 : decode cX0_rows 27 = .ok (.getfield 20, 3) := dk_180 0 20 (dk_at dksX0_rows_1 4 rfl rfl)
theorem dX0_rows_30 : decode cX0_rows 30 = .ok (.invokestatic 129, 3) := dk_184 0 129 (dk_at dksX0_rows_1 7 rfl rfl)
theorem dX0_rows_33 : decode cX0_rows 33 = .ok (.aload_n 0, 1) := dk_42 (dk_at dksX0_rows_1 10 rfl rfl)
theorem dX0_rows_34 : decode cX0_rows 34 = .ok (.iconst 0, 1) := dk_3 (dk_at dksX0_rows_1 11 rfl rfl)
theorem dX0_rows_35 : decode cX0_rows 35 = .ok (.putfield 105, 3) := dk_181 0 105 (dk_at dksX0_rows_1 12 rfl rfl)
theorem dX0_rows_38 : decode cX0_rows 38 = .ok (.aload_n 0, 1) := dk_42 (dk_at dksX0_rows_1 15 rfl rfl)
theorem dX0_rows_39 : decode cX0_rows 39 = .ok (.dup, 1) := dk_89 (dk_at dksX0_rows_1 16 rfl rfl)
theorem dX0_rows_40 : decode cX0_rows 40 = .ok (.getfield 133, 3) := dk_180 0 133 (dk_at dksX0_rows_1 17 rfl rfl)
theorem dX0_rows_43 : decode cX0_rows 43 = .ok (.iconst 1, 1) := dk_4 (dk_at dksX0_rows_1 20 rfl rfl)
theorem dX0_rows_44 : decode cX0_rows 44 = .ok (.iadd, 1) := dk_96 (dk_at dksX0_rows_1 21 rfl rfl)
theorem dX0_rows_45 : decode cX0_rows 45 = .ok (.putfield 133, 3) := dk_181 0 133 (dk_at dksX0_rows_2 0 rfl rfl)
theorem dX0_rows_48 : decode cX0_rows 48 = .ok (.aload_n 0, 1) := dk_42 (dk_at dksX0_rows_2 3 rfl rfl)
theorem dX0_rows_49 : decode cX0_rows 49 = .ok (.invokevirtual 136, 3) := dk_182 0 136 (dk_at dksX0_rows_2 4 rfl rfl)
theorem dX0_rows_52 : decode cX0_rows 52 = .ok (.aload_n 0, 1) := dk_42 (dk_at dksX0_rows_2 7 rfl rfl)
theorem dX0_rows_53 : decode cX0_rows 53 = .ok (.getfield 20, 3) := dk_180 0 20 (dk_at dksX0_rows_2 8 rfl rfl)
theorem dX0_rows_56 : decode cX0_rows 56 = .ok (.invokevirtual 96, 3) := dk_182 0 96 (dk_at dksX0_rows_2 11 rfl rfl)
theorem dX0_rows_59 : decode cX0_rows 59 = .ok (.ireturn, 1) := dk_172 (dk_at dksX0_rows_2 14 rfl rfl)
abbrev cX0_copyAll : ByteArray := prog_1_method_16_code
def yX0_copyAll : MethodName := ⟨RX0, "copyAll", "(Ljava/util/ArrayList;Ljava/util/ArrayList;)V"⟩
def dkwX0_copyAll_1 : List UInt8 := [182, 0, 142, 182, 0, 146, 87, 132, 2, 1, 167, 255, 229, 177]
abbrev dktX0_copyAll_1 : List UInt8 := dkwX0_copyAll_1 ++ []
def dkwX0_copyAll_0 : List UInt8 := [43, 182, 0, 139, 3, 61, 28, 42, 182, 0, 96, 162, 0, 25, 43, 42, 28, 182, 0, 60, 192, 0, 64]
abbrev dktX0_copyAll_0 : List UInt8 := dkwX0_copyAll_0 ++ dktX0_copyAll_1
theorem dksX0_copyAll_0 : cX0_copyAll.data.toList.drop 0 = dktX0_copyAll_0 := by decide +kernel
theorem dksX0_copyAll_1 : cX0_copyAll.data.toList.drop 23 = dktX0_copyAll_1 := dk_seg dksX0_copyAll_0 23 rfl rfl
theorem dX0_copyAll_0 : decode cX0_copyAll 0 = .ok (.aload_n 1, 1) := dk_43 (dk_at dksX0_copyAll_0 0 rfl rfl)
theorem dX0_copyAll_1 : decode cX0_copyAll 1 = .ok (.invokevirtual 139, 3) := dk_182 0 139 (dk_at dksX0_copyAll_0 1 rfl rfl)
theorem dX0_copyAll_4 : decode cX0_copyAll 4 = .ok (.iconst 0, 1) := dk_3 (dk_at dksX0_copyAll_0 4 rfl rfl)
theorem dX0_copyAll_5 : decode cX0_copyAll 5 = .ok (.istore_n 2, 1) := dk_61 (dk_at dksX0_copyAll_0 5 rfl rfl)
theorem dX0_copyAll_6 : decode cX0_copyAll 6 = .ok (.iload_n 2, 1) := dk_28 (dk_at dksX0_copyAll_0 6 rfl rfl)
theorem dX0_copyAll_7 : decode cX0_copyAll 7 = .ok (.aload_n 0, 1) := dk_42 (dk_at dksX0_copyAll_0 7 rfl rfl)
theorem dX0_copyAll_8 : decode cX0_copyAll 8 = .ok (.invokevirtual 96, 3) := dk_182 0 96 (dk_at dksX0_copyAll_0 8 rfl rfl)
theorem dX0_copyAll_11 : decode cX0_copyAll 11 = .ok (.if_icmp .ge 25, 3) := dk_162 0 25 (dk_at dksX0_copyAll_0 11 rfl rfl)
theorem dX0_copyAll_14 : decode cX0_copyAll 14 = .ok (.aload_n 1, 1) := dk_43 (dk_at dksX0_copyAll_0 14 rfl rfl)
theorem dX0_copyAll_15 : decode cX0_copyAll 15 = .ok (.aload_n 0, 1) := dk_42 (dk_at dksX0_copyAll_0 15 rfl rfl)
theorem dX0_copyAll_16 : decode cX0_copyAll 16 = .ok (.iload_n 2, 1) := dk_28 (dk_at dksX0_copyAll_0 16 rfl rfl)
theorem dX0_copyAll_17 : decode cX0_copyAll 17 = .ok (.invokevirtual 60, 3) := dk_182 0 60 (dk_at dksX0_copyAll_0 17 rfl rfl)
theorem dX0_copyAll_20 : decode cX0_copyAll 20 = .ok (.checkcast 64, 3) := dk_192 0 64 (dk_at dksX0_copyAll_0 20 rfl rfl)
theorem dX0_copyAll_23 : decode cX0_copyAll 23 = .ok (.invokevirtual 142, 3) := dk_182 0 142 (dk_at dksX0_copyAll_1 0 rfl rfl)
theorem dX0_copyAll_26 : decode cX0_copyAll 26 = .ok (.invokevirtual 146, 3) := dk_182 0 146 (dk_at dksX0_copyAll_1 3 rfl rfl)
theorem dX0_copyAll_29 : decode cX0_copyAll 29 = .ok (.pop, 1) := dk_87 (dk_at dksX0_copyAll_1 6 rfl rfl)
theorem dX0_copyAll_30 : decode cX0_copyAll 30 = .ok (.iinc 2 1, 3) := dk_132 2 1 (dk_at dksX0_copyAll_1 7 rfl rfl)
theorem dX0_copyAll_33 : decode cX0_copyAll 33 = .ok (.goto (-27), 3) := dk_167 255 229 (dk_at dksX0_copyAll_1 10 rfl rfl)
theorem dX0_copyAll_36 : decode cX0_copyAll 36 = .ok (.return_, 1) := dk_177 (dk_at dksX0_copyAll_1 13 rfl rfl)
abbrev cX0_changed : ByteArray := prog_1_method_11_code
def yX0_changed : MethodName := ⟨RX0, "changed", "()V"⟩
def dkwX0_changed_0 : List UInt8 := [42, 89, 180, 0, 57, 4, 96, 181, 0, 57, 177]
abbrev dktX0_changed_0 : List UInt8 := dkwX0_changed_0 ++ []
theorem dksX0_changed_0 : cX0_changed.data.toList.drop 0 = dktX0_changed_0 := by decide +kernel
theorem dX0_changed_0 : decode cX0_changed 0 = .ok (.aload_n 0, 1) := dk_42 (dk_at dksX0_changed_0 0 rfl rfl)
theorem dX0_changed_1 : decode cX0_changed 1 = .ok (.dup, 1) := dk_89 (dk_at dksX0_changed_0 1 rfl rfl)
theorem dX0_changed_2 : decode cX0_changed 2 = .ok (.getfield 57, 3) := dk_180 0 57 (dk_at dksX0_changed_0 2 rfl rfl)
theorem dX0_changed_5 : decode cX0_changed 5 = .ok (.iconst 1, 1) := dk_4 (dk_at dksX0_changed_0 5 rfl rfl)
theorem dX0_changed_6 : decode cX0_changed 6 = .ok (.iadd, 1) := dk_96 (dk_at dksX0_changed_0 6 rfl rfl)
theorem dX0_changed_7 : decode cX0_changed 7 = .ok (.putfield 57, 3) := dk_181 0 57 (dk_at dksX0_changed_0 7 rfl rfl)
theorem dX0_changed_10 : decode cX0_changed 10 = .ok (.return_, 1) := dk_177 (dk_at dksX0_changed_0 10 rfl rfl)
abbrev cX0_row : ByteArray := prog_1_method_17_code
def yX0_row : MethodName := ⟨RX0, "row", "(II)I"⟩
def dkwX0_row_1 : List UInt8 := [182, 0, 67, 28, 182, 0, 155, 167, 0, 5, 18, 104, 172]
abbrev dktX0_row_1 : List UInt8 := dkwX0_row_1 ++ []
def dkwX0_row_0 : List UInt8 := [42, 27, 182, 0, 150, 154, 0, 6, 18, 154, 172, 28, 3, 7, 184, 0, 100, 153, 0, 15, 42, 27]
abbrev dktX0_row_0 : List UInt8 := dkwX0_row_0 ++ dktX0_row_1
theorem dksX0_row_0 : cX0_row.data.toList.drop 0 = dktX0_row_0 := by decide +kernel
theorem dksX0_row_1 : cX0_row.data.toList.drop 22 = dktX0_row_1 := dk_seg dksX0_row_0 22 rfl rfl
theorem dX0_row_0 : decode cX0_row 0 = .ok (.aload_n 0, 1) := dk_42 (dk_at dksX0_row_0 0 rfl rfl)
theorem dX0_row_1 : decode cX0_row 1 = .ok (.iload_n 1, 1) := dk_27 (dk_at dksX0_row_0 1 rfl rfl)
theorem dX0_row_2 : decode cX0_row 2 = .ok (.invokevirtual 150, 3) := dk_182 0 150 (dk_at dksX0_row_0 2 rfl rfl)
theorem dX0_row_5 : decode cX0_row 5 = .ok (.ifCond .ne 6, 3) := dk_154 0 6 (dk_at dksX0_row_0 5 rfl rfl)
theorem dX0_row_8 : decode cX0_row 8 = .ok (.ldc 154, 2) := dk_18 154 (dk_at dksX0_row_0 8 rfl rfl)
theorem dX0_row_10 : decode cX0_row 10 = .ok (.ireturn, 1) := dk_172 (dk_at dksX0_row_0 10 rfl rfl)
theorem dX0_row_11 : decode cX0_row 11 = .ok (.iload_n 2, 1) := dk_28 (dk_at dksX0_row_0 11 rfl rfl)
theorem dX0_row_12 : decode cX0_row 12 = .ok (.iconst 0, 1) := dk_3 (dk_at dksX0_row_0 12 rfl rfl)
theorem dX0_row_13 : decode cX0_row 13 = .ok (.iconst 4, 1) := dk_7 (dk_at dksX0_row_0 13 rfl rfl)
theorem dX0_row_14 : decode cX0_row 14 = .ok (.invokestatic 100, 3) := dk_184 0 100 (dk_at dksX0_row_0 14 rfl rfl)
theorem dX0_row_17 : decode cX0_row 17 = .ok (.ifCond .eq 15, 3) := dk_153 0 15 (dk_at dksX0_row_0 17 rfl rfl)
theorem dX0_row_20 : decode cX0_row 20 = .ok (.aload_n 0, 1) := dk_42 (dk_at dksX0_row_0 20 rfl rfl)
theorem dX0_row_21 : decode cX0_row 21 = .ok (.iload_n 1, 1) := dk_27 (dk_at dksX0_row_0 21 rfl rfl)
theorem dX0_row_22 : decode cX0_row 22 = .ok (.invokevirtual 67, 3) := dk_182 0 67 (dk_at dksX0_row_1 0 rfl rfl)
theorem dX0_row_25 : decode cX0_row 25 = .ok (.iload_n 2, 1) := dk_28 (dk_at dksX0_row_1 3 rfl rfl)
theorem dX0_row_26 : decode cX0_row 26 = .ok (.invokevirtual 155, 3) := dk_182 0 155 (dk_at dksX0_row_1 4 rfl rfl)
theorem dX0_row_29 : decode cX0_row 29 = .ok (.goto 5, 3) := dk_167 0 5 (dk_at dksX0_row_1 7 rfl rfl)
theorem dX0_row_32 : decode cX0_row 32 = .ok (.ldc 104, 2) := dk_18 104 (dk_at dksX0_row_1 10 rfl rfl)
theorem dX0_row_34 : decode cX0_row 34 = .ok (.ireturn, 1) := dk_172 (dk_at dksX0_row_1 12 rfl rfl)
abbrev cX0_isRow : ByteArray := prog_1_method_9_code
def yX0_isRow : MethodName := ⟨RX0, "isRow", "(I)Z"⟩
def dkwX0_isRow_0 : List UInt8 := [27, 3, 42, 180, 0, 20, 182, 0, 96, 4, 100, 184, 0, 100, 172]
abbrev dktX0_isRow_0 : List UInt8 := dkwX0_isRow_0 ++ []
theorem dksX0_isRow_0 : cX0_isRow.data.toList.drop 0 = dktX0_isRow_0 := by decide +kernel
theorem dX0_isRow_0 : decode cX0_isRow 0 = .ok (.iload_n 1, 1) := dk_27 (dk_at dksX0_isRow_0 0 rfl rfl)
theorem dX0_isRow_1 : decode cX0_isRow 1 = .ok (.iconst 0, 1) := dk_3 (dk_at dksX0_isRow_0 1 rfl rfl)
theorem dX0_isRow_2 : decode cX0_isRow 2 = .ok (.aload_n 0, 1) := dk_42 (dk_at dksX0_isRow_0 2 rfl rfl)
theorem dX0_isRow_3 : decode cX0_isRow 3 = .ok (.getfield 20, 3) := dk_180 0 20 (dk_at dksX0_isRow_0 3 rfl rfl)
theorem dX0_isRow_6 : decode cX0_isRow 6 = .ok (.invokevirtual 96, 3) := dk_182 0 96 (dk_at dksX0_isRow_0 6 rfl rfl)
theorem dX0_isRow_9 : decode cX0_isRow 9 = .ok (.iconst 1, 1) := dk_4 (dk_at dksX0_isRow_0 9 rfl rfl)
theorem dX0_isRow_10 : decode cX0_isRow 10 = .ok (.isub, 1) := dk_100 (dk_at dksX0_isRow_0 10 rfl rfl)
theorem dX0_isRow_11 : decode cX0_isRow 11 = .ok (.invokestatic 100, 3) := dk_184 0 100 (dk_at dksX0_isRow_0 11 rfl rfl)
theorem dX0_isRow_14 : decode cX0_isRow 14 = .ok (.ireturn, 1) := dk_172 (dk_at dksX0_isRow_0 14 rfl rfl)
abbrev cX0_rowOf : ByteArray := prog_1_method_6_code
def yX0_rowOf : MethodName := ⟨RX0, "rowOf", "(I)LAheadRows$Row;"⟩
def dkwX0_rowOf_0 : List UInt8 := [42, 180, 0, 20, 27, 182, 0, 60, 192, 0, 64, 176]
abbrev dktX0_rowOf_0 : List UInt8 := dkwX0_rowOf_0 ++ []
theorem dksX0_rowOf_0 : cX0_rowOf.data.toList.drop 0 = dktX0_rowOf_0 := by decide +kernel
theorem dX0_rowOf_0 : decode cX0_rowOf 0 = .ok (.aload_n 0, 1) := dk_42 (dk_at dksX0_rowOf_0 0 rfl rfl)
theorem dX0_rowOf_1 : decode cX0_rowOf 1 = .ok (.getfield 20, 3) := dk_180 0 20 (dk_at dksX0_rowOf_0 1 rfl rfl)
theorem dX0_rowOf_4 : decode cX0_rowOf 4 = .ok (.iload_n 1, 1) := dk_27 (dk_at dksX0_rowOf_0 4 rfl rfl)
theorem dX0_rowOf_5 : decode cX0_rowOf 5 = .ok (.invokevirtual 60, 3) := dk_182 0 60 (dk_at dksX0_rowOf_0 5 rfl rfl)
theorem dX0_rowOf_8 : decode cX0_rowOf 8 = .ok (.checkcast 64, 3) := dk_192 0 64 (dk_at dksX0_rowOf_0 8 rfl rfl)
theorem dX0_rowOf_11 : decode cX0_rowOf 11 = .ok (.areturn, 1) := dk_176 (dk_at dksX0_rowOf_0 11 rfl rfl)
abbrev cX0_as : ByteArray := prog_1_method_19_code
def yX0_as : MethodName := ⟨RX0, "as", "(II)I"⟩
def dkwX0_as_1 : List UInt8 := [42, 27, 182, 0, 67, 28, 184, 0, 180, 172, 78, 18, 49, 172]
abbrev dktX0_as_1 : List UInt8 := dkwX0_as_1 ++ []
def dkwX0_as_0 : List UInt8 := [42, 27, 182, 0, 150, 154, 0, 6, 18, 154, 172, 28, 3, 16, 6, 184, 0, 100, 154, 0, 6, 18, 104, 172]
abbrev dktX0_as_0 : List UInt8 := dkwX0_as_0 ++ dktX0_as_1
theorem dksX0_as_0 : cX0_as.data.toList.drop 0 = dktX0_as_0 := by decide +kernel
theorem dksX0_as_1 : cX0_as.data.toList.drop 24 = dktX0_as_1 := dk_seg dksX0_as_0 24 rfl rfl
theorem dX0_as_0 : decode cX0_as 0 = .ok (.aload_n 0, 1) := dk_42 (dk_at dksX0_as_0 0 rfl rfl)
theorem dX0_as_1 : decode cX0_as 1 = .ok (.iload_n 1, 1) := dk_27 (dk_at dksX0_as_0 1 rfl rfl)
theorem dX0_as_2 : decode cX0_as 2 = .ok (.invokevirtual 150, 3) := dk_182 0 150 (dk_at dksX0_as_0 2 rfl rfl)
theorem dX0_as_5 : decode cX0_as 5 = .ok (.ifCond .ne 6, 3) := dk_154 0 6 (dk_at dksX0_as_0 5 rfl rfl)
theorem dX0_as_8 : decode cX0_as 8 = .ok (.ldc 154, 2) := dk_18 154 (dk_at dksX0_as_0 8 rfl rfl)
theorem dX0_as_10 : decode cX0_as 10 = .ok (.ireturn, 1) := dk_172 (dk_at dksX0_as_0 10 rfl rfl)
theorem dX0_as_11 : decode cX0_as 11 = .ok (.iload_n 2, 1) := dk_28 (dk_at dksX0_as_0 11 rfl rfl)
theorem dX0_as_12 : decode cX0_as 12 = .ok (.iconst 0, 1) := dk_3 (dk_at dksX0_as_0 12 rfl rfl)
theorem dX0_as_13 : decode cX0_as 13 = .ok (.bipush 6, 2) := dk_16 6 (dk_at dksX0_as_0 13 rfl rfl)
theorem dX0_as_15 : decode cX0_as 15 = .ok (.invokestatic 100, 3) := dk_184 0 100 (dk_at dksX0_as_0 15 rfl rfl)
theorem dX0_as_18 : decode cX0_as 18 = .ok (.ifCond .ne 6, 3) := dk_154 0 6 (dk_at dksX0_as_0 18 rfl rfl)
theorem dX0_as_21 : decode cX0_as 21 = .ok (.ldc 104, 2) := dk_18 104 (dk_at dksX0_as_0 21 rfl rfl)
theorem dX0_as_23 : decode cX0_as 23 = .ok (.ireturn, 1) := dk_172 (dk_at dksX0_as_0 23 rfl rfl)
theorem dX0_as_24 : decode cX0_as 24 = .ok (.aload_n 0, 1) := dk_42 (dk_at dksX0_as_1 0 rfl rfl)
theorem dX0_as_25 : decode cX0_as 25 = .ok (.iload_n 1, 1) := dk_27 (dk_at dksX0_as_1 1 rfl rfl)
theorem dX0_as_26 : decode cX0_as 26 = .ok (.invokevirtual 67, 3) := dk_182 0 67 (dk_at dksX0_as_1 2 rfl rfl)
theorem dX0_as_29 : decode cX0_as 29 = .ok (.iload_n 2, 1) := dk_28 (dk_at dksX0_as_1 5 rfl rfl)
theorem dX0_as_30 : decode cX0_as 30 = .ok (.invokestatic 180, 3) := dk_184 0 180 (dk_at dksX0_as_1 6 rfl rfl)
theorem dX0_as_33 : decode cX0_as 33 = .ok (.ireturn, 1) := dk_172 (dk_at dksX0_as_1 9 rfl rfl)
theorem dX0_as_34 : decode cX0_as 34 = .ok (.astore_n 3, 1) := dk_78 (dk_at dksX0_as_1 10 rfl rfl)
theorem dX0_as_35 : decode cX0_as 35 = .ok (.ldc 49, 2) := dk_18 49 (dk_at dksX0_as_1 11 rfl rfl)
theorem dX0_as_37 : decode cX0_as 37 = .ok (.ireturn, 1) := dk_172 (dk_at dksX0_as_1 13 rfl rfl)
abbrev cX0_castTo : ByteArray := prog_1_method_18_code
def yX0_castTo : MethodName := ⟨RX0, "castTo", "(Ljava/lang/Object;I)I"⟩
def dkwX0_castTo_4 : List UInt8 := [42, 192, 0, 177, 182, 0, 179, 172]
abbrev dktX0_castTo_4 : List UInt8 := dkwX0_castTo_4 ++ []
def dkwX0_castTo_3 : List UInt8 := [42, 192, 0, 168, 182, 0, 170, 172, 42, 192, 0, 171, 182, 0, 173, 172, 42, 192, 0, 174, 182, 0, 176, 172]
abbrev dktX0_castTo_3 : List UInt8 := dkwX0_castTo_3 ++ dktX0_castTo_4
def dkwX0_castTo_2 : List UInt8 := [42, 192, 0, 76, 182, 0, 159, 172, 42, 192, 0, 162, 182, 0, 164, 172, 42, 192, 0, 165, 182, 0, 167, 172]
abbrev dktX0_castTo_2 : List UInt8 := dkwX0_castTo_2 ++ dktX0_castTo_3
def dkwX0_castTo_1 : List UInt8 := [170, 0, 0, 0, 0, 0, 87, 0, 0, 0, 0, 0, 0, 0, 5, 0, 0, 0, 39, 0, 0, 0, 47, 0, 0, 0, 55, 0, 0, 0, 63, 0, 0, 0, 71, 0, 0, 0, 79]
abbrev dktX0_castTo_1 : List UInt8 := dkwX0_castTo_1 ++ dktX0_castTo_2
def dkwX0_castTo_0 : List UInt8 := [27]
abbrev dktX0_castTo_0 : List UInt8 := dkwX0_castTo_0 ++ dktX0_castTo_1
theorem dksX0_castTo_0 : cX0_castTo.data.toList.drop 0 = dktX0_castTo_0 := by decide +kernel
theorem dksX0_castTo_1 : cX0_castTo.data.toList.drop 1 = dktX0_castTo_1 := dk_seg dksX0_castTo_0 1 rfl rfl
theorem dksX0_castTo_2 : cX0_castTo.data.toList.drop 40 = dktX0_castTo_2 := dk_seg dksX0_castTo_1 39 rfl rfl
theorem dksX0_castTo_3 : cX0_castTo.data.toList.drop 64 = dktX0_castTo_3 := dk_seg dksX0_castTo_2 24 rfl rfl
theorem dksX0_castTo_4 : cX0_castTo.data.toList.drop 88 = dktX0_castTo_4 := dk_seg dksX0_castTo_3 24 rfl rfl
theorem dX0_castTo_0 : decode cX0_castTo 0 = .ok (.iload_n 1, 1) := dk_27 (dk_at dksX0_castTo_0 0 rfl rfl)
theorem dX0_castTo_1 : decode cX0_castTo 1 = .ok (.tableswitch 87 0 5 #[39, 47, 55, 63, 71, 79], 39) := by decide +kernel
theorem dX0_castTo_40 : decode cX0_castTo 40 = .ok (.aload_n 0, 1) := dk_42 (dk_at dksX0_castTo_2 0 rfl rfl)
theorem dX0_castTo_41 : decode cX0_castTo 41 = .ok (.checkcast 76, 3) := dk_192 0 76 (dk_at dksX0_castTo_2 1 rfl rfl)
theorem dX0_castTo_44 : decode cX0_castTo 44 = .ok (.invokevirtual 159, 3) := dk_182 0 159 (dk_at dksX0_castTo_2 4 rfl rfl)
theorem dX0_castTo_47 : decode cX0_castTo 47 = .ok (.ireturn, 1) := dk_172 (dk_at dksX0_castTo_2 7 rfl rfl)
theorem dX0_castTo_48 : decode cX0_castTo 48 = .ok (.aload_n 0, 1) := dk_42 (dk_at dksX0_castTo_2 8 rfl rfl)
theorem dX0_castTo_49 : decode cX0_castTo 49 = .ok (.checkcast 162, 3) := dk_192 0 162 (dk_at dksX0_castTo_2 9 rfl rfl)
theorem dX0_castTo_52 : decode cX0_castTo 52 = .ok (.invokevirtual 164, 3) := dk_182 0 164 (dk_at dksX0_castTo_2 12 rfl rfl)
theorem dX0_castTo_55 : decode cX0_castTo 55 = .ok (.ireturn, 1) := dk_172 (dk_at dksX0_castTo_2 15 rfl rfl)
theorem dX0_castTo_56 : decode cX0_castTo 56 = .ok (.aload_n 0, 1) := dk_42 (dk_at dksX0_castTo_2 16 rfl rfl)
theorem dX0_castTo_57 : decode cX0_castTo 57 = .ok (.checkcast 165, 3) := dk_192 0 165 (dk_at dksX0_castTo_2 17 rfl rfl)
theorem dX0_castTo_60 : decode cX0_castTo 60 = .ok (.invokevirtual 167, 3) := dk_182 0 167 (dk_at dksX0_castTo_2 20 rfl rfl)
theorem dX0_castTo_63 : decode cX0_castTo 63 = .ok (.ireturn, 1) := dk_172 (dk_at dksX0_castTo_2 23 rfl rfl)
theorem dX0_castTo_64 : decode cX0_castTo 64 = .ok (.aload_n 0, 1) := dk_42 (dk_at dksX0_castTo_3 0 rfl rfl)
theorem dX0_castTo_65 : decode cX0_castTo 65 = .ok (.checkcast 168, 3) := dk_192 0 168 (dk_at dksX0_castTo_3 1 rfl rfl)
theorem dX0_castTo_68 : decode cX0_castTo 68 = .ok (.invokevirtual 170, 3) := dk_182 0 170 (dk_at dksX0_castTo_3 4 rfl rfl)
theorem dX0_castTo_71 : decode cX0_castTo 71 = .ok (.ireturn, 1) := dk_172 (dk_at dksX0_castTo_3 7 rfl rfl)
theorem dX0_castTo_72 : decode cX0_castTo 72 = .ok (.aload_n 0, 1) := dk_42 (dk_at dksX0_castTo_3 8 rfl rfl)
theorem dX0_castTo_73 : decode cX0_castTo 73 = .ok (.checkcast 171, 3) := dk_192 0 171 (dk_at dksX0_castTo_3 9 rfl rfl)
theorem dX0_castTo_76 : decode cX0_castTo 76 = .ok (.invokevirtual 173, 3) := dk_182 0 173 (dk_at dksX0_castTo_3 12 rfl rfl)
theorem dX0_castTo_79 : decode cX0_castTo 79 = .ok (.ireturn, 1) := dk_172 (dk_at dksX0_castTo_3 15 rfl rfl)
theorem dX0_castTo_80 : decode cX0_castTo 80 = .ok (.aload_n 0, 1) := dk_42 (dk_at dksX0_castTo_3 16 rfl rfl)
theorem dX0_castTo_81 : decode cX0_castTo 81 = .ok (.checkcast 174, 3) := dk_192 0 174 (dk_at dksX0_castTo_3 17 rfl rfl)
theorem dX0_castTo_84 : decode cX0_castTo 84 = .ok (.invokevirtual 176, 3) := dk_182 0 176 (dk_at dksX0_castTo_3 20 rfl rfl)
theorem dX0_castTo_87 : decode cX0_castTo 87 = .ok (.ireturn, 1) := dk_172 (dk_at dksX0_castTo_3 23 rfl rfl)
theorem dX0_castTo_88 : decode cX0_castTo 88 = .ok (.aload_n 0, 1) := dk_42 (dk_at dksX0_castTo_4 0 rfl rfl)
theorem dX0_castTo_89 : decode cX0_castTo 89 = .ok (.checkcast 177, 3) := dk_192 0 177 (dk_at dksX0_castTo_4 1 rfl rfl)
theorem dX0_castTo_92 : decode cX0_castTo 92 = .ok (.invokevirtual 179, 3) := dk_182 0 179 (dk_at dksX0_castTo_4 4 rfl rfl)
theorem dX0_castTo_95 : decode cX0_castTo 95 = .ok (.ireturn, 1) := dk_172 (dk_at dksX0_castTo_4 7 rfl rfl)
abbrev cX0_term : ByteArray := prog_1_method_20_code
def yX0_term : MethodName := ⟨RX0, "term", "(II)I"⟩
def dkwX0_term_1 : List UInt8 := [182, 0, 67, 42, 28, 182, 0, 186, 136, 167, 0, 5, 18, 104, 172]
abbrev dktX0_term_1 : List UInt8 := dkwX0_term_1 ++ []
def dkwX0_term_0 : List UInt8 := [42, 27, 182, 0, 150, 154, 0, 6, 18, 154, 172, 28, 3, 17, 0, 200, 184, 0, 100, 153, 0, 17, 42, 27]
abbrev dktX0_term_0 : List UInt8 := dkwX0_term_0 ++ dktX0_term_1
theorem dksX0_term_0 : cX0_term.data.toList.drop 0 = dktX0_term_0 := by decide +kernel
theorem dksX0_term_1 : cX0_term.data.toList.drop 24 = dktX0_term_1 := dk_seg dksX0_term_0 24 rfl rfl
theorem dX0_term_0 : decode cX0_term 0 = .ok (.aload_n 0, 1) := dk_42 (dk_at dksX0_term_0 0 rfl rfl)
theorem dX0_term_1 : decode cX0_term 1 = .ok (.iload_n 1, 1) := dk_27 (dk_at dksX0_term_0 1 rfl rfl)
theorem dX0_term_2 : decode cX0_term 2 = .ok (.invokevirtual 150, 3) := dk_182 0 150 (dk_at dksX0_term_0 2 rfl rfl)
theorem dX0_term_5 : decode cX0_term 5 = .ok (.ifCond .ne 6, 3) := dk_154 0 6 (dk_at dksX0_term_0 5 rfl rfl)
theorem dX0_term_8 : decode cX0_term 8 = .ok (.ldc 154, 2) := dk_18 154 (dk_at dksX0_term_0 8 rfl rfl)
theorem dX0_term_10 : decode cX0_term 10 = .ok (.ireturn, 1) := dk_172 (dk_at dksX0_term_0 10 rfl rfl)
theorem dX0_term_11 : decode cX0_term 11 = .ok (.iload_n 2, 1) := dk_28 (dk_at dksX0_term_0 11 rfl rfl)
theorem dX0_term_12 : decode cX0_term 12 = .ok (.iconst 0, 1) := dk_3 (dk_at dksX0_term_0 12 rfl rfl)
theorem dX0_term_13 : decode cX0_term 13 = .ok (.sipush 200, 3) := dk_17 0 200 (dk_at dksX0_term_0 13 rfl rfl)
theorem dX0_term_16 : decode cX0_term 16 = .ok (.invokestatic 100, 3) := dk_184 0 100 (dk_at dksX0_term_0 16 rfl rfl)
theorem dX0_term_19 : decode cX0_term 19 = .ok (.ifCond .eq 17, 3) := dk_153 0 17 (dk_at dksX0_term_0 19 rfl rfl)
theorem dX0_term_22 : decode cX0_term 22 = .ok (.aload_n 0, 1) := dk_42 (dk_at dksX0_term_0 22 rfl rfl)
theorem dX0_term_23 : decode cX0_term 23 = .ok (.iload_n 1, 1) := dk_27 (dk_at dksX0_term_0 23 rfl rfl)
theorem dX0_term_24 : decode cX0_term 24 = .ok (.invokevirtual 67, 3) := dk_182 0 67 (dk_at dksX0_term_1 0 rfl rfl)
theorem dX0_term_27 : decode cX0_term 27 = .ok (.aload_n 0, 1) := dk_42 (dk_at dksX0_term_1 3 rfl rfl)
theorem dX0_term_28 : decode cX0_term 28 = .ok (.iload_n 2, 1) := dk_28 (dk_at dksX0_term_1 4 rfl rfl)
theorem dX0_term_29 : decode cX0_term 29 = .ok (.invokevirtual 186, 3) := dk_182 0 186 (dk_at dksX0_term_1 5 rfl rfl)
theorem dX0_term_32 : decode cX0_term 32 = .ok (.l2i, 1) := dk_136 (dk_at dksX0_term_1 8 rfl rfl)
theorem dX0_term_33 : decode cX0_term 33 = .ok (.goto 5, 3) := dk_167 0 5 (dk_at dksX0_term_1 9 rfl rfl)
theorem dX0_term_36 : decode cX0_term 36 = .ok (.ldc 104, 2) := dk_18 104 (dk_at dksX0_term_1 12 rfl rfl)
theorem dX0_term_38 : decode cX0_term 38 = .ok (.ireturn, 1) := dk_172 (dk_at dksX0_term_1 14 rfl rfl)
abbrev cX0_by : ByteArray := prog_1_method_21_code
def yX0_by : MethodName := ⟨RX0, "by", "(III)I"⟩
def dkwX0_by_1 : List UInt8 := [29, 182, 0, 193, 28, 133, 182, 0, 197, 167, 0, 5, 18, 104, 172]
abbrev dktX0_by_1 : List UInt8 := dkwX0_by_1 ++ []
def dkwX0_by_0 : List UInt8 := [42, 27, 182, 0, 150, 154, 0, 6, 18, 154, 172, 28, 155, 0, 24, 29, 184, 0, 190, 153, 0, 17, 42, 27]
abbrev dktX0_by_0 : List UInt8 := dkwX0_by_0 ++ dktX0_by_1
theorem dksX0_by_0 : cX0_by.data.toList.drop 0 = dktX0_by_0 := by decide +kernel
theorem dksX0_by_1 : cX0_by.data.toList.drop 24 = dktX0_by_1 := dk_seg dksX0_by_0 24 rfl rfl
theorem dX0_by_0 : decode cX0_by 0 = .ok (.aload_n 0, 1) := dk_42 (dk_at dksX0_by_0 0 rfl rfl)
theorem dX0_by_1 : decode cX0_by 1 = .ok (.iload_n 1, 1) := dk_27 (dk_at dksX0_by_0 1 rfl rfl)
theorem dX0_by_2 : decode cX0_by 2 = .ok (.invokevirtual 150, 3) := dk_182 0 150 (dk_at dksX0_by_0 2 rfl rfl)
theorem dX0_by_5 : decode cX0_by 5 = .ok (.ifCond .ne 6, 3) := dk_154 0 6 (dk_at dksX0_by_0 5 rfl rfl)
theorem dX0_by_8 : decode cX0_by 8 = .ok (.ldc 154, 2) := dk_18 154 (dk_at dksX0_by_0 8 rfl rfl)
theorem dX0_by_10 : decode cX0_by 10 = .ok (.ireturn, 1) := dk_172 (dk_at dksX0_by_0 10 rfl rfl)
theorem dX0_by_11 : decode cX0_by 11 = .ok (.iload_n 2, 1) := dk_28 (dk_at dksX0_by_0 11 rfl rfl)
theorem dX0_by_12 : decode cX0_by 12 = .ok (.ifCond .lt 24, 3) := dk_155 0 24 (dk_at dksX0_by_0 12 rfl rfl)
theorem dX0_by_15 : decode cX0_by 15 = .ok (.iload_n 3, 1) := dk_29 (dk_at dksX0_by_0 15 rfl rfl)
theorem dX0_by_16 : decode cX0_by 16 = .ok (.invokestatic 190, 3) := dk_184 0 190 (dk_at dksX0_by_0 16 rfl rfl)
theorem dX0_by_19 : decode cX0_by 19 = .ok (.ifCond .eq 17, 3) := dk_153 0 17 (dk_at dksX0_by_0 19 rfl rfl)
theorem dX0_by_22 : decode cX0_by 22 = .ok (.aload_n 0, 1) := dk_42 (dk_at dksX0_by_0 22 rfl rfl)
theorem dX0_by_23 : decode cX0_by 23 = .ok (.iload_n 1, 1) := dk_27 (dk_at dksX0_by_0 23 rfl rfl)
theorem dX0_by_24 : decode cX0_by 24 = .ok (.iload_n 3, 1) := dk_29 (dk_at dksX0_by_1 0 rfl rfl)
theorem dX0_by_25 : decode cX0_by 25 = .ok (.invokevirtual 193, 3) := dk_182 0 193 (dk_at dksX0_by_1 1 rfl rfl)
theorem dX0_by_28 : decode cX0_by 28 = .ok (.iload_n 2, 1) := dk_28 (dk_at dksX0_by_1 4 rfl rfl)
theorem dX0_by_29 : decode cX0_by 29 = .ok (.i2l, 1) := dk_133 (dk_at dksX0_by_1 5 rfl rfl)
theorem dX0_by_30 : decode cX0_by 30 = .ok (.invokevirtual 197, 3) := dk_182 0 197 (dk_at dksX0_by_1 6 rfl rfl)
theorem dX0_by_33 : decode cX0_by 33 = .ok (.goto 5, 3) := dk_167 0 5 (dk_at dksX0_by_1 9 rfl rfl)
theorem dX0_by_36 : decode cX0_by 36 = .ok (.ldc 104, 2) := dk_18 104 (dk_at dksX0_by_1 12 rfl rfl)
theorem dX0_by_38 : decode cX0_by 38 = .ok (.ireturn, 1) := dk_172 (dk_at dksX0_by_1 14 rfl rfl)
abbrev cX0_isBy : ByteArray := prog_1_method_10_code
def yX0_isBy : MethodName := ⟨RX0, "isBy", "(I)Z"⟩
def dkwX0_isBy_0 : List UInt8 := [26, 5, 16, 10, 184, 0, 100, 172]
abbrev dktX0_isBy_0 : List UInt8 := dkwX0_isBy_0 ++ []
theorem dksX0_isBy_0 : cX0_isBy.data.toList.drop 0 = dktX0_isBy_0 := by decide +kernel
theorem dX0_isBy_0 : decode cX0_isBy 0 = .ok (.iload_n 0, 1) := dk_26 (dk_at dksX0_isBy_0 0 rfl rfl)
theorem dX0_isBy_1 : decode cX0_isBy 1 = .ok (.iconst 2, 1) := dk_5 (dk_at dksX0_isBy_0 1 rfl rfl)
theorem dX0_isBy_2 : decode cX0_isBy 2 = .ok (.bipush 10, 2) := dk_16 10 (dk_at dksX0_isBy_0 2 rfl rfl)
theorem dX0_isBy_4 : decode cX0_isBy 4 = .ok (.invokestatic 100, 3) := dk_184 0 100 (dk_at dksX0_isBy_0 4 rfl rfl)
theorem dX0_isBy_7 : decode cX0_isBy 7 = .ok (.ireturn, 1) := dk_172 (dk_at dksX0_isBy_0 7 rfl rfl)
abbrev cX0_wheel : ByteArray := prog_1_method_7_code
def yX0_wheel : MethodName := ⟨RX0, "wheel", "(II)LAheadRows$Wheel;"⟩
def dkwX0_wheel_1 : List UInt8 := [42, 180, 0, 57, 181, 0, 66, 42, 27, 182, 0, 67, 42, 28, 45, 182, 0, 71, 45, 176]
abbrev dktX0_wheel_1 : List UInt8 := dkwX0_wheel_1 ++ []
def dkwX0_wheel_0 : List UInt8 := [42, 180, 0, 26, 16, 8, 28, 104, 27, 96, 50, 78, 45, 180, 0, 66, 42, 180, 0, 57, 159, 0, 22, 45]
abbrev dktX0_wheel_0 : List UInt8 := dkwX0_wheel_0 ++ dktX0_wheel_1
theorem dksX0_wheel_0 : cX0_wheel.data.toList.drop 0 = dktX0_wheel_0 := by decide +kernel
theorem dksX0_wheel_1 : cX0_wheel.data.toList.drop 24 = dktX0_wheel_1 := dk_seg dksX0_wheel_0 24 rfl rfl
theorem dX0_wheel_0 : decode cX0_wheel 0 = .ok (.aload_n 0, 1) := dk_42 (dk_at dksX0_wheel_0 0 rfl rfl)
theorem dX0_wheel_1 : decode cX0_wheel 1 = .ok (.getfield 26, 3) := dk_180 0 26 (dk_at dksX0_wheel_0 1 rfl rfl)
theorem dX0_wheel_4 : decode cX0_wheel 4 = .ok (.bipush 8, 2) := dk_16 8 (dk_at dksX0_wheel_0 4 rfl rfl)
theorem dX0_wheel_6 : decode cX0_wheel 6 = .ok (.iload_n 2, 1) := dk_28 (dk_at dksX0_wheel_0 6 rfl rfl)
theorem dX0_wheel_7 : decode cX0_wheel 7 = .ok (.imul, 1) := dk_104 (dk_at dksX0_wheel_0 7 rfl rfl)
theorem dX0_wheel_8 : decode cX0_wheel 8 = .ok (.iload_n 1, 1) := dk_27 (dk_at dksX0_wheel_0 8 rfl rfl)
theorem dX0_wheel_9 : decode cX0_wheel 9 = .ok (.iadd, 1) := dk_96 (dk_at dksX0_wheel_0 9 rfl rfl)
theorem dX0_wheel_10 : decode cX0_wheel 10 = .ok (.aaload, 1) := dk_50 (dk_at dksX0_wheel_0 10 rfl rfl)
theorem dX0_wheel_11 : decode cX0_wheel 11 = .ok (.astore_n 3, 1) := dk_78 (dk_at dksX0_wheel_0 11 rfl rfl)
theorem dX0_wheel_12 : decode cX0_wheel 12 = .ok (.aload_n 3, 1) := dk_45 (dk_at dksX0_wheel_0 12 rfl rfl)
theorem dX0_wheel_13 : decode cX0_wheel 13 = .ok (.getfield 66, 3) := dk_180 0 66 (dk_at dksX0_wheel_0 13 rfl rfl)
theorem dX0_wheel_16 : decode cX0_wheel 16 = .ok (.aload_n 0, 1) := dk_42 (dk_at dksX0_wheel_0 16 rfl rfl)
theorem dX0_wheel_17 : decode cX0_wheel 17 = .ok (.getfield 57, 3) := dk_180 0 57 (dk_at dksX0_wheel_0 17 rfl rfl)
theorem dX0_wheel_20 : decode cX0_wheel 20 = .ok (.if_icmp .eq 22, 3) := dk_159 0 22 (dk_at dksX0_wheel_0 20 rfl rfl)
theorem dX0_wheel_23 : decode cX0_wheel 23 = .ok (.aload_n 3, 1) := dk_45 (dk_at dksX0_wheel_0 23 rfl rfl)
theorem dX0_wheel_24 : decode cX0_wheel 24 = .ok (.aload_n 0, 1) := dk_42 (dk_at dksX0_wheel_1 0 rfl rfl)
theorem dX0_wheel_25 : decode cX0_wheel 25 = .ok (.getfield 57, 3) := dk_180 0 57 (dk_at dksX0_wheel_1 1 rfl rfl)
theorem dX0_wheel_28 : decode cX0_wheel 28 = .ok (.putfield 66, 3) := dk_181 0 66 (dk_at dksX0_wheel_1 4 rfl rfl)
theorem dX0_wheel_31 : decode cX0_wheel 31 = .ok (.aload_n 0, 1) := dk_42 (dk_at dksX0_wheel_1 7 rfl rfl)
theorem dX0_wheel_32 : decode cX0_wheel 32 = .ok (.iload_n 1, 1) := dk_27 (dk_at dksX0_wheel_1 8 rfl rfl)
theorem dX0_wheel_33 : decode cX0_wheel 33 = .ok (.invokevirtual 67, 3) := dk_182 0 67 (dk_at dksX0_wheel_1 9 rfl rfl)
theorem dX0_wheel_36 : decode cX0_wheel 36 = .ok (.aload_n 0, 1) := dk_42 (dk_at dksX0_wheel_1 12 rfl rfl)
theorem dX0_wheel_37 : decode cX0_wheel 37 = .ok (.iload_n 2, 1) := dk_28 (dk_at dksX0_wheel_1 13 rfl rfl)
theorem dX0_wheel_38 : decode cX0_wheel 38 = .ok (.aload_n 3, 1) := dk_45 (dk_at dksX0_wheel_1 14 rfl rfl)
theorem dX0_wheel_39 : decode cX0_wheel 39 = .ok (.invokevirtual 71, 3) := dk_182 0 71 (dk_at dksX0_wheel_1 15 rfl rfl)
theorem dX0_wheel_42 : decode cX0_wheel 42 = .ok (.aload_n 3, 1) := dk_45 (dk_at dksX0_wheel_1 18 rfl rfl)
theorem dX0_wheel_43 : decode cX0_wheel 43 = .ok (.areturn, 1) := dk_176 (dk_at dksX0_wheel_1 19 rfl rfl)
abbrev cX0_gcd : ByteArray := prog_1_method_4_code
def yX0_gcd : MethodName := ⟨RX0, "gcd", "(II)I"⟩
def dkwX0_gcd_0 : List UInt8 := [26, 61, 27, 62, 29, 153, 0, 16, 28, 29, 112, 54, 4, 29, 61, 21, 4, 62, 167, 255, 242, 28, 172]
abbrev dktX0_gcd_0 : List UInt8 := dkwX0_gcd_0 ++ []
theorem dksX0_gcd_0 : cX0_gcd.data.toList.drop 0 = dktX0_gcd_0 := by decide +kernel
theorem dX0_gcd_0 : decode cX0_gcd 0 = .ok (.iload_n 0, 1) := dk_26 (dk_at dksX0_gcd_0 0 rfl rfl)
theorem dX0_gcd_1 : decode cX0_gcd 1 = .ok (.istore_n 2, 1) := dk_61 (dk_at dksX0_gcd_0 1 rfl rfl)
theorem dX0_gcd_2 : decode cX0_gcd 2 = .ok (.iload_n 1, 1) := dk_27 (dk_at dksX0_gcd_0 2 rfl rfl)
theorem dX0_gcd_3 : decode cX0_gcd 3 = .ok (.istore_n 3, 1) := dk_62 (dk_at dksX0_gcd_0 3 rfl rfl)
theorem dX0_gcd_4 : decode cX0_gcd 4 = .ok (.iload_n 3, 1) := dk_29 (dk_at dksX0_gcd_0 4 rfl rfl)
theorem dX0_gcd_5 : decode cX0_gcd 5 = .ok (.ifCond .eq 16, 3) := dk_153 0 16 (dk_at dksX0_gcd_0 5 rfl rfl)
theorem dX0_gcd_8 : decode cX0_gcd 8 = .ok (.iload_n 2, 1) := dk_28 (dk_at dksX0_gcd_0 8 rfl rfl)
theorem dX0_gcd_9 : decode cX0_gcd 9 = .ok (.iload_n 3, 1) := dk_29 (dk_at dksX0_gcd_0 9 rfl rfl)
theorem dX0_gcd_10 : decode cX0_gcd 10 = .ok (.irem, 1) := dk_112 (dk_at dksX0_gcd_0 10 rfl rfl)
theorem dX0_gcd_11 : decode cX0_gcd 11 = .ok (.istore 4, 2) := dk_54 4 (dk_at dksX0_gcd_0 11 rfl rfl)
theorem dX0_gcd_13 : decode cX0_gcd 13 = .ok (.iload_n 3, 1) := dk_29 (dk_at dksX0_gcd_0 13 rfl rfl)
theorem dX0_gcd_14 : decode cX0_gcd 14 = .ok (.istore_n 2, 1) := dk_61 (dk_at dksX0_gcd_0 14 rfl rfl)
theorem dX0_gcd_15 : decode cX0_gcd 15 = .ok (.iload 4, 2) := dk_21 4 (dk_at dksX0_gcd_0 15 rfl rfl)
theorem dX0_gcd_17 : decode cX0_gcd 17 = .ok (.istore_n 3, 1) := dk_62 (dk_at dksX0_gcd_0 17 rfl rfl)
theorem dX0_gcd_18 : decode cX0_gcd 18 = .ok (.goto (-14), 3) := dk_167 255 242 (dk_at dksX0_gcd_0 18 rfl rfl)
theorem dX0_gcd_21 : decode cX0_gcd 21 = .ok (.iload_n 2, 1) := dk_28 (dk_at dksX0_gcd_0 21 rfl rfl)
theorem dX0_gcd_22 : decode cX0_gcd 22 = .ok (.ireturn, 1) := dk_172 (dk_at dksX0_gcd_0 22 rfl rfl)
abbrev cX0_lap : ByteArray := prog_1_method_23_code
def yX0_lap : MethodName := ⟨RX0, "lap", "(III)I"⟩
def dkwX0_lap_1 : List UInt8 := [153, 0, 16, 42, 27, 28, 182, 0, 193, 29, 184, 0, 210, 167, 0, 5, 18, 104, 172]
abbrev dktX0_lap_1 : List UInt8 := dkwX0_lap_1 ++ []
def dkwX0_lap_0 : List UInt8 := [42, 27, 182, 0, 150, 154, 0, 6, 18, 154, 172, 28, 184, 0, 190, 153, 0, 25, 29, 3, 5, 184, 0, 100]
abbrev dktX0_lap_0 : List UInt8 := dkwX0_lap_0 ++ dktX0_lap_1
theorem dksX0_lap_0 : cX0_lap.data.toList.drop 0 = dktX0_lap_0 := by decide +kernel
theorem dksX0_lap_1 : cX0_lap.data.toList.drop 24 = dktX0_lap_1 := dk_seg dksX0_lap_0 24 rfl rfl
theorem dX0_lap_0 : decode cX0_lap 0 = .ok (.aload_n 0, 1) := dk_42 (dk_at dksX0_lap_0 0 rfl rfl)
theorem dX0_lap_1 : decode cX0_lap 1 = .ok (.iload_n 1, 1) := dk_27 (dk_at dksX0_lap_0 1 rfl rfl)
theorem dX0_lap_2 : decode cX0_lap 2 = .ok (.invokevirtual 150, 3) := dk_182 0 150 (dk_at dksX0_lap_0 2 rfl rfl)
theorem dX0_lap_5 : decode cX0_lap 5 = .ok (.ifCond .ne 6, 3) := dk_154 0 6 (dk_at dksX0_lap_0 5 rfl rfl)
theorem dX0_lap_8 : decode cX0_lap 8 = .ok (.ldc 154, 2) := dk_18 154 (dk_at dksX0_lap_0 8 rfl rfl)
theorem dX0_lap_10 : decode cX0_lap 10 = .ok (.ireturn, 1) := dk_172 (dk_at dksX0_lap_0 10 rfl rfl)
theorem dX0_lap_11 : decode cX0_lap 11 = .ok (.iload_n 2, 1) := dk_28 (dk_at dksX0_lap_0 11 rfl rfl)
theorem dX0_lap_12 : decode cX0_lap 12 = .ok (.invokestatic 190, 3) := dk_184 0 190 (dk_at dksX0_lap_0 12 rfl rfl)
theorem dX0_lap_15 : decode cX0_lap 15 = .ok (.ifCond .eq 25, 3) := dk_153 0 25 (dk_at dksX0_lap_0 15 rfl rfl)
theorem dX0_lap_18 : decode cX0_lap 18 = .ok (.iload_n 3, 1) := dk_29 (dk_at dksX0_lap_0 18 rfl rfl)
theorem dX0_lap_19 : decode cX0_lap 19 = .ok (.iconst 0, 1) := dk_3 (dk_at dksX0_lap_0 19 rfl rfl)
theorem dX0_lap_20 : decode cX0_lap 20 = .ok (.iconst 2, 1) := dk_5 (dk_at dksX0_lap_0 20 rfl rfl)
theorem dX0_lap_21 : decode cX0_lap 21 = .ok (.invokestatic 100, 3) := dk_184 0 100 (dk_at dksX0_lap_0 21 rfl rfl)
theorem dX0_lap_24 : decode cX0_lap 24 = .ok (.ifCond .eq 16, 3) := dk_153 0 16 (dk_at dksX0_lap_1 0 rfl rfl)
theorem dX0_lap_27 : decode cX0_lap 27 = .ok (.aload_n 0, 1) := dk_42 (dk_at dksX0_lap_1 3 rfl rfl)
theorem dX0_lap_28 : decode cX0_lap 28 = .ok (.iload_n 1, 1) := dk_27 (dk_at dksX0_lap_1 4 rfl rfl)
theorem dX0_lap_29 : decode cX0_lap 29 = .ok (.iload_n 2, 1) := dk_28 (dk_at dksX0_lap_1 5 rfl rfl)
theorem dX0_lap_30 : decode cX0_lap 30 = .ok (.invokevirtual 193, 3) := dk_182 0 193 (dk_at dksX0_lap_1 6 rfl rfl)
theorem dX0_lap_33 : decode cX0_lap 33 = .ok (.iload_n 3, 1) := dk_29 (dk_at dksX0_lap_1 9 rfl rfl)
theorem dX0_lap_34 : decode cX0_lap 34 = .ok (.invokestatic 210, 3) := dk_184 0 210 (dk_at dksX0_lap_1 10 rfl rfl)
theorem dX0_lap_37 : decode cX0_lap 37 = .ok (.goto 5, 3) := dk_167 0 5 (dk_at dksX0_lap_1 13 rfl rfl)
theorem dX0_lap_40 : decode cX0_lap 40 = .ok (.ldc 104, 2) := dk_18 104 (dk_at dksX0_lap_1 16 rfl rfl)
theorem dX0_lap_42 : decode cX0_lap 42 = .ok (.ireturn, 1) := dk_172 (dk_at dksX0_lap_1 18 rfl rfl)
abbrev cX0_wheelTold : ByteArray := prog_1_method_22_code
def yX0_wheelTold : MethodName := ⟨RX0, "wheelTold", "(LAheadRows$Wheel;I)I"⟩
def dkwX0_wheelTold_1 : List UInt8 := [182, 0, 207, 172]
abbrev dktX0_wheelTold_1 : List UInt8 := dkwX0_wheelTold_1 ++ []
def dkwX0_wheelTold_0 : List UInt8 := [27, 154, 0, 10, 42, 180, 0, 201, 167, 0, 19, 27, 4, 160, 0, 10, 42, 180, 0, 204, 167, 0, 7, 42]
abbrev dktX0_wheelTold_0 : List UInt8 := dkwX0_wheelTold_0 ++ dktX0_wheelTold_1
theorem dksX0_wheelTold_0 : cX0_wheelTold.data.toList.drop 0 = dktX0_wheelTold_0 := by decide +kernel
theorem dksX0_wheelTold_1 : cX0_wheelTold.data.toList.drop 24 = dktX0_wheelTold_1 := dk_seg dksX0_wheelTold_0 24 rfl rfl
theorem dX0_wheelTold_0 : decode cX0_wheelTold 0 = .ok (.iload_n 1, 1) := dk_27 (dk_at dksX0_wheelTold_0 0 rfl rfl)
theorem dX0_wheelTold_1 : decode cX0_wheelTold 1 = .ok (.ifCond .ne 10, 3) := dk_154 0 10 (dk_at dksX0_wheelTold_0 1 rfl rfl)
theorem dX0_wheelTold_4 : decode cX0_wheelTold 4 = .ok (.aload_n 0, 1) := dk_42 (dk_at dksX0_wheelTold_0 4 rfl rfl)
theorem dX0_wheelTold_5 : decode cX0_wheelTold 5 = .ok (.getfield 201, 3) := dk_180 0 201 (dk_at dksX0_wheelTold_0 5 rfl rfl)
theorem dX0_wheelTold_8 : decode cX0_wheelTold 8 = .ok (.goto 19, 3) := dk_167 0 19 (dk_at dksX0_wheelTold_0 8 rfl rfl)
theorem dX0_wheelTold_11 : decode cX0_wheelTold 11 = .ok (.iload_n 1, 1) := dk_27 (dk_at dksX0_wheelTold_0 11 rfl rfl)
theorem dX0_wheelTold_12 : decode cX0_wheelTold 12 = .ok (.iconst 1, 1) := dk_4 (dk_at dksX0_wheelTold_0 12 rfl rfl)
theorem dX0_wheelTold_13 : decode cX0_wheelTold 13 = .ok (.if_icmp .ne 10, 3) := dk_160 0 10 (dk_at dksX0_wheelTold_0 13 rfl rfl)
theorem dX0_wheelTold_16 : decode cX0_wheelTold 16 = .ok (.aload_n 0, 1) := dk_42 (dk_at dksX0_wheelTold_0 16 rfl rfl)
theorem dX0_wheelTold_17 : decode cX0_wheelTold 17 = .ok (.getfield 204, 3) := dk_180 0 204 (dk_at dksX0_wheelTold_0 17 rfl rfl)
theorem dX0_wheelTold_20 : decode cX0_wheelTold 20 = .ok (.goto 7, 3) := dk_167 0 7 (dk_at dksX0_wheelTold_0 20 rfl rfl)
theorem dX0_wheelTold_23 : decode cX0_wheelTold 23 = .ok (.aload_n 0, 1) := dk_42 (dk_at dksX0_wheelTold_0 23 rfl rfl)
theorem dX0_wheelTold_24 : decode cX0_wheelTold 24 = .ok (.invokevirtual 207, 3) := dk_182 0 207 (dk_at dksX0_wheelTold_1 0 rfl rfl)
theorem dX0_wheelTold_27 : decode cX0_wheelTold 27 = .ok (.ireturn, 1) := dk_172 (dk_at dksX0_wheelTold_1 3 rfl rfl)
abbrev cX0_least : ByteArray := prog_1_method_25_code
def yX0_least : MethodName := ⟨RX0, "least", "(III)I"⟩
def dkwX0_least_2 : List UInt8 := [16, 8, 184, 0, 100, 153, 0, 13, 42, 27, 28, 29, 182, 0, 226, 167, 0, 5, 18, 104, 172]
abbrev dktX0_least_2 : List UInt8 := dkwX0_least_2 ++ []
def dkwX0_least_1 : List UInt8 := [159, 0, 9, 28, 16, 7, 160, 0, 7, 4, 167, 0, 4, 3, 54, 4, 21, 4, 153, 0, 23, 29, 3]
abbrev dktX0_least_1 : List UInt8 := dkwX0_least_1 ++ dktX0_least_2
def dkwX0_least_0 : List UInt8 := [42, 27, 182, 0, 150, 154, 0, 6, 18, 154, 172, 28, 5, 159, 0, 19, 28, 6, 159, 0, 14, 28, 8]
abbrev dktX0_least_0 : List UInt8 := dkwX0_least_0 ++ dktX0_least_1
theorem dksX0_least_0 : cX0_least.data.toList.drop 0 = dktX0_least_0 := by decide +kernel
theorem dksX0_least_1 : cX0_least.data.toList.drop 23 = dktX0_least_1 := dk_seg dksX0_least_0 23 rfl rfl
theorem dksX0_least_2 : cX0_least.data.toList.drop 46 = dktX0_least_2 := dk_seg dksX0_least_1 23 rfl rfl
theorem dX0_least_0 : decode cX0_least 0 = .ok (.aload_n 0, 1) := dk_42 (dk_at dksX0_least_0 0 rfl rfl)
theorem dX0_least_1 : decode cX0_least 1 = .ok (.iload_n 1, 1) := dk_27 (dk_at dksX0_least_0 1 rfl rfl)
theorem dX0_least_2 : decode cX0_least 2 = .ok (.invokevirtual 150, 3) := dk_182 0 150 (dk_at dksX0_least_0 2 rfl rfl)
theorem dX0_least_5 : decode cX0_least 5 = .ok (.ifCond .ne 6, 3) := dk_154 0 6 (dk_at dksX0_least_0 5 rfl rfl)
theorem dX0_least_8 : decode cX0_least 8 = .ok (.ldc 154, 2) := dk_18 154 (dk_at dksX0_least_0 8 rfl rfl)
theorem dX0_least_10 : decode cX0_least 10 = .ok (.ireturn, 1) := dk_172 (dk_at dksX0_least_0 10 rfl rfl)
theorem dX0_least_11 : decode cX0_least 11 = .ok (.iload_n 2, 1) := dk_28 (dk_at dksX0_least_0 11 rfl rfl)
theorem dX0_least_12 : decode cX0_least 12 = .ok (.iconst 2, 1) := dk_5 (dk_at dksX0_least_0 12 rfl rfl)
theorem dX0_least_13 : decode cX0_least 13 = .ok (.if_icmp .eq 19, 3) := dk_159 0 19 (dk_at dksX0_least_0 13 rfl rfl)
theorem dX0_least_16 : decode cX0_least 16 = .ok (.iload_n 2, 1) := dk_28 (dk_at dksX0_least_0 16 rfl rfl)
theorem dX0_least_17 : decode cX0_least 17 = .ok (.iconst 3, 1) := dk_6 (dk_at dksX0_least_0 17 rfl rfl)
theorem dX0_least_18 : decode cX0_least 18 = .ok (.if_icmp .eq 14, 3) := dk_159 0 14 (dk_at dksX0_least_0 18 rfl rfl)
theorem dX0_least_21 : decode cX0_least 21 = .ok (.iload_n 2, 1) := dk_28 (dk_at dksX0_least_0 21 rfl rfl)
theorem dX0_least_22 : decode cX0_least 22 = .ok (.iconst 5, 1) := dk_8 (dk_at dksX0_least_0 22 rfl rfl)
theorem dX0_least_23 : decode cX0_least 23 = .ok (.if_icmp .eq 9, 3) := dk_159 0 9 (dk_at dksX0_least_1 0 rfl rfl)
theorem dX0_least_26 : decode cX0_least 26 = .ok (.iload_n 2, 1) := dk_28 (dk_at dksX0_least_1 3 rfl rfl)
theorem dX0_least_27 : decode cX0_least 27 = .ok (.bipush 7, 2) := dk_16 7 (dk_at dksX0_least_1 4 rfl rfl)
theorem dX0_least_29 : decode cX0_least 29 = .ok (.if_icmp .ne 7, 3) := dk_160 0 7 (dk_at dksX0_least_1 6 rfl rfl)
theorem dX0_least_32 : decode cX0_least 32 = .ok (.iconst 1, 1) := dk_4 (dk_at dksX0_least_1 9 rfl rfl)
theorem dX0_least_33 : decode cX0_least 33 = .ok (.goto 4, 3) := dk_167 0 4 (dk_at dksX0_least_1 10 rfl rfl)
theorem dX0_least_36 : decode cX0_least 36 = .ok (.iconst 0, 1) := dk_3 (dk_at dksX0_least_1 13 rfl rfl)
theorem dX0_least_37 : decode cX0_least 37 = .ok (.istore 4, 2) := dk_54 4 (dk_at dksX0_least_1 14 rfl rfl)
theorem dX0_least_39 : decode cX0_least 39 = .ok (.iload 4, 2) := dk_21 4 (dk_at dksX0_least_1 16 rfl rfl)
theorem dX0_least_41 : decode cX0_least 41 = .ok (.ifCond .eq 23, 3) := dk_153 0 23 (dk_at dksX0_least_1 18 rfl rfl)
theorem dX0_least_44 : decode cX0_least 44 = .ok (.iload_n 3, 1) := dk_29 (dk_at dksX0_least_1 21 rfl rfl)
theorem dX0_least_45 : decode cX0_least 45 = .ok (.iconst 0, 1) := dk_3 (dk_at dksX0_least_1 22 rfl rfl)
theorem dX0_least_46 : decode cX0_least 46 = .ok (.bipush 8, 2) := dk_16 8 (dk_at dksX0_least_2 0 rfl rfl)
theorem dX0_least_48 : decode cX0_least 48 = .ok (.invokestatic 100, 3) := dk_184 0 100 (dk_at dksX0_least_2 2 rfl rfl)
theorem dX0_least_51 : decode cX0_least 51 = .ok (.ifCond .eq 13, 3) := dk_153 0 13 (dk_at dksX0_least_2 5 rfl rfl)
theorem dX0_least_54 : decode cX0_least 54 = .ok (.aload_n 0, 1) := dk_42 (dk_at dksX0_least_2 8 rfl rfl)
theorem dX0_least_55 : decode cX0_least 55 = .ok (.iload_n 1, 1) := dk_27 (dk_at dksX0_least_2 9 rfl rfl)
theorem dX0_least_56 : decode cX0_least 56 = .ok (.iload_n 2, 1) := dk_28 (dk_at dksX0_least_2 10 rfl rfl)
theorem dX0_least_57 : decode cX0_least 57 = .ok (.iload_n 3, 1) := dk_29 (dk_at dksX0_least_2 11 rfl rfl)
theorem dX0_least_58 : decode cX0_least 58 = .ok (.invokevirtual 226, 3) := dk_182 0 226 (dk_at dksX0_least_2 12 rfl rfl)
theorem dX0_least_61 : decode cX0_least 61 = .ok (.goto 5, 3) := dk_167 0 5 (dk_at dksX0_least_2 15 rfl rfl)
theorem dX0_least_64 : decode cX0_least 64 = .ok (.ldc 104, 2) := dk_18 104 (dk_at dksX0_least_2 18 rfl rfl)
theorem dX0_least_66 : decode cX0_least 66 = .ok (.ireturn, 1) := dk_172 (dk_at dksX0_least_2 20 rfl rfl)
abbrev cX0_leastTold : ByteArray := prog_1_method_24_code
def yX0_leastTold : MethodName := ⟨RX0, "leastTold", "(III)I"⟩
def dkwX0_leastTold_1 : List UInt8 := [28, 182, 0, 193, 21, 5, 182, 0, 219, 132, 5, 1, 167, 255, 233, 25, 4, 29, 182, 0, 223, 172]
abbrev dktX0_leastTold_1 : List UInt8 := dkwX0_leastTold_1 ++ []
def dkwX0_leastTold_0 : List UInt8 := [187, 0, 214, 89, 28, 183, 0, 216, 58, 4, 3, 54, 5, 21, 5, 16, 16, 162, 0, 22, 25, 4, 42, 27]
abbrev dktX0_leastTold_0 : List UInt8 := dkwX0_leastTold_0 ++ dktX0_leastTold_1
theorem dksX0_leastTold_0 : cX0_leastTold.data.toList.drop 0 = dktX0_leastTold_0 := by decide +kernel
theorem dksX0_leastTold_1 : cX0_leastTold.data.toList.drop 24 = dktX0_leastTold_1 := dk_seg dksX0_leastTold_0 24 rfl rfl
theorem dX0_leastTold_0 : decode cX0_leastTold 0 = .ok (.new 214, 3) := dk_187 0 214 (dk_at dksX0_leastTold_0 0 rfl rfl)
theorem dX0_leastTold_3 : decode cX0_leastTold 3 = .ok (.dup, 1) := dk_89 (dk_at dksX0_leastTold_0 3 rfl rfl)
theorem dX0_leastTold_4 : decode cX0_leastTold 4 = .ok (.iload_n 2, 1) := dk_28 (dk_at dksX0_leastTold_0 4 rfl rfl)
theorem dX0_leastTold_5 : decode cX0_leastTold 5 = .ok (.invokespecial 216, 3) := dk_183 0 216 (dk_at dksX0_leastTold_0 5 rfl rfl)
theorem dX0_leastTold_8 : decode cX0_leastTold 8 = .ok (.astore 4, 2) := dk_58 4 (dk_at dksX0_leastTold_0 8 rfl rfl)
theorem dX0_leastTold_10 : decode cX0_leastTold 10 = .ok (.iconst 0, 1) := dk_3 (dk_at dksX0_leastTold_0 10 rfl rfl)
theorem dX0_leastTold_11 : decode cX0_leastTold 11 = .ok (.istore 5, 2) := dk_54 5 (dk_at dksX0_leastTold_0 11 rfl rfl)
theorem dX0_leastTold_13 : decode cX0_leastTold 13 = .ok (.iload 5, 2) := dk_21 5 (dk_at dksX0_leastTold_0 13 rfl rfl)
theorem dX0_leastTold_15 : decode cX0_leastTold 15 = .ok (.bipush 16, 2) := dk_16 16 (dk_at dksX0_leastTold_0 15 rfl rfl)
theorem dX0_leastTold_17 : decode cX0_leastTold 17 = .ok (.if_icmp .ge 22, 3) := dk_162 0 22 (dk_at dksX0_leastTold_0 17 rfl rfl)
theorem dX0_leastTold_20 : decode cX0_leastTold 20 = .ok (.aload 4, 2) := dk_25 4 (dk_at dksX0_leastTold_0 20 rfl rfl)
theorem dX0_leastTold_22 : decode cX0_leastTold 22 = .ok (.aload_n 0, 1) := dk_42 (dk_at dksX0_leastTold_0 22 rfl rfl)
theorem dX0_leastTold_23 : decode cX0_leastTold 23 = .ok (.iload_n 1, 1) := dk_27 (dk_at dksX0_leastTold_0 23 rfl rfl)
theorem dX0_leastTold_24 : decode cX0_leastTold 24 = .ok (.iload_n 2, 1) := dk_28 (dk_at dksX0_leastTold_1 0 rfl rfl)
theorem dX0_leastTold_25 : decode cX0_leastTold 25 = .ok (.invokevirtual 193, 3) := dk_182 0 193 (dk_at dksX0_leastTold_1 1 rfl rfl)
theorem dX0_leastTold_28 : decode cX0_leastTold 28 = .ok (.iload 5, 2) := dk_21 5 (dk_at dksX0_leastTold_1 4 rfl rfl)
theorem dX0_leastTold_30 : decode cX0_leastTold 30 = .ok (.invokevirtual 219, 3) := dk_182 0 219 (dk_at dksX0_leastTold_1 6 rfl rfl)
theorem dX0_leastTold_33 : decode cX0_leastTold 33 = .ok (.iinc 5 1, 3) := dk_132 5 1 (dk_at dksX0_leastTold_1 9 rfl rfl)
theorem dX0_leastTold_36 : decode cX0_leastTold 36 = .ok (.goto (-23), 3) := dk_167 255 233 (dk_at dksX0_leastTold_1 12 rfl rfl)
theorem dX0_leastTold_39 : decode cX0_leastTold 39 = .ok (.aload 4, 2) := dk_25 4 (dk_at dksX0_leastTold_1 15 rfl rfl)
theorem dX0_leastTold_41 : decode cX0_leastTold 41 = .ok (.iload_n 3, 1) := dk_29 (dk_at dksX0_leastTold_1 17 rfl rfl)
theorem dX0_leastTold_42 : decode cX0_leastTold 42 = .ok (.invokevirtual 223, 3) := dk_182 0 223 (dk_at dksX0_leastTold_1 18 rfl rfl)
theorem dX0_leastTold_45 : decode cX0_leastTold 45 = .ok (.ireturn, 1) := dk_172 (dk_at dksX0_leastTold_1 21 rfl rfl)
abbrev cX0_rule : ByteArray := prog_1_method_26_code
def yX0_rule : MethodName := ⟨RX0, "rule", "(II)I"⟩
def dkwX0_rule_1 : List UInt8 := [27, 182, 0, 67, 42, 182, 0, 230, 78, 45, 199, 0, 8, 18, 125, 167, 0, 6, 45, 28, 46, 172]
abbrev dktX0_rule_1 : List UInt8 := dkwX0_rule_1 ++ []
def dkwX0_rule_0 : List UInt8 := [42, 27, 182, 0, 150, 154, 0, 6, 18, 154, 172, 28, 3, 7, 184, 0, 100, 154, 0, 6, 18, 104, 172, 42]
abbrev dktX0_rule_0 : List UInt8 := dkwX0_rule_0 ++ dktX0_rule_1
theorem dksX0_rule_0 : cX0_rule.data.toList.drop 0 = dktX0_rule_0 := by decide +kernel
theorem dksX0_rule_1 : cX0_rule.data.toList.drop 24 = dktX0_rule_1 := dk_seg dksX0_rule_0 24 rfl rfl
theorem dX0_rule_0 : decode cX0_rule 0 = .ok (.aload_n 0, 1) := dk_42 (dk_at dksX0_rule_0 0 rfl rfl)
theorem dX0_rule_1 : decode cX0_rule 1 = .ok (.iload_n 1, 1) := dk_27 (dk_at dksX0_rule_0 1 rfl rfl)
theorem dX0_rule_2 : decode cX0_rule 2 = .ok (.invokevirtual 150, 3) := dk_182 0 150 (dk_at dksX0_rule_0 2 rfl rfl)
theorem dX0_rule_5 : decode cX0_rule 5 = .ok (.ifCond .ne 6, 3) := dk_154 0 6 (dk_at dksX0_rule_0 5 rfl rfl)
theorem dX0_rule_8 : decode cX0_rule 8 = .ok (.ldc 154, 2) := dk_18 154 (dk_at dksX0_rule_0 8 rfl rfl)
theorem dX0_rule_10 : decode cX0_rule 10 = .ok (.ireturn, 1) := dk_172 (dk_at dksX0_rule_0 10 rfl rfl)
theorem dX0_rule_11 : decode cX0_rule 11 = .ok (.iload_n 2, 1) := dk_28 (dk_at dksX0_rule_0 11 rfl rfl)
theorem dX0_rule_12 : decode cX0_rule 12 = .ok (.iconst 0, 1) := dk_3 (dk_at dksX0_rule_0 12 rfl rfl)
theorem dX0_rule_13 : decode cX0_rule 13 = .ok (.iconst 4, 1) := dk_7 (dk_at dksX0_rule_0 13 rfl rfl)
theorem dX0_rule_14 : decode cX0_rule 14 = .ok (.invokestatic 100, 3) := dk_184 0 100 (dk_at dksX0_rule_0 14 rfl rfl)
theorem dX0_rule_17 : decode cX0_rule 17 = .ok (.ifCond .ne 6, 3) := dk_154 0 6 (dk_at dksX0_rule_0 17 rfl rfl)
theorem dX0_rule_20 : decode cX0_rule 20 = .ok (.ldc 104, 2) := dk_18 104 (dk_at dksX0_rule_0 20 rfl rfl)
theorem dX0_rule_22 : decode cX0_rule 22 = .ok (.ireturn, 1) := dk_172 (dk_at dksX0_rule_0 22 rfl rfl)
theorem dX0_rule_23 : decode cX0_rule 23 = .ok (.aload_n 0, 1) := dk_42 (dk_at dksX0_rule_0 23 rfl rfl)
theorem dX0_rule_24 : decode cX0_rule 24 = .ok (.iload_n 1, 1) := dk_27 (dk_at dksX0_rule_1 0 rfl rfl)
theorem dX0_rule_25 : decode cX0_rule 25 = .ok (.invokevirtual 67, 3) := dk_182 0 67 (dk_at dksX0_rule_1 1 rfl rfl)
theorem dX0_rule_28 : decode cX0_rule 28 = .ok (.aload_n 0, 1) := dk_42 (dk_at dksX0_rule_1 4 rfl rfl)
theorem dX0_rule_29 : decode cX0_rule 29 = .ok (.invokevirtual 230, 3) := dk_182 0 230 (dk_at dksX0_rule_1 5 rfl rfl)
theorem dX0_rule_32 : decode cX0_rule 32 = .ok (.astore_n 3, 1) := dk_78 (dk_at dksX0_rule_1 8 rfl rfl)
theorem dX0_rule_33 : decode cX0_rule 33 = .ok (.aload_n 3, 1) := dk_45 (dk_at dksX0_rule_1 9 rfl rfl)
theorem dX0_rule_34 : decode cX0_rule 34 = .ok (.ifnonnull 8, 3) := dk_199 0 8 (dk_at dksX0_rule_1 10 rfl rfl)
theorem dX0_rule_37 : decode cX0_rule 37 = .ok (.ldc 125, 2) := dk_18 125 (dk_at dksX0_rule_1 13 rfl rfl)
theorem dX0_rule_39 : decode cX0_rule 39 = .ok (.goto 6, 3) := dk_167 0 6 (dk_at dksX0_rule_1 15 rfl rfl)
theorem dX0_rule_42 : decode cX0_rule 42 = .ok (.aload_n 3, 1) := dk_45 (dk_at dksX0_rule_1 18 rfl rfl)
theorem dX0_rule_43 : decode cX0_rule 43 = .ok (.iload_n 2, 1) := dk_28 (dk_at dksX0_rule_1 19 rfl rfl)
theorem dX0_rule_44 : decode cX0_rule 44 = .ok (.iaload, 1) := dk_46 (dk_at dksX0_rule_1 20 rfl rfl)
theorem dX0_rule_45 : decode cX0_rule 45 = .ok (.ireturn, 1) := dk_172 (dk_at dksX0_rule_1 21 rfl rfl)
abbrev cX0_roots : ByteArray := prog_1_method_30_code
def yX0_roots : MethodName := ⟨RX0, "roots", "(II)I"⟩
def dkwX0_roots_2 : List UInt8 := [184, 0, 252, 167, 0, 5, 18, 125, 172]
abbrev dktX0_roots_2 : List UInt8 := dkwX0_roots_2 ++ []
def dkwX0_roots_1 : List UInt8 := [27, 182, 0, 67, 58, 4, 25, 4, 193, 0, 76, 153, 0, 17, 25, 4, 192, 0, 76, 78, 45, 28]
abbrev dktX0_roots_1 : List UInt8 := dkwX0_roots_1 ++ dktX0_roots_2
def dkwX0_roots_0 : List UInt8 := [42, 27, 182, 0, 150, 154, 0, 6, 18, 154, 172, 28, 3, 7, 184, 0, 100, 154, 0, 6, 18, 104, 172, 42]
abbrev dktX0_roots_0 : List UInt8 := dkwX0_roots_0 ++ dktX0_roots_1
theorem dksX0_roots_0 : cX0_roots.data.toList.drop 0 = dktX0_roots_0 := by decide +kernel
theorem dksX0_roots_1 : cX0_roots.data.toList.drop 24 = dktX0_roots_1 := dk_seg dksX0_roots_0 24 rfl rfl
theorem dksX0_roots_2 : cX0_roots.data.toList.drop 46 = dktX0_roots_2 := dk_seg dksX0_roots_1 22 rfl rfl
theorem dX0_roots_0 : decode cX0_roots 0 = .ok (.aload_n 0, 1) := dk_42 (dk_at dksX0_roots_0 0 rfl rfl)
theorem dX0_roots_1 : decode cX0_roots 1 = .ok (.iload_n 1, 1) := dk_27 (dk_at dksX0_roots_0 1 rfl rfl)
theorem dX0_roots_2 : decode cX0_roots 2 = .ok (.invokevirtual 150, 3) := dk_182 0 150 (dk_at dksX0_roots_0 2 rfl rfl)
theorem dX0_roots_5 : decode cX0_roots 5 = .ok (.ifCond .ne 6, 3) := dk_154 0 6 (dk_at dksX0_roots_0 5 rfl rfl)
theorem dX0_roots_8 : decode cX0_roots 8 = .ok (.ldc 154, 2) := dk_18 154 (dk_at dksX0_roots_0 8 rfl rfl)
theorem dX0_roots_10 : decode cX0_roots 10 = .ok (.ireturn, 1) := dk_172 (dk_at dksX0_roots_0 10 rfl rfl)
theorem dX0_roots_11 : decode cX0_roots 11 = .ok (.iload_n 2, 1) := dk_28 (dk_at dksX0_roots_0 11 rfl rfl)
theorem dX0_roots_12 : decode cX0_roots 12 = .ok (.iconst 0, 1) := dk_3 (dk_at dksX0_roots_0 12 rfl rfl)
theorem dX0_roots_13 : decode cX0_roots 13 = .ok (.iconst 4, 1) := dk_7 (dk_at dksX0_roots_0 13 rfl rfl)
theorem dX0_roots_14 : decode cX0_roots 14 = .ok (.invokestatic 100, 3) := dk_184 0 100 (dk_at dksX0_roots_0 14 rfl rfl)
theorem dX0_roots_17 : decode cX0_roots 17 = .ok (.ifCond .ne 6, 3) := dk_154 0 6 (dk_at dksX0_roots_0 17 rfl rfl)
theorem dX0_roots_20 : decode cX0_roots 20 = .ok (.ldc 104, 2) := dk_18 104 (dk_at dksX0_roots_0 20 rfl rfl)
theorem dX0_roots_22 : decode cX0_roots 22 = .ok (.ireturn, 1) := dk_172 (dk_at dksX0_roots_0 22 rfl rfl)
theorem dX0_roots_23 : decode cX0_roots 23 = .ok (.aload_n 0, 1) := dk_42 (dk_at dksX0_roots_0 23 rfl rfl)
theorem dX0_roots_24 : decode cX0_roots 24 = .ok (.iload_n 1, 1) := dk_27 (dk_at dksX0_roots_1 0 rfl rfl)
theorem dX0_roots_25 : decode cX0_roots 25 = .ok (.invokevirtual 67, 3) := dk_182 0 67 (dk_at dksX0_roots_1 1 rfl rfl)
theorem dX0_roots_28 : decode cX0_roots 28 = .ok (.astore 4, 2) := dk_58 4 (dk_at dksX0_roots_1 4 rfl rfl)
theorem dX0_roots_30 : decode cX0_roots 30 = .ok (.aload 4, 2) := dk_25 4 (dk_at dksX0_roots_1 6 rfl rfl)
theorem dX0_roots_32 : decode cX0_roots 32 = .ok (.instanceof 76, 3) := dk_193 0 76 (dk_at dksX0_roots_1 8 rfl rfl)
theorem dX0_roots_35 : decode cX0_roots 35 = .ok (.ifCond .eq 17, 3) := dk_153 0 17 (dk_at dksX0_roots_1 11 rfl rfl)
theorem dX0_roots_38 : decode cX0_roots 38 = .ok (.aload 4, 2) := dk_25 4 (dk_at dksX0_roots_1 14 rfl rfl)
theorem dX0_roots_40 : decode cX0_roots 40 = .ok (.checkcast 76, 3) := dk_192 0 76 (dk_at dksX0_roots_1 16 rfl rfl)
theorem dX0_roots_43 : decode cX0_roots 43 = .ok (.astore_n 3, 1) := dk_78 (dk_at dksX0_roots_1 19 rfl rfl)
theorem dX0_roots_44 : decode cX0_roots 44 = .ok (.aload_n 3, 1) := dk_45 (dk_at dksX0_roots_1 20 rfl rfl)
theorem dX0_roots_45 : decode cX0_roots 45 = .ok (.iload_n 2, 1) := dk_28 (dk_at dksX0_roots_1 21 rfl rfl)
theorem dX0_roots_46 : decode cX0_roots 46 = .ok (.invokestatic 252, 3) := dk_184 0 252 (dk_at dksX0_roots_2 0 rfl rfl)
theorem dX0_roots_49 : decode cX0_roots 49 = .ok (.goto 5, 3) := dk_167 0 5 (dk_at dksX0_roots_2 3 rfl rfl)
theorem dX0_roots_52 : decode cX0_roots 52 = .ok (.ldc 125, 2) := dk_18 125 (dk_at dksX0_roots_2 6 rfl rfl)
theorem dX0_roots_54 : decode cX0_roots 54 = .ok (.ireturn, 1) := dk_172 (dk_at dksX0_roots_2 8 rfl rfl)
abbrev cX0_rootsTold : ByteArray := prog_1_method_29_code
def yX0_rootsTold : MethodName := ⟨RX0, "rootsTold", "(LAheadRows$Told;I)I"⟩
def dkwX0_rootsTold_4 : List UInt8 := [167, 0, 4, 3, 172]
abbrev dktX0_rootsTold_4 : List UInt8 := dkwX0_rootsTold_4 ++ []
def dkwX0_rootsTold_3 : List UInt8 := [42, 3, 184, 0, 240, 172, 42, 182, 0, 244, 172, 28, 158, 0, 13, 42, 180, 0, 75, 184, 0, 247]
abbrev dktX0_rootsTold_3 : List UInt8 := dkwX0_rootsTold_3 ++ dktX0_rootsTold_4
def dkwX0_rootsTold_2 : List UInt8 := [28, 158, 0, 7, 5, 167, 0, 12, 28, 154, 0, 7, 4, 167, 0, 4, 3, 172, 42, 4, 184, 0, 240, 172]
abbrev dktX0_rootsTold_2 : List UInt8 := dkwX0_rootsTold_2 ++ dktX0_rootsTold_3
def dkwX0_rootsTold_1 : List UInt8 := [170, 0, 0, 0, 0, 65, 0, 0, 0, 0, 0, 0, 0, 3, 0, 0, 0, 30, 0, 0, 0, 48, 0, 0, 0, 54, 0, 0, 0, 60]
abbrev dktX0_rootsTold_1 : List UInt8 := dkwX0_rootsTold_1 ++ dktX0_rootsTold_2
def dkwX0_rootsTold_0 : List UInt8 := [42, 182, 0, 234, 61, 27]
abbrev dktX0_rootsTold_0 : List UInt8 := dkwX0_rootsTold_0 ++ dktX0_rootsTold_1
theorem dksX0_rootsTold_0 : cX0_rootsTold.data.toList.drop 0 = dktX0_rootsTold_0 := by decide +kernel
theorem dksX0_rootsTold_1 : cX0_rootsTold.data.toList.drop 6 = dktX0_rootsTold_1 := dk_seg dksX0_rootsTold_0 6 rfl rfl
theorem dksX0_rootsTold_2 : cX0_rootsTold.data.toList.drop 36 = dktX0_rootsTold_2 := dk_seg dksX0_rootsTold_1 30 rfl rfl
theorem dksX0_rootsTold_3 : cX0_rootsTold.data.toList.drop 60 = dktX0_rootsTold_3 := dk_seg dksX0_rootsTold_2 24 rfl rfl
theorem dksX0_rootsTold_4 : cX0_rootsTold.data.toList.drop 82 = dktX0_rootsTold_4 := dk_seg dksX0_rootsTold_3 22 rfl rfl
theorem dX0_rootsTold_0 : decode cX0_rootsTold 0 = .ok (.aload_n 0, 1) := dk_42 (dk_at dksX0_rootsTold_0 0 rfl rfl)
theorem dX0_rootsTold_1 : decode cX0_rootsTold 1 = .ok (.invokevirtual 234, 3) := dk_182 0 234 (dk_at dksX0_rootsTold_0 1 rfl rfl)
theorem dX0_rootsTold_4 : decode cX0_rootsTold 4 = .ok (.istore_n 2, 1) := dk_61 (dk_at dksX0_rootsTold_0 4 rfl rfl)
theorem dX0_rootsTold_5 : decode cX0_rootsTold 5 = .ok (.iload_n 1, 1) := dk_27 (dk_at dksX0_rootsTold_0 5 rfl rfl)
theorem dX0_rootsTold_6 : decode cX0_rootsTold 6 = .ok (.tableswitch 65 0 3 #[30, 48, 54, 60], 30) := by decide +kernel
theorem dX0_rootsTold_36 : decode cX0_rootsTold 36 = .ok (.iload_n 2, 1) := dk_28 (dk_at dksX0_rootsTold_2 0 rfl rfl)
theorem dX0_rootsTold_37 : decode cX0_rootsTold 37 = .ok (.ifCond .le 7, 3) := dk_158 0 7 (dk_at dksX0_rootsTold_2 1 rfl rfl)
theorem dX0_rootsTold_40 : decode cX0_rootsTold 40 = .ok (.iconst 2, 1) := dk_5 (dk_at dksX0_rootsTold_2 4 rfl rfl)
theorem dX0_rootsTold_41 : decode cX0_rootsTold 41 = .ok (.goto 12, 3) := dk_167 0 12 (dk_at dksX0_rootsTold_2 5 rfl rfl)
theorem dX0_rootsTold_44 : decode cX0_rootsTold 44 = .ok (.iload_n 2, 1) := dk_28 (dk_at dksX0_rootsTold_2 8 rfl rfl)
theorem dX0_rootsTold_45 : decode cX0_rootsTold 45 = .ok (.ifCond .ne 7, 3) := dk_154 0 7 (dk_at dksX0_rootsTold_2 9 rfl rfl)
theorem dX0_rootsTold_48 : decode cX0_rootsTold 48 = .ok (.iconst 1, 1) := dk_4 (dk_at dksX0_rootsTold_2 12 rfl rfl)
theorem dX0_rootsTold_49 : decode cX0_rootsTold 49 = .ok (.goto 4, 3) := dk_167 0 4 (dk_at dksX0_rootsTold_2 13 rfl rfl)
theorem dX0_rootsTold_52 : decode cX0_rootsTold 52 = .ok (.iconst 0, 1) := dk_3 (dk_at dksX0_rootsTold_2 16 rfl rfl)
theorem dX0_rootsTold_53 : decode cX0_rootsTold 53 = .ok (.ireturn, 1) := dk_172 (dk_at dksX0_rootsTold_2 17 rfl rfl)
theorem dX0_rootsTold_54 : decode cX0_rootsTold 54 = .ok (.aload_n 0, 1) := dk_42 (dk_at dksX0_rootsTold_2 18 rfl rfl)
theorem dX0_rootsTold_55 : decode cX0_rootsTold 55 = .ok (.iconst 1, 1) := dk_4 (dk_at dksX0_rootsTold_2 19 rfl rfl)
theorem dX0_rootsTold_56 : decode cX0_rootsTold 56 = .ok (.invokestatic 240, 3) := dk_184 0 240 (dk_at dksX0_rootsTold_2 20 rfl rfl)
theorem dX0_rootsTold_59 : decode cX0_rootsTold 59 = .ok (.ireturn, 1) := dk_172 (dk_at dksX0_rootsTold_2 23 rfl rfl)
theorem dX0_rootsTold_60 : decode cX0_rootsTold 60 = .ok (.aload_n 0, 1) := dk_42 (dk_at dksX0_rootsTold_3 0 rfl rfl)
theorem dX0_rootsTold_61 : decode cX0_rootsTold 61 = .ok (.iconst 0, 1) := dk_3 (dk_at dksX0_rootsTold_3 1 rfl rfl)
theorem dX0_rootsTold_62 : decode cX0_rootsTold 62 = .ok (.invokestatic 240, 3) := dk_184 0 240 (dk_at dksX0_rootsTold_3 2 rfl rfl)
theorem dX0_rootsTold_65 : decode cX0_rootsTold 65 = .ok (.ireturn, 1) := dk_172 (dk_at dksX0_rootsTold_3 5 rfl rfl)
theorem dX0_rootsTold_66 : decode cX0_rootsTold 66 = .ok (.aload_n 0, 1) := dk_42 (dk_at dksX0_rootsTold_3 6 rfl rfl)
theorem dX0_rootsTold_67 : decode cX0_rootsTold 67 = .ok (.invokevirtual 244, 3) := dk_182 0 244 (dk_at dksX0_rootsTold_3 7 rfl rfl)
theorem dX0_rootsTold_70 : decode cX0_rootsTold 70 = .ok (.ireturn, 1) := dk_172 (dk_at dksX0_rootsTold_3 10 rfl rfl)
theorem dX0_rootsTold_71 : decode cX0_rootsTold 71 = .ok (.iload_n 2, 1) := dk_28 (dk_at dksX0_rootsTold_3 11 rfl rfl)
theorem dX0_rootsTold_72 : decode cX0_rootsTold 72 = .ok (.ifCond .le 13, 3) := dk_158 0 13 (dk_at dksX0_rootsTold_3 12 rfl rfl)
theorem dX0_rootsTold_75 : decode cX0_rootsTold 75 = .ok (.aload_n 0, 1) := dk_42 (dk_at dksX0_rootsTold_3 15 rfl rfl)
theorem dX0_rootsTold_76 : decode cX0_rootsTold 76 = .ok (.getfield 75, 3) := dk_180 0 75 (dk_at dksX0_rootsTold_3 16 rfl rfl)
theorem dX0_rootsTold_79 : decode cX0_rootsTold 79 = .ok (.invokestatic 247, 3) := dk_184 0 247 (dk_at dksX0_rootsTold_3 19 rfl rfl)
theorem dX0_rootsTold_82 : decode cX0_rootsTold 82 = .ok (.goto 4, 3) := dk_167 0 4 (dk_at dksX0_rootsTold_4 0 rfl rfl)
theorem dX0_rootsTold_85 : decode cX0_rootsTold 85 = .ok (.iconst 0, 1) := dk_3 (dk_at dksX0_rootsTold_4 3 rfl rfl)
theorem dX0_rootsTold_86 : decode cX0_rootsTold 86 = .ok (.ireturn, 1) := dk_172 (dk_at dksX0_rootsTold_4 4 rfl rfl)
abbrev cX0_root : ByteArray := prog_1_method_28_code
def yX0_root : MethodName := ⟨RX0, "root", "(LAheadRows$Told;Z)I"⟩
def dkwX0_root_2 : List UInt8 := [100, 5, 108, 172]
abbrev dktX0_root_2 : List UInt8 := dkwX0_root_2 ++ []
def dkwX0_root_1 : List UInt8 := [160, 0, 6, 18, 49, 172, 27, 153, 0, 12, 42, 180, 0, 75, 28, 96, 167, 0, 9, 42, 180, 0, 75, 28]
abbrev dktX0_root_1 : List UInt8 := dkwX0_root_1 ++ dktX0_root_2
def dkwX0_root_0 : List UInt8 := [42, 182, 0, 234, 156, 0, 8, 18, 49, 167, 0, 10, 42, 182, 0, 234, 184, 0, 237, 61, 28, 18, 49]
abbrev dktX0_root_0 : List UInt8 := dkwX0_root_0 ++ dktX0_root_1
theorem dksX0_root_0 : cX0_root.data.toList.drop 0 = dktX0_root_0 := by decide +kernel
theorem dksX0_root_1 : cX0_root.data.toList.drop 23 = dktX0_root_1 := dk_seg dksX0_root_0 23 rfl rfl
theorem dksX0_root_2 : cX0_root.data.toList.drop 47 = dktX0_root_2 := dk_seg dksX0_root_1 24 rfl rfl
theorem dX0_root_0 : decode cX0_root 0 = .ok (.aload_n 0, 1) := dk_42 (dk_at dksX0_root_0 0 rfl rfl)
theorem dX0_root_1 : decode cX0_root 1 = .ok (.invokevirtual 234, 3) := dk_182 0 234 (dk_at dksX0_root_0 1 rfl rfl)
theorem dX0_root_4 : decode cX0_root 4 = .ok (.ifCond .ge 8, 3) := dk_156 0 8 (dk_at dksX0_root_0 4 rfl rfl)
theorem dX0_root_7 : decode cX0_root 7 = .ok (.ldc 49, 2) := dk_18 49 (dk_at dksX0_root_0 7 rfl rfl)
theorem dX0_root_9 : decode cX0_root 9 = .ok (.goto 10, 3) := dk_167 0 10 (dk_at dksX0_root_0 9 rfl rfl)
theorem dX0_root_12 : decode cX0_root 12 = .ok (.aload_n 0, 1) := dk_42 (dk_at dksX0_root_0 12 rfl rfl)
theorem dX0_root_13 : decode cX0_root 13 = .ok (.invokevirtual 234, 3) := dk_182 0 234 (dk_at dksX0_root_0 13 rfl rfl)
theorem dX0_root_16 : decode cX0_root 16 = .ok (.invokestatic 237, 3) := dk_184 0 237 (dk_at dksX0_root_0 16 rfl rfl)
theorem dX0_root_19 : decode cX0_root 19 = .ok (.istore_n 2, 1) := dk_61 (dk_at dksX0_root_0 19 rfl rfl)
theorem dX0_root_20 : decode cX0_root 20 = .ok (.iload_n 2, 1) := dk_28 (dk_at dksX0_root_0 20 rfl rfl)
theorem dX0_root_21 : decode cX0_root 21 = .ok (.ldc 49, 2) := dk_18 49 (dk_at dksX0_root_0 21 rfl rfl)
theorem dX0_root_23 : decode cX0_root 23 = .ok (.if_icmp .ne 6, 3) := dk_160 0 6 (dk_at dksX0_root_1 0 rfl rfl)
theorem dX0_root_26 : decode cX0_root 26 = .ok (.ldc 49, 2) := dk_18 49 (dk_at dksX0_root_1 3 rfl rfl)
theorem dX0_root_28 : decode cX0_root 28 = .ok (.ireturn, 1) := dk_172 (dk_at dksX0_root_1 5 rfl rfl)
theorem dX0_root_29 : decode cX0_root 29 = .ok (.iload_n 1, 1) := dk_27 (dk_at dksX0_root_1 6 rfl rfl)
theorem dX0_root_30 : decode cX0_root 30 = .ok (.ifCond .eq 12, 3) := dk_153 0 12 (dk_at dksX0_root_1 7 rfl rfl)
theorem dX0_root_33 : decode cX0_root 33 = .ok (.aload_n 0, 1) := dk_42 (dk_at dksX0_root_1 10 rfl rfl)
theorem dX0_root_34 : decode cX0_root 34 = .ok (.getfield 75, 3) := dk_180 0 75 (dk_at dksX0_root_1 11 rfl rfl)
theorem dX0_root_37 : decode cX0_root 37 = .ok (.iload_n 2, 1) := dk_28 (dk_at dksX0_root_1 14 rfl rfl)
theorem dX0_root_38 : decode cX0_root 38 = .ok (.iadd, 1) := dk_96 (dk_at dksX0_root_1 15 rfl rfl)
theorem dX0_root_39 : decode cX0_root 39 = .ok (.goto 9, 3) := dk_167 0 9 (dk_at dksX0_root_1 16 rfl rfl)
theorem dX0_root_42 : decode cX0_root 42 = .ok (.aload_n 0, 1) := dk_42 (dk_at dksX0_root_1 19 rfl rfl)
theorem dX0_root_43 : decode cX0_root 43 = .ok (.getfield 75, 3) := dk_180 0 75 (dk_at dksX0_root_1 20 rfl rfl)
theorem dX0_root_46 : decode cX0_root 46 = .ok (.iload_n 2, 1) := dk_28 (dk_at dksX0_root_1 23 rfl rfl)
theorem dX0_root_47 : decode cX0_root 47 = .ok (.isub, 1) := dk_100 (dk_at dksX0_root_2 0 rfl rfl)
theorem dX0_root_48 : decode cX0_root 48 = .ok (.iconst 2, 1) := dk_5 (dk_at dksX0_root_2 1 rfl rfl)
theorem dX0_root_49 : decode cX0_root 49 = .ok (.idiv, 1) := dk_108 (dk_at dksX0_root_2 2 rfl rfl)
theorem dX0_root_50 : decode cX0_root 50 = .ok (.ireturn, 1) := dk_172 (dk_at dksX0_root_2 3 rfl rfl)
abbrev cX0_rootOf : ByteArray := prog_1_method_27_code
def yX0_rootOf : MethodName := ⟨RX0, "rootOf", "(I)I"⟩
def dkwX0_rootOf_1 : List UInt8 := [167, 0, 5, 18, 49, 172]
abbrev dktX0_rootOf_1 : List UInt8 := dkwX0_rootOf_1 ++ []
def dkwX0_rootOf_0 : List UInt8 := [3, 60, 27, 27, 104, 26, 162, 0, 9, 132, 1, 1, 167, 255, 246, 27, 27, 104, 26, 160, 0, 7, 27]
abbrev dktX0_rootOf_0 : List UInt8 := dkwX0_rootOf_0 ++ dktX0_rootOf_1
theorem dksX0_rootOf_0 : cX0_rootOf.data.toList.drop 0 = dktX0_rootOf_0 := by decide +kernel
theorem dksX0_rootOf_1 : cX0_rootOf.data.toList.drop 23 = dktX0_rootOf_1 := dk_seg dksX0_rootOf_0 23 rfl rfl
theorem dX0_rootOf_0 : decode cX0_rootOf 0 = .ok (.iconst 0, 1) := dk_3 (dk_at dksX0_rootOf_0 0 rfl rfl)
theorem dX0_rootOf_1 : decode cX0_rootOf 1 = .ok (.istore_n 1, 1) := dk_60 (dk_at dksX0_rootOf_0 1 rfl rfl)
theorem dX0_rootOf_2 : decode cX0_rootOf 2 = .ok (.iload_n 1, 1) := dk_27 (dk_at dksX0_rootOf_0 2 rfl rfl)
theorem dX0_rootOf_3 : decode cX0_rootOf 3 = .ok (.iload_n 1, 1) := dk_27 (dk_at dksX0_rootOf_0 3 rfl rfl)
theorem dX0_rootOf_4 : decode cX0_rootOf 4 = .ok (.imul, 1) := dk_104 (dk_at dksX0_rootOf_0 4 rfl rfl)
theorem dX0_rootOf_5 : decode cX0_rootOf 5 = .ok (.iload_n 0, 1) := dk_26 (dk_at dksX0_rootOf_0 5 rfl rfl)
theorem dX0_rootOf_6 : decode cX0_rootOf 6 = .ok (.if_icmp .ge 9, 3) := dk_162 0 9 (dk_at dksX0_rootOf_0 6 rfl rfl)
theorem dX0_rootOf_9 : decode cX0_rootOf 9 = .ok (.iinc 1 1, 3) := dk_132 1 1 (dk_at dksX0_rootOf_0 9 rfl rfl)
theorem dX0_rootOf_12 : decode cX0_rootOf 12 = .ok (.goto (-10), 3) := dk_167 255 246 (dk_at dksX0_rootOf_0 12 rfl rfl)
theorem dX0_rootOf_15 : decode cX0_rootOf 15 = .ok (.iload_n 1, 1) := dk_27 (dk_at dksX0_rootOf_0 15 rfl rfl)
theorem dX0_rootOf_16 : decode cX0_rootOf 16 = .ok (.iload_n 1, 1) := dk_27 (dk_at dksX0_rootOf_0 16 rfl rfl)
theorem dX0_rootOf_17 : decode cX0_rootOf 17 = .ok (.imul, 1) := dk_104 (dk_at dksX0_rootOf_0 17 rfl rfl)
theorem dX0_rootOf_18 : decode cX0_rootOf 18 = .ok (.iload_n 0, 1) := dk_26 (dk_at dksX0_rootOf_0 18 rfl rfl)
theorem dX0_rootOf_19 : decode cX0_rootOf 19 = .ok (.if_icmp .ne 7, 3) := dk_160 0 7 (dk_at dksX0_rootOf_0 19 rfl rfl)
theorem dX0_rootOf_22 : decode cX0_rootOf 22 = .ok (.iload_n 1, 1) := dk_27 (dk_at dksX0_rootOf_0 22 rfl rfl)
theorem dX0_rootOf_23 : decode cX0_rootOf 23 = .ok (.goto 5, 3) := dk_167 0 5 (dk_at dksX0_rootOf_1 0 rfl rfl)
theorem dX0_rootOf_26 : decode cX0_rootOf 26 = .ok (.ldc 49, 2) := dk_18 49 (dk_at dksX0_rootOf_1 3 rfl rfl)
theorem dX0_rootOf_28 : decode cX0_rootOf 28 = .ok (.ireturn, 1) := dk_172 (dk_at dksX0_rootOf_1 5 rfl rfl)
abbrev cX0_noughts : ByteArray := prog_1_method_32_code
def yX0_noughts : MethodName := ⟨RX0, "noughts", "(I)I"⟩
def dkwX0_noughts_0 : List UInt8 := [42, 27, 182, 0, 150, 153, 0, 11, 42, 27, 182, 1, 0, 167, 0, 5, 18, 154, 172]
abbrev dktX0_noughts_0 : List UInt8 := dkwX0_noughts_0 ++ []
theorem dksX0_noughts_0 : cX0_noughts.data.toList.drop 0 = dktX0_noughts_0 := by decide +kernel
theorem dX0_noughts_0 : decode cX0_noughts 0 = .ok (.aload_n 0, 1) := dk_42 (dk_at dksX0_noughts_0 0 rfl rfl)
theorem dX0_noughts_1 : decode cX0_noughts 1 = .ok (.iload_n 1, 1) := dk_27 (dk_at dksX0_noughts_0 1 rfl rfl)
theorem dX0_noughts_2 : decode cX0_noughts 2 = .ok (.invokevirtual 150, 3) := dk_182 0 150 (dk_at dksX0_noughts_0 2 rfl rfl)
theorem dX0_noughts_5 : decode cX0_noughts 5 = .ok (.ifCond .eq 11, 3) := dk_153 0 11 (dk_at dksX0_noughts_0 5 rfl rfl)
theorem dX0_noughts_8 : decode cX0_noughts 8 = .ok (.aload_n 0, 1) := dk_42 (dk_at dksX0_noughts_0 8 rfl rfl)
theorem dX0_noughts_9 : decode cX0_noughts 9 = .ok (.iload_n 1, 1) := dk_27 (dk_at dksX0_noughts_0 9 rfl rfl)
theorem dX0_noughts_10 : decode cX0_noughts 10 = .ok (.invokevirtual 256, 3) := dk_182 1 0 (dk_at dksX0_noughts_0 10 rfl rfl)
theorem dX0_noughts_13 : decode cX0_noughts 13 = .ok (.goto 5, 3) := dk_167 0 5 (dk_at dksX0_noughts_0 13 rfl rfl)
theorem dX0_noughts_16 : decode cX0_noughts 16 = .ok (.ldc 154, 2) := dk_18 154 (dk_at dksX0_noughts_0 16 rfl rfl)
theorem dX0_noughts_18 : decode cX0_noughts 18 = .ok (.ireturn, 1) := dk_172 (dk_at dksX0_noughts_0 18 rfl rfl)
abbrev cX0_noughtsOf : ByteArray := prog_1_method_31_code
def yX0_noughtsOf : MethodName := ⟨RX0, "noughtsOf", "(I)I"⟩
def dkwX0_noughtsOf_1 : List UInt8 := [154, 0, 9, 4, 29, 120, 167, 0, 4, 3, 128, 61, 132, 3, 1, 167, 255, 222, 28, 172]
abbrev dktX0_noughtsOf_1 : List UInt8 := dkwX0_noughtsOf_1 ++ []
def dkwX0_noughtsOf_0 : List UInt8 := [3, 61, 3, 62, 29, 16, 24, 162, 0, 34, 28, 42, 27, 182, 0, 67, 42, 29, 182, 0, 186, 9, 148]
abbrev dktX0_noughtsOf_0 : List UInt8 := dkwX0_noughtsOf_0 ++ dktX0_noughtsOf_1
theorem dksX0_noughtsOf_0 : cX0_noughtsOf.data.toList.drop 0 = dktX0_noughtsOf_0 := by decide +kernel
theorem dksX0_noughtsOf_1 : cX0_noughtsOf.data.toList.drop 23 = dktX0_noughtsOf_1 := dk_seg dksX0_noughtsOf_0 23 rfl rfl
theorem dX0_noughtsOf_0 : decode cX0_noughtsOf 0 = .ok (.iconst 0, 1) := dk_3 (dk_at dksX0_noughtsOf_0 0 rfl rfl)
theorem dX0_noughtsOf_1 : decode cX0_noughtsOf 1 = .ok (.istore_n 2, 1) := dk_61 (dk_at dksX0_noughtsOf_0 1 rfl rfl)
theorem dX0_noughtsOf_2 : decode cX0_noughtsOf 2 = .ok (.iconst 0, 1) := dk_3 (dk_at dksX0_noughtsOf_0 2 rfl rfl)
theorem dX0_noughtsOf_3 : decode cX0_noughtsOf 3 = .ok (.istore_n 3, 1) := dk_62 (dk_at dksX0_noughtsOf_0 3 rfl rfl)
theorem dX0_noughtsOf_4 : decode cX0_noughtsOf 4 = .ok (.iload_n 3, 1) := dk_29 (dk_at dksX0_noughtsOf_0 4 rfl rfl)
theorem dX0_noughtsOf_5 : decode cX0_noughtsOf 5 = .ok (.bipush 24, 2) := dk_16 24 (dk_at dksX0_noughtsOf_0 5 rfl rfl)
theorem dX0_noughtsOf_7 : decode cX0_noughtsOf 7 = .ok (.if_icmp .ge 34, 3) := dk_162 0 34 (dk_at dksX0_noughtsOf_0 7 rfl rfl)
theorem dX0_noughtsOf_10 : decode cX0_noughtsOf 10 = .ok (.iload_n 2, 1) := dk_28 (dk_at dksX0_noughtsOf_0 10 rfl rfl)
theorem dX0_noughtsOf_11 : decode cX0_noughtsOf 11 = .ok (.aload_n 0, 1) := dk_42 (dk_at dksX0_noughtsOf_0 11 rfl rfl)
theorem dX0_noughtsOf_12 : decode cX0_noughtsOf 12 = .ok (.iload_n 1, 1) := dk_27 (dk_at dksX0_noughtsOf_0 12 rfl rfl)
theorem dX0_noughtsOf_13 : decode cX0_noughtsOf 13 = .ok (.invokevirtual 67, 3) := dk_182 0 67 (dk_at dksX0_noughtsOf_0 13 rfl rfl)
theorem dX0_noughtsOf_16 : decode cX0_noughtsOf 16 = .ok (.aload_n 0, 1) := dk_42 (dk_at dksX0_noughtsOf_0 16 rfl rfl)
theorem dX0_noughtsOf_17 : decode cX0_noughtsOf 17 = .ok (.iload_n 3, 1) := dk_29 (dk_at dksX0_noughtsOf_0 17 rfl rfl)
theorem dX0_noughtsOf_18 : decode cX0_noughtsOf 18 = .ok (.invokevirtual 186, 3) := dk_182 0 186 (dk_at dksX0_noughtsOf_0 18 rfl rfl)
theorem dX0_noughtsOf_21 : decode cX0_noughtsOf 21 = .ok (.lconst 0, 1) := dk_9 (dk_at dksX0_noughtsOf_0 21 rfl rfl)
theorem dX0_noughtsOf_22 : decode cX0_noughtsOf 22 = .ok (.lcmp, 1) := dk_148 (dk_at dksX0_noughtsOf_0 22 rfl rfl)
theorem dX0_noughtsOf_23 : decode cX0_noughtsOf 23 = .ok (.ifCond .ne 9, 3) := dk_154 0 9 (dk_at dksX0_noughtsOf_1 0 rfl rfl)
theorem dX0_noughtsOf_26 : decode cX0_noughtsOf 26 = .ok (.iconst 1, 1) := dk_4 (dk_at dksX0_noughtsOf_1 3 rfl rfl)
theorem dX0_noughtsOf_27 : decode cX0_noughtsOf 27 = .ok (.iload_n 3, 1) := dk_29 (dk_at dksX0_noughtsOf_1 4 rfl rfl)
theorem dX0_noughtsOf_28 : decode cX0_noughtsOf 28 = .ok (.ishl, 1) := dk_120 (dk_at dksX0_noughtsOf_1 5 rfl rfl)
theorem dX0_noughtsOf_29 : decode cX0_noughtsOf 29 = .ok (.goto 4, 3) := dk_167 0 4 (dk_at dksX0_noughtsOf_1 6 rfl rfl)
theorem dX0_noughtsOf_32 : decode cX0_noughtsOf 32 = .ok (.iconst 0, 1) := dk_3 (dk_at dksX0_noughtsOf_1 9 rfl rfl)
theorem dX0_noughtsOf_33 : decode cX0_noughtsOf 33 = .ok (.ior, 1) := dk_128 (dk_at dksX0_noughtsOf_1 10 rfl rfl)
theorem dX0_noughtsOf_34 : decode cX0_noughtsOf 34 = .ok (.istore_n 2, 1) := dk_61 (dk_at dksX0_noughtsOf_1 11 rfl rfl)
theorem dX0_noughtsOf_35 : decode cX0_noughtsOf 35 = .ok (.iinc 3 1, 3) := dk_132 3 1 (dk_at dksX0_noughtsOf_1 12 rfl rfl)
theorem dX0_noughtsOf_38 : decode cX0_noughtsOf 38 = .ok (.goto (-34), 3) := dk_167 255 222 (dk_at dksX0_noughtsOf_1 15 rfl rfl)
theorem dX0_noughtsOf_41 : decode cX0_noughtsOf 41 = .ok (.iload_n 2, 1) := dk_28 (dk_at dksX0_noughtsOf_1 18 rfl rfl)
theorem dX0_noughtsOf_42 : decode cX0_noughtsOf 42 = .ok (.ireturn, 1) := dk_172 (dk_at dksX0_noughtsOf_1 19 rfl rfl)
abbrev cX0_ends : ByteArray := prog_1_method_33_code
def yX0_ends : MethodName := ⟨RX0, "ends", "(I)I"⟩
def dkwX0_ends_2 : List UInt8 := [167, 0, 4, 28, 172]
abbrev dktX0_ends_2 : List UInt8 := dkwX0_ends_2 ++ []
def dkwX0_ends_1 : List UInt8 := [182, 0, 193, 182, 0, 207, 158, 0, 9, 132, 2, 1, 167, 255, 235, 28, 16, 10, 164, 0, 8, 18, 49]
abbrev dktX0_ends_1 : List UInt8 := dkwX0_ends_1 ++ dktX0_ends_2
def dkwX0_ends_0 : List UInt8 := [42, 27, 182, 0, 150, 154, 0, 6, 18, 154, 172, 5, 61, 28, 16, 10, 163, 0, 21, 42, 27, 28]
abbrev dktX0_ends_0 : List UInt8 := dkwX0_ends_0 ++ dktX0_ends_1
theorem dksX0_ends_0 : cX0_ends.data.toList.drop 0 = dktX0_ends_0 := by decide +kernel
theorem dksX0_ends_1 : cX0_ends.data.toList.drop 22 = dktX0_ends_1 := dk_seg dksX0_ends_0 22 rfl rfl
theorem dksX0_ends_2 : cX0_ends.data.toList.drop 45 = dktX0_ends_2 := dk_seg dksX0_ends_1 23 rfl rfl
theorem dX0_ends_0 : decode cX0_ends 0 = .ok (.aload_n 0, 1) := dk_42 (dk_at dksX0_ends_0 0 rfl rfl)
theorem dX0_ends_1 : decode cX0_ends 1 = .ok (.iload_n 1, 1) := dk_27 (dk_at dksX0_ends_0 1 rfl rfl)
theorem dX0_ends_2 : decode cX0_ends 2 = .ok (.invokevirtual 150, 3) := dk_182 0 150 (dk_at dksX0_ends_0 2 rfl rfl)
theorem dX0_ends_5 : decode cX0_ends 5 = .ok (.ifCond .ne 6, 3) := dk_154 0 6 (dk_at dksX0_ends_0 5 rfl rfl)
theorem dX0_ends_8 : decode cX0_ends 8 = .ok (.ldc 154, 2) := dk_18 154 (dk_at dksX0_ends_0 8 rfl rfl)
theorem dX0_ends_10 : decode cX0_ends 10 = .ok (.ireturn, 1) := dk_172 (dk_at dksX0_ends_0 10 rfl rfl)
theorem dX0_ends_11 : decode cX0_ends 11 = .ok (.iconst 2, 1) := dk_5 (dk_at dksX0_ends_0 11 rfl rfl)
theorem dX0_ends_12 : decode cX0_ends 12 = .ok (.istore_n 2, 1) := dk_61 (dk_at dksX0_ends_0 12 rfl rfl)
theorem dX0_ends_13 : decode cX0_ends 13 = .ok (.iload_n 2, 1) := dk_28 (dk_at dksX0_ends_0 13 rfl rfl)
theorem dX0_ends_14 : decode cX0_ends 14 = .ok (.bipush 10, 2) := dk_16 10 (dk_at dksX0_ends_0 14 rfl rfl)
theorem dX0_ends_16 : decode cX0_ends 16 = .ok (.if_icmp .gt 21, 3) := dk_163 0 21 (dk_at dksX0_ends_0 16 rfl rfl)
theorem dX0_ends_19 : decode cX0_ends 19 = .ok (.aload_n 0, 1) := dk_42 (dk_at dksX0_ends_0 19 rfl rfl)
theorem dX0_ends_20 : decode cX0_ends 20 = .ok (.iload_n 1, 1) := dk_27 (dk_at dksX0_ends_0 20 rfl rfl)
theorem dX0_ends_21 : decode cX0_ends 21 = .ok (.iload_n 2, 1) := dk_28 (dk_at dksX0_ends_0 21 rfl rfl)
theorem dX0_ends_22 : decode cX0_ends 22 = .ok (.invokevirtual 193, 3) := dk_182 0 193 (dk_at dksX0_ends_1 0 rfl rfl)
theorem dX0_ends_25 : decode cX0_ends 25 = .ok (.invokevirtual 207, 3) := dk_182 0 207 (dk_at dksX0_ends_1 3 rfl rfl)
theorem dX0_ends_28 : decode cX0_ends 28 = .ok (.ifCond .le 9, 3) := dk_158 0 9 (dk_at dksX0_ends_1 6 rfl rfl)
theorem dX0_ends_31 : decode cX0_ends 31 = .ok (.iinc 2 1, 3) := dk_132 2 1 (dk_at dksX0_ends_1 9 rfl rfl)
theorem dX0_ends_34 : decode cX0_ends 34 = .ok (.goto (-21), 3) := dk_167 255 235 (dk_at dksX0_ends_1 12 rfl rfl)
theorem dX0_ends_37 : decode cX0_ends 37 = .ok (.iload_n 2, 1) := dk_28 (dk_at dksX0_ends_1 15 rfl rfl)
theorem dX0_ends_38 : decode cX0_ends 38 = .ok (.bipush 10, 2) := dk_16 10 (dk_at dksX0_ends_1 16 rfl rfl)
theorem dX0_ends_40 : decode cX0_ends 40 = .ok (.if_icmp .le 8, 3) := dk_164 0 8 (dk_at dksX0_ends_1 18 rfl rfl)
theorem dX0_ends_43 : decode cX0_ends 43 = .ok (.ldc 49, 2) := dk_18 49 (dk_at dksX0_ends_1 21 rfl rfl)
theorem dX0_ends_45 : decode cX0_ends 45 = .ok (.goto 4, 3) := dk_167 0 4 (dk_at dksX0_ends_2 0 rfl rfl)
theorem dX0_ends_48 : decode cX0_ends 48 = .ok (.iload_n 2, 1) := dk_28 (dk_at dksX0_ends_2 3 rfl rfl)
theorem dX0_ends_49 : decode cX0_ends 49 = .ok (.ireturn, 1) := dk_172 (dk_at dksX0_ends_2 4 rfl rfl)
abbrev cX0_open : ByteArray := prog_1_method_36_code
def yX0_open : MethodName := ⟨RX0, "open", "(II)I"⟩
def dkwX0_open_1 : List UInt8 := [182, 1, 7, 167, 0, 5, 18, 104, 172]
abbrev dktX0_open_1 : List UInt8 := dkwX0_open_1 ++ []
def dkwX0_open_0 : List UInt8 := [42, 27, 182, 0, 150, 154, 0, 6, 18, 154, 172, 28, 3, 4, 184, 0, 100, 153, 0, 12, 42, 27, 28]
abbrev dktX0_open_0 : List UInt8 := dkwX0_open_0 ++ dktX0_open_1
theorem dksX0_open_0 : cX0_open.data.toList.drop 0 = dktX0_open_0 := by decide +kernel
theorem dksX0_open_1 : cX0_open.data.toList.drop 23 = dktX0_open_1 := dk_seg dksX0_open_0 23 rfl rfl
theorem dX0_open_0 : decode cX0_open 0 = .ok (.aload_n 0, 1) := dk_42 (dk_at dksX0_open_0 0 rfl rfl)
theorem dX0_open_1 : decode cX0_open 1 = .ok (.iload_n 1, 1) := dk_27 (dk_at dksX0_open_0 1 rfl rfl)
theorem dX0_open_2 : decode cX0_open 2 = .ok (.invokevirtual 150, 3) := dk_182 0 150 (dk_at dksX0_open_0 2 rfl rfl)
theorem dX0_open_5 : decode cX0_open 5 = .ok (.ifCond .ne 6, 3) := dk_154 0 6 (dk_at dksX0_open_0 5 rfl rfl)
theorem dX0_open_8 : decode cX0_open 8 = .ok (.ldc 154, 2) := dk_18 154 (dk_at dksX0_open_0 8 rfl rfl)
theorem dX0_open_10 : decode cX0_open 10 = .ok (.ireturn, 1) := dk_172 (dk_at dksX0_open_0 10 rfl rfl)
theorem dX0_open_11 : decode cX0_open 11 = .ok (.iload_n 2, 1) := dk_28 (dk_at dksX0_open_0 11 rfl rfl)
theorem dX0_open_12 : decode cX0_open 12 = .ok (.iconst 0, 1) := dk_3 (dk_at dksX0_open_0 12 rfl rfl)
theorem dX0_open_13 : decode cX0_open 13 = .ok (.iconst 1, 1) := dk_4 (dk_at dksX0_open_0 13 rfl rfl)
theorem dX0_open_14 : decode cX0_open 14 = .ok (.invokestatic 100, 3) := dk_184 0 100 (dk_at dksX0_open_0 14 rfl rfl)
theorem dX0_open_17 : decode cX0_open 17 = .ok (.ifCond .eq 12, 3) := dk_153 0 12 (dk_at dksX0_open_0 17 rfl rfl)
theorem dX0_open_20 : decode cX0_open 20 = .ok (.aload_n 0, 1) := dk_42 (dk_at dksX0_open_0 20 rfl rfl)
theorem dX0_open_21 : decode cX0_open 21 = .ok (.iload_n 1, 1) := dk_27 (dk_at dksX0_open_0 21 rfl rfl)
theorem dX0_open_22 : decode cX0_open 22 = .ok (.iload_n 2, 1) := dk_28 (dk_at dksX0_open_0 22 rfl rfl)
theorem dX0_open_23 : decode cX0_open 23 = .ok (.invokevirtual 263, 3) := dk_182 1 7 (dk_at dksX0_open_1 0 rfl rfl)
theorem dX0_open_26 : decode cX0_open 26 = .ok (.goto 5, 3) := dk_167 0 5 (dk_at dksX0_open_1 3 rfl rfl)
theorem dX0_open_29 : decode cX0_open 29 = .ok (.ldc 104, 2) := dk_18 104 (dk_at dksX0_open_1 6 rfl rfl)
theorem dX0_open_31 : decode cX0_open 31 = .ok (.ireturn, 1) := dk_172 (dk_at dksX0_open_1 8 rfl rfl)
abbrev cX0_openTold : ByteArray := prog_1_method_35_code
def yX0_openTold : MethodName := ⟨RX0, "openTold", "(II)I"⟩
def dkwX0_openTold_2 : List UInt8 := [167, 0, 5, 21, 4, 54, 4, 132, 5, 1, 167, 255, 209, 28, 154, 0, 7, 29, 167, 0, 5, 21, 4, 172]
abbrev dktX0_openTold_2 : List UInt8 := dkwX0_openTold_2 ++ []
def dkwX0_openTold_1 : List UInt8 := [54, 6, 29, 21, 6, 153, 0, 7, 4, 167, 0, 4, 3, 96, 62, 21, 6, 153, 0, 8, 21, 5]
abbrev dktX0_openTold_1 : List UInt8 := dkwX0_openTold_1 ++ dktX0_openTold_2
def dkwX0_openTold_0 : List UInt8 := [3, 62, 18, 49, 54, 4, 3, 54, 5, 21, 5, 17, 3, 231, 163, 0, 45, 42, 27, 21, 5, 182, 1, 3]
abbrev dktX0_openTold_0 : List UInt8 := dkwX0_openTold_0 ++ dktX0_openTold_1
theorem dksX0_openTold_0 : cX0_openTold.data.toList.drop 0 = dktX0_openTold_0 := by decide +kernel
theorem dksX0_openTold_1 : cX0_openTold.data.toList.drop 24 = dktX0_openTold_1 := dk_seg dksX0_openTold_0 24 rfl rfl
theorem dksX0_openTold_2 : cX0_openTold.data.toList.drop 46 = dktX0_openTold_2 := dk_seg dksX0_openTold_1 22 rfl rfl
theorem dX0_openTold_0 : decode cX0_openTold 0 = .ok (.iconst 0, 1) := dk_3 (dk_at dksX0_openTold_0 0 rfl rfl)
theorem dX0_openTold_1 : decode cX0_openTold 1 = .ok (.istore_n 3, 1) := dk_62 (dk_at dksX0_openTold_0 1 rfl rfl)
theorem dX0_openTold_2 : decode cX0_openTold 2 = .ok (.ldc 49, 2) := dk_18 49 (dk_at dksX0_openTold_0 2 rfl rfl)
theorem dX0_openTold_4 : decode cX0_openTold 4 = .ok (.istore 4, 2) := dk_54 4 (dk_at dksX0_openTold_0 4 rfl rfl)
theorem dX0_openTold_6 : decode cX0_openTold 6 = .ok (.iconst 0, 1) := dk_3 (dk_at dksX0_openTold_0 6 rfl rfl)
theorem dX0_openTold_7 : decode cX0_openTold 7 = .ok (.istore 5, 2) := dk_54 5 (dk_at dksX0_openTold_0 7 rfl rfl)
theorem dX0_openTold_9 : decode cX0_openTold 9 = .ok (.iload 5, 2) := dk_21 5 (dk_at dksX0_openTold_0 9 rfl rfl)
theorem dX0_openTold_11 : decode cX0_openTold 11 = .ok (.sipush 999, 3) := dk_17 3 231 (dk_at dksX0_openTold_0 11 rfl rfl)
theorem dX0_openTold_14 : decode cX0_openTold 14 = .ok (.if_icmp .gt 45, 3) := dk_163 0 45 (dk_at dksX0_openTold_0 14 rfl rfl)
theorem dX0_openTold_17 : decode cX0_openTold 17 = .ok (.aload_n 0, 1) := dk_42 (dk_at dksX0_openTold_0 17 rfl rfl)
theorem dX0_openTold_18 : decode cX0_openTold 18 = .ok (.iload_n 1, 1) := dk_27 (dk_at dksX0_openTold_0 18 rfl rfl)
theorem dX0_openTold_19 : decode cX0_openTold 19 = .ok (.iload 5, 2) := dk_21 5 (dk_at dksX0_openTold_0 19 rfl rfl)
theorem dX0_openTold_21 : decode cX0_openTold 21 = .ok (.invokevirtual 259, 3) := dk_182 1 3 (dk_at dksX0_openTold_0 21 rfl rfl)
theorem dX0_openTold_24 : decode cX0_openTold 24 = .ok (.istore 6, 2) := dk_54 6 (dk_at dksX0_openTold_1 0 rfl rfl)
theorem dX0_openTold_26 : decode cX0_openTold 26 = .ok (.iload_n 3, 1) := dk_29 (dk_at dksX0_openTold_1 2 rfl rfl)
theorem dX0_openTold_27 : decode cX0_openTold 27 = .ok (.iload 6, 2) := dk_21 6 (dk_at dksX0_openTold_1 3 rfl rfl)
theorem dX0_openTold_29 : decode cX0_openTold 29 = .ok (.ifCond .eq 7, 3) := dk_153 0 7 (dk_at dksX0_openTold_1 5 rfl rfl)
theorem dX0_openTold_32 : decode cX0_openTold 32 = .ok (.iconst 1, 1) := dk_4 (dk_at dksX0_openTold_1 8 rfl rfl)
theorem dX0_openTold_33 : decode cX0_openTold 33 = .ok (.goto 4, 3) := dk_167 0 4 (dk_at dksX0_openTold_1 9 rfl rfl)
theorem dX0_openTold_36 : decode cX0_openTold 36 = .ok (.iconst 0, 1) := dk_3 (dk_at dksX0_openTold_1 12 rfl rfl)
theorem dX0_openTold_37 : decode cX0_openTold 37 = .ok (.iadd, 1) := dk_96 (dk_at dksX0_openTold_1 13 rfl rfl)
theorem dX0_openTold_38 : decode cX0_openTold 38 = .ok (.istore_n 3, 1) := dk_62 (dk_at dksX0_openTold_1 14 rfl rfl)
theorem dX0_openTold_39 : decode cX0_openTold 39 = .ok (.iload 6, 2) := dk_21 6 (dk_at dksX0_openTold_1 15 rfl rfl)
theorem dX0_openTold_41 : decode cX0_openTold 41 = .ok (.ifCond .eq 8, 3) := dk_153 0 8 (dk_at dksX0_openTold_1 17 rfl rfl)
theorem dX0_openTold_44 : decode cX0_openTold 44 = .ok (.iload 5, 2) := dk_21 5 (dk_at dksX0_openTold_1 20 rfl rfl)
theorem dX0_openTold_46 : decode cX0_openTold 46 = .ok (.goto 5, 3) := dk_167 0 5 (dk_at dksX0_openTold_2 0 rfl rfl)
theorem dX0_openTold_49 : decode cX0_openTold 49 = .ok (.iload 4, 2) := dk_21 4 (dk_at dksX0_openTold_2 3 rfl rfl)
theorem dX0_openTold_51 : decode cX0_openTold 51 = .ok (.istore 4, 2) := dk_54 4 (dk_at dksX0_openTold_2 5 rfl rfl)
theorem dX0_openTold_53 : decode cX0_openTold 53 = .ok (.iinc 5 1, 3) := dk_132 5 1 (dk_at dksX0_openTold_2 7 rfl rfl)
theorem dX0_openTold_56 : decode cX0_openTold 56 = .ok (.goto (-47), 3) := dk_167 255 209 (dk_at dksX0_openTold_2 10 rfl rfl)
theorem dX0_openTold_59 : decode cX0_openTold 59 = .ok (.iload_n 2, 1) := dk_28 (dk_at dksX0_openTold_2 13 rfl rfl)
theorem dX0_openTold_60 : decode cX0_openTold 60 = .ok (.ifCond .ne 7, 3) := dk_154 0 7 (dk_at dksX0_openTold_2 14 rfl rfl)
theorem dX0_openTold_63 : decode cX0_openTold 63 = .ok (.iload_n 3, 1) := dk_29 (dk_at dksX0_openTold_2 17 rfl rfl)
theorem dX0_openTold_64 : decode cX0_openTold 64 = .ok (.goto 5, 3) := dk_167 0 5 (dk_at dksX0_openTold_2 18 rfl rfl)
theorem dX0_openTold_67 : decode cX0_openTold 67 = .ok (.iload 4, 2) := dk_21 4 (dk_at dksX0_openTold_2 21 rfl rfl)
theorem dX0_openTold_69 : decode cX0_openTold 69 = .ok (.ireturn, 1) := dk_172 (dk_at dksX0_openTold_2 23 rfl rfl)
abbrev cX0_isOpen : ByteArray := prog_1_method_34_code
def yX0_isOpen : MethodName := ⟨RX0, "isOpen", "(II)Z"⟩
def dkwX0_isOpen_1 : List UInt8 := [133, 182, 0, 197, 154, 0, 7, 4, 167, 0, 4, 3, 62, 132, 4, 255, 167, 255, 222, 29, 172]
abbrev dktX0_isOpen_1 : List UInt8 := dkwX0_isOpen_1 ++ []
def dkwX0_isOpen_0 : List UInt8 := [4, 62, 16, 10, 54, 4, 21, 4, 5, 161, 0, 34, 29, 153, 0, 30, 42, 27, 21, 4, 182, 0, 193, 28]
abbrev dktX0_isOpen_0 : List UInt8 := dkwX0_isOpen_0 ++ dktX0_isOpen_1
theorem dksX0_isOpen_0 : cX0_isOpen.data.toList.drop 0 = dktX0_isOpen_0 := by decide +kernel
theorem dksX0_isOpen_1 : cX0_isOpen.data.toList.drop 24 = dktX0_isOpen_1 := dk_seg dksX0_isOpen_0 24 rfl rfl
theorem dX0_isOpen_0 : decode cX0_isOpen 0 = .ok (.iconst 1, 1) := dk_4 (dk_at dksX0_isOpen_0 0 rfl rfl)
theorem dX0_isOpen_1 : decode cX0_isOpen 1 = .ok (.istore_n 3, 1) := dk_62 (dk_at dksX0_isOpen_0 1 rfl rfl)
theorem dX0_isOpen_2 : decode cX0_isOpen 2 = .ok (.bipush 10, 2) := dk_16 10 (dk_at dksX0_isOpen_0 2 rfl rfl)
theorem dX0_isOpen_4 : decode cX0_isOpen 4 = .ok (.istore 4, 2) := dk_54 4 (dk_at dksX0_isOpen_0 4 rfl rfl)
theorem dX0_isOpen_6 : decode cX0_isOpen 6 = .ok (.iload 4, 2) := dk_21 4 (dk_at dksX0_isOpen_0 6 rfl rfl)
theorem dX0_isOpen_8 : decode cX0_isOpen 8 = .ok (.iconst 2, 1) := dk_5 (dk_at dksX0_isOpen_0 8 rfl rfl)
theorem dX0_isOpen_9 : decode cX0_isOpen 9 = .ok (.if_icmp .lt 34, 3) := dk_161 0 34 (dk_at dksX0_isOpen_0 9 rfl rfl)
theorem dX0_isOpen_12 : decode cX0_isOpen 12 = .ok (.iload_n 3, 1) := dk_29 (dk_at dksX0_isOpen_0 12 rfl rfl)
theorem dX0_isOpen_13 : decode cX0_isOpen 13 = .ok (.ifCond .eq 30, 3) := dk_153 0 30 (dk_at dksX0_isOpen_0 13 rfl rfl)
theorem dX0_isOpen_16 : decode cX0_isOpen 16 = .ok (.aload_n 0, 1) := dk_42 (dk_at dksX0_isOpen_0 16 rfl rfl)
theorem dX0_isOpen_17 : decode cX0_isOpen 17 = .ok (.iload_n 1, 1) := dk_27 (dk_at dksX0_isOpen_0 17 rfl rfl)
theorem dX0_isOpen_18 : decode cX0_isOpen 18 = .ok (.iload 4, 2) := dk_21 4 (dk_at dksX0_isOpen_0 18 rfl rfl)
theorem dX0_isOpen_20 : decode cX0_isOpen 20 = .ok (.invokevirtual 193, 3) := dk_182 0 193 (dk_at dksX0_isOpen_0 20 rfl rfl)
theorem dX0_isOpen_23 : decode cX0_isOpen 23 = .ok (.iload_n 2, 1) := dk_28 (dk_at dksX0_isOpen_0 23 rfl rfl)
theorem dX0_isOpen_24 : decode cX0_isOpen 24 = .ok (.i2l, 1) := dk_133 (dk_at dksX0_isOpen_1 0 rfl rfl)
theorem dX0_isOpen_25 : decode cX0_isOpen 25 = .ok (.invokevirtual 197, 3) := dk_182 0 197 (dk_at dksX0_isOpen_1 1 rfl rfl)
theorem dX0_isOpen_28 : decode cX0_isOpen 28 = .ok (.ifCond .ne 7, 3) := dk_154 0 7 (dk_at dksX0_isOpen_1 4 rfl rfl)
theorem dX0_isOpen_31 : decode cX0_isOpen 31 = .ok (.iconst 1, 1) := dk_4 (dk_at dksX0_isOpen_1 7 rfl rfl)
theorem dX0_isOpen_32 : decode cX0_isOpen 32 = .ok (.goto 4, 3) := dk_167 0 4 (dk_at dksX0_isOpen_1 8 rfl rfl)
theorem dX0_isOpen_35 : decode cX0_isOpen 35 = .ok (.iconst 0, 1) := dk_3 (dk_at dksX0_isOpen_1 11 rfl rfl)
theorem dX0_isOpen_36 : decode cX0_isOpen 36 = .ok (.istore_n 3, 1) := dk_62 (dk_at dksX0_isOpen_1 12 rfl rfl)
theorem dX0_isOpen_37 : decode cX0_isOpen 37 = .ok (.iinc 4 (-1), 3) := dk_132 4 255 (dk_at dksX0_isOpen_1 13 rfl rfl)
theorem dX0_isOpen_40 : decode cX0_isOpen 40 = .ok (.goto (-34), 3) := dk_167 255 222 (dk_at dksX0_isOpen_1 16 rfl rfl)
theorem dX0_isOpen_43 : decode cX0_isOpen 43 = .ok (.iload_n 3, 1) := dk_29 (dk_at dksX0_isOpen_1 19 rfl rfl)
theorem dX0_isOpen_44 : decode cX0_isOpen 44 = .ok (.ireturn, 1) := dk_172 (dk_at dksX0_isOpen_1 20 rfl rfl)
abbrev cX0_meets : ByteArray := prog_1_method_38_code
def yX0_meets : MethodName := ⟨RX0, "meets", "(III)I"⟩
def dkwX0_meets_1 : List UInt8 := [153, 0, 21, 42, 27, 29, 182, 0, 193, 42, 28, 29, 182, 0, 193, 184, 1, 19, 167, 0, 5, 18, 104, 172]
abbrev dktX0_meets_1 : List UInt8 := dkwX0_meets_1 ++ []
def dkwX0_meets_0 : List UInt8 := [42, 27, 182, 0, 150, 153, 0, 11, 42, 28, 182, 0, 150, 154, 0, 6, 18, 154, 172, 29, 184, 0, 190]
abbrev dktX0_meets_0 : List UInt8 := dkwX0_meets_0 ++ dktX0_meets_1
theorem dksX0_meets_0 : cX0_meets.data.toList.drop 0 = dktX0_meets_0 := by decide +kernel
theorem dksX0_meets_1 : cX0_meets.data.toList.drop 23 = dktX0_meets_1 := dk_seg dksX0_meets_0 23 rfl rfl
theorem dX0_meets_0 : decode cX0_meets 0 = .ok (.aload_n 0, 1) := dk_42 (dk_at dksX0_meets_0 0 rfl rfl)
theorem dX0_meets_1 : decode cX0_meets 1 = .ok (.iload_n 1, 1) := dk_27 (dk_at dksX0_meets_0 1 rfl rfl)
theorem dX0_meets_2 : decode cX0_meets 2 = .ok (.invokevirtual 150, 3) := dk_182 0 150 (dk_at dksX0_meets_0 2 rfl rfl)
theorem dX0_meets_5 : decode cX0_meets 5 = .ok (.ifCond .eq 11, 3) := dk_153 0 11 (dk_at dksX0_meets_0 5 rfl rfl)
theorem dX0_meets_8 : decode cX0_meets 8 = .ok (.aload_n 0, 1) := dk_42 (dk_at dksX0_meets_0 8 rfl rfl)
theorem dX0_meets_9 : decode cX0_meets 9 = .ok (.iload_n 2, 1) := dk_28 (dk_at dksX0_meets_0 9 rfl rfl)
theorem dX0_meets_10 : decode cX0_meets 10 = .ok (.invokevirtual 150, 3) := dk_182 0 150 (dk_at dksX0_meets_0 10 rfl rfl)
theorem dX0_meets_13 : decode cX0_meets 13 = .ok (.ifCond .ne 6, 3) := dk_154 0 6 (dk_at dksX0_meets_0 13 rfl rfl)
theorem dX0_meets_16 : decode cX0_meets 16 = .ok (.ldc 154, 2) := dk_18 154 (dk_at dksX0_meets_0 16 rfl rfl)
theorem dX0_meets_18 : decode cX0_meets 18 = .ok (.ireturn, 1) := dk_172 (dk_at dksX0_meets_0 18 rfl rfl)
theorem dX0_meets_19 : decode cX0_meets 19 = .ok (.iload_n 3, 1) := dk_29 (dk_at dksX0_meets_0 19 rfl rfl)
theorem dX0_meets_20 : decode cX0_meets 20 = .ok (.invokestatic 190, 3) := dk_184 0 190 (dk_at dksX0_meets_0 20 rfl rfl)
theorem dX0_meets_23 : decode cX0_meets 23 = .ok (.ifCond .eq 21, 3) := dk_153 0 21 (dk_at dksX0_meets_1 0 rfl rfl)
theorem dX0_meets_26 : decode cX0_meets 26 = .ok (.aload_n 0, 1) := dk_42 (dk_at dksX0_meets_1 3 rfl rfl)
theorem dX0_meets_27 : decode cX0_meets 27 = .ok (.iload_n 1, 1) := dk_27 (dk_at dksX0_meets_1 4 rfl rfl)
theorem dX0_meets_28 : decode cX0_meets 28 = .ok (.iload_n 3, 1) := dk_29 (dk_at dksX0_meets_1 5 rfl rfl)
theorem dX0_meets_29 : decode cX0_meets 29 = .ok (.invokevirtual 193, 3) := dk_182 0 193 (dk_at dksX0_meets_1 6 rfl rfl)
theorem dX0_meets_32 : decode cX0_meets 32 = .ok (.aload_n 0, 1) := dk_42 (dk_at dksX0_meets_1 9 rfl rfl)
theorem dX0_meets_33 : decode cX0_meets 33 = .ok (.iload_n 2, 1) := dk_28 (dk_at dksX0_meets_1 10 rfl rfl)
theorem dX0_meets_34 : decode cX0_meets 34 = .ok (.iload_n 3, 1) := dk_29 (dk_at dksX0_meets_1 11 rfl rfl)
theorem dX0_meets_35 : decode cX0_meets 35 = .ok (.invokevirtual 193, 3) := dk_182 0 193 (dk_at dksX0_meets_1 12 rfl rfl)
theorem dX0_meets_38 : decode cX0_meets 38 = .ok (.invokestatic 275, 3) := dk_184 1 19 (dk_at dksX0_meets_1 15 rfl rfl)
theorem dX0_meets_41 : decode cX0_meets 41 = .ok (.goto 5, 3) := dk_167 0 5 (dk_at dksX0_meets_1 18 rfl rfl)
theorem dX0_meets_44 : decode cX0_meets 44 = .ok (.ldc 104, 2) := dk_18 104 (dk_at dksX0_meets_1 21 rfl rfl)
theorem dX0_meets_46 : decode cX0_meets 46 = .ok (.ireturn, 1) := dk_172 (dk_at dksX0_meets_1 23 rfl rfl)
abbrev cX0_meetsTold : ByteArray := prog_1_method_37_code
def yX0_meetsTold : MethodName := ⟨RX0, "meetsTold", "(LAheadRows$Wheel;LAheadRows$Wheel;)I"⟩
def dkwX0_meetsTold_2 : List UInt8 := [43, 29, 133, 182, 0, 197, 160, 0, 5, 29, 172, 132, 3, 1, 167, 255, 231, 18, 49, 172]
abbrev dktX0_meetsTold_2 : List UInt8 := dkwX0_meetsTold_2 ++ []
def dkwX0_meetsTold_1 : List UInt8 := [184, 1, 16, 108, 43, 180, 0, 201, 104, 96, 61, 3, 62, 29, 28, 162, 0, 26, 42, 29, 133, 182, 0, 197]
abbrev dktX0_meetsTold_1 : List UInt8 := dkwX0_meetsTold_1 ++ dktX0_meetsTold_2
def dkwX0_meetsTold_0 : List UInt8 := [42, 180, 0, 204, 43, 180, 0, 204, 184, 1, 11, 42, 180, 0, 201, 42, 180, 0, 201, 43, 180, 0, 201]
abbrev dktX0_meetsTold_0 : List UInt8 := dkwX0_meetsTold_0 ++ dktX0_meetsTold_1
theorem dksX0_meetsTold_0 : cX0_meetsTold.data.toList.drop 0 = dktX0_meetsTold_0 := by decide +kernel
theorem dksX0_meetsTold_1 : cX0_meetsTold.data.toList.drop 23 = dktX0_meetsTold_1 := dk_seg dksX0_meetsTold_0 23 rfl rfl
theorem dksX0_meetsTold_2 : cX0_meetsTold.data.toList.drop 47 = dktX0_meetsTold_2 := dk_seg dksX0_meetsTold_1 24 rfl rfl
theorem dX0_meetsTold_0 : decode cX0_meetsTold 0 = .ok (.aload_n 0, 1) := dk_42 (dk_at dksX0_meetsTold_0 0 rfl rfl)
theorem dX0_meetsTold_1 : decode cX0_meetsTold 1 = .ok (.getfield 204, 3) := dk_180 0 204 (dk_at dksX0_meetsTold_0 1 rfl rfl)
theorem dX0_meetsTold_4 : decode cX0_meetsTold 4 = .ok (.aload_n 1, 1) := dk_43 (dk_at dksX0_meetsTold_0 4 rfl rfl)
theorem dX0_meetsTold_5 : decode cX0_meetsTold 5 = .ok (.getfield 204, 3) := dk_180 0 204 (dk_at dksX0_meetsTold_0 5 rfl rfl)
theorem dX0_meetsTold_8 : decode cX0_meetsTold 8 = .ok (.invokestatic 267, 3) := dk_184 1 11 (dk_at dksX0_meetsTold_0 8 rfl rfl)
theorem dX0_meetsTold_11 : decode cX0_meetsTold 11 = .ok (.aload_n 0, 1) := dk_42 (dk_at dksX0_meetsTold_0 11 rfl rfl)
theorem dX0_meetsTold_12 : decode cX0_meetsTold 12 = .ok (.getfield 201, 3) := dk_180 0 201 (dk_at dksX0_meetsTold_0 12 rfl rfl)
theorem dX0_meetsTold_15 : decode cX0_meetsTold 15 = .ok (.aload_n 0, 1) := dk_42 (dk_at dksX0_meetsTold_0 15 rfl rfl)
theorem dX0_meetsTold_16 : decode cX0_meetsTold 16 = .ok (.getfield 201, 3) := dk_180 0 201 (dk_at dksX0_meetsTold_0 16 rfl rfl)
theorem dX0_meetsTold_19 : decode cX0_meetsTold 19 = .ok (.aload_n 1, 1) := dk_43 (dk_at dksX0_meetsTold_0 19 rfl rfl)
theorem dX0_meetsTold_20 : decode cX0_meetsTold 20 = .ok (.getfield 201, 3) := dk_180 0 201 (dk_at dksX0_meetsTold_0 20 rfl rfl)
theorem dX0_meetsTold_23 : decode cX0_meetsTold 23 = .ok (.invokestatic 272, 3) := dk_184 1 16 (dk_at dksX0_meetsTold_1 0 rfl rfl)
theorem dX0_meetsTold_26 : decode cX0_meetsTold 26 = .ok (.idiv, 1) := dk_108 (dk_at dksX0_meetsTold_1 3 rfl rfl)
theorem dX0_meetsTold_27 : decode cX0_meetsTold 27 = .ok (.aload_n 1, 1) := dk_43 (dk_at dksX0_meetsTold_1 4 rfl rfl)
theorem dX0_meetsTold_28 : decode cX0_meetsTold 28 = .ok (.getfield 201, 3) := dk_180 0 201 (dk_at dksX0_meetsTold_1 5 rfl rfl)
theorem dX0_meetsTold_31 : decode cX0_meetsTold 31 = .ok (.imul, 1) := dk_104 (dk_at dksX0_meetsTold_1 8 rfl rfl)
theorem dX0_meetsTold_32 : decode cX0_meetsTold 32 = .ok (.iadd, 1) := dk_96 (dk_at dksX0_meetsTold_1 9 rfl rfl)
theorem dX0_meetsTold_33 : decode cX0_meetsTold 33 = .ok (.istore_n 2, 1) := dk_61 (dk_at dksX0_meetsTold_1 10 rfl rfl)
theorem dX0_meetsTold_34 : decode cX0_meetsTold 34 = .ok (.iconst 0, 1) := dk_3 (dk_at dksX0_meetsTold_1 11 rfl rfl)
theorem dX0_meetsTold_35 : decode cX0_meetsTold 35 = .ok (.istore_n 3, 1) := dk_62 (dk_at dksX0_meetsTold_1 12 rfl rfl)
theorem dX0_meetsTold_36 : decode cX0_meetsTold 36 = .ok (.iload_n 3, 1) := dk_29 (dk_at dksX0_meetsTold_1 13 rfl rfl)
theorem dX0_meetsTold_37 : decode cX0_meetsTold 37 = .ok (.iload_n 2, 1) := dk_28 (dk_at dksX0_meetsTold_1 14 rfl rfl)
theorem dX0_meetsTold_38 : decode cX0_meetsTold 38 = .ok (.if_icmp .ge 26, 3) := dk_162 0 26 (dk_at dksX0_meetsTold_1 15 rfl rfl)
theorem dX0_meetsTold_41 : decode cX0_meetsTold 41 = .ok (.aload_n 0, 1) := dk_42 (dk_at dksX0_meetsTold_1 18 rfl rfl)
theorem dX0_meetsTold_42 : decode cX0_meetsTold 42 = .ok (.iload_n 3, 1) := dk_29 (dk_at dksX0_meetsTold_1 19 rfl rfl)
theorem dX0_meetsTold_43 : decode cX0_meetsTold 43 = .ok (.i2l, 1) := dk_133 (dk_at dksX0_meetsTold_1 20 rfl rfl)
theorem dX0_meetsTold_44 : decode cX0_meetsTold 44 = .ok (.invokevirtual 197, 3) := dk_182 0 197 (dk_at dksX0_meetsTold_1 21 rfl rfl)
theorem dX0_meetsTold_47 : decode cX0_meetsTold 47 = .ok (.aload_n 1, 1) := dk_43 (dk_at dksX0_meetsTold_2 0 rfl rfl)
theorem dX0_meetsTold_48 : decode cX0_meetsTold 48 = .ok (.iload_n 3, 1) := dk_29 (dk_at dksX0_meetsTold_2 1 rfl rfl)
theorem dX0_meetsTold_49 : decode cX0_meetsTold 49 = .ok (.i2l, 1) := dk_133 (dk_at dksX0_meetsTold_2 2 rfl rfl)
theorem dX0_meetsTold_50 : decode cX0_meetsTold 50 = .ok (.invokevirtual 197, 3) := dk_182 0 197 (dk_at dksX0_meetsTold_2 3 rfl rfl)
theorem dX0_meetsTold_53 : decode cX0_meetsTold 53 = .ok (.if_icmp .ne 5, 3) := dk_160 0 5 (dk_at dksX0_meetsTold_2 6 rfl rfl)
theorem dX0_meetsTold_56 : decode cX0_meetsTold 56 = .ok (.iload_n 3, 1) := dk_29 (dk_at dksX0_meetsTold_2 9 rfl rfl)
theorem dX0_meetsTold_57 : decode cX0_meetsTold 57 = .ok (.ireturn, 1) := dk_172 (dk_at dksX0_meetsTold_2 10 rfl rfl)
theorem dX0_meetsTold_58 : decode cX0_meetsTold 58 = .ok (.iinc 3 1, 3) := dk_132 3 1 (dk_at dksX0_meetsTold_2 11 rfl rfl)
theorem dX0_meetsTold_61 : decode cX0_meetsTold 61 = .ok (.goto (-25), 3) := dk_167 255 231 (dk_at dksX0_meetsTold_2 14 rfl rfl)
theorem dX0_meetsTold_64 : decode cX0_meetsTold 64 = .ok (.ldc 49, 2) := dk_18 49 (dk_at dksX0_meetsTold_2 17 rfl rfl)
theorem dX0_meetsTold_66 : decode cX0_meetsTold 66 = .ok (.ireturn, 1) := dk_172 (dk_at dksX0_meetsTold_2 19 rfl rfl)
abbrev cX0_told : ByteArray := prog_1_method_40_code
def yX0_told : MethodName := ⟨RX0, "told", "(IIII)I"⟩
def dkwX0_told_2 : List UInt8 := [182, 1, 26, 167, 0, 5, 18, 104, 172]
abbrev dktX0_told_2 : List UInt8 := dkwX0_told_2 ++ []
def dkwX0_told_1 : List UInt8 := [21, 4, 133, 184, 0, 87, 153, 0, 22, 42, 187, 0, 76, 89, 27, 28, 29, 21, 4, 183, 1, 23]
abbrev dktX0_told_1 : List UInt8 := dkwX0_told_1 ++ dktX0_told_2
def dkwX0_told_0 : List UInt8 := [27, 133, 184, 0, 80, 153, 0, 47, 28, 133, 184, 0, 80, 153, 0, 39, 29, 133, 184, 0, 87, 153, 0, 31]
abbrev dktX0_told_0 : List UInt8 := dkwX0_told_0 ++ dktX0_told_1
theorem dksX0_told_0 : cX0_told.data.toList.drop 0 = dktX0_told_0 := by decide +kernel
theorem dksX0_told_1 : cX0_told.data.toList.drop 24 = dktX0_told_1 := dk_seg dksX0_told_0 24 rfl rfl
theorem dksX0_told_2 : cX0_told.data.toList.drop 46 = dktX0_told_2 := dk_seg dksX0_told_1 22 rfl rfl
theorem dX0_told_0 : decode cX0_told 0 = .ok (.iload_n 1, 1) := dk_27 (dk_at dksX0_told_0 0 rfl rfl)
theorem dX0_told_1 : decode cX0_told 1 = .ok (.i2l, 1) := dk_133 (dk_at dksX0_told_0 1 rfl rfl)
theorem dX0_told_2 : decode cX0_told 2 = .ok (.invokestatic 80, 3) := dk_184 0 80 (dk_at dksX0_told_0 2 rfl rfl)
theorem dX0_told_5 : decode cX0_told 5 = .ok (.ifCond .eq 47, 3) := dk_153 0 47 (dk_at dksX0_told_0 5 rfl rfl)
theorem dX0_told_8 : decode cX0_told 8 = .ok (.iload_n 2, 1) := dk_28 (dk_at dksX0_told_0 8 rfl rfl)
theorem dX0_told_9 : decode cX0_told 9 = .ok (.i2l, 1) := dk_133 (dk_at dksX0_told_0 9 rfl rfl)
theorem dX0_told_10 : decode cX0_told 10 = .ok (.invokestatic 80, 3) := dk_184 0 80 (dk_at dksX0_told_0 10 rfl rfl)
theorem dX0_told_13 : decode cX0_told 13 = .ok (.ifCond .eq 39, 3) := dk_153 0 39 (dk_at dksX0_told_0 13 rfl rfl)
theorem dX0_told_16 : decode cX0_told 16 = .ok (.iload_n 3, 1) := dk_29 (dk_at dksX0_told_0 16 rfl rfl)
theorem dX0_told_17 : decode cX0_told 17 = .ok (.i2l, 1) := dk_133 (dk_at dksX0_told_0 17 rfl rfl)
theorem dX0_told_18 : decode cX0_told 18 = .ok (.invokestatic 87, 3) := dk_184 0 87 (dk_at dksX0_told_0 18 rfl rfl)
theorem dX0_told_21 : decode cX0_told 21 = .ok (.ifCond .eq 31, 3) := dk_153 0 31 (dk_at dksX0_told_0 21 rfl rfl)
theorem dX0_told_24 : decode cX0_told 24 = .ok (.iload 4, 2) := dk_21 4 (dk_at dksX0_told_1 0 rfl rfl)
theorem dX0_told_26 : decode cX0_told 26 = .ok (.i2l, 1) := dk_133 (dk_at dksX0_told_1 2 rfl rfl)
theorem dX0_told_27 : decode cX0_told 27 = .ok (.invokestatic 87, 3) := dk_184 0 87 (dk_at dksX0_told_1 3 rfl rfl)
theorem dX0_told_30 : decode cX0_told 30 = .ok (.ifCond .eq 22, 3) := dk_153 0 22 (dk_at dksX0_told_1 6 rfl rfl)
theorem dX0_told_33 : decode cX0_told 33 = .ok (.aload_n 0, 1) := dk_42 (dk_at dksX0_told_1 9 rfl rfl)
theorem dX0_told_34 : decode cX0_told 34 = .ok (.new 76, 3) := dk_187 0 76 (dk_at dksX0_told_1 10 rfl rfl)
theorem dX0_told_37 : decode cX0_told 37 = .ok (.dup, 1) := dk_89 (dk_at dksX0_told_1 13 rfl rfl)
theorem dX0_told_38 : decode cX0_told 38 = .ok (.iload_n 1, 1) := dk_27 (dk_at dksX0_told_1 14 rfl rfl)
theorem dX0_told_39 : decode cX0_told 39 = .ok (.iload_n 2, 1) := dk_28 (dk_at dksX0_told_1 15 rfl rfl)
theorem dX0_told_40 : decode cX0_told 40 = .ok (.iload_n 3, 1) := dk_29 (dk_at dksX0_told_1 16 rfl rfl)
theorem dX0_told_41 : decode cX0_told 41 = .ok (.iload 4, 2) := dk_21 4 (dk_at dksX0_told_1 17 rfl rfl)
theorem dX0_told_43 : decode cX0_told 43 = .ok (.invokespecial 279, 3) := dk_183 1 23 (dk_at dksX0_told_1 19 rfl rfl)
theorem dX0_told_46 : decode cX0_told 46 = .ok (.invokevirtual 282, 3) := dk_182 1 26 (dk_at dksX0_told_2 0 rfl rfl)
theorem dX0_told_49 : decode cX0_told 49 = .ok (.goto 5, 3) := dk_167 0 5 (dk_at dksX0_told_2 3 rfl rfl)
theorem dX0_told_52 : decode cX0_told 52 = .ok (.ldc 104, 2) := dk_18 104 (dk_at dksX0_told_2 6 rfl rfl)
theorem dX0_told_54 : decode cX0_told 54 = .ok (.ireturn, 1) := dk_172 (dk_at dksX0_told_2 8 rfl rfl)
abbrev cX0_isSmall : ByteArray := prog_1_method_2_code
def yX0_isSmall : MethodName := ⟨RX0, "isSmall", "(J)Z"⟩
def dkwX0_isSmall_0 : List UInt8 := [30, 20, 0, 3, 148, 155, 0, 15, 30, 20, 0, 5, 148, 157, 0, 7, 4, 167, 0, 4, 3, 172]
abbrev dktX0_isSmall_0 : List UInt8 := dkwX0_isSmall_0 ++ []
theorem dksX0_isSmall_0 : cX0_isSmall.data.toList.drop 0 = dktX0_isSmall_0 := by decide +kernel
theorem dX0_isSmall_0 : decode cX0_isSmall 0 = .ok (.lload_n 0, 1) := dk_30 (dk_at dksX0_isSmall_0 0 rfl rfl)
theorem dX0_isSmall_1 : decode cX0_isSmall 1 = .ok (.ldc2_w 3, 3) := dk_20 0 3 (dk_at dksX0_isSmall_0 1 rfl rfl)
theorem dX0_isSmall_4 : decode cX0_isSmall 4 = .ok (.lcmp, 1) := dk_148 (dk_at dksX0_isSmall_0 4 rfl rfl)
theorem dX0_isSmall_5 : decode cX0_isSmall 5 = .ok (.ifCond .lt 15, 3) := dk_155 0 15 (dk_at dksX0_isSmall_0 5 rfl rfl)
theorem dX0_isSmall_8 : decode cX0_isSmall 8 = .ok (.lload_n 0, 1) := dk_30 (dk_at dksX0_isSmall_0 8 rfl rfl)
theorem dX0_isSmall_9 : decode cX0_isSmall 9 = .ok (.ldc2_w 5, 3) := dk_20 0 5 (dk_at dksX0_isSmall_0 9 rfl rfl)
theorem dX0_isSmall_12 : decode cX0_isSmall 12 = .ok (.lcmp, 1) := dk_148 (dk_at dksX0_isSmall_0 12 rfl rfl)
theorem dX0_isSmall_13 : decode cX0_isSmall 13 = .ok (.ifCond .gt 7, 3) := dk_157 0 7 (dk_at dksX0_isSmall_0 13 rfl rfl)
theorem dX0_isSmall_16 : decode cX0_isSmall 16 = .ok (.iconst 1, 1) := dk_4 (dk_at dksX0_isSmall_0 16 rfl rfl)
theorem dX0_isSmall_17 : decode cX0_isSmall 17 = .ok (.goto 4, 3) := dk_167 0 4 (dk_at dksX0_isSmall_0 17 rfl rfl)
theorem dX0_isSmall_20 : decode cX0_isSmall 20 = .ok (.iconst 0, 1) := dk_3 (dk_at dksX0_isSmall_0 20 rfl rfl)
theorem dX0_isSmall_21 : decode cX0_isSmall 21 = .ok (.ireturn, 1) := dk_172 (dk_at dksX0_isSmall_0 21 rfl rfl)
abbrev cX0_isWide : ByteArray := prog_1_method_3_code
def yX0_isWide : MethodName := ⟨RX0, "isWide", "(J)Z"⟩
def dkwX0_isWide_0 : List UInt8 := [30, 20, 0, 7, 148, 155, 0, 15, 30, 20, 0, 9, 148, 157, 0, 7, 4, 167, 0, 4, 3, 172]
abbrev dktX0_isWide_0 : List UInt8 := dkwX0_isWide_0 ++ []
theorem dksX0_isWide_0 : cX0_isWide.data.toList.drop 0 = dktX0_isWide_0 := by decide +kernel
theorem dX0_isWide_0 : decode cX0_isWide 0 = .ok (.lload_n 0, 1) := dk_30 (dk_at dksX0_isWide_0 0 rfl rfl)
theorem dX0_isWide_1 : decode cX0_isWide 1 = .ok (.ldc2_w 7, 3) := dk_20 0 7 (dk_at dksX0_isWide_0 1 rfl rfl)
theorem dX0_isWide_4 : decode cX0_isWide 4 = .ok (.lcmp, 1) := dk_148 (dk_at dksX0_isWide_0 4 rfl rfl)
theorem dX0_isWide_5 : decode cX0_isWide 5 = .ok (.ifCond .lt 15, 3) := dk_155 0 15 (dk_at dksX0_isWide_0 5 rfl rfl)
theorem dX0_isWide_8 : decode cX0_isWide 8 = .ok (.lload_n 0, 1) := dk_30 (dk_at dksX0_isWide_0 8 rfl rfl)
theorem dX0_isWide_9 : decode cX0_isWide 9 = .ok (.ldc2_w 9, 3) := dk_20 0 9 (dk_at dksX0_isWide_0 9 rfl rfl)
theorem dX0_isWide_12 : decode cX0_isWide 12 = .ok (.lcmp, 1) := dk_148 (dk_at dksX0_isWide_0 12 rfl rfl)
theorem dX0_isWide_13 : decode cX0_isWide 13 = .ok (.ifCond .gt 7, 3) := dk_157 0 7 (dk_at dksX0_isWide_0 13 rfl rfl)
theorem dX0_isWide_16 : decode cX0_isWide 16 = .ok (.iconst 1, 1) := dk_4 (dk_at dksX0_isWide_0 16 rfl rfl)
theorem dX0_isWide_17 : decode cX0_isWide 17 = .ok (.goto 4, 3) := dk_167 0 4 (dk_at dksX0_isWide_0 17 rfl rfl)
theorem dX0_isWide_20 : decode cX0_isWide 20 = .ok (.iconst 0, 1) := dk_3 (dk_at dksX0_isWide_0 20 rfl rfl)
theorem dX0_isWide_21 : decode cX0_isWide 21 = .ok (.ireturn, 1) := dk_172 (dk_at dksX0_isWide_0 21 rfl rfl)
abbrev cX0_comes : ByteArray := prog_1_method_39_code
def yX0_comes : MethodName := ⟨RX0, "comes", "(LAheadRows$Row;)I"⟩
def dkwX0_comes_1 : List UInt8 := [42, 182, 0, 136, 42, 180, 0, 20, 182, 0, 96, 4, 100, 172]
abbrev dktX0_comes_1 : List UInt8 := dkwX0_comes_1 ++ []
def dkwX0_comes_0 : List UInt8 := [42, 180, 0, 20, 182, 0, 96, 16, 8, 160, 0, 6, 18, 108, 172, 42, 180, 0, 20, 43, 182, 0, 146, 87]
abbrev dktX0_comes_0 : List UInt8 := dkwX0_comes_0 ++ dktX0_comes_1
theorem dksX0_comes_0 : cX0_comes.data.toList.drop 0 = dktX0_comes_0 := by decide +kernel
theorem dksX0_comes_1 : cX0_comes.data.toList.drop 24 = dktX0_comes_1 := dk_seg dksX0_comes_0 24 rfl rfl
theorem dX0_comes_0 : decode cX0_comes 0 = .ok (.aload_n 0, 1) := dk_42 (dk_at dksX0_comes_0 0 rfl rfl)
theorem dX0_comes_1 : decode cX0_comes 1 = .ok (.getfield 20, 3) := dk_180 0 20 (dk_at dksX0_comes_0 1 rfl rfl)
theorem dX0_comes_4 : decode cX0_comes 4 = .ok (.invokevirtual 96, 3) := dk_182 0 96 (dk_at dksX0_comes_0 4 rfl rfl)
theorem dX0_comes_7 : decode cX0_comes 7 = .ok (.bipush 8, 2) := dk_16 8 (dk_at dksX0_comes_0 7 rfl rfl)
theorem dX0_comes_9 : decode cX0_comes 9 = .ok (.if_icmp .ne 6, 3) := dk_160 0 6 (dk_at dksX0_comes_0 9 rfl rfl)
theorem dX0_comes_12 : decode cX0_comes 12 = .ok (.ldc 108, 2) := dk_18 108 (dk_at dksX0_comes_0 12 rfl rfl)
theorem dX0_comes_14 : decode cX0_comes 14 = .ok (.ireturn, 1) := dk_172 (dk_at dksX0_comes_0 14 rfl rfl)
theorem dX0_comes_15 : decode cX0_comes 15 = .ok (.aload_n 0, 1) := dk_42 (dk_at dksX0_comes_0 15 rfl rfl)
theorem dX0_comes_16 : decode cX0_comes 16 = .ok (.getfield 20, 3) := dk_180 0 20 (dk_at dksX0_comes_0 16 rfl rfl)
theorem dX0_comes_19 : decode cX0_comes 19 = .ok (.aload_n 1, 1) := dk_43 (dk_at dksX0_comes_0 19 rfl rfl)
theorem dX0_comes_20 : decode cX0_comes 20 = .ok (.invokevirtual 146, 3) := dk_182 0 146 (dk_at dksX0_comes_0 20 rfl rfl)
theorem dX0_comes_23 : decode cX0_comes 23 = .ok (.pop, 1) := dk_87 (dk_at dksX0_comes_0 23 rfl rfl)
theorem dX0_comes_24 : decode cX0_comes 24 = .ok (.aload_n 0, 1) := dk_42 (dk_at dksX0_comes_1 0 rfl rfl)
theorem dX0_comes_25 : decode cX0_comes 25 = .ok (.invokevirtual 136, 3) := dk_182 0 136 (dk_at dksX0_comes_1 1 rfl rfl)
theorem dX0_comes_28 : decode cX0_comes 28 = .ok (.aload_n 0, 1) := dk_42 (dk_at dksX0_comes_1 4 rfl rfl)
theorem dX0_comes_29 : decode cX0_comes 29 = .ok (.getfield 20, 3) := dk_180 0 20 (dk_at dksX0_comes_1 5 rfl rfl)
theorem dX0_comes_32 : decode cX0_comes 32 = .ok (.invokevirtual 96, 3) := dk_182 0 96 (dk_at dksX0_comes_1 8 rfl rfl)
theorem dX0_comes_35 : decode cX0_comes 35 = .ok (.iconst 1, 1) := dk_4 (dk_at dksX0_comes_1 11 rfl rfl)
theorem dX0_comes_36 : decode cX0_comes 36 = .ok (.isub, 1) := dk_100 (dk_at dksX0_comes_1 12 rfl rfl)
theorem dX0_comes_37 : decode cX0_comes 37 = .ok (.ireturn, 1) := dk_172 (dk_at dksX0_comes_1 13 rfl rfl)
abbrev cX0_sum : ByteArray := prog_1_method_41_code
def yX0_sum : MethodName := ⟨RX0, "sum", "(II)I"⟩
def dkwX0_sum_1 : List UInt8 := [183, 1, 30, 182, 1, 26, 167, 0, 5, 18, 154, 172]
abbrev dktX0_sum_1 : List UInt8 := dkwX0_sum_1 ++ []
def dkwX0_sum_0 : List UInt8 := [42, 27, 182, 0, 150, 153, 0, 27, 42, 28, 182, 0, 150, 153, 0, 19, 42, 187, 0, 162, 89, 27, 28]
abbrev dktX0_sum_0 : List UInt8 := dkwX0_sum_0 ++ dktX0_sum_1
theorem dksX0_sum_0 : cX0_sum.data.toList.drop 0 = dktX0_sum_0 := by decide +kernel
theorem dksX0_sum_1 : cX0_sum.data.toList.drop 23 = dktX0_sum_1 := dk_seg dksX0_sum_0 23 rfl rfl
theorem dX0_sum_0 : decode cX0_sum 0 = .ok (.aload_n 0, 1) := dk_42 (dk_at dksX0_sum_0 0 rfl rfl)
theorem dX0_sum_1 : decode cX0_sum 1 = .ok (.iload_n 1, 1) := dk_27 (dk_at dksX0_sum_0 1 rfl rfl)
theorem dX0_sum_2 : decode cX0_sum 2 = .ok (.invokevirtual 150, 3) := dk_182 0 150 (dk_at dksX0_sum_0 2 rfl rfl)
theorem dX0_sum_5 : decode cX0_sum 5 = .ok (.ifCond .eq 27, 3) := dk_153 0 27 (dk_at dksX0_sum_0 5 rfl rfl)
theorem dX0_sum_8 : decode cX0_sum 8 = .ok (.aload_n 0, 1) := dk_42 (dk_at dksX0_sum_0 8 rfl rfl)
theorem dX0_sum_9 : decode cX0_sum 9 = .ok (.iload_n 2, 1) := dk_28 (dk_at dksX0_sum_0 9 rfl rfl)
theorem dX0_sum_10 : decode cX0_sum 10 = .ok (.invokevirtual 150, 3) := dk_182 0 150 (dk_at dksX0_sum_0 10 rfl rfl)
theorem dX0_sum_13 : decode cX0_sum 13 = .ok (.ifCond .eq 19, 3) := dk_153 0 19 (dk_at dksX0_sum_0 13 rfl rfl)
theorem dX0_sum_16 : decode cX0_sum 16 = .ok (.aload_n 0, 1) := dk_42 (dk_at dksX0_sum_0 16 rfl rfl)
theorem dX0_sum_17 : decode cX0_sum 17 = .ok (.new 162, 3) := dk_187 0 162 (dk_at dksX0_sum_0 17 rfl rfl)
theorem dX0_sum_20 : decode cX0_sum 20 = .ok (.dup, 1) := dk_89 (dk_at dksX0_sum_0 20 rfl rfl)
theorem dX0_sum_21 : decode cX0_sum 21 = .ok (.iload_n 1, 1) := dk_27 (dk_at dksX0_sum_0 21 rfl rfl)
theorem dX0_sum_22 : decode cX0_sum 22 = .ok (.iload_n 2, 1) := dk_28 (dk_at dksX0_sum_0 22 rfl rfl)
theorem dX0_sum_23 : decode cX0_sum 23 = .ok (.invokespecial 286, 3) := dk_183 1 30 (dk_at dksX0_sum_1 0 rfl rfl)
theorem dX0_sum_26 : decode cX0_sum 26 = .ok (.invokevirtual 282, 3) := dk_182 1 26 (dk_at dksX0_sum_1 3 rfl rfl)
theorem dX0_sum_29 : decode cX0_sum 29 = .ok (.goto 5, 3) := dk_167 0 5 (dk_at dksX0_sum_1 6 rfl rfl)
theorem dX0_sum_32 : decode cX0_sum 32 = .ok (.ldc 154, 2) := dk_18 154 (dk_at dksX0_sum_1 9 rfl rfl)
theorem dX0_sum_34 : decode cX0_sum 34 = .ok (.ireturn, 1) := dk_172 (dk_at dksX0_sum_1 11 rfl rfl)
abbrev cX0_product : ByteArray := prog_1_method_42_code
def yX0_product : MethodName := ⟨RX0, "product", "(II)I"⟩
def dkwX0_product_1 : List UInt8 := [183, 1, 33, 182, 1, 26, 167, 0, 5, 18, 154, 172]
abbrev dktX0_product_1 : List UInt8 := dkwX0_product_1 ++ []
def dkwX0_product_0 : List UInt8 := [42, 27, 182, 0, 150, 153, 0, 27, 42, 28, 182, 0, 150, 153, 0, 19, 42, 187, 0, 165, 89, 27, 28]
abbrev dktX0_product_0 : List UInt8 := dkwX0_product_0 ++ dktX0_product_1
theorem dksX0_product_0 : cX0_product.data.toList.drop 0 = dktX0_product_0 := by decide +kernel
theorem dksX0_product_1 : cX0_product.data.toList.drop 23 = dktX0_product_1 := dk_seg dksX0_product_0 23 rfl rfl
theorem dX0_product_0 : decode cX0_product 0 = .ok (.aload_n 0, 1) := dk_42 (dk_at dksX0_product_0 0 rfl rfl)
theorem dX0_product_1 : decode cX0_product 1 = .ok (.iload_n 1, 1) := dk_27 (dk_at dksX0_product_0 1 rfl rfl)
theorem dX0_product_2 : decode cX0_product 2 = .ok (.invokevirtual 150, 3) := dk_182 0 150 (dk_at dksX0_product_0 2 rfl rfl)
theorem dX0_product_5 : decode cX0_product 5 = .ok (.ifCond .eq 27, 3) := dk_153 0 27 (dk_at dksX0_product_0 5 rfl rfl)
theorem dX0_product_8 : decode cX0_product 8 = .ok (.aload_n 0, 1) := dk_42 (dk_at dksX0_product_0 8 rfl rfl)
theorem dX0_product_9 : decode cX0_product 9 = .ok (.iload_n 2, 1) := dk_28 (dk_at dksX0_product_0 9 rfl rfl)
theorem dX0_product_10 : decode cX0_product 10 = .ok (.invokevirtual 150, 3) := dk_182 0 150 (dk_at dksX0_product_0 10 rfl rfl)
theorem dX0_product_13 : decode cX0_product 13 = .ok (.ifCond .eq 19, 3) := dk_153 0 19 (dk_at dksX0_product_0 13 rfl rfl)
theorem dX0_product_16 : decode cX0_product 16 = .ok (.aload_n 0, 1) := dk_42 (dk_at dksX0_product_0 16 rfl rfl)
theorem dX0_product_17 : decode cX0_product 17 = .ok (.new 165, 3) := dk_187 0 165 (dk_at dksX0_product_0 17 rfl rfl)
theorem dX0_product_20 : decode cX0_product 20 = .ok (.dup, 1) := dk_89 (dk_at dksX0_product_0 20 rfl rfl)
theorem dX0_product_21 : decode cX0_product 21 = .ok (.iload_n 1, 1) := dk_27 (dk_at dksX0_product_0 21 rfl rfl)
theorem dX0_product_22 : decode cX0_product 22 = .ok (.iload_n 2, 1) := dk_28 (dk_at dksX0_product_0 22 rfl rfl)
theorem dX0_product_23 : decode cX0_product 23 = .ok (.invokespecial 289, 3) := dk_183 1 33 (dk_at dksX0_product_1 0 rfl rfl)
theorem dX0_product_26 : decode cX0_product 26 = .ok (.invokevirtual 282, 3) := dk_182 1 26 (dk_at dksX0_product_1 3 rfl rfl)
theorem dX0_product_29 : decode cX0_product 29 = .ok (.goto 5, 3) := dk_167 0 5 (dk_at dksX0_product_1 6 rfl rfl)
theorem dX0_product_32 : decode cX0_product 32 = .ok (.ldc 154, 2) := dk_18 154 (dk_at dksX0_product_1 9 rfl rfl)
theorem dX0_product_34 : decode cX0_product 34 = .ok (.ireturn, 1) := dk_172 (dk_at dksX0_product_1 11 rfl rfl)
abbrev cX0_each : ByteArray := prog_1_method_43_code
def yX0_each : MethodName := ⟨RX0, "each", "(III)I"⟩
def dkwX0_each_2 : List UInt8 := [18, 104, 172]
abbrev dktX0_each_2 : List UInt8 := dkwX0_each_2 ++ []
def dkwX0_each_1 : List UInt8 := [184, 0, 100, 153, 0, 20, 42, 187, 0, 168, 89, 27, 28, 29, 183, 1, 34, 182, 1, 26, 167, 0, 5]
abbrev dktX0_each_1 : List UInt8 := dkwX0_each_1 ++ dktX0_each_2
def dkwX0_each_0 : List UInt8 := [42, 27, 182, 0, 150, 154, 0, 6, 18, 154, 172, 28, 4, 8, 184, 0, 100, 153, 0, 30, 29, 3, 16, 9]
abbrev dktX0_each_0 : List UInt8 := dkwX0_each_0 ++ dktX0_each_1
theorem dksX0_each_0 : cX0_each.data.toList.drop 0 = dktX0_each_0 := by decide +kernel
theorem dksX0_each_1 : cX0_each.data.toList.drop 24 = dktX0_each_1 := dk_seg dksX0_each_0 24 rfl rfl
theorem dksX0_each_2 : cX0_each.data.toList.drop 47 = dktX0_each_2 := dk_seg dksX0_each_1 23 rfl rfl
theorem dX0_each_0 : decode cX0_each 0 = .ok (.aload_n 0, 1) := dk_42 (dk_at dksX0_each_0 0 rfl rfl)
theorem dX0_each_1 : decode cX0_each 1 = .ok (.iload_n 1, 1) := dk_27 (dk_at dksX0_each_0 1 rfl rfl)
theorem dX0_each_2 : decode cX0_each 2 = .ok (.invokevirtual 150, 3) := dk_182 0 150 (dk_at dksX0_each_0 2 rfl rfl)
theorem dX0_each_5 : decode cX0_each 5 = .ok (.ifCond .ne 6, 3) := dk_154 0 6 (dk_at dksX0_each_0 5 rfl rfl)
theorem dX0_each_8 : decode cX0_each 8 = .ok (.ldc 154, 2) := dk_18 154 (dk_at dksX0_each_0 8 rfl rfl)
theorem dX0_each_10 : decode cX0_each 10 = .ok (.ireturn, 1) := dk_172 (dk_at dksX0_each_0 10 rfl rfl)
theorem dX0_each_11 : decode cX0_each 11 = .ok (.iload_n 2, 1) := dk_28 (dk_at dksX0_each_0 11 rfl rfl)
theorem dX0_each_12 : decode cX0_each 12 = .ok (.iconst 1, 1) := dk_4 (dk_at dksX0_each_0 12 rfl rfl)
theorem dX0_each_13 : decode cX0_each 13 = .ok (.iconst 5, 1) := dk_8 (dk_at dksX0_each_0 13 rfl rfl)
theorem dX0_each_14 : decode cX0_each 14 = .ok (.invokestatic 100, 3) := dk_184 0 100 (dk_at dksX0_each_0 14 rfl rfl)
theorem dX0_each_17 : decode cX0_each 17 = .ok (.ifCond .eq 30, 3) := dk_153 0 30 (dk_at dksX0_each_0 17 rfl rfl)
theorem dX0_each_20 : decode cX0_each 20 = .ok (.iload_n 3, 1) := dk_29 (dk_at dksX0_each_0 20 rfl rfl)
theorem dX0_each_21 : decode cX0_each 21 = .ok (.iconst 0, 1) := dk_3 (dk_at dksX0_each_0 21 rfl rfl)
theorem dX0_each_22 : decode cX0_each 22 = .ok (.bipush 9, 2) := dk_16 9 (dk_at dksX0_each_0 22 rfl rfl)
theorem dX0_each_24 : decode cX0_each 24 = .ok (.invokestatic 100, 3) := dk_184 0 100 (dk_at dksX0_each_1 0 rfl rfl)
theorem dX0_each_27 : decode cX0_each 27 = .ok (.ifCond .eq 20, 3) := dk_153 0 20 (dk_at dksX0_each_1 3 rfl rfl)
theorem dX0_each_30 : decode cX0_each 30 = .ok (.aload_n 0, 1) := dk_42 (dk_at dksX0_each_1 6 rfl rfl)
theorem dX0_each_31 : decode cX0_each 31 = .ok (.new 168, 3) := dk_187 0 168 (dk_at dksX0_each_1 7 rfl rfl)
theorem dX0_each_34 : decode cX0_each 34 = .ok (.dup, 1) := dk_89 (dk_at dksX0_each_1 10 rfl rfl)
theorem dX0_each_35 : decode cX0_each 35 = .ok (.iload_n 1, 1) := dk_27 (dk_at dksX0_each_1 11 rfl rfl)
theorem dX0_each_36 : decode cX0_each 36 = .ok (.iload_n 2, 1) := dk_28 (dk_at dksX0_each_1 12 rfl rfl)
theorem dX0_each_37 : decode cX0_each 37 = .ok (.iload_n 3, 1) := dk_29 (dk_at dksX0_each_1 13 rfl rfl)
theorem dX0_each_38 : decode cX0_each 38 = .ok (.invokespecial 290, 3) := dk_183 1 34 (dk_at dksX0_each_1 14 rfl rfl)
theorem dX0_each_41 : decode cX0_each 41 = .ok (.invokevirtual 282, 3) := dk_182 1 26 (dk_at dksX0_each_1 17 rfl rfl)
theorem dX0_each_44 : decode cX0_each 44 = .ok (.goto 5, 3) := dk_167 0 5 (dk_at dksX0_each_1 20 rfl rfl)
theorem dX0_each_47 : decode cX0_each 47 = .ok (.ldc 104, 2) := dk_18 104 (dk_at dksX0_each_2 0 rfl rfl)
theorem dX0_each_49 : decode cX0_each 49 = .ok (.ireturn, 1) := dk_172 (dk_at dksX0_each_2 2 rfl rfl)
abbrev cX0_step : ByteArray := prog_1_method_44_code
def yX0_step : MethodName := ⟨RX0, "step", "(I)I"⟩
def dkwX0_step_1 : List UInt8 := [18, 154, 172]
abbrev dktX0_step_1 : List UInt8 := dkwX0_step_1 ++ []
def dkwX0_step_0 : List UInt8 := [42, 27, 182, 0, 150, 153, 0, 18, 42, 187, 0, 171, 89, 27, 183, 1, 37, 182, 1, 26, 167, 0, 5]
abbrev dktX0_step_0 : List UInt8 := dkwX0_step_0 ++ dktX0_step_1
theorem dksX0_step_0 : cX0_step.data.toList.drop 0 = dktX0_step_0 := by decide +kernel
theorem dksX0_step_1 : cX0_step.data.toList.drop 23 = dktX0_step_1 := dk_seg dksX0_step_0 23 rfl rfl
theorem dX0_step_0 : decode cX0_step 0 = .ok (.aload_n 0, 1) := dk_42 (dk_at dksX0_step_0 0 rfl rfl)
theorem dX0_step_1 : decode cX0_step 1 = .ok (.iload_n 1, 1) := dk_27 (dk_at dksX0_step_0 1 rfl rfl)
theorem dX0_step_2 : decode cX0_step 2 = .ok (.invokevirtual 150, 3) := dk_182 0 150 (dk_at dksX0_step_0 2 rfl rfl)
theorem dX0_step_5 : decode cX0_step 5 = .ok (.ifCond .eq 18, 3) := dk_153 0 18 (dk_at dksX0_step_0 5 rfl rfl)
theorem dX0_step_8 : decode cX0_step 8 = .ok (.aload_n 0, 1) := dk_42 (dk_at dksX0_step_0 8 rfl rfl)
theorem dX0_step_9 : decode cX0_step 9 = .ok (.new 171, 3) := dk_187 0 171 (dk_at dksX0_step_0 9 rfl rfl)
theorem dX0_step_12 : decode cX0_step 12 = .ok (.dup, 1) := dk_89 (dk_at dksX0_step_0 12 rfl rfl)
theorem dX0_step_13 : decode cX0_step 13 = .ok (.iload_n 1, 1) := dk_27 (dk_at dksX0_step_0 13 rfl rfl)
theorem dX0_step_14 : decode cX0_step 14 = .ok (.invokespecial 293, 3) := dk_183 1 37 (dk_at dksX0_step_0 14 rfl rfl)
theorem dX0_step_17 : decode cX0_step 17 = .ok (.invokevirtual 282, 3) := dk_182 1 26 (dk_at dksX0_step_0 17 rfl rfl)
theorem dX0_step_20 : decode cX0_step 20 = .ok (.goto 5, 3) := dk_167 0 5 (dk_at dksX0_step_0 20 rfl rfl)
theorem dX0_step_23 : decode cX0_step 23 = .ok (.ldc 154, 2) := dk_18 154 (dk_at dksX0_step_1 0 rfl rfl)
theorem dX0_step_25 : decode cX0_step 25 = .ok (.ireturn, 1) := dk_172 (dk_at dksX0_step_1 2 rfl rfl)
abbrev cX0_put : ByteArray := prog_1_method_45_code
def yX0_put : MethodName := ⟨RX0, "put", "(III)I"⟩
def dkwX0_put_4 : List UInt8 := [182, 0, 136, 21, 5, 172]
abbrev dktX0_put_4 : List UInt8 := dkwX0_put_4 ++ []
def dkwX0_put_3 : List UInt8 := [154, 0, 6, 18, 104, 172, 25, 4, 28, 4, 96, 182, 1, 38, 54, 5, 25, 4, 28, 29, 182, 1, 39, 42]
abbrev dktX0_put_3 : List UInt8 := dkwX0_put_3 ++ dktX0_put_4
def dkwX0_put_2 : List UInt8 := [18, 125, 172, 28, 5, 162, 0, 14, 29, 133, 184, 0, 80, 154, 0, 17, 167, 0, 11, 29, 133, 184, 0, 87]
abbrev dktX0_put_2 : List UInt8 := dkwX0_put_2 ++ dktX0_put_3
def dkwX0_put_1 : List UInt8 := [27, 182, 0, 67, 58, 5, 25, 5, 193, 0, 76, 153, 0, 13, 25, 5, 192, 0, 76, 58, 4, 167, 0, 6]
abbrev dktX0_put_1 : List UInt8 := dkwX0_put_1 ++ dktX0_put_2
def dkwX0_put_0 : List UInt8 := [42, 27, 182, 0, 150, 154, 0, 6, 18, 154, 172, 28, 3, 6, 184, 0, 100, 154, 0, 6, 18, 104, 172, 42]
abbrev dktX0_put_0 : List UInt8 := dkwX0_put_0 ++ dktX0_put_1
theorem dksX0_put_0 : cX0_put.data.toList.drop 0 = dktX0_put_0 := by decide +kernel
theorem dksX0_put_1 : cX0_put.data.toList.drop 24 = dktX0_put_1 := dk_seg dksX0_put_0 24 rfl rfl
theorem dksX0_put_2 : cX0_put.data.toList.drop 48 = dktX0_put_2 := dk_seg dksX0_put_1 24 rfl rfl
theorem dksX0_put_3 : cX0_put.data.toList.drop 72 = dktX0_put_3 := dk_seg dksX0_put_2 24 rfl rfl
theorem dksX0_put_4 : cX0_put.data.toList.drop 96 = dktX0_put_4 := dk_seg dksX0_put_3 24 rfl rfl
theorem dX0_put_0 : decode cX0_put 0 = .ok (.aload_n 0, 1) := dk_42 (dk_at dksX0_put_0 0 rfl rfl)
theorem dX0_put_1 : decode cX0_put 1 = .ok (.iload_n 1, 1) := dk_27 (dk_at dksX0_put_0 1 rfl rfl)
theorem dX0_put_2 : decode cX0_put 2 = .ok (.invokevirtual 150, 3) := dk_182 0 150 (dk_at dksX0_put_0 2 rfl rfl)
theorem dX0_put_5 : decode cX0_put 5 = .ok (.ifCond .ne 6, 3) := dk_154 0 6 (dk_at dksX0_put_0 5 rfl rfl)
theorem dX0_put_8 : decode cX0_put 8 = .ok (.ldc 154, 2) := dk_18 154 (dk_at dksX0_put_0 8 rfl rfl)
theorem dX0_put_10 : decode cX0_put 10 = .ok (.ireturn, 1) := dk_172 (dk_at dksX0_put_0 10 rfl rfl)
theorem dX0_put_11 : decode cX0_put 11 = .ok (.iload_n 2, 1) := dk_28 (dk_at dksX0_put_0 11 rfl rfl)
theorem dX0_put_12 : decode cX0_put 12 = .ok (.iconst 0, 1) := dk_3 (dk_at dksX0_put_0 12 rfl rfl)
theorem dX0_put_13 : decode cX0_put 13 = .ok (.iconst 3, 1) := dk_6 (dk_at dksX0_put_0 13 rfl rfl)
theorem dX0_put_14 : decode cX0_put 14 = .ok (.invokestatic 100, 3) := dk_184 0 100 (dk_at dksX0_put_0 14 rfl rfl)
theorem dX0_put_17 : decode cX0_put 17 = .ok (.ifCond .ne 6, 3) := dk_154 0 6 (dk_at dksX0_put_0 17 rfl rfl)
theorem dX0_put_20 : decode cX0_put 20 = .ok (.ldc 104, 2) := dk_18 104 (dk_at dksX0_put_0 20 rfl rfl)
theorem dX0_put_22 : decode cX0_put 22 = .ok (.ireturn, 1) := dk_172 (dk_at dksX0_put_0 22 rfl rfl)
theorem dX0_put_23 : decode cX0_put 23 = .ok (.aload_n 0, 1) := dk_42 (dk_at dksX0_put_0 23 rfl rfl)
theorem dX0_put_24 : decode cX0_put 24 = .ok (.iload_n 1, 1) := dk_27 (dk_at dksX0_put_1 0 rfl rfl)
theorem dX0_put_25 : decode cX0_put 25 = .ok (.invokevirtual 67, 3) := dk_182 0 67 (dk_at dksX0_put_1 1 rfl rfl)
theorem dX0_put_28 : decode cX0_put 28 = .ok (.astore 5, 2) := dk_58 5 (dk_at dksX0_put_1 4 rfl rfl)
theorem dX0_put_30 : decode cX0_put 30 = .ok (.aload 5, 2) := dk_25 5 (dk_at dksX0_put_1 6 rfl rfl)
theorem dX0_put_32 : decode cX0_put 32 = .ok (.instanceof 76, 3) := dk_193 0 76 (dk_at dksX0_put_1 8 rfl rfl)
theorem dX0_put_35 : decode cX0_put 35 = .ok (.ifCond .eq 13, 3) := dk_153 0 13 (dk_at dksX0_put_1 11 rfl rfl)
theorem dX0_put_38 : decode cX0_put 38 = .ok (.aload 5, 2) := dk_25 5 (dk_at dksX0_put_1 14 rfl rfl)
theorem dX0_put_40 : decode cX0_put 40 = .ok (.checkcast 76, 3) := dk_192 0 76 (dk_at dksX0_put_1 16 rfl rfl)
theorem dX0_put_43 : decode cX0_put 43 = .ok (.astore 4, 2) := dk_58 4 (dk_at dksX0_put_1 19 rfl rfl)
theorem dX0_put_45 : decode cX0_put 45 = .ok (.goto 6, 3) := dk_167 0 6 (dk_at dksX0_put_1 21 rfl rfl)
theorem dX0_put_48 : decode cX0_put 48 = .ok (.ldc 125, 2) := dk_18 125 (dk_at dksX0_put_2 0 rfl rfl)
theorem dX0_put_50 : decode cX0_put 50 = .ok (.ireturn, 1) := dk_172 (dk_at dksX0_put_2 2 rfl rfl)
theorem dX0_put_51 : decode cX0_put 51 = .ok (.iload_n 2, 1) := dk_28 (dk_at dksX0_put_2 3 rfl rfl)
theorem dX0_put_52 : decode cX0_put 52 = .ok (.iconst 2, 1) := dk_5 (dk_at dksX0_put_2 4 rfl rfl)
theorem dX0_put_53 : decode cX0_put 53 = .ok (.if_icmp .ge 14, 3) := dk_162 0 14 (dk_at dksX0_put_2 5 rfl rfl)
theorem dX0_put_56 : decode cX0_put 56 = .ok (.iload_n 3, 1) := dk_29 (dk_at dksX0_put_2 8 rfl rfl)
theorem dX0_put_57 : decode cX0_put 57 = .ok (.i2l, 1) := dk_133 (dk_at dksX0_put_2 9 rfl rfl)
theorem dX0_put_58 : decode cX0_put 58 = .ok (.invokestatic 80, 3) := dk_184 0 80 (dk_at dksX0_put_2 10 rfl rfl)
theorem dX0_put_61 : decode cX0_put 61 = .ok (.ifCond .ne 17, 3) := dk_154 0 17 (dk_at dksX0_put_2 13 rfl rfl)
theorem dX0_put_64 : decode cX0_put 64 = .ok (.goto 11, 3) := dk_167 0 11 (dk_at dksX0_put_2 16 rfl rfl)
theorem dX0_put_67 : decode cX0_put 67 = .ok (.iload_n 3, 1) := dk_29 (dk_at dksX0_put_2 19 rfl rfl)
theorem dX0_put_68 : decode cX0_put 68 = .ok (.i2l, 1) := dk_133 (dk_at dksX0_put_2 20 rfl rfl)
theorem dX0_put_69 : decode cX0_put 69 = .ok (.invokestatic 87, 3) := dk_184 0 87 (dk_at dksX0_put_2 21 rfl rfl)
theorem dX0_put_72 : decode cX0_put 72 = .ok (.ifCond .ne 6, 3) := dk_154 0 6 (dk_at dksX0_put_3 0 rfl rfl)
theorem dX0_put_75 : decode cX0_put 75 = .ok (.ldc 104, 2) := dk_18 104 (dk_at dksX0_put_3 3 rfl rfl)
theorem dX0_put_77 : decode cX0_put 77 = .ok (.ireturn, 1) := dk_172 (dk_at dksX0_put_3 5 rfl rfl)
theorem dX0_put_78 : decode cX0_put 78 = .ok (.aload 4, 2) := dk_25 4 (dk_at dksX0_put_3 6 rfl rfl)
theorem dX0_put_80 : decode cX0_put 80 = .ok (.iload_n 2, 1) := dk_28 (dk_at dksX0_put_3 8 rfl rfl)
theorem dX0_put_81 : decode cX0_put 81 = .ok (.iconst 1, 1) := dk_4 (dk_at dksX0_put_3 9 rfl rfl)
theorem dX0_put_82 : decode cX0_put 82 = .ok (.iadd, 1) := dk_96 (dk_at dksX0_put_3 10 rfl rfl)
theorem dX0_put_83 : decode cX0_put 83 = .ok (.invokevirtual 294, 3) := dk_182 1 38 (dk_at dksX0_put_3 11 rfl rfl)
theorem dX0_put_86 : decode cX0_put 86 = .ok (.istore 5, 2) := dk_54 5 (dk_at dksX0_put_3 14 rfl rfl)
theorem dX0_put_88 : decode cX0_put 88 = .ok (.aload 4, 2) := dk_25 4 (dk_at dksX0_put_3 16 rfl rfl)
theorem dX0_put_90 : decode cX0_put 90 = .ok (.iload_n 2, 1) := dk_28 (dk_at dksX0_put_3 18 rfl rfl)
theorem dX0_put_91 : decode cX0_put 91 = .ok (.iload_n 3, 1) := dk_29 (dk_at dksX0_put_3 19 rfl rfl)
theorem dX0_put_92 : decode cX0_put 92 = .ok (.invokevirtual 295, 3) := dk_182 1 39 (dk_at dksX0_put_3 20 rfl rfl)
theorem dX0_put_95 : decode cX0_put 95 = .ok (.aload_n 0, 1) := dk_42 (dk_at dksX0_put_3 23 rfl rfl)
theorem dX0_put_96 : decode cX0_put 96 = .ok (.invokevirtual 136, 3) := dk_182 0 136 (dk_at dksX0_put_4 0 rfl rfl)
theorem dX0_put_99 : decode cX0_put 99 = .ok (.iload 5, 2) := dk_21 5 (dk_at dksX0_put_4 3 rfl rfl)
theorem dX0_put_101 : decode cX0_put 101 = .ok (.ireturn, 1) := dk_172 (dk_at dksX0_put_4 5 rfl rfl)
abbrev cX0_drop : ByteArray := prog_1_method_46_code
def yX0_drop : MethodName := ⟨RX0, "drop", "()I"⟩
def dkwX0_drop_1 : List UInt8 := [4, 100, 182, 1, 46, 87, 42, 182, 0, 136, 42, 180, 0, 20, 182, 0, 96, 172]
abbrev dktX0_drop_1 : List UInt8 := dkwX0_drop_1 ++ []
def dkwX0_drop_0 : List UInt8 := [42, 180, 0, 20, 182, 1, 42, 153, 0, 6, 18, 125, 172, 42, 180, 0, 20, 42, 180, 0, 20, 182, 0, 96]
abbrev dktX0_drop_0 : List UInt8 := dkwX0_drop_0 ++ dktX0_drop_1
theorem dksX0_drop_0 : cX0_drop.data.toList.drop 0 = dktX0_drop_0 := by decide +kernel
theorem dksX0_drop_1 : cX0_drop.data.toList.drop 24 = dktX0_drop_1 := dk_seg dksX0_drop_0 24 rfl rfl
theorem dX0_drop_0 : decode cX0_drop 0 = .ok (.aload_n 0, 1) := dk_42 (dk_at dksX0_drop_0 0 rfl rfl)
theorem dX0_drop_1 : decode cX0_drop 1 = .ok (.getfield 20, 3) := dk_180 0 20 (dk_at dksX0_drop_0 1 rfl rfl)
theorem dX0_drop_4 : decode cX0_drop 4 = .ok (.invokevirtual 298, 3) := dk_182 1 42 (dk_at dksX0_drop_0 4 rfl rfl)
theorem dX0_drop_7 : decode cX0_drop 7 = .ok (.ifCond .eq 6, 3) := dk_153 0 6 (dk_at dksX0_drop_0 7 rfl rfl)
theorem dX0_drop_10 : decode cX0_drop 10 = .ok (.ldc 125, 2) := dk_18 125 (dk_at dksX0_drop_0 10 rfl rfl)
theorem dX0_drop_12 : decode cX0_drop 12 = .ok (.ireturn, 1) := dk_172 (dk_at dksX0_drop_0 12 rfl rfl)
theorem dX0_drop_13 : decode cX0_drop 13 = .ok (.aload_n 0, 1) := dk_42 (dk_at dksX0_drop_0 13 rfl rfl)
theorem dX0_drop_14 : decode cX0_drop 14 = .ok (.getfield 20, 3) := dk_180 0 20 (dk_at dksX0_drop_0 14 rfl rfl)
theorem dX0_drop_17 : decode cX0_drop 17 = .ok (.aload_n 0, 1) := dk_42 (dk_at dksX0_drop_0 17 rfl rfl)
theorem dX0_drop_18 : decode cX0_drop 18 = .ok (.getfield 20, 3) := dk_180 0 20 (dk_at dksX0_drop_0 18 rfl rfl)
theorem dX0_drop_21 : decode cX0_drop 21 = .ok (.invokevirtual 96, 3) := dk_182 0 96 (dk_at dksX0_drop_0 21 rfl rfl)
theorem dX0_drop_24 : decode cX0_drop 24 = .ok (.iconst 1, 1) := dk_4 (dk_at dksX0_drop_1 0 rfl rfl)
theorem dX0_drop_25 : decode cX0_drop 25 = .ok (.isub, 1) := dk_100 (dk_at dksX0_drop_1 1 rfl rfl)
theorem dX0_drop_26 : decode cX0_drop 26 = .ok (.invokevirtual 302, 3) := dk_182 1 46 (dk_at dksX0_drop_1 2 rfl rfl)
theorem dX0_drop_29 : decode cX0_drop 29 = .ok (.pop, 1) := dk_87 (dk_at dksX0_drop_1 5 rfl rfl)
theorem dX0_drop_30 : decode cX0_drop 30 = .ok (.aload_n 0, 1) := dk_42 (dk_at dksX0_drop_1 6 rfl rfl)
theorem dX0_drop_31 : decode cX0_drop 31 = .ok (.invokevirtual 136, 3) := dk_182 0 136 (dk_at dksX0_drop_1 7 rfl rfl)
theorem dX0_drop_34 : decode cX0_drop 34 = .ok (.aload_n 0, 1) := dk_42 (dk_at dksX0_drop_1 10 rfl rfl)
theorem dX0_drop_35 : decode cX0_drop 35 = .ok (.getfield 20, 3) := dk_180 0 20 (dk_at dksX0_drop_1 11 rfl rfl)
theorem dX0_drop_38 : decode cX0_drop 38 = .ok (.invokevirtual 96, 3) := dk_182 0 96 (dk_at dksX0_drop_1 14 rfl rfl)
theorem dX0_drop_41 : decode cX0_drop 41 = .ok (.ireturn, 1) := dk_172 (dk_at dksX0_drop_1 17 rfl rfl)
abbrev cX0_ease : ByteArray := prog_1_method_47_code
def yX0_ease : MethodName := ⟨RX0, "ease", "(I)I"⟩
def dkwX0_ease_2 : List UInt8 := [87, 42, 182, 0, 136, 29, 172]
abbrev dktX0_ease_2 : List UInt8 := dkwX0_ease_2 ++ []
def dkwX0_ease_1 : List UInt8 := [199, 0, 6, 18, 125, 172, 42, 27, 182, 0, 67, 182, 1, 53, 62, 42, 180, 0, 20, 27, 44, 182, 1, 54]
abbrev dktX0_ease_1 : List UInt8 := dkwX0_ease_1 ++ dktX0_ease_2
def dkwX0_ease_0 : List UInt8 := [42, 27, 182, 0, 150, 154, 0, 6, 18, 154, 172, 42, 27, 182, 0, 67, 42, 182, 1, 49, 77, 44]
abbrev dktX0_ease_0 : List UInt8 := dkwX0_ease_0 ++ dktX0_ease_1
theorem dksX0_ease_0 : cX0_ease.data.toList.drop 0 = dktX0_ease_0 := by decide +kernel
theorem dksX0_ease_1 : cX0_ease.data.toList.drop 22 = dktX0_ease_1 := dk_seg dksX0_ease_0 22 rfl rfl
theorem dksX0_ease_2 : cX0_ease.data.toList.drop 46 = dktX0_ease_2 := dk_seg dksX0_ease_1 24 rfl rfl
theorem dX0_ease_0 : decode cX0_ease 0 = .ok (.aload_n 0, 1) := dk_42 (dk_at dksX0_ease_0 0 rfl rfl)
theorem dX0_ease_1 : decode cX0_ease 1 = .ok (.iload_n 1, 1) := dk_27 (dk_at dksX0_ease_0 1 rfl rfl)
theorem dX0_ease_2 : decode cX0_ease 2 = .ok (.invokevirtual 150, 3) := dk_182 0 150 (dk_at dksX0_ease_0 2 rfl rfl)
theorem dX0_ease_5 : decode cX0_ease 5 = .ok (.ifCond .ne 6, 3) := dk_154 0 6 (dk_at dksX0_ease_0 5 rfl rfl)
theorem dX0_ease_8 : decode cX0_ease 8 = .ok (.ldc 154, 2) := dk_18 154 (dk_at dksX0_ease_0 8 rfl rfl)
theorem dX0_ease_10 : decode cX0_ease 10 = .ok (.ireturn, 1) := dk_172 (dk_at dksX0_ease_0 10 rfl rfl)
theorem dX0_ease_11 : decode cX0_ease 11 = .ok (.aload_n 0, 1) := dk_42 (dk_at dksX0_ease_0 11 rfl rfl)
theorem dX0_ease_12 : decode cX0_ease 12 = .ok (.iload_n 1, 1) := dk_27 (dk_at dksX0_ease_0 12 rfl rfl)
theorem dX0_ease_13 : decode cX0_ease 13 = .ok (.invokevirtual 67, 3) := dk_182 0 67 (dk_at dksX0_ease_0 13 rfl rfl)
theorem dX0_ease_16 : decode cX0_ease 16 = .ok (.aload_n 0, 1) := dk_42 (dk_at dksX0_ease_0 16 rfl rfl)
theorem dX0_ease_17 : decode cX0_ease 17 = .ok (.invokevirtual 305, 3) := dk_182 1 49 (dk_at dksX0_ease_0 17 rfl rfl)
theorem dX0_ease_20 : decode cX0_ease 20 = .ok (.astore_n 2, 1) := dk_77 (dk_at dksX0_ease_0 20 rfl rfl)
theorem dX0_ease_21 : decode cX0_ease 21 = .ok (.aload_n 2, 1) := dk_44 (dk_at dksX0_ease_0 21 rfl rfl)
theorem dX0_ease_22 : decode cX0_ease 22 = .ok (.ifnonnull 6, 3) := dk_199 0 6 (dk_at dksX0_ease_1 0 rfl rfl)
theorem dX0_ease_25 : decode cX0_ease 25 = .ok (.ldc 125, 2) := dk_18 125 (dk_at dksX0_ease_1 3 rfl rfl)
theorem dX0_ease_27 : decode cX0_ease 27 = .ok (.ireturn, 1) := dk_172 (dk_at dksX0_ease_1 5 rfl rfl)
theorem dX0_ease_28 : decode cX0_ease 28 = .ok (.aload_n 0, 1) := dk_42 (dk_at dksX0_ease_1 6 rfl rfl)
theorem dX0_ease_29 : decode cX0_ease 29 = .ok (.iload_n 1, 1) := dk_27 (dk_at dksX0_ease_1 7 rfl rfl)
theorem dX0_ease_30 : decode cX0_ease 30 = .ok (.invokevirtual 67, 3) := dk_182 0 67 (dk_at dksX0_ease_1 8 rfl rfl)
theorem dX0_ease_33 : decode cX0_ease 33 = .ok (.invokevirtual 309, 3) := dk_182 1 53 (dk_at dksX0_ease_1 11 rfl rfl)
theorem dX0_ease_36 : decode cX0_ease 36 = .ok (.istore_n 3, 1) := dk_62 (dk_at dksX0_ease_1 14 rfl rfl)
theorem dX0_ease_37 : decode cX0_ease 37 = .ok (.aload_n 0, 1) := dk_42 (dk_at dksX0_ease_1 15 rfl rfl)
theorem dX0_ease_38 : decode cX0_ease 38 = .ok (.getfield 20, 3) := dk_180 0 20 (dk_at dksX0_ease_1 16 rfl rfl)
theorem dX0_ease_41 : decode cX0_ease 41 = .ok (.iload_n 1, 1) := dk_27 (dk_at dksX0_ease_1 19 rfl rfl)
theorem dX0_ease_42 : decode cX0_ease 42 = .ok (.aload_n 2, 1) := dk_44 (dk_at dksX0_ease_1 20 rfl rfl)
theorem dX0_ease_43 : decode cX0_ease 43 = .ok (.invokevirtual 310, 3) := dk_182 1 54 (dk_at dksX0_ease_1 21 rfl rfl)
theorem dX0_ease_46 : decode cX0_ease 46 = .ok (.pop, 1) := dk_87 (dk_at dksX0_ease_2 0 rfl rfl)
theorem dX0_ease_47 : decode cX0_ease 47 = .ok (.aload_n 0, 1) := dk_42 (dk_at dksX0_ease_2 1 rfl rfl)
theorem dX0_ease_48 : decode cX0_ease 48 = .ok (.invokevirtual 136, 3) := dk_182 0 136 (dk_at dksX0_ease_2 2 rfl rfl)
theorem dX0_ease_51 : decode cX0_ease 51 = .ok (.iload_n 3, 1) := dk_29 (dk_at dksX0_ease_2 5 rfl rfl)
theorem dX0_ease_52 : decode cX0_ease 52 = .ok (.ireturn, 1) := dk_172 (dk_at dksX0_ease_2 6 rfl rfl)
abbrev cX0_withTerms : ByteArray := prog_1_method_8_code
def yX0_withTerms : MethodName := ⟨RX0, "withTerms", "(LAheadRows$Told;JJ)LAheadRows$Told;"⟩
def dkwX0_withTerms_2 : List UInt8 := [22, 4, 136, 181, 0, 93, 43, 176]
abbrev dktX0_withTerms_2 : List UInt8 := dkwX0_withTerms_2 ++ []
def dkwX0_withTerms_1 : List UInt8 := [184, 0, 87, 153, 0, 11, 22, 4, 184, 0, 87, 154, 0, 5, 1, 176, 43, 32, 136, 181, 0, 90, 43]
abbrev dktX0_withTerms_1 : List UInt8 := dkwX0_withTerms_1 ++ dktX0_withTerms_2
def dkwX0_withTerms_0 : List UInt8 := [43, 180, 0, 75, 133, 184, 0, 80, 153, 0, 29, 43, 180, 0, 84, 133, 184, 0, 80, 153, 0, 18, 32]
abbrev dktX0_withTerms_0 : List UInt8 := dkwX0_withTerms_0 ++ dktX0_withTerms_1
theorem dksX0_withTerms_0 : cX0_withTerms.data.toList.drop 0 = dktX0_withTerms_0 := by decide +kernel
theorem dksX0_withTerms_1 : cX0_withTerms.data.toList.drop 23 = dktX0_withTerms_1 := dk_seg dksX0_withTerms_0 23 rfl rfl
theorem dksX0_withTerms_2 : cX0_withTerms.data.toList.drop 46 = dktX0_withTerms_2 := dk_seg dksX0_withTerms_1 23 rfl rfl
theorem dX0_withTerms_0 : decode cX0_withTerms 0 = .ok (.aload_n 1, 1) := dk_43 (dk_at dksX0_withTerms_0 0 rfl rfl)
theorem dX0_withTerms_1 : decode cX0_withTerms 1 = .ok (.getfield 75, 3) := dk_180 0 75 (dk_at dksX0_withTerms_0 1 rfl rfl)
theorem dX0_withTerms_4 : decode cX0_withTerms 4 = .ok (.i2l, 1) := dk_133 (dk_at dksX0_withTerms_0 4 rfl rfl)
theorem dX0_withTerms_5 : decode cX0_withTerms 5 = .ok (.invokestatic 80, 3) := dk_184 0 80 (dk_at dksX0_withTerms_0 5 rfl rfl)
theorem dX0_withTerms_8 : decode cX0_withTerms 8 = .ok (.ifCond .eq 29, 3) := dk_153 0 29 (dk_at dksX0_withTerms_0 8 rfl rfl)
theorem dX0_withTerms_11 : decode cX0_withTerms 11 = .ok (.aload_n 1, 1) := dk_43 (dk_at dksX0_withTerms_0 11 rfl rfl)
theorem dX0_withTerms_12 : decode cX0_withTerms 12 = .ok (.getfield 84, 3) := dk_180 0 84 (dk_at dksX0_withTerms_0 12 rfl rfl)
theorem dX0_withTerms_15 : decode cX0_withTerms 15 = .ok (.i2l, 1) := dk_133 (dk_at dksX0_withTerms_0 15 rfl rfl)
theorem dX0_withTerms_16 : decode cX0_withTerms 16 = .ok (.invokestatic 80, 3) := dk_184 0 80 (dk_at dksX0_withTerms_0 16 rfl rfl)
theorem dX0_withTerms_19 : decode cX0_withTerms 19 = .ok (.ifCond .eq 18, 3) := dk_153 0 18 (dk_at dksX0_withTerms_0 19 rfl rfl)
theorem dX0_withTerms_22 : decode cX0_withTerms 22 = .ok (.lload_n 2, 1) := dk_32 (dk_at dksX0_withTerms_0 22 rfl rfl)
theorem dX0_withTerms_23 : decode cX0_withTerms 23 = .ok (.invokestatic 87, 3) := dk_184 0 87 (dk_at dksX0_withTerms_1 0 rfl rfl)
theorem dX0_withTerms_26 : decode cX0_withTerms 26 = .ok (.ifCond .eq 11, 3) := dk_153 0 11 (dk_at dksX0_withTerms_1 3 rfl rfl)
theorem dX0_withTerms_29 : decode cX0_withTerms 29 = .ok (.lload 4, 2) := dk_22 4 (dk_at dksX0_withTerms_1 6 rfl rfl)
theorem dX0_withTerms_31 : decode cX0_withTerms 31 = .ok (.invokestatic 87, 3) := dk_184 0 87 (dk_at dksX0_withTerms_1 8 rfl rfl)
theorem dX0_withTerms_34 : decode cX0_withTerms 34 = .ok (.ifCond .ne 5, 3) := dk_154 0 5 (dk_at dksX0_withTerms_1 11 rfl rfl)
theorem dX0_withTerms_37 : decode cX0_withTerms 37 = .ok (.aconst_null, 1) := dk_1 (dk_at dksX0_withTerms_1 14 rfl rfl)
theorem dX0_withTerms_38 : decode cX0_withTerms 38 = .ok (.areturn, 1) := dk_176 (dk_at dksX0_withTerms_1 15 rfl rfl)
theorem dX0_withTerms_39 : decode cX0_withTerms 39 = .ok (.aload_n 1, 1) := dk_43 (dk_at dksX0_withTerms_1 16 rfl rfl)
theorem dX0_withTerms_40 : decode cX0_withTerms 40 = .ok (.lload_n 2, 1) := dk_32 (dk_at dksX0_withTerms_1 17 rfl rfl)
theorem dX0_withTerms_41 : decode cX0_withTerms 41 = .ok (.l2i, 1) := dk_136 (dk_at dksX0_withTerms_1 18 rfl rfl)
theorem dX0_withTerms_42 : decode cX0_withTerms 42 = .ok (.putfield 90, 3) := dk_181 0 90 (dk_at dksX0_withTerms_1 19 rfl rfl)
theorem dX0_withTerms_45 : decode cX0_withTerms 45 = .ok (.aload_n 1, 1) := dk_43 (dk_at dksX0_withTerms_1 22 rfl rfl)
theorem dX0_withTerms_46 : decode cX0_withTerms 46 = .ok (.lload 4, 2) := dk_22 4 (dk_at dksX0_withTerms_2 0 rfl rfl)
theorem dX0_withTerms_48 : decode cX0_withTerms 48 = .ok (.l2i, 1) := dk_136 (dk_at dksX0_withTerms_2 2 rfl rfl)
theorem dX0_withTerms_49 : decode cX0_withTerms 49 = .ok (.putfield 93, 3) := dk_181 0 93 (dk_at dksX0_withTerms_2 3 rfl rfl)
theorem dX0_withTerms_52 : decode cX0_withTerms 52 = .ok (.aload_n 1, 1) := dk_43 (dk_at dksX0_withTerms_2 6 rfl rfl)
theorem dX0_withTerms_53 : decode cX0_withTerms 53 = .ok (.areturn, 1) := dk_176 (dk_at dksX0_withTerms_2 7 rfl rfl)
abbrev cX0_give : ByteArray := prog_1_method_48_code
def yX0_give : MethodName := ⟨RX0, "give", "(I)I"⟩
def dkwX0_give_2 : List UInt8 := [180, 1, 58, 172]
abbrev dktX0_give_2 : List UInt8 := dkwX0_give_2 ++ []
def dkwX0_give_1 : List UInt8 := [18, 108, 172, 42, 180, 0, 38, 42, 180, 1, 58, 27, 79, 42, 89, 180, 1, 58, 4, 96, 181, 1, 58, 42]
abbrev dktX0_give_1 : List UInt8 := dkwX0_give_1 ++ dktX0_give_2
def dkwX0_give_0 : List UInt8 := [27, 16, 157, 16, 99, 184, 0, 100, 154, 0, 6, 18, 104, 172, 42, 180, 1, 58, 16, 8, 160, 0, 6]
abbrev dktX0_give_0 : List UInt8 := dkwX0_give_0 ++ dktX0_give_1
theorem dksX0_give_0 : cX0_give.data.toList.drop 0 = dktX0_give_0 := by decide +kernel
theorem dksX0_give_1 : cX0_give.data.toList.drop 23 = dktX0_give_1 := dk_seg dksX0_give_0 23 rfl rfl
theorem dksX0_give_2 : cX0_give.data.toList.drop 47 = dktX0_give_2 := dk_seg dksX0_give_1 24 rfl rfl
theorem dX0_give_0 : decode cX0_give 0 = .ok (.iload_n 1, 1) := dk_27 (dk_at dksX0_give_0 0 rfl rfl)
theorem dX0_give_1 : decode cX0_give 1 = .ok (.bipush (-99), 2) := dk_16 157 (dk_at dksX0_give_0 1 rfl rfl)
theorem dX0_give_3 : decode cX0_give 3 = .ok (.bipush 99, 2) := dk_16 99 (dk_at dksX0_give_0 3 rfl rfl)
theorem dX0_give_5 : decode cX0_give 5 = .ok (.invokestatic 100, 3) := dk_184 0 100 (dk_at dksX0_give_0 5 rfl rfl)
theorem dX0_give_8 : decode cX0_give 8 = .ok (.ifCond .ne 6, 3) := dk_154 0 6 (dk_at dksX0_give_0 8 rfl rfl)
theorem dX0_give_11 : decode cX0_give 11 = .ok (.ldc 104, 2) := dk_18 104 (dk_at dksX0_give_0 11 rfl rfl)
theorem dX0_give_13 : decode cX0_give 13 = .ok (.ireturn, 1) := dk_172 (dk_at dksX0_give_0 13 rfl rfl)
theorem dX0_give_14 : decode cX0_give 14 = .ok (.aload_n 0, 1) := dk_42 (dk_at dksX0_give_0 14 rfl rfl)
theorem dX0_give_15 : decode cX0_give 15 = .ok (.getfield 314, 3) := dk_180 1 58 (dk_at dksX0_give_0 15 rfl rfl)
theorem dX0_give_18 : decode cX0_give 18 = .ok (.bipush 8, 2) := dk_16 8 (dk_at dksX0_give_0 18 rfl rfl)
theorem dX0_give_20 : decode cX0_give 20 = .ok (.if_icmp .ne 6, 3) := dk_160 0 6 (dk_at dksX0_give_0 20 rfl rfl)
theorem dX0_give_23 : decode cX0_give 23 = .ok (.ldc 108, 2) := dk_18 108 (dk_at dksX0_give_1 0 rfl rfl)
theorem dX0_give_25 : decode cX0_give 25 = .ok (.ireturn, 1) := dk_172 (dk_at dksX0_give_1 2 rfl rfl)
theorem dX0_give_26 : decode cX0_give 26 = .ok (.aload_n 0, 1) := dk_42 (dk_at dksX0_give_1 3 rfl rfl)
theorem dX0_give_27 : decode cX0_give 27 = .ok (.getfield 38, 3) := dk_180 0 38 (dk_at dksX0_give_1 4 rfl rfl)
theorem dX0_give_30 : decode cX0_give 30 = .ok (.aload_n 0, 1) := dk_42 (dk_at dksX0_give_1 7 rfl rfl)
theorem dX0_give_31 : decode cX0_give 31 = .ok (.getfield 314, 3) := dk_180 1 58 (dk_at dksX0_give_1 8 rfl rfl)
theorem dX0_give_34 : decode cX0_give 34 = .ok (.iload_n 1, 1) := dk_27 (dk_at dksX0_give_1 11 rfl rfl)
theorem dX0_give_35 : decode cX0_give 35 = .ok (.iastore, 1) := dk_79 (dk_at dksX0_give_1 12 rfl rfl)
theorem dX0_give_36 : decode cX0_give 36 = .ok (.aload_n 0, 1) := dk_42 (dk_at dksX0_give_1 13 rfl rfl)
theorem dX0_give_37 : decode cX0_give 37 = .ok (.dup, 1) := dk_89 (dk_at dksX0_give_1 14 rfl rfl)
theorem dX0_give_38 : decode cX0_give 38 = .ok (.getfield 314, 3) := dk_180 1 58 (dk_at dksX0_give_1 15 rfl rfl)
theorem dX0_give_41 : decode cX0_give 41 = .ok (.iconst 1, 1) := dk_4 (dk_at dksX0_give_1 18 rfl rfl)
theorem dX0_give_42 : decode cX0_give 42 = .ok (.iadd, 1) := dk_96 (dk_at dksX0_give_1 19 rfl rfl)
theorem dX0_give_43 : decode cX0_give 43 = .ok (.putfield 314, 3) := dk_181 1 58 (dk_at dksX0_give_1 20 rfl rfl)
theorem dX0_give_46 : decode cX0_give 46 = .ok (.aload_n 0, 1) := dk_42 (dk_at dksX0_give_1 23 rfl rfl)
theorem dX0_give_47 : decode cX0_give 47 = .ok (.getfield 314, 3) := dk_180 1 58 (dk_at dksX0_give_2 0 rfl rfl)
theorem dX0_give_50 : decode cX0_give 50 = .ok (.ireturn, 1) := dk_172 (dk_at dksX0_give_2 3 rfl rfl)
abbrev cX0_forget : ByteArray := prog_1_method_49_code
def yX0_forget : MethodName := ⟨RX0, "forget", "()I"⟩
def dkwX0_forget_0 : List UInt8 := [42, 180, 1, 58, 60, 42, 3, 181, 1, 58, 27, 172]
abbrev dktX0_forget_0 : List UInt8 := dkwX0_forget_0 ++ []
theorem dksX0_forget_0 : cX0_forget.data.toList.drop 0 = dktX0_forget_0 := by decide +kernel
theorem dX0_forget_0 : decode cX0_forget 0 = .ok (.aload_n 0, 1) := dk_42 (dk_at dksX0_forget_0 0 rfl rfl)
theorem dX0_forget_1 : decode cX0_forget 1 = .ok (.getfield 314, 3) := dk_180 1 58 (dk_at dksX0_forget_0 1 rfl rfl)
theorem dX0_forget_4 : decode cX0_forget 4 = .ok (.istore_n 1, 1) := dk_60 (dk_at dksX0_forget_0 4 rfl rfl)
theorem dX0_forget_5 : decode cX0_forget 5 = .ok (.aload_n 0, 1) := dk_42 (dk_at dksX0_forget_0 5 rfl rfl)
theorem dX0_forget_6 : decode cX0_forget 6 = .ok (.iconst 0, 1) := dk_3 (dk_at dksX0_forget_0 6 rfl rfl)
theorem dX0_forget_7 : decode cX0_forget 7 = .ok (.putfield 314, 3) := dk_181 1 58 (dk_at dksX0_forget_0 7 rfl rfl)
theorem dX0_forget_10 : decode cX0_forget 10 = .ok (.iload_n 1, 1) := dk_27 (dk_at dksX0_forget_0 10 rfl rfl)
theorem dX0_forget_11 : decode cX0_forget 11 = .ok (.ireturn, 1) := dk_172 (dk_at dksX0_forget_0 11 rfl rfl)
abbrev cX0_guess : ByteArray := prog_1_method_56_code
def yX0_guess : MethodName := ⟨RX0, "guess", "(I)I"⟩
def dkwX0_guess_2 : List UInt8 := [44, 180, 0, 84, 172]
abbrev dktX0_guess_2 : List UInt8 := dkwX0_guess_2 ++ []
def dkwX0_guess_1 : List UInt8 := [27, 154, 0, 11, 42, 44, 182, 1, 77, 167, 0, 19, 27, 4, 160, 0, 10, 44, 180, 0, 75, 167, 0, 7]
abbrev dktX0_guess_1 : List UInt8 := dkwX0_guess_1 ++ dktX0_guess_2
def dkwX0_guess_0 : List UInt8 := [27, 3, 5, 184, 0, 100, 154, 0, 6, 18, 104, 172, 42, 182, 1, 74, 77, 44, 199, 0, 6, 18, 49, 172]
abbrev dktX0_guess_0 : List UInt8 := dkwX0_guess_0 ++ dktX0_guess_1
theorem dksX0_guess_0 : cX0_guess.data.toList.drop 0 = dktX0_guess_0 := by decide +kernel
theorem dksX0_guess_1 : cX0_guess.data.toList.drop 24 = dktX0_guess_1 := dk_seg dksX0_guess_0 24 rfl rfl
theorem dksX0_guess_2 : cX0_guess.data.toList.drop 48 = dktX0_guess_2 := dk_seg dksX0_guess_1 24 rfl rfl
theorem dX0_guess_0 : decode cX0_guess 0 = .ok (.iload_n 1, 1) := dk_27 (dk_at dksX0_guess_0 0 rfl rfl)
theorem dX0_guess_1 : decode cX0_guess 1 = .ok (.iconst 0, 1) := dk_3 (dk_at dksX0_guess_0 1 rfl rfl)
theorem dX0_guess_2 : decode cX0_guess 2 = .ok (.iconst 2, 1) := dk_5 (dk_at dksX0_guess_0 2 rfl rfl)
theorem dX0_guess_3 : decode cX0_guess 3 = .ok (.invokestatic 100, 3) := dk_184 0 100 (dk_at dksX0_guess_0 3 rfl rfl)
theorem dX0_guess_6 : decode cX0_guess 6 = .ok (.ifCond .ne 6, 3) := dk_154 0 6 (dk_at dksX0_guess_0 6 rfl rfl)
theorem dX0_guess_9 : decode cX0_guess 9 = .ok (.ldc 104, 2) := dk_18 104 (dk_at dksX0_guess_0 9 rfl rfl)
theorem dX0_guess_11 : decode cX0_guess 11 = .ok (.ireturn, 1) := dk_172 (dk_at dksX0_guess_0 11 rfl rfl)
theorem dX0_guess_12 : decode cX0_guess 12 = .ok (.aload_n 0, 1) := dk_42 (dk_at dksX0_guess_0 12 rfl rfl)
theorem dX0_guess_13 : decode cX0_guess 13 = .ok (.invokevirtual 330, 3) := dk_182 1 74 (dk_at dksX0_guess_0 13 rfl rfl)
theorem dX0_guess_16 : decode cX0_guess 16 = .ok (.astore_n 2, 1) := dk_77 (dk_at dksX0_guess_0 16 rfl rfl)
theorem dX0_guess_17 : decode cX0_guess 17 = .ok (.aload_n 2, 1) := dk_44 (dk_at dksX0_guess_0 17 rfl rfl)
theorem dX0_guess_18 : decode cX0_guess 18 = .ok (.ifnonnull 6, 3) := dk_199 0 6 (dk_at dksX0_guess_0 18 rfl rfl)
theorem dX0_guess_21 : decode cX0_guess 21 = .ok (.ldc 49, 2) := dk_18 49 (dk_at dksX0_guess_0 21 rfl rfl)
theorem dX0_guess_23 : decode cX0_guess 23 = .ok (.ireturn, 1) := dk_172 (dk_at dksX0_guess_0 23 rfl rfl)
theorem dX0_guess_24 : decode cX0_guess 24 = .ok (.iload_n 1, 1) := dk_27 (dk_at dksX0_guess_1 0 rfl rfl)
theorem dX0_guess_25 : decode cX0_guess 25 = .ok (.ifCond .ne 11, 3) := dk_154 0 11 (dk_at dksX0_guess_1 1 rfl rfl)
theorem dX0_guess_28 : decode cX0_guess 28 = .ok (.aload_n 0, 1) := dk_42 (dk_at dksX0_guess_1 4 rfl rfl)
theorem dX0_guess_29 : decode cX0_guess 29 = .ok (.aload_n 2, 1) := dk_44 (dk_at dksX0_guess_1 5 rfl rfl)
theorem dX0_guess_30 : decode cX0_guess 30 = .ok (.invokevirtual 333, 3) := dk_182 1 77 (dk_at dksX0_guess_1 6 rfl rfl)
theorem dX0_guess_33 : decode cX0_guess 33 = .ok (.goto 19, 3) := dk_167 0 19 (dk_at dksX0_guess_1 9 rfl rfl)
theorem dX0_guess_36 : decode cX0_guess 36 = .ok (.iload_n 1, 1) := dk_27 (dk_at dksX0_guess_1 12 rfl rfl)
theorem dX0_guess_37 : decode cX0_guess 37 = .ok (.iconst 1, 1) := dk_4 (dk_at dksX0_guess_1 13 rfl rfl)
theorem dX0_guess_38 : decode cX0_guess 38 = .ok (.if_icmp .ne 10, 3) := dk_160 0 10 (dk_at dksX0_guess_1 14 rfl rfl)
theorem dX0_guess_41 : decode cX0_guess 41 = .ok (.aload_n 2, 1) := dk_44 (dk_at dksX0_guess_1 17 rfl rfl)
theorem dX0_guess_42 : decode cX0_guess 42 = .ok (.getfield 75, 3) := dk_180 0 75 (dk_at dksX0_guess_1 18 rfl rfl)
theorem dX0_guess_45 : decode cX0_guess 45 = .ok (.goto 7, 3) := dk_167 0 7 (dk_at dksX0_guess_1 21 rfl rfl)
theorem dX0_guess_48 : decode cX0_guess 48 = .ok (.aload_n 2, 1) := dk_44 (dk_at dksX0_guess_2 0 rfl rfl)
theorem dX0_guess_49 : decode cX0_guess 49 = .ok (.getfield 84, 3) := dk_180 0 84 (dk_at dksX0_guess_2 1 rfl rfl)
theorem dX0_guess_52 : decode cX0_guess 52 = .ok (.ireturn, 1) := dk_172 (dk_at dksX0_guess_2 4 rfl rfl)
abbrev cX0_guessed : ByteArray := prog_1_method_53_code
def yX0_guessed : MethodName := ⟨RX0, "guessed", "()LAheadRows$Told;"⟩
def dkwX0_guessed_5 : List UInt8 := [183, 1, 23, 167, 0, 7, 42, 182, 1, 70, 176]
abbrev dktX0_guessed_5 : List UInt8 := dkwX0_guessed_5 ++ []
def dkwX0_guessed_4 : List UInt8 := [182, 1, 64, 153, 0, 27, 187, 0, 76, 89, 28, 3, 42, 3, 182, 1, 61, 28, 42, 3, 182, 1, 61, 104]
abbrev dktX0_guessed_4 : List UInt8 := dkwX0_guessed_4 ++ dktX0_guessed_5
def dkwX0_guessed_3 : List UInt8 := [184, 1, 67, 167, 0, 8, 3, 3, 184, 1, 67, 61, 28, 18, 49, 159, 0, 37, 42, 4, 28, 3]
abbrev dktX0_guessed_3 : List UInt8 := dkwX0_guessed_3 ++ dktX0_guessed_4
def dkwX0_guessed_2 : List UInt8 := [27, 42, 180, 1, 58, 4, 100, 162, 0, 21, 42, 27, 182, 1, 61, 42, 27, 4, 96, 182, 1, 61]
abbrev dktX0_guessed_2 : List UInt8 := dkwX0_guessed_2 ++ dktX0_guessed_3
def dkwX0_guessed_1 : List UInt8 := [27, 42, 180, 1, 58, 4, 100, 162, 0, 17, 42, 27, 182, 1, 61, 154, 0, 9, 132, 1, 1, 167, 255, 235]
abbrev dktX0_guessed_1 : List UInt8 := dkwX0_guessed_1 ++ dktX0_guessed_2
def dkwX0_guessed_0 : List UInt8 := [42, 3, 3, 3, 182, 1, 64, 153, 0, 15, 187, 0, 76, 89, 3, 3, 3, 3, 183, 1, 23, 176, 3, 60]
abbrev dktX0_guessed_0 : List UInt8 := dkwX0_guessed_0 ++ dktX0_guessed_1
theorem dksX0_guessed_0 : cX0_guessed.data.toList.drop 0 = dktX0_guessed_0 := by decide +kernel
theorem dksX0_guessed_1 : cX0_guessed.data.toList.drop 24 = dktX0_guessed_1 := dk_seg dksX0_guessed_0 24 rfl rfl
theorem dksX0_guessed_2 : cX0_guessed.data.toList.drop 48 = dktX0_guessed_2 := dk_seg dksX0_guessed_1 24 rfl rfl
theorem dksX0_guessed_3 : cX0_guessed.data.toList.drop 70 = dktX0_guessed_3 := dk_seg dksX0_guessed_2 22 rfl rfl
theorem dksX0_guessed_4 : cX0_guessed.data.toList.drop 92 = dktX0_guessed_4 := dk_seg dksX0_guessed_3 22 rfl rfl
theorem dksX0_guessed_5 : cX0_guessed.data.toList.drop 116 = dktX0_guessed_5 := dk_seg dksX0_guessed_4 24 rfl rfl
theorem dX0_guessed_0 : decode cX0_guessed 0 = .ok (.aload_n 0, 1) := dk_42 (dk_at dksX0_guessed_0 0 rfl rfl)
theorem dX0_guessed_1 : decode cX0_guessed 1 = .ok (.iconst 0, 1) := dk_3 (dk_at dksX0_guessed_0 1 rfl rfl)
theorem dX0_guessed_2 : decode cX0_guessed 2 = .ok (.iconst 0, 1) := dk_3 (dk_at dksX0_guessed_0 2 rfl rfl)
theorem dX0_guessed_3 : decode cX0_guessed 3 = .ok (.iconst 0, 1) := dk_3 (dk_at dksX0_guessed_0 3 rfl rfl)
theorem dX0_guessed_4 : decode cX0_guessed 4 = .ok (.invokevirtual 320, 3) := dk_182 1 64 (dk_at dksX0_guessed_0 4 rfl rfl)
theorem dX0_guessed_7 : decode cX0_guessed 7 = .ok (.ifCond .eq 15, 3) := dk_153 0 15 (dk_at dksX0_guessed_0 7 rfl rfl)
theorem dX0_guessed_10 : decode cX0_guessed 10 = .ok (.new 76, 3) := dk_187 0 76 (dk_at dksX0_guessed_0 10 rfl rfl)
theorem dX0_guessed_13 : decode cX0_guessed 13 = .ok (.dup, 1) := dk_89 (dk_at dksX0_guessed_0 13 rfl rfl)
theorem dX0_guessed_14 : decode cX0_guessed 14 = .ok (.iconst 0, 1) := dk_3 (dk_at dksX0_guessed_0 14 rfl rfl)
theorem dX0_guessed_15 : decode cX0_guessed 15 = .ok (.iconst 0, 1) := dk_3 (dk_at dksX0_guessed_0 15 rfl rfl)
theorem dX0_guessed_16 : decode cX0_guessed 16 = .ok (.iconst 0, 1) := dk_3 (dk_at dksX0_guessed_0 16 rfl rfl)
theorem dX0_guessed_17 : decode cX0_guessed 17 = .ok (.iconst 0, 1) := dk_3 (dk_at dksX0_guessed_0 17 rfl rfl)
theorem dX0_guessed_18 : decode cX0_guessed 18 = .ok (.invokespecial 279, 3) := dk_183 1 23 (dk_at dksX0_guessed_0 18 rfl rfl)
theorem dX0_guessed_21 : decode cX0_guessed 21 = .ok (.areturn, 1) := dk_176 (dk_at dksX0_guessed_0 21 rfl rfl)
theorem dX0_guessed_22 : decode cX0_guessed 22 = .ok (.iconst 0, 1) := dk_3 (dk_at dksX0_guessed_0 22 rfl rfl)
theorem dX0_guessed_23 : decode cX0_guessed 23 = .ok (.istore_n 1, 1) := dk_60 (dk_at dksX0_guessed_0 23 rfl rfl)
theorem dX0_guessed_24 : decode cX0_guessed 24 = .ok (.iload_n 1, 1) := dk_27 (dk_at dksX0_guessed_1 0 rfl rfl)
theorem dX0_guessed_25 : decode cX0_guessed 25 = .ok (.aload_n 0, 1) := dk_42 (dk_at dksX0_guessed_1 1 rfl rfl)
theorem dX0_guessed_26 : decode cX0_guessed 26 = .ok (.getfield 314, 3) := dk_180 1 58 (dk_at dksX0_guessed_1 2 rfl rfl)
theorem dX0_guessed_29 : decode cX0_guessed 29 = .ok (.iconst 1, 1) := dk_4 (dk_at dksX0_guessed_1 5 rfl rfl)
theorem dX0_guessed_30 : decode cX0_guessed 30 = .ok (.isub, 1) := dk_100 (dk_at dksX0_guessed_1 6 rfl rfl)
theorem dX0_guessed_31 : decode cX0_guessed 31 = .ok (.if_icmp .ge 17, 3) := dk_162 0 17 (dk_at dksX0_guessed_1 7 rfl rfl)
theorem dX0_guessed_34 : decode cX0_guessed 34 = .ok (.aload_n 0, 1) := dk_42 (dk_at dksX0_guessed_1 10 rfl rfl)
theorem dX0_guessed_35 : decode cX0_guessed 35 = .ok (.iload_n 1, 1) := dk_27 (dk_at dksX0_guessed_1 11 rfl rfl)
theorem dX0_guessed_36 : decode cX0_guessed 36 = .ok (.invokevirtual 317, 3) := dk_182 1 61 (dk_at dksX0_guessed_1 12 rfl rfl)
theorem dX0_guessed_39 : decode cX0_guessed 39 = .ok (.ifCond .ne 9, 3) := dk_154 0 9 (dk_at dksX0_guessed_1 15 rfl rfl)
theorem dX0_guessed_42 : decode cX0_guessed 42 = .ok (.iinc 1 1, 3) := dk_132 1 1 (dk_at dksX0_guessed_1 18 rfl rfl)
theorem dX0_guessed_45 : decode cX0_guessed 45 = .ok (.goto (-21), 3) := dk_167 255 235 (dk_at dksX0_guessed_1 21 rfl rfl)
theorem dX0_guessed_48 : decode cX0_guessed 48 = .ok (.iload_n 1, 1) := dk_27 (dk_at dksX0_guessed_2 0 rfl rfl)
theorem dX0_guessed_49 : decode cX0_guessed 49 = .ok (.aload_n 0, 1) := dk_42 (dk_at dksX0_guessed_2 1 rfl rfl)
theorem dX0_guessed_50 : decode cX0_guessed 50 = .ok (.getfield 314, 3) := dk_180 1 58 (dk_at dksX0_guessed_2 2 rfl rfl)
theorem dX0_guessed_53 : decode cX0_guessed 53 = .ok (.iconst 1, 1) := dk_4 (dk_at dksX0_guessed_2 5 rfl rfl)
theorem dX0_guessed_54 : decode cX0_guessed 54 = .ok (.isub, 1) := dk_100 (dk_at dksX0_guessed_2 6 rfl rfl)
theorem dX0_guessed_55 : decode cX0_guessed 55 = .ok (.if_icmp .ge 21, 3) := dk_162 0 21 (dk_at dksX0_guessed_2 7 rfl rfl)
theorem dX0_guessed_58 : decode cX0_guessed 58 = .ok (.aload_n 0, 1) := dk_42 (dk_at dksX0_guessed_2 10 rfl rfl)
theorem dX0_guessed_59 : decode cX0_guessed 59 = .ok (.iload_n 1, 1) := dk_27 (dk_at dksX0_guessed_2 11 rfl rfl)
theorem dX0_guessed_60 : decode cX0_guessed 60 = .ok (.invokevirtual 317, 3) := dk_182 1 61 (dk_at dksX0_guessed_2 12 rfl rfl)
theorem dX0_guessed_63 : decode cX0_guessed 63 = .ok (.aload_n 0, 1) := dk_42 (dk_at dksX0_guessed_2 15 rfl rfl)
theorem dX0_guessed_64 : decode cX0_guessed 64 = .ok (.iload_n 1, 1) := dk_27 (dk_at dksX0_guessed_2 16 rfl rfl)
theorem dX0_guessed_65 : decode cX0_guessed 65 = .ok (.iconst 1, 1) := dk_4 (dk_at dksX0_guessed_2 17 rfl rfl)
theorem dX0_guessed_66 : decode cX0_guessed 66 = .ok (.iadd, 1) := dk_96 (dk_at dksX0_guessed_2 18 rfl rfl)
theorem dX0_guessed_67 : decode cX0_guessed 67 = .ok (.invokevirtual 317, 3) := dk_182 1 61 (dk_at dksX0_guessed_2 19 rfl rfl)
theorem dX0_guessed_70 : decode cX0_guessed 70 = .ok (.invokestatic 323, 3) := dk_184 1 67 (dk_at dksX0_guessed_3 0 rfl rfl)
theorem dX0_guessed_73 : decode cX0_guessed 73 = .ok (.goto 8, 3) := dk_167 0 8 (dk_at dksX0_guessed_3 3 rfl rfl)
theorem dX0_guessed_76 : decode cX0_guessed 76 = .ok (.iconst 0, 1) := dk_3 (dk_at dksX0_guessed_3 6 rfl rfl)
theorem dX0_guessed_77 : decode cX0_guessed 77 = .ok (.iconst 0, 1) := dk_3 (dk_at dksX0_guessed_3 7 rfl rfl)
theorem dX0_guessed_78 : decode cX0_guessed 78 = .ok (.invokestatic 323, 3) := dk_184 1 67 (dk_at dksX0_guessed_3 8 rfl rfl)
theorem dX0_guessed_81 : decode cX0_guessed 81 = .ok (.istore_n 2, 1) := dk_61 (dk_at dksX0_guessed_3 11 rfl rfl)
theorem dX0_guessed_82 : decode cX0_guessed 82 = .ok (.iload_n 2, 1) := dk_28 (dk_at dksX0_guessed_3 12 rfl rfl)
theorem dX0_guessed_83 : decode cX0_guessed 83 = .ok (.ldc 49, 2) := dk_18 49 (dk_at dksX0_guessed_3 13 rfl rfl)
theorem dX0_guessed_85 : decode cX0_guessed 85 = .ok (.if_icmp .eq 37, 3) := dk_159 0 37 (dk_at dksX0_guessed_3 15 rfl rfl)
theorem dX0_guessed_88 : decode cX0_guessed 88 = .ok (.aload_n 0, 1) := dk_42 (dk_at dksX0_guessed_3 18 rfl rfl)
theorem dX0_guessed_89 : decode cX0_guessed 89 = .ok (.iconst 1, 1) := dk_4 (dk_at dksX0_guessed_3 19 rfl rfl)
theorem dX0_guessed_90 : decode cX0_guessed 90 = .ok (.iload_n 2, 1) := dk_28 (dk_at dksX0_guessed_3 20 rfl rfl)
theorem dX0_guessed_91 : decode cX0_guessed 91 = .ok (.iconst 0, 1) := dk_3 (dk_at dksX0_guessed_3 21 rfl rfl)
theorem dX0_guessed_92 : decode cX0_guessed 92 = .ok (.invokevirtual 320, 3) := dk_182 1 64 (dk_at dksX0_guessed_4 0 rfl rfl)
theorem dX0_guessed_95 : decode cX0_guessed 95 = .ok (.ifCond .eq 27, 3) := dk_153 0 27 (dk_at dksX0_guessed_4 3 rfl rfl)
theorem dX0_guessed_98 : decode cX0_guessed 98 = .ok (.new 76, 3) := dk_187 0 76 (dk_at dksX0_guessed_4 6 rfl rfl)
theorem dX0_guessed_101 : decode cX0_guessed 101 = .ok (.dup, 1) := dk_89 (dk_at dksX0_guessed_4 9 rfl rfl)
theorem dX0_guessed_102 : decode cX0_guessed 102 = .ok (.iload_n 2, 1) := dk_28 (dk_at dksX0_guessed_4 10 rfl rfl)
theorem dX0_guessed_103 : decode cX0_guessed 103 = .ok (.iconst 0, 1) := dk_3 (dk_at dksX0_guessed_4 11 rfl rfl)
theorem dX0_guessed_104 : decode cX0_guessed 104 = .ok (.aload_n 0, 1) := dk_42 (dk_at dksX0_guessed_4 12 rfl rfl)
theorem dX0_guessed_105 : decode cX0_guessed 105 = .ok (.iconst 0, 1) := dk_3 (dk_at dksX0_guessed_4 13 rfl rfl)
theorem dX0_guessed_106 : decode cX0_guessed 106 = .ok (.invokevirtual 317, 3) := dk_182 1 61 (dk_at dksX0_guessed_4 14 rfl rfl)
theorem dX0_guessed_109 : decode cX0_guessed 109 = .ok (.iload_n 2, 1) := dk_28 (dk_at dksX0_guessed_4 17 rfl rfl)
theorem dX0_guessed_110 : decode cX0_guessed 110 = .ok (.aload_n 0, 1) := dk_42 (dk_at dksX0_guessed_4 18 rfl rfl)
theorem dX0_guessed_111 : decode cX0_guessed 111 = .ok (.iconst 0, 1) := dk_3 (dk_at dksX0_guessed_4 19 rfl rfl)
theorem dX0_guessed_112 : decode cX0_guessed 112 = .ok (.invokevirtual 317, 3) := dk_182 1 61 (dk_at dksX0_guessed_4 20 rfl rfl)
theorem dX0_guessed_115 : decode cX0_guessed 115 = .ok (.imul, 1) := dk_104 (dk_at dksX0_guessed_4 23 rfl rfl)
theorem dX0_guessed_116 : decode cX0_guessed 116 = .ok (.invokespecial 279, 3) := dk_183 1 23 (dk_at dksX0_guessed_5 0 rfl rfl)
theorem dX0_guessed_119 : decode cX0_guessed 119 = .ok (.goto 7, 3) := dk_167 0 7 (dk_at dksX0_guessed_5 3 rfl rfl)
theorem dX0_guessed_122 : decode cX0_guessed 122 = .ok (.aload_n 0, 1) := dk_42 (dk_at dksX0_guessed_5 6 rfl rfl)
theorem dX0_guessed_123 : decode cX0_guessed 123 = .ok (.invokevirtual 326, 3) := dk_182 1 70 (dk_at dksX0_guessed_5 7 rfl rfl)
theorem dX0_guessed_126 : decode cX0_guessed 126 = .ok (.areturn, 1) := dk_176 (dk_at dksX0_guessed_5 10 rfl rfl)
abbrev cX0_goesBy : ByteArray := prog_1_method_51_code
def yX0_goesBy : MethodName := ⟨RX0, "goesBy", "(III)Z"⟩
def dkwX0_goesBy_3 : List UInt8 := [167, 0, 4, 3, 54, 4, 132, 5, 1, 167, 255, 185, 21, 4, 172]
abbrev dktX0_goesBy_3 : List UInt8 := dkwX0_goesBy_3 ++ []
def dkwX0_goesBy_2 : List UInt8 := [164, 0, 16, 29, 42, 21, 5, 5, 100, 182, 1, 61, 104, 167, 0, 4, 3, 96, 160, 0, 7, 4]
abbrev dktX0_goesBy_2 : List UInt8 := dkwX0_goesBy_2 ++ dktX0_goesBy_3
def dkwX0_goesBy_1 : List UInt8 := [182, 1, 61, 27, 158, 0, 16, 28, 42, 21, 5, 4, 100, 182, 1, 61, 104, 167, 0, 4, 3, 27, 4]
abbrev dktX0_goesBy_1 : List UInt8 := dkwX0_goesBy_1 ++ dktX0_goesBy_2
def dkwX0_goesBy_0 : List UInt8 := [4, 54, 4, 27, 54, 5, 21, 5, 42, 180, 1, 58, 162, 0, 68, 21, 4, 153, 0, 63, 42, 21, 5]
abbrev dktX0_goesBy_0 : List UInt8 := dkwX0_goesBy_0 ++ dktX0_goesBy_1
theorem dksX0_goesBy_0 : cX0_goesBy.data.toList.drop 0 = dktX0_goesBy_0 := by decide +kernel
theorem dksX0_goesBy_1 : cX0_goesBy.data.toList.drop 23 = dktX0_goesBy_1 := dk_seg dksX0_goesBy_0 23 rfl rfl
theorem dksX0_goesBy_2 : cX0_goesBy.data.toList.drop 46 = dktX0_goesBy_2 := dk_seg dksX0_goesBy_1 23 rfl rfl
theorem dksX0_goesBy_3 : cX0_goesBy.data.toList.drop 68 = dktX0_goesBy_3 := dk_seg dksX0_goesBy_2 22 rfl rfl
theorem dX0_goesBy_0 : decode cX0_goesBy 0 = .ok (.iconst 1, 1) := dk_4 (dk_at dksX0_goesBy_0 0 rfl rfl)
theorem dX0_goesBy_1 : decode cX0_goesBy 1 = .ok (.istore 4, 2) := dk_54 4 (dk_at dksX0_goesBy_0 1 rfl rfl)
theorem dX0_goesBy_3 : decode cX0_goesBy 3 = .ok (.iload_n 1, 1) := dk_27 (dk_at dksX0_goesBy_0 3 rfl rfl)
theorem dX0_goesBy_4 : decode cX0_goesBy 4 = .ok (.istore 5, 2) := dk_54 5 (dk_at dksX0_goesBy_0 4 rfl rfl)
theorem dX0_goesBy_6 : decode cX0_goesBy 6 = .ok (.iload 5, 2) := dk_21 5 (dk_at dksX0_goesBy_0 6 rfl rfl)
theorem dX0_goesBy_8 : decode cX0_goesBy 8 = .ok (.aload_n 0, 1) := dk_42 (dk_at dksX0_goesBy_0 8 rfl rfl)
theorem dX0_goesBy_9 : decode cX0_goesBy 9 = .ok (.getfield 314, 3) := dk_180 1 58 (dk_at dksX0_goesBy_0 9 rfl rfl)
theorem dX0_goesBy_12 : decode cX0_goesBy 12 = .ok (.if_icmp .ge 68, 3) := dk_162 0 68 (dk_at dksX0_goesBy_0 12 rfl rfl)
theorem dX0_goesBy_15 : decode cX0_goesBy 15 = .ok (.iload 4, 2) := dk_21 4 (dk_at dksX0_goesBy_0 15 rfl rfl)
theorem dX0_goesBy_17 : decode cX0_goesBy 17 = .ok (.ifCond .eq 63, 3) := dk_153 0 63 (dk_at dksX0_goesBy_0 17 rfl rfl)
theorem dX0_goesBy_20 : decode cX0_goesBy 20 = .ok (.aload_n 0, 1) := dk_42 (dk_at dksX0_goesBy_0 20 rfl rfl)
theorem dX0_goesBy_21 : decode cX0_goesBy 21 = .ok (.iload 5, 2) := dk_21 5 (dk_at dksX0_goesBy_0 21 rfl rfl)
theorem dX0_goesBy_23 : decode cX0_goesBy 23 = .ok (.invokevirtual 317, 3) := dk_182 1 61 (dk_at dksX0_goesBy_1 0 rfl rfl)
theorem dX0_goesBy_26 : decode cX0_goesBy 26 = .ok (.iload_n 1, 1) := dk_27 (dk_at dksX0_goesBy_1 3 rfl rfl)
theorem dX0_goesBy_27 : decode cX0_goesBy 27 = .ok (.ifCond .le 16, 3) := dk_158 0 16 (dk_at dksX0_goesBy_1 4 rfl rfl)
theorem dX0_goesBy_30 : decode cX0_goesBy 30 = .ok (.iload_n 2, 1) := dk_28 (dk_at dksX0_goesBy_1 7 rfl rfl)
theorem dX0_goesBy_31 : decode cX0_goesBy 31 = .ok (.aload_n 0, 1) := dk_42 (dk_at dksX0_goesBy_1 8 rfl rfl)
theorem dX0_goesBy_32 : decode cX0_goesBy 32 = .ok (.iload 5, 2) := dk_21 5 (dk_at dksX0_goesBy_1 9 rfl rfl)
theorem dX0_goesBy_34 : decode cX0_goesBy 34 = .ok (.iconst 1, 1) := dk_4 (dk_at dksX0_goesBy_1 11 rfl rfl)
theorem dX0_goesBy_35 : decode cX0_goesBy 35 = .ok (.isub, 1) := dk_100 (dk_at dksX0_goesBy_1 12 rfl rfl)
theorem dX0_goesBy_36 : decode cX0_goesBy 36 = .ok (.invokevirtual 317, 3) := dk_182 1 61 (dk_at dksX0_goesBy_1 13 rfl rfl)
theorem dX0_goesBy_39 : decode cX0_goesBy 39 = .ok (.imul, 1) := dk_104 (dk_at dksX0_goesBy_1 16 rfl rfl)
theorem dX0_goesBy_40 : decode cX0_goesBy 40 = .ok (.goto 4, 3) := dk_167 0 4 (dk_at dksX0_goesBy_1 17 rfl rfl)
theorem dX0_goesBy_43 : decode cX0_goesBy 43 = .ok (.iconst 0, 1) := dk_3 (dk_at dksX0_goesBy_1 20 rfl rfl)
theorem dX0_goesBy_44 : decode cX0_goesBy 44 = .ok (.iload_n 1, 1) := dk_27 (dk_at dksX0_goesBy_1 21 rfl rfl)
theorem dX0_goesBy_45 : decode cX0_goesBy 45 = .ok (.iconst 1, 1) := dk_4 (dk_at dksX0_goesBy_1 22 rfl rfl)
theorem dX0_goesBy_46 : decode cX0_goesBy 46 = .ok (.if_icmp .le 16, 3) := dk_164 0 16 (dk_at dksX0_goesBy_2 0 rfl rfl)
theorem dX0_goesBy_49 : decode cX0_goesBy 49 = .ok (.iload_n 3, 1) := dk_29 (dk_at dksX0_goesBy_2 3 rfl rfl)
theorem dX0_goesBy_50 : decode cX0_goesBy 50 = .ok (.aload_n 0, 1) := dk_42 (dk_at dksX0_goesBy_2 4 rfl rfl)
theorem dX0_goesBy_51 : decode cX0_goesBy 51 = .ok (.iload 5, 2) := dk_21 5 (dk_at dksX0_goesBy_2 5 rfl rfl)
theorem dX0_goesBy_53 : decode cX0_goesBy 53 = .ok (.iconst 2, 1) := dk_5 (dk_at dksX0_goesBy_2 7 rfl rfl)
theorem dX0_goesBy_54 : decode cX0_goesBy 54 = .ok (.isub, 1) := dk_100 (dk_at dksX0_goesBy_2 8 rfl rfl)
theorem dX0_goesBy_55 : decode cX0_goesBy 55 = .ok (.invokevirtual 317, 3) := dk_182 1 61 (dk_at dksX0_goesBy_2 9 rfl rfl)
theorem dX0_goesBy_58 : decode cX0_goesBy 58 = .ok (.imul, 1) := dk_104 (dk_at dksX0_goesBy_2 12 rfl rfl)
theorem dX0_goesBy_59 : decode cX0_goesBy 59 = .ok (.goto 4, 3) := dk_167 0 4 (dk_at dksX0_goesBy_2 13 rfl rfl)
theorem dX0_goesBy_62 : decode cX0_goesBy 62 = .ok (.iconst 0, 1) := dk_3 (dk_at dksX0_goesBy_2 16 rfl rfl)
theorem dX0_goesBy_63 : decode cX0_goesBy 63 = .ok (.iadd, 1) := dk_96 (dk_at dksX0_goesBy_2 17 rfl rfl)
theorem dX0_goesBy_64 : decode cX0_goesBy 64 = .ok (.if_icmp .ne 7, 3) := dk_160 0 7 (dk_at dksX0_goesBy_2 18 rfl rfl)
theorem dX0_goesBy_67 : decode cX0_goesBy 67 = .ok (.iconst 1, 1) := dk_4 (dk_at dksX0_goesBy_2 21 rfl rfl)
theorem dX0_goesBy_68 : decode cX0_goesBy 68 = .ok (.goto 4, 3) := dk_167 0 4 (dk_at dksX0_goesBy_3 0 rfl rfl)
theorem dX0_goesBy_71 : decode cX0_goesBy 71 = .ok (.iconst 0, 1) := dk_3 (dk_at dksX0_goesBy_3 3 rfl rfl)
theorem dX0_goesBy_72 : decode cX0_goesBy 72 = .ok (.istore 4, 2) := dk_54 4 (dk_at dksX0_goesBy_3 4 rfl rfl)
theorem dX0_goesBy_74 : decode cX0_goesBy 74 = .ok (.iinc 5 1, 3) := dk_132 5 1 (dk_at dksX0_goesBy_3 6 rfl rfl)
theorem dX0_goesBy_77 : decode cX0_goesBy 77 = .ok (.goto (-71), 3) := dk_167 255 185 (dk_at dksX0_goesBy_3 9 rfl rfl)
theorem dX0_goesBy_80 : decode cX0_goesBy 80 = .ok (.iload 4, 2) := dk_21 4 (dk_at dksX0_goesBy_3 12 rfl rfl)
theorem dX0_goesBy_82 : decode cX0_goesBy 82 = .ok (.ireturn, 1) := dk_172 (dk_at dksX0_goesBy_3 14 rfl rfl)
abbrev cX0_g : ByteArray := prog_1_method_50_code
def yX0_g : MethodName := ⟨RX0, "g", "(I)I"⟩
def dkwX0_g_0 : List UInt8 := [27, 42, 180, 1, 58, 162, 0, 12, 42, 180, 0, 38, 27, 46, 167, 0, 4, 3, 172]
abbrev dktX0_g_0 : List UInt8 := dkwX0_g_0 ++ []
theorem dksX0_g_0 : cX0_g.data.toList.drop 0 = dktX0_g_0 := by decide +kernel
theorem dX0_g_0 : decode cX0_g 0 = .ok (.iload_n 1, 1) := dk_27 (dk_at dksX0_g_0 0 rfl rfl)
theorem dX0_g_1 : decode cX0_g 1 = .ok (.aload_n 0, 1) := dk_42 (dk_at dksX0_g_0 1 rfl rfl)
theorem dX0_g_2 : decode cX0_g 2 = .ok (.getfield 314, 3) := dk_180 1 58 (dk_at dksX0_g_0 2 rfl rfl)
theorem dX0_g_5 : decode cX0_g 5 = .ok (.if_icmp .ge 12, 3) := dk_162 0 12 (dk_at dksX0_g_0 5 rfl rfl)
theorem dX0_g_8 : decode cX0_g 8 = .ok (.aload_n 0, 1) := dk_42 (dk_at dksX0_g_0 8 rfl rfl)
theorem dX0_g_9 : decode cX0_g 9 = .ok (.getfield 38, 3) := dk_180 0 38 (dk_at dksX0_g_0 9 rfl rfl)
theorem dX0_g_12 : decode cX0_g 12 = .ok (.iload_n 1, 1) := dk_27 (dk_at dksX0_g_0 12 rfl rfl)
theorem dX0_g_13 : decode cX0_g 13 = .ok (.iaload, 1) := dk_46 (dk_at dksX0_g_0 13 rfl rfl)
theorem dX0_g_14 : decode cX0_g 14 = .ok (.goto 4, 3) := dk_167 0 4 (dk_at dksX0_g_0 14 rfl rfl)
theorem dX0_g_17 : decode cX0_g 17 = .ok (.iconst 0, 1) := dk_3 (dk_at dksX0_g_0 17 rfl rfl)
theorem dX0_g_18 : decode cX0_g 18 = .ok (.ireturn, 1) := dk_172 (dk_at dksX0_g_0 18 rfl rfl)
abbrev cX0_leastOf : ByteArray := prog_1_method_52_code
def yX0_leastOf : MethodName := ⟨RX0, "leastOf", "(II)I"⟩
def dkwX0_leastOf_1 : List UInt8 := [108, 133, 184, 0, 80, 153, 0, 9, 27, 26, 108, 167, 0, 5, 18, 49, 172]
abbrev dktX0_leastOf_1 : List UInt8 := dkwX0_leastOf_1 ++ []
def dkwX0_leastOf_0 : List UInt8 := [26, 154, 0, 15, 27, 154, 0, 8, 16, 247, 167, 0, 5, 18, 49, 172, 27, 26, 112, 154, 0, 19, 27, 26]
abbrev dktX0_leastOf_0 : List UInt8 := dkwX0_leastOf_0 ++ dktX0_leastOf_1
theorem dksX0_leastOf_0 : cX0_leastOf.data.toList.drop 0 = dktX0_leastOf_0 := by decide +kernel
theorem dksX0_leastOf_1 : cX0_leastOf.data.toList.drop 24 = dktX0_leastOf_1 := dk_seg dksX0_leastOf_0 24 rfl rfl
theorem dX0_leastOf_0 : decode cX0_leastOf 0 = .ok (.iload_n 0, 1) := dk_26 (dk_at dksX0_leastOf_0 0 rfl rfl)
theorem dX0_leastOf_1 : decode cX0_leastOf 1 = .ok (.ifCond .ne 15, 3) := dk_154 0 15 (dk_at dksX0_leastOf_0 1 rfl rfl)
theorem dX0_leastOf_4 : decode cX0_leastOf 4 = .ok (.iload_n 1, 1) := dk_27 (dk_at dksX0_leastOf_0 4 rfl rfl)
theorem dX0_leastOf_5 : decode cX0_leastOf 5 = .ok (.ifCond .ne 8, 3) := dk_154 0 8 (dk_at dksX0_leastOf_0 5 rfl rfl)
theorem dX0_leastOf_8 : decode cX0_leastOf 8 = .ok (.bipush (-9), 2) := dk_16 247 (dk_at dksX0_leastOf_0 8 rfl rfl)
theorem dX0_leastOf_10 : decode cX0_leastOf 10 = .ok (.goto 5, 3) := dk_167 0 5 (dk_at dksX0_leastOf_0 10 rfl rfl)
theorem dX0_leastOf_13 : decode cX0_leastOf 13 = .ok (.ldc 49, 2) := dk_18 49 (dk_at dksX0_leastOf_0 13 rfl rfl)
theorem dX0_leastOf_15 : decode cX0_leastOf 15 = .ok (.ireturn, 1) := dk_172 (dk_at dksX0_leastOf_0 15 rfl rfl)
theorem dX0_leastOf_16 : decode cX0_leastOf 16 = .ok (.iload_n 1, 1) := dk_27 (dk_at dksX0_leastOf_0 16 rfl rfl)
theorem dX0_leastOf_17 : decode cX0_leastOf 17 = .ok (.iload_n 0, 1) := dk_26 (dk_at dksX0_leastOf_0 17 rfl rfl)
theorem dX0_leastOf_18 : decode cX0_leastOf 18 = .ok (.irem, 1) := dk_112 (dk_at dksX0_leastOf_0 18 rfl rfl)
theorem dX0_leastOf_19 : decode cX0_leastOf 19 = .ok (.ifCond .ne 19, 3) := dk_154 0 19 (dk_at dksX0_leastOf_0 19 rfl rfl)
theorem dX0_leastOf_22 : decode cX0_leastOf 22 = .ok (.iload_n 1, 1) := dk_27 (dk_at dksX0_leastOf_0 22 rfl rfl)
theorem dX0_leastOf_23 : decode cX0_leastOf 23 = .ok (.iload_n 0, 1) := dk_26 (dk_at dksX0_leastOf_0 23 rfl rfl)
theorem dX0_leastOf_24 : decode cX0_leastOf 24 = .ok (.idiv, 1) := dk_108 (dk_at dksX0_leastOf_1 0 rfl rfl)
theorem dX0_leastOf_25 : decode cX0_leastOf 25 = .ok (.i2l, 1) := dk_133 (dk_at dksX0_leastOf_1 1 rfl rfl)
theorem dX0_leastOf_26 : decode cX0_leastOf 26 = .ok (.invokestatic 80, 3) := dk_184 0 80 (dk_at dksX0_leastOf_1 2 rfl rfl)
theorem dX0_leastOf_29 : decode cX0_leastOf 29 = .ok (.ifCond .eq 9, 3) := dk_153 0 9 (dk_at dksX0_leastOf_1 5 rfl rfl)
theorem dX0_leastOf_32 : decode cX0_leastOf 32 = .ok (.iload_n 1, 1) := dk_27 (dk_at dksX0_leastOf_1 8 rfl rfl)
theorem dX0_leastOf_33 : decode cX0_leastOf 33 = .ok (.iload_n 0, 1) := dk_26 (dk_at dksX0_leastOf_1 9 rfl rfl)
theorem dX0_leastOf_34 : decode cX0_leastOf 34 = .ok (.idiv, 1) := dk_108 (dk_at dksX0_leastOf_1 10 rfl rfl)
theorem dX0_leastOf_35 : decode cX0_leastOf 35 = .ok (.goto 5, 3) := dk_167 0 5 (dk_at dksX0_leastOf_1 11 rfl rfl)
theorem dX0_leastOf_38 : decode cX0_leastOf 38 = .ok (.ldc 49, 2) := dk_18 49 (dk_at dksX0_leastOf_1 14 rfl rfl)
theorem dX0_leastOf_40 : decode cX0_leastOf 40 = .ok (.ireturn, 1) := dk_172 (dk_at dksX0_leastOf_1 16 rfl rfl)
abbrev cX0_guessedByTwo : ByteArray := prog_1_method_54_code
def yX0_guessedByTwo : MethodName := ⟨RX0, "guessedByTwo", "()LAheadRows$Told;"⟩
def dkwX0_guessedByTwo_5 : List UInt8 := [132, 2, 1, 167, 255, 167, 1, 176]
abbrev dktX0_guessedByTwo_5 : List UInt8 := dkwX0_guessedByTwo_5 ++ []
def dkwX0_guessedByTwo_4 : List UInt8 := [153, 0, 23, 187, 0, 76, 89, 28, 29, 42, 3, 182, 1, 61, 42, 4, 182, 1, 61, 183, 1, 23, 176]
abbrev dktX0_guessedByTwo_4 : List UInt8 := dkwX0_guessedByTwo_4 ++ dktX0_guessedByTwo_5
def dkwX0_guessedByTwo_3 : List UInt8 := [167, 0, 8, 3, 3, 184, 1, 67, 62, 29, 18, 49, 159, 0, 33, 42, 5, 28, 29, 182, 1, 64]
abbrev dktX0_guessedByTwo_3 : List UInt8 := dkwX0_guessedByTwo_3 ++ dktX0_guessedByTwo_4
def dkwX0_guessedByTwo_2 : List UInt8 := [182, 1, 61, 42, 27, 5, 96, 182, 1, 61, 28, 42, 27, 4, 96, 182, 1, 61, 104, 100, 184, 1, 67]
abbrev dktX0_guessedByTwo_2 : List UInt8 := dkwX0_guessedByTwo_2 ++ dktX0_guessedByTwo_3
def dkwX0_guessedByTwo_1 : List UInt8 := [167, 255, 235, 16, 247, 61, 28, 16, 9, 163, 0, 89, 27, 42, 180, 1, 58, 5, 100, 162, 0, 31, 42, 27]
abbrev dktX0_guessedByTwo_1 : List UInt8 := dkwX0_guessedByTwo_1 ++ dktX0_guessedByTwo_2
def dkwX0_guessedByTwo_0 : List UInt8 := [3, 60, 27, 42, 180, 1, 58, 5, 100, 162, 0, 17, 42, 27, 182, 1, 61, 154, 0, 9, 132, 1, 1]
abbrev dktX0_guessedByTwo_0 : List UInt8 := dkwX0_guessedByTwo_0 ++ dktX0_guessedByTwo_1
theorem dksX0_guessedByTwo_0 : cX0_guessedByTwo.data.toList.drop 0 = dktX0_guessedByTwo_0 := by decide +kernel
theorem dksX0_guessedByTwo_1 : cX0_guessedByTwo.data.toList.drop 23 = dktX0_guessedByTwo_1 := dk_seg dksX0_guessedByTwo_0 23 rfl rfl
theorem dksX0_guessedByTwo_2 : cX0_guessedByTwo.data.toList.drop 47 = dktX0_guessedByTwo_2 := dk_seg dksX0_guessedByTwo_1 24 rfl rfl
theorem dksX0_guessedByTwo_3 : cX0_guessedByTwo.data.toList.drop 70 = dktX0_guessedByTwo_3 := dk_seg dksX0_guessedByTwo_2 23 rfl rfl
theorem dksX0_guessedByTwo_4 : cX0_guessedByTwo.data.toList.drop 92 = dktX0_guessedByTwo_4 := dk_seg dksX0_guessedByTwo_3 22 rfl rfl
theorem dksX0_guessedByTwo_5 : cX0_guessedByTwo.data.toList.drop 115 = dktX0_guessedByTwo_5 := dk_seg dksX0_guessedByTwo_4 23 rfl rfl
theorem dX0_guessedByTwo_0 : decode cX0_guessedByTwo 0 = .ok (.iconst 0, 1) := dk_3 (dk_at dksX0_guessedByTwo_0 0 rfl rfl)
theorem dX0_guessedByTwo_1 : decode cX0_guessedByTwo 1 = .ok (.istore_n 1, 1) := dk_60 (dk_at dksX0_guessedByTwo_0 1 rfl rfl)
theorem dX0_guessedByTwo_2 : decode cX0_guessedByTwo 2 = .ok (.iload_n 1, 1) := dk_27 (dk_at dksX0_guessedByTwo_0 2 rfl rfl)
theorem dX0_guessedByTwo_3 : decode cX0_guessedByTwo 3 = .ok (.aload_n 0, 1) := dk_42 (dk_at dksX0_guessedByTwo_0 3 rfl rfl)
theorem dX0_guessedByTwo_4 : decode cX0_guessedByTwo 4 = .ok (.getfield 314, 3) := dk_180 1 58 (dk_at dksX0_guessedByTwo_0 4 rfl rfl)
theorem dX0_guessedByTwo_7 : decode cX0_guessedByTwo 7 = .ok (.iconst 2, 1) := dk_5 (dk_at dksX0_guessedByTwo_0 7 rfl rfl)
theorem dX0_guessedByTwo_8 : decode cX0_guessedByTwo 8 = .ok (.isub, 1) := dk_100 (dk_at dksX0_guessedByTwo_0 8 rfl rfl)
theorem dX0_guessedByTwo_9 : decode cX0_guessedByTwo 9 = .ok (.if_icmp .ge 17, 3) := dk_162 0 17 (dk_at dksX0_guessedByTwo_0 9 rfl rfl)
theorem dX0_guessedByTwo_12 : decode cX0_guessedByTwo 12 = .ok (.aload_n 0, 1) := dk_42 (dk_at dksX0_guessedByTwo_0 12 rfl rfl)
theorem dX0_guessedByTwo_13 : decode cX0_guessedByTwo 13 = .ok (.iload_n 1, 1) := dk_27 (dk_at dksX0_guessedByTwo_0 13 rfl rfl)
theorem dX0_guessedByTwo_14 : decode cX0_guessedByTwo 14 = .ok (.invokevirtual 317, 3) := dk_182 1 61 (dk_at dksX0_guessedByTwo_0 14 rfl rfl)
theorem dX0_guessedByTwo_17 : decode cX0_guessedByTwo 17 = .ok (.ifCond .ne 9, 3) := dk_154 0 9 (dk_at dksX0_guessedByTwo_0 17 rfl rfl)
theorem dX0_guessedByTwo_20 : decode cX0_guessedByTwo 20 = .ok (.iinc 1 1, 3) := dk_132 1 1 (dk_at dksX0_guessedByTwo_0 20 rfl rfl)
theorem dX0_guessedByTwo_23 : decode cX0_guessedByTwo 23 = .ok (.goto (-21), 3) := dk_167 255 235 (dk_at dksX0_guessedByTwo_1 0 rfl rfl)
theorem dX0_guessedByTwo_26 : decode cX0_guessedByTwo 26 = .ok (.bipush (-9), 2) := dk_16 247 (dk_at dksX0_guessedByTwo_1 3 rfl rfl)
theorem dX0_guessedByTwo_28 : decode cX0_guessedByTwo 28 = .ok (.istore_n 2, 1) := dk_61 (dk_at dksX0_guessedByTwo_1 5 rfl rfl)
theorem dX0_guessedByTwo_29 : decode cX0_guessedByTwo 29 = .ok (.iload_n 2, 1) := dk_28 (dk_at dksX0_guessedByTwo_1 6 rfl rfl)
theorem dX0_guessedByTwo_30 : decode cX0_guessedByTwo 30 = .ok (.bipush 9, 2) := dk_16 9 (dk_at dksX0_guessedByTwo_1 7 rfl rfl)
theorem dX0_guessedByTwo_32 : decode cX0_guessedByTwo 32 = .ok (.if_icmp .gt 89, 3) := dk_163 0 89 (dk_at dksX0_guessedByTwo_1 9 rfl rfl)
theorem dX0_guessedByTwo_35 : decode cX0_guessedByTwo 35 = .ok (.iload_n 1, 1) := dk_27 (dk_at dksX0_guessedByTwo_1 12 rfl rfl)
theorem dX0_guessedByTwo_36 : decode cX0_guessedByTwo 36 = .ok (.aload_n 0, 1) := dk_42 (dk_at dksX0_guessedByTwo_1 13 rfl rfl)
theorem dX0_guessedByTwo_37 : decode cX0_guessedByTwo 37 = .ok (.getfield 314, 3) := dk_180 1 58 (dk_at dksX0_guessedByTwo_1 14 rfl rfl)
theorem dX0_guessedByTwo_40 : decode cX0_guessedByTwo 40 = .ok (.iconst 2, 1) := dk_5 (dk_at dksX0_guessedByTwo_1 17 rfl rfl)
theorem dX0_guessedByTwo_41 : decode cX0_guessedByTwo 41 = .ok (.isub, 1) := dk_100 (dk_at dksX0_guessedByTwo_1 18 rfl rfl)
theorem dX0_guessedByTwo_42 : decode cX0_guessedByTwo 42 = .ok (.if_icmp .ge 31, 3) := dk_162 0 31 (dk_at dksX0_guessedByTwo_1 19 rfl rfl)
theorem dX0_guessedByTwo_45 : decode cX0_guessedByTwo 45 = .ok (.aload_n 0, 1) := dk_42 (dk_at dksX0_guessedByTwo_1 22 rfl rfl)
theorem dX0_guessedByTwo_46 : decode cX0_guessedByTwo 46 = .ok (.iload_n 1, 1) := dk_27 (dk_at dksX0_guessedByTwo_1 23 rfl rfl)
theorem dX0_guessedByTwo_47 : decode cX0_guessedByTwo 47 = .ok (.invokevirtual 317, 3) := dk_182 1 61 (dk_at dksX0_guessedByTwo_2 0 rfl rfl)
theorem dX0_guessedByTwo_50 : decode cX0_guessedByTwo 50 = .ok (.aload_n 0, 1) := dk_42 (dk_at dksX0_guessedByTwo_2 3 rfl rfl)
theorem dX0_guessedByTwo_51 : decode cX0_guessedByTwo 51 = .ok (.iload_n 1, 1) := dk_27 (dk_at dksX0_guessedByTwo_2 4 rfl rfl)
theorem dX0_guessedByTwo_52 : decode cX0_guessedByTwo 52 = .ok (.iconst 2, 1) := dk_5 (dk_at dksX0_guessedByTwo_2 5 rfl rfl)
theorem dX0_guessedByTwo_53 : decode cX0_guessedByTwo 53 = .ok (.iadd, 1) := dk_96 (dk_at dksX0_guessedByTwo_2 6 rfl rfl)
theorem dX0_guessedByTwo_54 : decode cX0_guessedByTwo 54 = .ok (.invokevirtual 317, 3) := dk_182 1 61 (dk_at dksX0_guessedByTwo_2 7 rfl rfl)
theorem dX0_guessedByTwo_57 : decode cX0_guessedByTwo 57 = .ok (.iload_n 2, 1) := dk_28 (dk_at dksX0_guessedByTwo_2 10 rfl rfl)
theorem dX0_guessedByTwo_58 : decode cX0_guessedByTwo 58 = .ok (.aload_n 0, 1) := dk_42 (dk_at dksX0_guessedByTwo_2 11 rfl rfl)
theorem dX0_guessedByTwo_59 : decode cX0_guessedByTwo 59 = .ok (.iload_n 1, 1) := dk_27 (dk_at dksX0_guessedByTwo_2 12 rfl rfl)
theorem dX0_guessedByTwo_60 : decode cX0_guessedByTwo 60 = .ok (.iconst 1, 1) := dk_4 (dk_at dksX0_guessedByTwo_2 13 rfl rfl)
theorem dX0_guessedByTwo_61 : decode cX0_guessedByTwo 61 = .ok (.iadd, 1) := dk_96 (dk_at dksX0_guessedByTwo_2 14 rfl rfl)
theorem dX0_guessedByTwo_62 : decode cX0_guessedByTwo 62 = .ok (.invokevirtual 317, 3) := dk_182 1 61 (dk_at dksX0_guessedByTwo_2 15 rfl rfl)
theorem dX0_guessedByTwo_65 : decode cX0_guessedByTwo 65 = .ok (.imul, 1) := dk_104 (dk_at dksX0_guessedByTwo_2 18 rfl rfl)
theorem dX0_guessedByTwo_66 : decode cX0_guessedByTwo 66 = .ok (.isub, 1) := dk_100 (dk_at dksX0_guessedByTwo_2 19 rfl rfl)
theorem dX0_guessedByTwo_67 : decode cX0_guessedByTwo 67 = .ok (.invokestatic 323, 3) := dk_184 1 67 (dk_at dksX0_guessedByTwo_2 20 rfl rfl)
theorem dX0_guessedByTwo_70 : decode cX0_guessedByTwo 70 = .ok (.goto 8, 3) := dk_167 0 8 (dk_at dksX0_guessedByTwo_3 0 rfl rfl)
theorem dX0_guessedByTwo_73 : decode cX0_guessedByTwo 73 = .ok (.iconst 0, 1) := dk_3 (dk_at dksX0_guessedByTwo_3 3 rfl rfl)
theorem dX0_guessedByTwo_74 : decode cX0_guessedByTwo 74 = .ok (.iconst 0, 1) := dk_3 (dk_at dksX0_guessedByTwo_3 4 rfl rfl)
theorem dX0_guessedByTwo_75 : decode cX0_guessedByTwo 75 = .ok (.invokestatic 323, 3) := dk_184 1 67 (dk_at dksX0_guessedByTwo_3 5 rfl rfl)
theorem dX0_guessedByTwo_78 : decode cX0_guessedByTwo 78 = .ok (.istore_n 3, 1) := dk_62 (dk_at dksX0_guessedByTwo_3 8 rfl rfl)
theorem dX0_guessedByTwo_79 : decode cX0_guessedByTwo 79 = .ok (.iload_n 3, 1) := dk_29 (dk_at dksX0_guessedByTwo_3 9 rfl rfl)
theorem dX0_guessedByTwo_80 : decode cX0_guessedByTwo 80 = .ok (.ldc 49, 2) := dk_18 49 (dk_at dksX0_guessedByTwo_3 10 rfl rfl)
theorem dX0_guessedByTwo_82 : decode cX0_guessedByTwo 82 = .ok (.if_icmp .eq 33, 3) := dk_159 0 33 (dk_at dksX0_guessedByTwo_3 12 rfl rfl)
theorem dX0_guessedByTwo_85 : decode cX0_guessedByTwo 85 = .ok (.aload_n 0, 1) := dk_42 (dk_at dksX0_guessedByTwo_3 15 rfl rfl)
theorem dX0_guessedByTwo_86 : decode cX0_guessedByTwo 86 = .ok (.iconst 2, 1) := dk_5 (dk_at dksX0_guessedByTwo_3 16 rfl rfl)
theorem dX0_guessedByTwo_87 : decode cX0_guessedByTwo 87 = .ok (.iload_n 2, 1) := dk_28 (dk_at dksX0_guessedByTwo_3 17 rfl rfl)
theorem dX0_guessedByTwo_88 : decode cX0_guessedByTwo 88 = .ok (.iload_n 3, 1) := dk_29 (dk_at dksX0_guessedByTwo_3 18 rfl rfl)
theorem dX0_guessedByTwo_89 : decode cX0_guessedByTwo 89 = .ok (.invokevirtual 320, 3) := dk_182 1 64 (dk_at dksX0_guessedByTwo_3 19 rfl rfl)
theorem dX0_guessedByTwo_92 : decode cX0_guessedByTwo 92 = .ok (.ifCond .eq 23, 3) := dk_153 0 23 (dk_at dksX0_guessedByTwo_4 0 rfl rfl)
theorem dX0_guessedByTwo_95 : decode cX0_guessedByTwo 95 = .ok (.new 76, 3) := dk_187 0 76 (dk_at dksX0_guessedByTwo_4 3 rfl rfl)
theorem dX0_guessedByTwo_98 : decode cX0_guessedByTwo 98 = .ok (.dup, 1) := dk_89 (dk_at dksX0_guessedByTwo_4 6 rfl rfl)
theorem dX0_guessedByTwo_99 : decode cX0_guessedByTwo 99 = .ok (.iload_n 2, 1) := dk_28 (dk_at dksX0_guessedByTwo_4 7 rfl rfl)
theorem dX0_guessedByTwo_100 : decode cX0_guessedByTwo 100 = .ok (.iload_n 3, 1) := dk_29 (dk_at dksX0_guessedByTwo_4 8 rfl rfl)
theorem dX0_guessedByTwo_101 : decode cX0_guessedByTwo 101 = .ok (.aload_n 0, 1) := dk_42 (dk_at dksX0_guessedByTwo_4 9 rfl rfl)
theorem dX0_guessedByTwo_102 : decode cX0_guessedByTwo 102 = .ok (.iconst 0, 1) := dk_3 (dk_at dksX0_guessedByTwo_4 10 rfl rfl)
theorem dX0_guessedByTwo_103 : decode cX0_guessedByTwo 103 = .ok (.invokevirtual 317, 3) := dk_182 1 61 (dk_at dksX0_guessedByTwo_4 11 rfl rfl)
theorem dX0_guessedByTwo_106 : decode cX0_guessedByTwo 106 = .ok (.aload_n 0, 1) := dk_42 (dk_at dksX0_guessedByTwo_4 14 rfl rfl)
theorem dX0_guessedByTwo_107 : decode cX0_guessedByTwo 107 = .ok (.iconst 1, 1) := dk_4 (dk_at dksX0_guessedByTwo_4 15 rfl rfl)
theorem dX0_guessedByTwo_108 : decode cX0_guessedByTwo 108 = .ok (.invokevirtual 317, 3) := dk_182 1 61 (dk_at dksX0_guessedByTwo_4 16 rfl rfl)
theorem dX0_guessedByTwo_111 : decode cX0_guessedByTwo 111 = .ok (.invokespecial 279, 3) := dk_183 1 23 (dk_at dksX0_guessedByTwo_4 19 rfl rfl)
theorem dX0_guessedByTwo_114 : decode cX0_guessedByTwo 114 = .ok (.areturn, 1) := dk_176 (dk_at dksX0_guessedByTwo_4 22 rfl rfl)
theorem dX0_guessedByTwo_115 : decode cX0_guessedByTwo 115 = .ok (.iinc 2 1, 3) := dk_132 2 1 (dk_at dksX0_guessedByTwo_5 0 rfl rfl)
theorem dX0_guessedByTwo_118 : decode cX0_guessedByTwo 118 = .ok (.goto (-89), 3) := dk_167 255 167 (dk_at dksX0_guessedByTwo_5 3 rfl rfl)
theorem dX0_guessedByTwo_121 : decode cX0_guessedByTwo 121 = .ok (.aconst_null, 1) := dk_1 (dk_at dksX0_guessedByTwo_5 6 rfl rfl)
theorem dX0_guessedByTwo_122 : decode cX0_guessedByTwo 122 = .ok (.areturn, 1) := dk_176 (dk_at dksX0_guessedByTwo_5 7 rfl rfl)
abbrev cX0_degreeOf : ByteArray := prog_1_method_55_code
def yX0_degreeOf : MethodName := ⟨RX0, "degreeOf", "(LAheadRows$Told;)I"⟩
def dkwX0_degreeOf_1 : List UInt8 := [180, 0, 75, 3, 182, 1, 64, 153, 0, 7, 4, 167, 0, 4, 5, 172]
abbrev dktX0_degreeOf_1 : List UInt8 := dkwX0_degreeOf_1 ++ []
def dkwX0_degreeOf_0 : List UInt8 := [42, 3, 3, 3, 182, 1, 64, 153, 0, 7, 3, 167, 0, 28, 43, 180, 0, 84, 154, 0, 20, 42, 4, 43]
abbrev dktX0_degreeOf_0 : List UInt8 := dkwX0_degreeOf_0 ++ dktX0_degreeOf_1
theorem dksX0_degreeOf_0 : cX0_degreeOf.data.toList.drop 0 = dktX0_degreeOf_0 := by decide +kernel
theorem dksX0_degreeOf_1 : cX0_degreeOf.data.toList.drop 24 = dktX0_degreeOf_1 := dk_seg dksX0_degreeOf_0 24 rfl rfl
theorem dX0_degreeOf_0 : decode cX0_degreeOf 0 = .ok (.aload_n 0, 1) := dk_42 (dk_at dksX0_degreeOf_0 0 rfl rfl)
theorem dX0_degreeOf_1 : decode cX0_degreeOf 1 = .ok (.iconst 0, 1) := dk_3 (dk_at dksX0_degreeOf_0 1 rfl rfl)
theorem dX0_degreeOf_2 : decode cX0_degreeOf 2 = .ok (.iconst 0, 1) := dk_3 (dk_at dksX0_degreeOf_0 2 rfl rfl)
theorem dX0_degreeOf_3 : decode cX0_degreeOf 3 = .ok (.iconst 0, 1) := dk_3 (dk_at dksX0_degreeOf_0 3 rfl rfl)
theorem dX0_degreeOf_4 : decode cX0_degreeOf 4 = .ok (.invokevirtual 320, 3) := dk_182 1 64 (dk_at dksX0_degreeOf_0 4 rfl rfl)
theorem dX0_degreeOf_7 : decode cX0_degreeOf 7 = .ok (.ifCond .eq 7, 3) := dk_153 0 7 (dk_at dksX0_degreeOf_0 7 rfl rfl)
theorem dX0_degreeOf_10 : decode cX0_degreeOf 10 = .ok (.iconst 0, 1) := dk_3 (dk_at dksX0_degreeOf_0 10 rfl rfl)
theorem dX0_degreeOf_11 : decode cX0_degreeOf 11 = .ok (.goto 28, 3) := dk_167 0 28 (dk_at dksX0_degreeOf_0 11 rfl rfl)
theorem dX0_degreeOf_14 : decode cX0_degreeOf 14 = .ok (.aload_n 1, 1) := dk_43 (dk_at dksX0_degreeOf_0 14 rfl rfl)
theorem dX0_degreeOf_15 : decode cX0_degreeOf 15 = .ok (.getfield 84, 3) := dk_180 0 84 (dk_at dksX0_degreeOf_0 15 rfl rfl)
theorem dX0_degreeOf_18 : decode cX0_degreeOf 18 = .ok (.ifCond .ne 20, 3) := dk_154 0 20 (dk_at dksX0_degreeOf_0 18 rfl rfl)
theorem dX0_degreeOf_21 : decode cX0_degreeOf 21 = .ok (.aload_n 0, 1) := dk_42 (dk_at dksX0_degreeOf_0 21 rfl rfl)
theorem dX0_degreeOf_22 : decode cX0_degreeOf 22 = .ok (.iconst 1, 1) := dk_4 (dk_at dksX0_degreeOf_0 22 rfl rfl)
theorem dX0_degreeOf_23 : decode cX0_degreeOf 23 = .ok (.aload_n 1, 1) := dk_43 (dk_at dksX0_degreeOf_0 23 rfl rfl)
theorem dX0_degreeOf_24 : decode cX0_degreeOf 24 = .ok (.getfield 75, 3) := dk_180 0 75 (dk_at dksX0_degreeOf_1 0 rfl rfl)
theorem dX0_degreeOf_27 : decode cX0_degreeOf 27 = .ok (.iconst 0, 1) := dk_3 (dk_at dksX0_degreeOf_1 3 rfl rfl)
theorem dX0_degreeOf_28 : decode cX0_degreeOf 28 = .ok (.invokevirtual 320, 3) := dk_182 1 64 (dk_at dksX0_degreeOf_1 4 rfl rfl)
theorem dX0_degreeOf_31 : decode cX0_degreeOf 31 = .ok (.ifCond .eq 7, 3) := dk_153 0 7 (dk_at dksX0_degreeOf_1 7 rfl rfl)
theorem dX0_degreeOf_34 : decode cX0_degreeOf 34 = .ok (.iconst 1, 1) := dk_4 (dk_at dksX0_degreeOf_1 10 rfl rfl)
theorem dX0_degreeOf_35 : decode cX0_degreeOf 35 = .ok (.goto 4, 3) := dk_167 0 4 (dk_at dksX0_degreeOf_1 11 rfl rfl)
theorem dX0_degreeOf_38 : decode cX0_degreeOf 38 = .ok (.iconst 2, 1) := dk_5 (dk_at dksX0_degreeOf_1 14 rfl rfl)
theorem dX0_degreeOf_39 : decode cX0_degreeOf 39 = .ok (.ireturn, 1) := dk_172 (dk_at dksX0_degreeOf_1 15 rfl rfl)
abbrev cX0_found : ByteArray := prog_1_method_57_code
def yX0_found : MethodName := ⟨RX0, "found", "()I"⟩
def dkwX0_found_0 : List UInt8 := [42, 182, 1, 74, 76, 43, 199, 0, 8, 18, 125, 167, 0, 8, 42, 43, 182, 1, 26, 172]
abbrev dktX0_found_0 : List UInt8 := dkwX0_found_0 ++ []
theorem dksX0_found_0 : cX0_found.data.toList.drop 0 = dktX0_found_0 := by decide +kernel
theorem dX0_found_0 : decode cX0_found 0 = .ok (.aload_n 0, 1) := dk_42 (dk_at dksX0_found_0 0 rfl rfl)
theorem dX0_found_1 : decode cX0_found 1 = .ok (.invokevirtual 330, 3) := dk_182 1 74 (dk_at dksX0_found_0 1 rfl rfl)
theorem dX0_found_4 : decode cX0_found 4 = .ok (.astore_n 1, 1) := dk_76 (dk_at dksX0_found_0 4 rfl rfl)
theorem dX0_found_5 : decode cX0_found 5 = .ok (.aload_n 1, 1) := dk_43 (dk_at dksX0_found_0 5 rfl rfl)
theorem dX0_found_6 : decode cX0_found 6 = .ok (.ifnonnull 8, 3) := dk_199 0 8 (dk_at dksX0_found_0 6 rfl rfl)
theorem dX0_found_9 : decode cX0_found 9 = .ok (.ldc 125, 2) := dk_18 125 (dk_at dksX0_found_0 9 rfl rfl)
theorem dX0_found_11 : decode cX0_found 11 = .ok (.goto 8, 3) := dk_167 0 8 (dk_at dksX0_found_0 11 rfl rfl)
theorem dX0_found_14 : decode cX0_found 14 = .ok (.aload_n 0, 1) := dk_42 (dk_at dksX0_found_0 14 rfl rfl)
theorem dX0_found_15 : decode cX0_found 15 = .ok (.aload_n 1, 1) := dk_43 (dk_at dksX0_found_0 15 rfl rfl)
theorem dX0_found_16 : decode cX0_found 16 = .ok (.invokevirtual 282, 3) := dk_182 1 26 (dk_at dksX0_found_0 16 rfl rfl)
theorem dX0_found_19 : decode cX0_found 19 = .ok (.ireturn, 1) := dk_172 (dk_at dksX0_found_0 19 rfl rfl)
abbrev cX0_drawn : ByteArray := prog_1_method_60_code
def yX0_drawn : MethodName := ⟨RX0, "drawn", "(III)I"⟩
def dkwX0_drawn_1 : List UInt8 := [27, 28, 29, 182, 1, 99, 167, 0, 5, 18, 104, 172]
abbrev dktX0_drawn_1 : List UInt8 := dkwX0_drawn_1 ++ []
def dkwX0_drawn_0 : List UInt8 := [27, 4, 16, 30, 184, 0, 100, 153, 0, 26, 28, 155, 0, 22, 29, 3, 5, 184, 0, 100, 153, 0, 13, 42]
abbrev dktX0_drawn_0 : List UInt8 := dkwX0_drawn_0 ++ dktX0_drawn_1
theorem dksX0_drawn_0 : cX0_drawn.data.toList.drop 0 = dktX0_drawn_0 := by decide +kernel
theorem dksX0_drawn_1 : cX0_drawn.data.toList.drop 24 = dktX0_drawn_1 := dk_seg dksX0_drawn_0 24 rfl rfl
theorem dX0_drawn_0 : decode cX0_drawn 0 = .ok (.iload_n 1, 1) := dk_27 (dk_at dksX0_drawn_0 0 rfl rfl)
theorem dX0_drawn_1 : decode cX0_drawn 1 = .ok (.iconst 1, 1) := dk_4 (dk_at dksX0_drawn_0 1 rfl rfl)
theorem dX0_drawn_2 : decode cX0_drawn 2 = .ok (.bipush 30, 2) := dk_16 30 (dk_at dksX0_drawn_0 2 rfl rfl)
theorem dX0_drawn_4 : decode cX0_drawn 4 = .ok (.invokestatic 100, 3) := dk_184 0 100 (dk_at dksX0_drawn_0 4 rfl rfl)
theorem dX0_drawn_7 : decode cX0_drawn 7 = .ok (.ifCond .eq 26, 3) := dk_153 0 26 (dk_at dksX0_drawn_0 7 rfl rfl)
theorem dX0_drawn_10 : decode cX0_drawn 10 = .ok (.iload_n 2, 1) := dk_28 (dk_at dksX0_drawn_0 10 rfl rfl)
theorem dX0_drawn_11 : decode cX0_drawn 11 = .ok (.ifCond .lt 22, 3) := dk_155 0 22 (dk_at dksX0_drawn_0 11 rfl rfl)
theorem dX0_drawn_14 : decode cX0_drawn 14 = .ok (.iload_n 3, 1) := dk_29 (dk_at dksX0_drawn_0 14 rfl rfl)
theorem dX0_drawn_15 : decode cX0_drawn 15 = .ok (.iconst 0, 1) := dk_3 (dk_at dksX0_drawn_0 15 rfl rfl)
theorem dX0_drawn_16 : decode cX0_drawn 16 = .ok (.iconst 2, 1) := dk_5 (dk_at dksX0_drawn_0 16 rfl rfl)
theorem dX0_drawn_17 : decode cX0_drawn 17 = .ok (.invokestatic 100, 3) := dk_184 0 100 (dk_at dksX0_drawn_0 17 rfl rfl)
theorem dX0_drawn_20 : decode cX0_drawn 20 = .ok (.ifCond .eq 13, 3) := dk_153 0 13 (dk_at dksX0_drawn_0 20 rfl rfl)
theorem dX0_drawn_23 : decode cX0_drawn 23 = .ok (.aload_n 0, 1) := dk_42 (dk_at dksX0_drawn_0 23 rfl rfl)
theorem dX0_drawn_24 : decode cX0_drawn 24 = .ok (.iload_n 1, 1) := dk_27 (dk_at dksX0_drawn_1 0 rfl rfl)
theorem dX0_drawn_25 : decode cX0_drawn 25 = .ok (.iload_n 2, 1) := dk_28 (dk_at dksX0_drawn_1 1 rfl rfl)
theorem dX0_drawn_26 : decode cX0_drawn 26 = .ok (.iload_n 3, 1) := dk_29 (dk_at dksX0_drawn_1 2 rfl rfl)
theorem dX0_drawn_27 : decode cX0_drawn 27 = .ok (.invokevirtual 355, 3) := dk_182 1 99 (dk_at dksX0_drawn_1 3 rfl rfl)
theorem dX0_drawn_30 : decode cX0_drawn 30 = .ok (.goto 5, 3) := dk_167 0 5 (dk_at dksX0_drawn_1 6 rfl rfl)
theorem dX0_drawn_33 : decode cX0_drawn 33 = .ok (.ldc 104, 2) := dk_18 104 (dk_at dksX0_drawn_1 9 rfl rfl)
theorem dX0_drawn_35 : decode cX0_drawn 35 = .ok (.ireturn, 1) := dk_172 (dk_at dksX0_drawn_1 11 rfl rfl)
abbrev cX0_drawnTold : ByteArray := prog_1_method_59_code
def yX0_drawnTold : MethodName := ⟨RX0, "drawnTold", "(III)I"⟩
def dkwX0_drawnTold_5 : List UInt8 := [160, 0, 8, 21, 5, 167, 0, 8, 42, 180, 1, 83, 136, 172]
abbrev dktX0_drawnTold_5 : List UInt8 := dkwX0_drawnTold_5 ++ []
def dkwX0_drawnTold_4 : List UInt8 := [167, 0, 4, 3, 96, 54, 5, 132, 6, 1, 167, 255, 169, 29, 154, 0, 8, 21, 4, 167, 0, 18, 29, 4]
abbrev dktX0_drawnTold_4 : List UInt8 := dkwX0_drawnTold_4 ++ dktX0_drawnTold_5
def dkwX0_drawnTold_3 : List UInt8 := [21, 4, 42, 180, 0, 42, 180, 0, 201, 96, 54, 4, 21, 5, 25, 10, 182, 0, 244, 158, 0, 7, 4]
abbrev dktX0_drawnTold_3 : List UInt8 := dkwX0_drawnTold_3 ++ dktX0_drawnTold_4
def dkwX0_drawnTold_2 : List UInt8 := [21, 8, 21, 9, 42, 182, 1, 95, 183, 1, 23, 58, 10, 25, 10, 42, 8, 42, 180, 0, 42, 182, 1, 98]
abbrev dktX0_drawnTold_2 : List UInt8 := dkwX0_drawnTold_2 ++ dktX0_drawnTold_3
def dkwX0_drawnTold_1 : List UInt8 := [182, 1, 95, 54, 7, 42, 182, 1, 95, 54, 8, 42, 182, 1, 95, 54, 9, 187, 0, 76, 89, 21, 7]
abbrev dktX0_drawnTold_1 : List UInt8 := dkwX0_drawnTold_1 ++ dktX0_drawnTold_2
def dkwX0_drawnTold_0 : List UInt8 := [42, 28, 133, 181, 1, 83, 3, 54, 4, 3, 54, 5, 3, 54, 6, 21, 6, 27, 162, 0, 87, 42]
abbrev dktX0_drawnTold_0 : List UInt8 := dkwX0_drawnTold_0 ++ dktX0_drawnTold_1
theorem dksX0_drawnTold_0 : cX0_drawnTold.data.toList.drop 0 = dktX0_drawnTold_0 := by decide +kernel
theorem dksX0_drawnTold_1 : cX0_drawnTold.data.toList.drop 22 = dktX0_drawnTold_1 := dk_seg dksX0_drawnTold_0 22 rfl rfl
theorem dksX0_drawnTold_2 : cX0_drawnTold.data.toList.drop 45 = dktX0_drawnTold_2 := dk_seg dksX0_drawnTold_1 23 rfl rfl
theorem dksX0_drawnTold_3 : cX0_drawnTold.data.toList.drop 69 = dktX0_drawnTold_3 := dk_seg dksX0_drawnTold_2 24 rfl rfl
theorem dksX0_drawnTold_4 : cX0_drawnTold.data.toList.drop 92 = dktX0_drawnTold_4 := dk_seg dksX0_drawnTold_3 23 rfl rfl
theorem dksX0_drawnTold_5 : cX0_drawnTold.data.toList.drop 116 = dktX0_drawnTold_5 := dk_seg dksX0_drawnTold_4 24 rfl rfl
theorem dX0_drawnTold_0 : decode cX0_drawnTold 0 = .ok (.aload_n 0, 1) := dk_42 (dk_at dksX0_drawnTold_0 0 rfl rfl)
theorem dX0_drawnTold_1 : decode cX0_drawnTold 1 = .ok (.iload_n 2, 1) := dk_28 (dk_at dksX0_drawnTold_0 1 rfl rfl)
theorem dX0_drawnTold_2 : decode cX0_drawnTold 2 = .ok (.i2l, 1) := dk_133 (dk_at dksX0_drawnTold_0 2 rfl rfl)
theorem dX0_drawnTold_3 : decode cX0_drawnTold 3 = .ok (.putfield 339, 3) := dk_181 1 83 (dk_at dksX0_drawnTold_0 3 rfl rfl)
theorem dX0_drawnTold_6 : decode cX0_drawnTold 6 = .ok (.iconst 0, 1) := dk_3 (dk_at dksX0_drawnTold_0 6 rfl rfl)
theorem dX0_drawnTold_7 : decode cX0_drawnTold 7 = .ok (.istore 4, 2) := dk_54 4 (dk_at dksX0_drawnTold_0 7 rfl rfl)
theorem dX0_drawnTold_9 : decode cX0_drawnTold 9 = .ok (.iconst 0, 1) := dk_3 (dk_at dksX0_drawnTold_0 9 rfl rfl)
theorem dX0_drawnTold_10 : decode cX0_drawnTold 10 = .ok (.istore 5, 2) := dk_54 5 (dk_at dksX0_drawnTold_0 10 rfl rfl)
theorem dX0_drawnTold_12 : decode cX0_drawnTold 12 = .ok (.iconst 0, 1) := dk_3 (dk_at dksX0_drawnTold_0 12 rfl rfl)
theorem dX0_drawnTold_13 : decode cX0_drawnTold 13 = .ok (.istore 6, 2) := dk_54 6 (dk_at dksX0_drawnTold_0 13 rfl rfl)
theorem dX0_drawnTold_15 : decode cX0_drawnTold 15 = .ok (.iload 6, 2) := dk_21 6 (dk_at dksX0_drawnTold_0 15 rfl rfl)
theorem dX0_drawnTold_17 : decode cX0_drawnTold 17 = .ok (.iload_n 1, 1) := dk_27 (dk_at dksX0_drawnTold_0 17 rfl rfl)
theorem dX0_drawnTold_18 : decode cX0_drawnTold 18 = .ok (.if_icmp .ge 87, 3) := dk_162 0 87 (dk_at dksX0_drawnTold_0 18 rfl rfl)
theorem dX0_drawnTold_21 : decode cX0_drawnTold 21 = .ok (.aload_n 0, 1) := dk_42 (dk_at dksX0_drawnTold_0 21 rfl rfl)
theorem dX0_drawnTold_22 : decode cX0_drawnTold 22 = .ok (.invokevirtual 351, 3) := dk_182 1 95 (dk_at dksX0_drawnTold_1 0 rfl rfl)
theorem dX0_drawnTold_25 : decode cX0_drawnTold 25 = .ok (.istore 7, 2) := dk_54 7 (dk_at dksX0_drawnTold_1 3 rfl rfl)
theorem dX0_drawnTold_27 : decode cX0_drawnTold 27 = .ok (.aload_n 0, 1) := dk_42 (dk_at dksX0_drawnTold_1 5 rfl rfl)
theorem dX0_drawnTold_28 : decode cX0_drawnTold 28 = .ok (.invokevirtual 351, 3) := dk_182 1 95 (dk_at dksX0_drawnTold_1 6 rfl rfl)
theorem dX0_drawnTold_31 : decode cX0_drawnTold 31 = .ok (.istore 8, 2) := dk_54 8 (dk_at dksX0_drawnTold_1 9 rfl rfl)
theorem dX0_drawnTold_33 : decode cX0_drawnTold 33 = .ok (.aload_n 0, 1) := dk_42 (dk_at dksX0_drawnTold_1 11 rfl rfl)
theorem dX0_drawnTold_34 : decode cX0_drawnTold 34 = .ok (.invokevirtual 351, 3) := dk_182 1 95 (dk_at dksX0_drawnTold_1 12 rfl rfl)
theorem dX0_drawnTold_37 : decode cX0_drawnTold 37 = .ok (.istore 9, 2) := dk_54 9 (dk_at dksX0_drawnTold_1 15 rfl rfl)
theorem dX0_drawnTold_39 : decode cX0_drawnTold 39 = .ok (.new 76, 3) := dk_187 0 76 (dk_at dksX0_drawnTold_1 17 rfl rfl)
theorem dX0_drawnTold_42 : decode cX0_drawnTold 42 = .ok (.dup, 1) := dk_89 (dk_at dksX0_drawnTold_1 20 rfl rfl)
theorem dX0_drawnTold_43 : decode cX0_drawnTold 43 = .ok (.iload 7, 2) := dk_21 7 (dk_at dksX0_drawnTold_1 21 rfl rfl)
theorem dX0_drawnTold_45 : decode cX0_drawnTold 45 = .ok (.iload 8, 2) := dk_21 8 (dk_at dksX0_drawnTold_2 0 rfl rfl)
theorem dX0_drawnTold_47 : decode cX0_drawnTold 47 = .ok (.iload 9, 2) := dk_21 9 (dk_at dksX0_drawnTold_2 2 rfl rfl)
theorem dX0_drawnTold_49 : decode cX0_drawnTold 49 = .ok (.aload_n 0, 1) := dk_42 (dk_at dksX0_drawnTold_2 4 rfl rfl)
theorem dX0_drawnTold_50 : decode cX0_drawnTold 50 = .ok (.invokevirtual 351, 3) := dk_182 1 95 (dk_at dksX0_drawnTold_2 5 rfl rfl)
theorem dX0_drawnTold_53 : decode cX0_drawnTold 53 = .ok (.invokespecial 279, 3) := dk_183 1 23 (dk_at dksX0_drawnTold_2 8 rfl rfl)
theorem dX0_drawnTold_56 : decode cX0_drawnTold 56 = .ok (.astore 10, 2) := dk_58 10 (dk_at dksX0_drawnTold_2 11 rfl rfl)
theorem dX0_drawnTold_58 : decode cX0_drawnTold 58 = .ok (.aload 10, 2) := dk_25 10 (dk_at dksX0_drawnTold_2 13 rfl rfl)
theorem dX0_drawnTold_60 : decode cX0_drawnTold 60 = .ok (.aload_n 0, 1) := dk_42 (dk_at dksX0_drawnTold_2 15 rfl rfl)
theorem dX0_drawnTold_61 : decode cX0_drawnTold 61 = .ok (.iconst 5, 1) := dk_8 (dk_at dksX0_drawnTold_2 16 rfl rfl)
theorem dX0_drawnTold_62 : decode cX0_drawnTold 62 = .ok (.aload_n 0, 1) := dk_42 (dk_at dksX0_drawnTold_2 17 rfl rfl)
theorem dX0_drawnTold_63 : decode cX0_drawnTold 63 = .ok (.getfield 42, 3) := dk_180 0 42 (dk_at dksX0_drawnTold_2 18 rfl rfl)
theorem dX0_drawnTold_66 : decode cX0_drawnTold 66 = .ok (.invokevirtual 354, 3) := dk_182 1 98 (dk_at dksX0_drawnTold_2 21 rfl rfl)
theorem dX0_drawnTold_69 : decode cX0_drawnTold 69 = .ok (.iload 4, 2) := dk_21 4 (dk_at dksX0_drawnTold_3 0 rfl rfl)
theorem dX0_drawnTold_71 : decode cX0_drawnTold 71 = .ok (.aload_n 0, 1) := dk_42 (dk_at dksX0_drawnTold_3 2 rfl rfl)
theorem dX0_drawnTold_72 : decode cX0_drawnTold 72 = .ok (.getfield 42, 3) := dk_180 0 42 (dk_at dksX0_drawnTold_3 3 rfl rfl)
theorem dX0_drawnTold_75 : decode cX0_drawnTold 75 = .ok (.getfield 201, 3) := dk_180 0 201 (dk_at dksX0_drawnTold_3 6 rfl rfl)
theorem dX0_drawnTold_78 : decode cX0_drawnTold 78 = .ok (.iadd, 1) := dk_96 (dk_at dksX0_drawnTold_3 9 rfl rfl)
theorem dX0_drawnTold_79 : decode cX0_drawnTold 79 = .ok (.istore 4, 2) := dk_54 4 (dk_at dksX0_drawnTold_3 10 rfl rfl)
theorem dX0_drawnTold_81 : decode cX0_drawnTold 81 = .ok (.iload 5, 2) := dk_21 5 (dk_at dksX0_drawnTold_3 12 rfl rfl)
theorem dX0_drawnTold_83 : decode cX0_drawnTold 83 = .ok (.aload 10, 2) := dk_25 10 (dk_at dksX0_drawnTold_3 14 rfl rfl)
theorem dX0_drawnTold_85 : decode cX0_drawnTold 85 = .ok (.invokevirtual 244, 3) := dk_182 0 244 (dk_at dksX0_drawnTold_3 16 rfl rfl)
theorem dX0_drawnTold_88 : decode cX0_drawnTold 88 = .ok (.ifCond .le 7, 3) := dk_158 0 7 (dk_at dksX0_drawnTold_3 19 rfl rfl)
theorem dX0_drawnTold_91 : decode cX0_drawnTold 91 = .ok (.iconst 1, 1) := dk_4 (dk_at dksX0_drawnTold_3 22 rfl rfl)
theorem dX0_drawnTold_92 : decode cX0_drawnTold 92 = .ok (.goto 4, 3) := dk_167 0 4 (dk_at dksX0_drawnTold_4 0 rfl rfl)
theorem dX0_drawnTold_95 : decode cX0_drawnTold 95 = .ok (.iconst 0, 1) := dk_3 (dk_at dksX0_drawnTold_4 3 rfl rfl)
theorem dX0_drawnTold_96 : decode cX0_drawnTold 96 = .ok (.iadd, 1) := dk_96 (dk_at dksX0_drawnTold_4 4 rfl rfl)
theorem dX0_drawnTold_97 : decode cX0_drawnTold 97 = .ok (.istore 5, 2) := dk_54 5 (dk_at dksX0_drawnTold_4 5 rfl rfl)
theorem dX0_drawnTold_99 : decode cX0_drawnTold 99 = .ok (.iinc 6 1, 3) := dk_132 6 1 (dk_at dksX0_drawnTold_4 7 rfl rfl)
theorem dX0_drawnTold_102 : decode cX0_drawnTold 102 = .ok (.goto (-87), 3) := dk_167 255 169 (dk_at dksX0_drawnTold_4 10 rfl rfl)
theorem dX0_drawnTold_105 : decode cX0_drawnTold 105 = .ok (.iload_n 3, 1) := dk_29 (dk_at dksX0_drawnTold_4 13 rfl rfl)
theorem dX0_drawnTold_106 : decode cX0_drawnTold 106 = .ok (.ifCond .ne 8, 3) := dk_154 0 8 (dk_at dksX0_drawnTold_4 14 rfl rfl)
theorem dX0_drawnTold_109 : decode cX0_drawnTold 109 = .ok (.iload 4, 2) := dk_21 4 (dk_at dksX0_drawnTold_4 17 rfl rfl)
theorem dX0_drawnTold_111 : decode cX0_drawnTold 111 = .ok (.goto 18, 3) := dk_167 0 18 (dk_at dksX0_drawnTold_4 19 rfl rfl)
theorem dX0_drawnTold_114 : decode cX0_drawnTold 114 = .ok (.iload_n 3, 1) := dk_29 (dk_at dksX0_drawnTold_4 22 rfl rfl)
theorem dX0_drawnTold_115 : decode cX0_drawnTold 115 = .ok (.iconst 1, 1) := dk_4 (dk_at dksX0_drawnTold_4 23 rfl rfl)
theorem dX0_drawnTold_116 : decode cX0_drawnTold 116 = .ok (.if_icmp .ne 8, 3) := dk_160 0 8 (dk_at dksX0_drawnTold_5 0 rfl rfl)
theorem dX0_drawnTold_119 : decode cX0_drawnTold 119 = .ok (.iload 5, 2) := dk_21 5 (dk_at dksX0_drawnTold_5 3 rfl rfl)
theorem dX0_drawnTold_121 : decode cX0_drawnTold 121 = .ok (.goto 8, 3) := dk_167 0 8 (dk_at dksX0_drawnTold_5 5 rfl rfl)
theorem dX0_drawnTold_124 : decode cX0_drawnTold 124 = .ok (.aload_n 0, 1) := dk_42 (dk_at dksX0_drawnTold_5 8 rfl rfl)
theorem dX0_drawnTold_125 : decode cX0_drawnTold 125 = .ok (.getfield 339, 3) := dk_180 1 83 (dk_at dksX0_drawnTold_5 9 rfl rfl)
theorem dX0_drawnTold_128 : decode cX0_drawnTold 128 = .ok (.l2i, 1) := dk_136 (dk_at dksX0_drawnTold_5 12 rfl rfl)
theorem dX0_drawnTold_129 : decode cX0_drawnTold 129 = .ok (.ireturn, 1) := dk_172 (dk_at dksX0_drawnTold_5 13 rfl rfl)
abbrev cX0_draw : ByteArray := prog_1_method_58_code
def yX0_draw : MethodName := ⟨RX0, "draw", "()I"⟩
def dkwX0_draw_1 : List UInt8 := [20, 1, 91, 109, 20, 1, 93, 113, 136, 6, 100, 172]
abbrev dktX0_draw_1 : List UInt8 := dkwX0_draw_1 ++ []
def dkwX0_draw_0 : List UInt8 := [42, 20, 1, 81, 42, 180, 1, 83, 105, 20, 1, 87, 97, 20, 1, 89, 127, 181, 1, 83, 42, 180, 1, 83]
abbrev dktX0_draw_0 : List UInt8 := dkwX0_draw_0 ++ dktX0_draw_1
theorem dksX0_draw_0 : cX0_draw.data.toList.drop 0 = dktX0_draw_0 := by decide +kernel
theorem dksX0_draw_1 : cX0_draw.data.toList.drop 24 = dktX0_draw_1 := dk_seg dksX0_draw_0 24 rfl rfl
theorem dX0_draw_0 : decode cX0_draw 0 = .ok (.aload_n 0, 1) := dk_42 (dk_at dksX0_draw_0 0 rfl rfl)
theorem dX0_draw_1 : decode cX0_draw 1 = .ok (.ldc2_w 337, 3) := dk_20 1 81 (dk_at dksX0_draw_0 1 rfl rfl)
theorem dX0_draw_4 : decode cX0_draw 4 = .ok (.aload_n 0, 1) := dk_42 (dk_at dksX0_draw_0 4 rfl rfl)
theorem dX0_draw_5 : decode cX0_draw 5 = .ok (.getfield 339, 3) := dk_180 1 83 (dk_at dksX0_draw_0 5 rfl rfl)
theorem dX0_draw_8 : decode cX0_draw 8 = .ok (.lmul, 1) := dk_105 (dk_at dksX0_draw_0 8 rfl rfl)
theorem dX0_draw_9 : decode cX0_draw 9 = .ok (.ldc2_w 343, 3) := dk_20 1 87 (dk_at dksX0_draw_0 9 rfl rfl)
theorem dX0_draw_12 : decode cX0_draw 12 = .ok (.ladd, 1) := dk_97 (dk_at dksX0_draw_0 12 rfl rfl)
theorem dX0_draw_13 : decode cX0_draw 13 = .ok (.ldc2_w 345, 3) := dk_20 1 89 (dk_at dksX0_draw_0 13 rfl rfl)
theorem dX0_draw_16 : decode cX0_draw 16 = .ok (.land, 1) := dk_127 (dk_at dksX0_draw_0 16 rfl rfl)
theorem dX0_draw_17 : decode cX0_draw 17 = .ok (.putfield 339, 3) := dk_181 1 83 (dk_at dksX0_draw_0 17 rfl rfl)
theorem dX0_draw_20 : decode cX0_draw 20 = .ok (.aload_n 0, 1) := dk_42 (dk_at dksX0_draw_0 20 rfl rfl)
theorem dX0_draw_21 : decode cX0_draw 21 = .ok (.getfield 339, 3) := dk_180 1 83 (dk_at dksX0_draw_0 21 rfl rfl)
theorem dX0_draw_24 : decode cX0_draw 24 = .ok (.ldc2_w 347, 3) := dk_20 1 91 (dk_at dksX0_draw_1 0 rfl rfl)
theorem dX0_draw_27 : decode cX0_draw 27 = .ok (.ldiv, 1) := dk_109 (dk_at dksX0_draw_1 3 rfl rfl)
theorem dX0_draw_28 : decode cX0_draw 28 = .ok (.ldc2_w 349, 3) := dk_20 1 93 (dk_at dksX0_draw_1 4 rfl rfl)
theorem dX0_draw_31 : decode cX0_draw 31 = .ok (.lrem, 1) := dk_113 (dk_at dksX0_draw_1 7 rfl rfl)
theorem dX0_draw_32 : decode cX0_draw 32 = .ok (.l2i, 1) := dk_136 (dk_at dksX0_draw_1 8 rfl rfl)
theorem dX0_draw_33 : decode cX0_draw 33 = .ok (.iconst 3, 1) := dk_6 (dk_at dksX0_draw_1 9 rfl rfl)
theorem dX0_draw_34 : decode cX0_draw 34 = .ok (.isub, 1) := dk_100 (dk_at dksX0_draw_1 10 rfl rfl)
theorem dX0_draw_35 : decode cX0_draw 35 = .ok (.ireturn, 1) := dk_172 (dk_at dksX0_draw_1 11 rfl rfl)
abbrev cX0_image : ByteArray := prog_1_method_61_code
def yX0_image : MethodName := ⟨RX0, "image", "()I"⟩
def dkwX0_image_2 : List UInt8 := [180, 0, 54, 3, 16, 8, 184, 1, 105, 42, 180, 0, 20, 182, 0, 96, 172]
abbrev dktX0_image_2 : List UInt8 := dkwX0_image_2 ++ []
def dkwX0_image_1 : List UInt8 := [42, 42, 180, 0, 133, 181, 0, 50, 42, 42, 180, 1, 58, 181, 1, 102, 42, 180, 0, 38, 3, 42]
abbrev dktX0_image_1 : List UInt8 := dkwX0_image_1 ++ dktX0_image_2
def dkwX0_image_0 : List UInt8 := [42, 180, 0, 20, 182, 1, 42, 153, 0, 6, 18, 125, 172, 42, 180, 0, 20, 42, 180, 0, 46, 184, 0, 129]
abbrev dktX0_image_0 : List UInt8 := dkwX0_image_0 ++ dktX0_image_1
theorem dksX0_image_0 : cX0_image.data.toList.drop 0 = dktX0_image_0 := by decide +kernel
theorem dksX0_image_1 : cX0_image.data.toList.drop 24 = dktX0_image_1 := dk_seg dksX0_image_0 24 rfl rfl
theorem dksX0_image_2 : cX0_image.data.toList.drop 46 = dktX0_image_2 := dk_seg dksX0_image_1 22 rfl rfl
theorem dX0_image_0 : decode cX0_image 0 = .ok (.aload_n 0, 1) := dk_42 (dk_at dksX0_image_0 0 rfl rfl)
theorem dX0_image_1 : decode cX0_image 1 = .ok (.getfield 20, 3) := dk_180 0 20 (dk_at dksX0_image_0 1 rfl rfl)
theorem dX0_image_4 : decode cX0_image 4 = .ok (.invokevirtual 298, 3) := dk_182 1 42 (dk_at dksX0_image_0 4 rfl rfl)
theorem dX0_image_7 : decode cX0_image 7 = .ok (.ifCond .eq 6, 3) := dk_153 0 6 (dk_at dksX0_image_0 7 rfl rfl)
theorem dX0_image_10 : decode cX0_image 10 = .ok (.ldc 125, 2) := dk_18 125 (dk_at dksX0_image_0 10 rfl rfl)
theorem dX0_image_12 : decode cX0_image 12 = .ok (.ireturn, 1) := dk_172 (dk_at dksX0_image_0 12 rfl rfl)
theorem dX0_image_13 : decode cX0_image 13 = .ok (.aload_n 0, 1) := dk_42 (dk_at dksX0_image_0 13 rfl rfl)
theorem dX0_image_14 : decode cX0_image 14 = .ok (.getfield 20, 3) := dk_180 0 20 (dk_at dksX0_image_0 14 rfl rfl)
theorem dX0_image_17 : decode cX0_image 17 = .ok (.aload_n 0, 1) := dk_42 (dk_at dksX0_image_0 17 rfl rfl)
theorem dX0_image_18 : decode cX0_image 18 = .ok (.getfield 46, 3) := dk_180 0 46 (dk_at dksX0_image_0 18 rfl rfl)
theorem dX0_image_21 : decode cX0_image 21 = .ok (.invokestatic 129, 3) := dk_184 0 129 (dk_at dksX0_image_0 21 rfl rfl)
theorem dX0_image_24 : decode cX0_image 24 = .ok (.aload_n 0, 1) := dk_42 (dk_at dksX0_image_1 0 rfl rfl)
theorem dX0_image_25 : decode cX0_image 25 = .ok (.aload_n 0, 1) := dk_42 (dk_at dksX0_image_1 1 rfl rfl)
theorem dX0_image_26 : decode cX0_image 26 = .ok (.getfield 133, 3) := dk_180 0 133 (dk_at dksX0_image_1 2 rfl rfl)
theorem dX0_image_29 : decode cX0_image 29 = .ok (.putfield 50, 3) := dk_181 0 50 (dk_at dksX0_image_1 5 rfl rfl)
theorem dX0_image_32 : decode cX0_image 32 = .ok (.aload_n 0, 1) := dk_42 (dk_at dksX0_image_1 8 rfl rfl)
theorem dX0_image_33 : decode cX0_image 33 = .ok (.aload_n 0, 1) := dk_42 (dk_at dksX0_image_1 9 rfl rfl)
theorem dX0_image_34 : decode cX0_image 34 = .ok (.getfield 314, 3) := dk_180 1 58 (dk_at dksX0_image_1 10 rfl rfl)
theorem dX0_image_37 : decode cX0_image 37 = .ok (.putfield 358, 3) := dk_181 1 102 (dk_at dksX0_image_1 13 rfl rfl)
theorem dX0_image_40 : decode cX0_image 40 = .ok (.aload_n 0, 1) := dk_42 (dk_at dksX0_image_1 16 rfl rfl)
theorem dX0_image_41 : decode cX0_image 41 = .ok (.getfield 38, 3) := dk_180 0 38 (dk_at dksX0_image_1 17 rfl rfl)
theorem dX0_image_44 : decode cX0_image 44 = .ok (.iconst 0, 1) := dk_3 (dk_at dksX0_image_1 20 rfl rfl)
theorem dX0_image_45 : decode cX0_image 45 = .ok (.aload_n 0, 1) := dk_42 (dk_at dksX0_image_1 21 rfl rfl)
theorem dX0_image_46 : decode cX0_image 46 = .ok (.getfield 54, 3) := dk_180 0 54 (dk_at dksX0_image_2 0 rfl rfl)
theorem dX0_image_49 : decode cX0_image 49 = .ok (.iconst 0, 1) := dk_3 (dk_at dksX0_image_2 3 rfl rfl)
theorem dX0_image_50 : decode cX0_image 50 = .ok (.bipush 8, 2) := dk_16 8 (dk_at dksX0_image_2 4 rfl rfl)
theorem dX0_image_52 : decode cX0_image 52 = .ok (.invokestatic 361, 3) := dk_184 1 105 (dk_at dksX0_image_2 6 rfl rfl)
theorem dX0_image_55 : decode cX0_image 55 = .ok (.aload_n 0, 1) := dk_42 (dk_at dksX0_image_2 9 rfl rfl)
theorem dX0_image_56 : decode cX0_image 56 = .ok (.getfield 20, 3) := dk_180 0 20 (dk_at dksX0_image_2 10 rfl rfl)
theorem dX0_image_59 : decode cX0_image 59 = .ok (.invokevirtual 96, 3) := dk_182 0 96 (dk_at dksX0_image_2 13 rfl rfl)
theorem dX0_image_62 : decode cX0_image 62 = .ok (.ireturn, 1) := dk_172 (dk_at dksX0_image_2 16 rfl rfl)
abbrev cX0_restore : ByteArray := prog_1_method_62_code
def yX0_restore : MethodName := ⟨RX0, "restore", "()I"⟩
def dkwX0_restore_2 : List UInt8 := [184, 1, 105, 42, 182, 0, 136, 42, 180, 0, 20, 182, 0, 96, 172]
abbrev dktX0_restore_2 : List UInt8 := dkwX0_restore_2 ++ []
def dkwX0_restore_1 : List UInt8 := [184, 0, 129, 42, 42, 180, 1, 102, 181, 1, 58, 42, 180, 0, 54, 3, 42, 180, 0, 38, 3, 16, 8]
abbrev dktX0_restore_1 : List UInt8 := dkwX0_restore_1 ++ dktX0_restore_2
def dkwX0_restore_0 : List UInt8 := [42, 180, 0, 50, 42, 180, 0, 133, 159, 0, 6, 18, 125, 172, 42, 180, 0, 46, 42, 180, 0, 20]
abbrev dktX0_restore_0 : List UInt8 := dkwX0_restore_0 ++ dktX0_restore_1
theorem dksX0_restore_0 : cX0_restore.data.toList.drop 0 = dktX0_restore_0 := by decide +kernel
theorem dksX0_restore_1 : cX0_restore.data.toList.drop 22 = dktX0_restore_1 := dk_seg dksX0_restore_0 22 rfl rfl
theorem dksX0_restore_2 : cX0_restore.data.toList.drop 45 = dktX0_restore_2 := dk_seg dksX0_restore_1 23 rfl rfl
theorem dX0_restore_0 : decode cX0_restore 0 = .ok (.aload_n 0, 1) := dk_42 (dk_at dksX0_restore_0 0 rfl rfl)
theorem dX0_restore_1 : decode cX0_restore 1 = .ok (.getfield 50, 3) := dk_180 0 50 (dk_at dksX0_restore_0 1 rfl rfl)
theorem dX0_restore_4 : decode cX0_restore 4 = .ok (.aload_n 0, 1) := dk_42 (dk_at dksX0_restore_0 4 rfl rfl)
theorem dX0_restore_5 : decode cX0_restore 5 = .ok (.getfield 133, 3) := dk_180 0 133 (dk_at dksX0_restore_0 5 rfl rfl)
theorem dX0_restore_8 : decode cX0_restore 8 = .ok (.if_icmp .eq 6, 3) := dk_159 0 6 (dk_at dksX0_restore_0 8 rfl rfl)
theorem dX0_restore_11 : decode cX0_restore 11 = .ok (.ldc 125, 2) := dk_18 125 (dk_at dksX0_restore_0 11 rfl rfl)
theorem dX0_restore_13 : decode cX0_restore 13 = .ok (.ireturn, 1) := dk_172 (dk_at dksX0_restore_0 13 rfl rfl)
theorem dX0_restore_14 : decode cX0_restore 14 = .ok (.aload_n 0, 1) := dk_42 (dk_at dksX0_restore_0 14 rfl rfl)
theorem dX0_restore_15 : decode cX0_restore 15 = .ok (.getfield 46, 3) := dk_180 0 46 (dk_at dksX0_restore_0 15 rfl rfl)
theorem dX0_restore_18 : decode cX0_restore 18 = .ok (.aload_n 0, 1) := dk_42 (dk_at dksX0_restore_0 18 rfl rfl)
theorem dX0_restore_19 : decode cX0_restore 19 = .ok (.getfield 20, 3) := dk_180 0 20 (dk_at dksX0_restore_0 19 rfl rfl)
theorem dX0_restore_22 : decode cX0_restore 22 = .ok (.invokestatic 129, 3) := dk_184 0 129 (dk_at dksX0_restore_1 0 rfl rfl)
theorem dX0_restore_25 : decode cX0_restore 25 = .ok (.aload_n 0, 1) := dk_42 (dk_at dksX0_restore_1 3 rfl rfl)
theorem dX0_restore_26 : decode cX0_restore 26 = .ok (.aload_n 0, 1) := dk_42 (dk_at dksX0_restore_1 4 rfl rfl)
theorem dX0_restore_27 : decode cX0_restore 27 = .ok (.getfield 358, 3) := dk_180 1 102 (dk_at dksX0_restore_1 5 rfl rfl)
theorem dX0_restore_30 : decode cX0_restore 30 = .ok (.putfield 314, 3) := dk_181 1 58 (dk_at dksX0_restore_1 8 rfl rfl)
theorem dX0_restore_33 : decode cX0_restore 33 = .ok (.aload_n 0, 1) := dk_42 (dk_at dksX0_restore_1 11 rfl rfl)
theorem dX0_restore_34 : decode cX0_restore 34 = .ok (.getfield 54, 3) := dk_180 0 54 (dk_at dksX0_restore_1 12 rfl rfl)
theorem dX0_restore_37 : decode cX0_restore 37 = .ok (.iconst 0, 1) := dk_3 (dk_at dksX0_restore_1 15 rfl rfl)
theorem dX0_restore_38 : decode cX0_restore 38 = .ok (.aload_n 0, 1) := dk_42 (dk_at dksX0_restore_1 16 rfl rfl)
theorem dX0_restore_39 : decode cX0_restore 39 = .ok (.getfield 38, 3) := dk_180 0 38 (dk_at dksX0_restore_1 17 rfl rfl)
theorem dX0_restore_42 : decode cX0_restore 42 = .ok (.iconst 0, 1) := dk_3 (dk_at dksX0_restore_1 20 rfl rfl)
theorem dX0_restore_43 : decode cX0_restore 43 = .ok (.bipush 8, 2) := dk_16 8 (dk_at dksX0_restore_1 21 rfl rfl)
theorem dX0_restore_45 : decode cX0_restore 45 = .ok (.invokestatic 361, 3) := dk_184 1 105 (dk_at dksX0_restore_2 0 rfl rfl)
theorem dX0_restore_48 : decode cX0_restore 48 = .ok (.aload_n 0, 1) := dk_42 (dk_at dksX0_restore_2 3 rfl rfl)
theorem dX0_restore_49 : decode cX0_restore 49 = .ok (.invokevirtual 136, 3) := dk_182 0 136 (dk_at dksX0_restore_2 4 rfl rfl)
theorem dX0_restore_52 : decode cX0_restore 52 = .ok (.aload_n 0, 1) := dk_42 (dk_at dksX0_restore_2 7 rfl rfl)
theorem dX0_restore_53 : decode cX0_restore 53 = .ok (.getfield 20, 3) := dk_180 0 20 (dk_at dksX0_restore_2 8 rfl rfl)
theorem dX0_restore_56 : decode cX0_restore 56 = .ok (.invokevirtual 96, 3) := dk_182 0 96 (dk_at dksX0_restore_2 11 rfl rfl)
theorem dX0_restore_59 : decode cX0_restore 59 = .ok (.ireturn, 1) := dk_172 (dk_at dksX0_restore_2 14 rfl rfl)
abbrev cX0_count : ByteArray := prog_1_method_65_code
def yX0_count : MethodName := ⟨RX0, "count", "(I)I"⟩
def dkwX0_count_0 : List UInt8 := [42, 27, 182, 1, 115, 172]
abbrev dktX0_count_0 : List UInt8 := dkwX0_count_0 ++ []
theorem dksX0_count_0 : cX0_count.data.toList.drop 0 = dktX0_count_0 := by decide +kernel
theorem dX0_count_0 : decode cX0_count 0 = .ok (.aload_n 0, 1) := dk_42 (dk_at dksX0_count_0 0 rfl rfl)
theorem dX0_count_1 : decode cX0_count 1 = .ok (.iload_n 1, 1) := dk_27 (dk_at dksX0_count_0 1 rfl rfl)
theorem dX0_count_2 : decode cX0_count 2 = .ok (.invokevirtual 371, 3) := dk_182 1 115 (dk_at dksX0_count_0 2 rfl rfl)
theorem dX0_count_5 : decode cX0_count 5 = .ok (.ireturn, 1) := dk_172 (dk_at dksX0_count_0 5 rfl rfl)
abbrev cX0_countOf : ByteArray := prog_1_method_64_code
def yX0_countOf : MethodName := ⟨RX0, "countOf", "(I)I"⟩
def dkwX0_countOf_3 : List UInt8 := [172, 42, 180, 0, 105, 172, 42, 180, 0, 133, 172, 18, 104, 172]
abbrev dktX0_countOf_3 : List UInt8 := dkwX0_countOf_3 ++ []
def dkwX0_countOf_2 : List UInt8 := [42, 180, 0, 20, 182, 0, 96, 172, 42, 3, 182, 1, 111, 172, 42, 4, 182, 1, 111, 172, 42, 180, 1, 58]
abbrev dktX0_countOf_2 : List UInt8 := dkwX0_countOf_2 ++ dktX0_countOf_3
def dkwX0_countOf_1 : List UInt8 := [170, 0, 0, 0, 0, 0, 74, 0, 0, 0, 0, 0, 0, 0, 5, 0, 0, 0, 39, 0, 0, 0, 47, 0, 0, 0, 53, 0, 0, 0, 59, 0, 0, 0, 64, 0, 0, 0, 69]
abbrev dktX0_countOf_1 : List UInt8 := dkwX0_countOf_1 ++ dktX0_countOf_2
def dkwX0_countOf_0 : List UInt8 := [27]
abbrev dktX0_countOf_0 : List UInt8 := dkwX0_countOf_0 ++ dktX0_countOf_1
theorem dksX0_countOf_0 : cX0_countOf.data.toList.drop 0 = dktX0_countOf_0 := by decide +kernel
theorem dksX0_countOf_1 : cX0_countOf.data.toList.drop 1 = dktX0_countOf_1 := dk_seg dksX0_countOf_0 1 rfl rfl
theorem dksX0_countOf_2 : cX0_countOf.data.toList.drop 40 = dktX0_countOf_2 := dk_seg dksX0_countOf_1 39 rfl rfl
theorem dksX0_countOf_3 : cX0_countOf.data.toList.drop 64 = dktX0_countOf_3 := dk_seg dksX0_countOf_2 24 rfl rfl
theorem dX0_countOf_0 : decode cX0_countOf 0 = .ok (.iload_n 1, 1) := dk_27 (dk_at dksX0_countOf_0 0 rfl rfl)
theorem dX0_countOf_1 : decode cX0_countOf 1 = .ok (.tableswitch 74 0 5 #[39, 47, 53, 59, 64, 69], 39) := by decide +kernel
theorem dX0_countOf_40 : decode cX0_countOf 40 = .ok (.aload_n 0, 1) := dk_42 (dk_at dksX0_countOf_2 0 rfl rfl)
theorem dX0_countOf_41 : decode cX0_countOf 41 = .ok (.getfield 20, 3) := dk_180 0 20 (dk_at dksX0_countOf_2 1 rfl rfl)
theorem dX0_countOf_44 : decode cX0_countOf 44 = .ok (.invokevirtual 96, 3) := dk_182 0 96 (dk_at dksX0_countOf_2 4 rfl rfl)
theorem dX0_countOf_47 : decode cX0_countOf 47 = .ok (.ireturn, 1) := dk_172 (dk_at dksX0_countOf_2 7 rfl rfl)
theorem dX0_countOf_48 : decode cX0_countOf 48 = .ok (.aload_n 0, 1) := dk_42 (dk_at dksX0_countOf_2 8 rfl rfl)
theorem dX0_countOf_49 : decode cX0_countOf 49 = .ok (.iconst 0, 1) := dk_3 (dk_at dksX0_countOf_2 9 rfl rfl)
theorem dX0_countOf_50 : decode cX0_countOf 50 = .ok (.invokevirtual 367, 3) := dk_182 1 111 (dk_at dksX0_countOf_2 10 rfl rfl)
theorem dX0_countOf_53 : decode cX0_countOf 53 = .ok (.ireturn, 1) := dk_172 (dk_at dksX0_countOf_2 13 rfl rfl)
theorem dX0_countOf_54 : decode cX0_countOf 54 = .ok (.aload_n 0, 1) := dk_42 (dk_at dksX0_countOf_2 14 rfl rfl)
theorem dX0_countOf_55 : decode cX0_countOf 55 = .ok (.iconst 1, 1) := dk_4 (dk_at dksX0_countOf_2 15 rfl rfl)
theorem dX0_countOf_56 : decode cX0_countOf 56 = .ok (.invokevirtual 367, 3) := dk_182 1 111 (dk_at dksX0_countOf_2 16 rfl rfl)
theorem dX0_countOf_59 : decode cX0_countOf 59 = .ok (.ireturn, 1) := dk_172 (dk_at dksX0_countOf_2 19 rfl rfl)
theorem dX0_countOf_60 : decode cX0_countOf 60 = .ok (.aload_n 0, 1) := dk_42 (dk_at dksX0_countOf_2 20 rfl rfl)
theorem dX0_countOf_61 : decode cX0_countOf 61 = .ok (.getfield 314, 3) := dk_180 1 58 (dk_at dksX0_countOf_2 21 rfl rfl)
theorem dX0_countOf_64 : decode cX0_countOf 64 = .ok (.ireturn, 1) := dk_172 (dk_at dksX0_countOf_3 0 rfl rfl)
theorem dX0_countOf_65 : decode cX0_countOf 65 = .ok (.aload_n 0, 1) := dk_42 (dk_at dksX0_countOf_3 1 rfl rfl)
theorem dX0_countOf_66 : decode cX0_countOf 66 = .ok (.getfield 105, 3) := dk_180 0 105 (dk_at dksX0_countOf_3 2 rfl rfl)
theorem dX0_countOf_69 : decode cX0_countOf 69 = .ok (.ireturn, 1) := dk_172 (dk_at dksX0_countOf_3 5 rfl rfl)
theorem dX0_countOf_70 : decode cX0_countOf 70 = .ok (.aload_n 0, 1) := dk_42 (dk_at dksX0_countOf_3 6 rfl rfl)
theorem dX0_countOf_71 : decode cX0_countOf 71 = .ok (.getfield 133, 3) := dk_180 0 133 (dk_at dksX0_countOf_3 7 rfl rfl)
theorem dX0_countOf_74 : decode cX0_countOf 74 = .ok (.ireturn, 1) := dk_172 (dk_at dksX0_countOf_3 10 rfl rfl)
theorem dX0_countOf_75 : decode cX0_countOf 75 = .ok (.ldc 104, 2) := dk_18 104 (dk_at dksX0_countOf_3 11 rfl rfl)
theorem dX0_countOf_77 : decode cX0_countOf 77 = .ok (.ireturn, 1) := dk_172 (dk_at dksX0_countOf_3 13 rfl rfl)
abbrev cX0_toldRows : ByteArray := prog_1_method_63_code
def yX0_toldRows : MethodName := ⟨RX0, "toldRows", "(Z)I"⟩
def dkwX0_toldRows_2 : List UInt8 := [158, 0, 7, 4, 167, 0, 4, 3, 96, 61, 132, 3, 1, 167, 255, 200, 28, 172]
abbrev dktX0_toldRows_2 : List UInt8 := dkwX0_toldRows_2 ++ []
def dkwX0_toldRows_1 : List UInt8 := [25, 5, 193, 0, 76, 153, 0, 26, 25, 5, 192, 0, 76, 58, 4, 27, 153, 0, 11, 25, 4, 182, 0, 244]
abbrev dktX0_toldRows_1 : List UInt8 := dkwX0_toldRows_1 ++ dktX0_toldRows_2
def dkwX0_toldRows_0 : List UInt8 := [3, 61, 3, 62, 29, 42, 180, 0, 20, 182, 0, 96, 162, 0, 51, 28, 42, 29, 182, 0, 67, 58, 5]
abbrev dktX0_toldRows_0 : List UInt8 := dkwX0_toldRows_0 ++ dktX0_toldRows_1
theorem dksX0_toldRows_0 : cX0_toldRows.data.toList.drop 0 = dktX0_toldRows_0 := by decide +kernel
theorem dksX0_toldRows_1 : cX0_toldRows.data.toList.drop 23 = dktX0_toldRows_1 := dk_seg dksX0_toldRows_0 23 rfl rfl
theorem dksX0_toldRows_2 : cX0_toldRows.data.toList.drop 47 = dktX0_toldRows_2 := dk_seg dksX0_toldRows_1 24 rfl rfl
theorem dX0_toldRows_0 : decode cX0_toldRows 0 = .ok (.iconst 0, 1) := dk_3 (dk_at dksX0_toldRows_0 0 rfl rfl)
theorem dX0_toldRows_1 : decode cX0_toldRows 1 = .ok (.istore_n 2, 1) := dk_61 (dk_at dksX0_toldRows_0 1 rfl rfl)
theorem dX0_toldRows_2 : decode cX0_toldRows 2 = .ok (.iconst 0, 1) := dk_3 (dk_at dksX0_toldRows_0 2 rfl rfl)
theorem dX0_toldRows_3 : decode cX0_toldRows 3 = .ok (.istore_n 3, 1) := dk_62 (dk_at dksX0_toldRows_0 3 rfl rfl)
theorem dX0_toldRows_4 : decode cX0_toldRows 4 = .ok (.iload_n 3, 1) := dk_29 (dk_at dksX0_toldRows_0 4 rfl rfl)
theorem dX0_toldRows_5 : decode cX0_toldRows 5 = .ok (.aload_n 0, 1) := dk_42 (dk_at dksX0_toldRows_0 5 rfl rfl)
theorem dX0_toldRows_6 : decode cX0_toldRows 6 = .ok (.getfield 20, 3) := dk_180 0 20 (dk_at dksX0_toldRows_0 6 rfl rfl)
theorem dX0_toldRows_9 : decode cX0_toldRows 9 = .ok (.invokevirtual 96, 3) := dk_182 0 96 (dk_at dksX0_toldRows_0 9 rfl rfl)
theorem dX0_toldRows_12 : decode cX0_toldRows 12 = .ok (.if_icmp .ge 51, 3) := dk_162 0 51 (dk_at dksX0_toldRows_0 12 rfl rfl)
theorem dX0_toldRows_15 : decode cX0_toldRows 15 = .ok (.iload_n 2, 1) := dk_28 (dk_at dksX0_toldRows_0 15 rfl rfl)
theorem dX0_toldRows_16 : decode cX0_toldRows 16 = .ok (.aload_n 0, 1) := dk_42 (dk_at dksX0_toldRows_0 16 rfl rfl)
theorem dX0_toldRows_17 : decode cX0_toldRows 17 = .ok (.iload_n 3, 1) := dk_29 (dk_at dksX0_toldRows_0 17 rfl rfl)
theorem dX0_toldRows_18 : decode cX0_toldRows 18 = .ok (.invokevirtual 67, 3) := dk_182 0 67 (dk_at dksX0_toldRows_0 18 rfl rfl)
theorem dX0_toldRows_21 : decode cX0_toldRows 21 = .ok (.astore 5, 2) := dk_58 5 (dk_at dksX0_toldRows_0 21 rfl rfl)
theorem dX0_toldRows_23 : decode cX0_toldRows 23 = .ok (.aload 5, 2) := dk_25 5 (dk_at dksX0_toldRows_1 0 rfl rfl)
theorem dX0_toldRows_25 : decode cX0_toldRows 25 = .ok (.instanceof 76, 3) := dk_193 0 76 (dk_at dksX0_toldRows_1 2 rfl rfl)
theorem dX0_toldRows_28 : decode cX0_toldRows 28 = .ok (.ifCond .eq 26, 3) := dk_153 0 26 (dk_at dksX0_toldRows_1 5 rfl rfl)
theorem dX0_toldRows_31 : decode cX0_toldRows 31 = .ok (.aload 5, 2) := dk_25 5 (dk_at dksX0_toldRows_1 8 rfl rfl)
theorem dX0_toldRows_33 : decode cX0_toldRows 33 = .ok (.checkcast 76, 3) := dk_192 0 76 (dk_at dksX0_toldRows_1 10 rfl rfl)
theorem dX0_toldRows_36 : decode cX0_toldRows 36 = .ok (.astore 4, 2) := dk_58 4 (dk_at dksX0_toldRows_1 13 rfl rfl)
theorem dX0_toldRows_38 : decode cX0_toldRows 38 = .ok (.iload_n 1, 1) := dk_27 (dk_at dksX0_toldRows_1 15 rfl rfl)
theorem dX0_toldRows_39 : decode cX0_toldRows 39 = .ok (.ifCond .eq 11, 3) := dk_153 0 11 (dk_at dksX0_toldRows_1 16 rfl rfl)
theorem dX0_toldRows_42 : decode cX0_toldRows 42 = .ok (.aload 4, 2) := dk_25 4 (dk_at dksX0_toldRows_1 19 rfl rfl)
theorem dX0_toldRows_44 : decode cX0_toldRows 44 = .ok (.invokevirtual 244, 3) := dk_182 0 244 (dk_at dksX0_toldRows_1 21 rfl rfl)
theorem dX0_toldRows_47 : decode cX0_toldRows 47 = .ok (.ifCond .le 7, 3) := dk_158 0 7 (dk_at dksX0_toldRows_2 0 rfl rfl)
theorem dX0_toldRows_50 : decode cX0_toldRows 50 = .ok (.iconst 1, 1) := dk_4 (dk_at dksX0_toldRows_2 3 rfl rfl)
theorem dX0_toldRows_51 : decode cX0_toldRows 51 = .ok (.goto 4, 3) := dk_167 0 4 (dk_at dksX0_toldRows_2 4 rfl rfl)
theorem dX0_toldRows_54 : decode cX0_toldRows 54 = .ok (.iconst 0, 1) := dk_3 (dk_at dksX0_toldRows_2 7 rfl rfl)
theorem dX0_toldRows_55 : decode cX0_toldRows 55 = .ok (.iadd, 1) := dk_96 (dk_at dksX0_toldRows_2 8 rfl rfl)
theorem dX0_toldRows_56 : decode cX0_toldRows 56 = .ok (.istore_n 2, 1) := dk_61 (dk_at dksX0_toldRows_2 9 rfl rfl)
theorem dX0_toldRows_57 : decode cX0_toldRows 57 = .ok (.iinc 3 1, 3) := dk_132 3 1 (dk_at dksX0_toldRows_2 10 rfl rfl)
theorem dX0_toldRows_60 : decode cX0_toldRows 60 = .ok (.goto (-56), 3) := dk_167 255 200 (dk_at dksX0_toldRows_2 13 rfl rfl)
theorem dX0_toldRows_63 : decode cX0_toldRows 63 = .ok (.iload_n 2, 1) := dk_28 (dk_at dksX0_toldRows_2 16 rfl rfl)
theorem dX0_toldRows_64 : decode cX0_toldRows 64 = .ok (.ireturn, 1) := dk_172 (dk_at dksX0_toldRows_2 17 rfl rfl)
abbrev cX0_digest : ByteArray := prog_1_method_68_code
def yX0_digest : MethodName := ⟨RX0, "digest", "()J"⟩
def dkwX0_digest_5 : List UInt8 := [31, 42, 29, 182, 1, 115, 133, 184, 1, 120, 64, 132, 3, 1, 167, 255, 236, 31, 173]
abbrev dktX0_digest_5 : List UInt8 := dkwX0_digest_5 ++ []
def dkwX0_digest_4 : List UInt8 := [180, 0, 34, 29, 51, 133, 184, 1, 120, 64, 132, 3, 1, 167, 255, 233, 3, 62, 29, 16, 6, 162, 0, 20]
abbrev dktX0_digest_4 : List UInt8 := dkwX0_digest_4 ++ dktX0_digest_5
def dkwX0_digest_3 : List UInt8 := [184, 1, 120, 64, 132, 3, 1, 167, 255, 237, 3, 62, 29, 42, 180, 0, 105, 162, 0, 21, 31, 42]
abbrev dktX0_digest_3 : List UInt8 := dkwX0_digest_3 ++ dktX0_digest_4
def dkwX0_digest_2 : List UInt8 := [184, 1, 120, 64, 132, 3, 1, 167, 255, 233, 3, 62, 29, 6, 162, 0, 20, 31, 42, 29, 182, 1, 132, 133]
abbrev dktX0_digest_2 : List UInt8 := dkwX0_digest_2 ++ dktX0_digest_3
def dkwX0_digest_1 : List UInt8 := [132, 3, 1, 167, 255, 235, 3, 62, 29, 42, 180, 1, 58, 162, 0, 21, 31, 42, 180, 0, 38, 29, 46, 133]
abbrev dktX0_digest_1 : List UInt8 := dkwX0_digest_1 ++ dktX0_digest_2
def dkwX0_digest_0 : List UInt8 := [20, 1, 126, 64, 3, 62, 29, 42, 180, 0, 20, 182, 0, 96, 162, 0, 16, 42, 31, 29, 182, 1, 128, 64]
abbrev dktX0_digest_0 : List UInt8 := dkwX0_digest_0 ++ dktX0_digest_1
theorem dksX0_digest_0 : cX0_digest.data.toList.drop 0 = dktX0_digest_0 := by decide +kernel
theorem dksX0_digest_1 : cX0_digest.data.toList.drop 24 = dktX0_digest_1 := dk_seg dksX0_digest_0 24 rfl rfl
theorem dksX0_digest_2 : cX0_digest.data.toList.drop 48 = dktX0_digest_2 := dk_seg dksX0_digest_1 24 rfl rfl
theorem dksX0_digest_3 : cX0_digest.data.toList.drop 72 = dktX0_digest_3 := dk_seg dksX0_digest_2 24 rfl rfl
theorem dksX0_digest_4 : cX0_digest.data.toList.drop 94 = dktX0_digest_4 := dk_seg dksX0_digest_3 22 rfl rfl
theorem dksX0_digest_5 : cX0_digest.data.toList.drop 118 = dktX0_digest_5 := dk_seg dksX0_digest_4 24 rfl rfl
theorem dX0_digest_0 : decode cX0_digest 0 = .ok (.ldc2_w 382, 3) := dk_20 1 126 (dk_at dksX0_digest_0 0 rfl rfl)
theorem dX0_digest_3 : decode cX0_digest 3 = .ok (.lstore_n 1, 1) := dk_64 (dk_at dksX0_digest_0 3 rfl rfl)
theorem dX0_digest_4 : decode cX0_digest 4 = .ok (.iconst 0, 1) := dk_3 (dk_at dksX0_digest_0 4 rfl rfl)
theorem dX0_digest_5 : decode cX0_digest 5 = .ok (.istore_n 3, 1) := dk_62 (dk_at dksX0_digest_0 5 rfl rfl)
theorem dX0_digest_6 : decode cX0_digest 6 = .ok (.iload_n 3, 1) := dk_29 (dk_at dksX0_digest_0 6 rfl rfl)
theorem dX0_digest_7 : decode cX0_digest 7 = .ok (.aload_n 0, 1) := dk_42 (dk_at dksX0_digest_0 7 rfl rfl)
theorem dX0_digest_8 : decode cX0_digest 8 = .ok (.getfield 20, 3) := dk_180 0 20 (dk_at dksX0_digest_0 8 rfl rfl)
theorem dX0_digest_11 : decode cX0_digest 11 = .ok (.invokevirtual 96, 3) := dk_182 0 96 (dk_at dksX0_digest_0 11 rfl rfl)
theorem dX0_digest_14 : decode cX0_digest 14 = .ok (.if_icmp .ge 16, 3) := dk_162 0 16 (dk_at dksX0_digest_0 14 rfl rfl)
theorem dX0_digest_17 : decode cX0_digest 17 = .ok (.aload_n 0, 1) := dk_42 (dk_at dksX0_digest_0 17 rfl rfl)
theorem dX0_digest_18 : decode cX0_digest 18 = .ok (.lload_n 1, 1) := dk_31 (dk_at dksX0_digest_0 18 rfl rfl)
theorem dX0_digest_19 : decode cX0_digest 19 = .ok (.iload_n 3, 1) := dk_29 (dk_at dksX0_digest_0 19 rfl rfl)
theorem dX0_digest_20 : decode cX0_digest 20 = .ok (.invokevirtual 384, 3) := dk_182 1 128 (dk_at dksX0_digest_0 20 rfl rfl)
theorem dX0_digest_23 : decode cX0_digest 23 = .ok (.lstore_n 1, 1) := dk_64 (dk_at dksX0_digest_0 23 rfl rfl)
theorem dX0_digest_24 : decode cX0_digest 24 = .ok (.iinc 3 1, 3) := dk_132 3 1 (dk_at dksX0_digest_1 0 rfl rfl)
theorem dX0_digest_27 : decode cX0_digest 27 = .ok (.goto (-21), 3) := dk_167 255 235 (dk_at dksX0_digest_1 3 rfl rfl)
theorem dX0_digest_30 : decode cX0_digest 30 = .ok (.iconst 0, 1) := dk_3 (dk_at dksX0_digest_1 6 rfl rfl)
theorem dX0_digest_31 : decode cX0_digest 31 = .ok (.istore_n 3, 1) := dk_62 (dk_at dksX0_digest_1 7 rfl rfl)
theorem dX0_digest_32 : decode cX0_digest 32 = .ok (.iload_n 3, 1) := dk_29 (dk_at dksX0_digest_1 8 rfl rfl)
theorem dX0_digest_33 : decode cX0_digest 33 = .ok (.aload_n 0, 1) := dk_42 (dk_at dksX0_digest_1 9 rfl rfl)
theorem dX0_digest_34 : decode cX0_digest 34 = .ok (.getfield 314, 3) := dk_180 1 58 (dk_at dksX0_digest_1 10 rfl rfl)
theorem dX0_digest_37 : decode cX0_digest 37 = .ok (.if_icmp .ge 21, 3) := dk_162 0 21 (dk_at dksX0_digest_1 13 rfl rfl)
theorem dX0_digest_40 : decode cX0_digest 40 = .ok (.lload_n 1, 1) := dk_31 (dk_at dksX0_digest_1 16 rfl rfl)
theorem dX0_digest_41 : decode cX0_digest 41 = .ok (.aload_n 0, 1) := dk_42 (dk_at dksX0_digest_1 17 rfl rfl)
theorem dX0_digest_42 : decode cX0_digest 42 = .ok (.getfield 38, 3) := dk_180 0 38 (dk_at dksX0_digest_1 18 rfl rfl)
theorem dX0_digest_45 : decode cX0_digest 45 = .ok (.iload_n 3, 1) := dk_29 (dk_at dksX0_digest_1 21 rfl rfl)
theorem dX0_digest_46 : decode cX0_digest 46 = .ok (.iaload, 1) := dk_46 (dk_at dksX0_digest_1 22 rfl rfl)
theorem dX0_digest_47 : decode cX0_digest 47 = .ok (.i2l, 1) := dk_133 (dk_at dksX0_digest_1 23 rfl rfl)
theorem dX0_digest_48 : decode cX0_digest 48 = .ok (.invokestatic 376, 3) := dk_184 1 120 (dk_at dksX0_digest_2 0 rfl rfl)
theorem dX0_digest_51 : decode cX0_digest 51 = .ok (.lstore_n 1, 1) := dk_64 (dk_at dksX0_digest_2 3 rfl rfl)
theorem dX0_digest_52 : decode cX0_digest 52 = .ok (.iinc 3 1, 3) := dk_132 3 1 (dk_at dksX0_digest_2 4 rfl rfl)
theorem dX0_digest_55 : decode cX0_digest 55 = .ok (.goto (-23), 3) := dk_167 255 233 (dk_at dksX0_digest_2 7 rfl rfl)
theorem dX0_digest_58 : decode cX0_digest 58 = .ok (.iconst 0, 1) := dk_3 (dk_at dksX0_digest_2 10 rfl rfl)
theorem dX0_digest_59 : decode cX0_digest 59 = .ok (.istore_n 3, 1) := dk_62 (dk_at dksX0_digest_2 11 rfl rfl)
theorem dX0_digest_60 : decode cX0_digest 60 = .ok (.iload_n 3, 1) := dk_29 (dk_at dksX0_digest_2 12 rfl rfl)
theorem dX0_digest_61 : decode cX0_digest 61 = .ok (.iconst 3, 1) := dk_6 (dk_at dksX0_digest_2 13 rfl rfl)
theorem dX0_digest_62 : decode cX0_digest 62 = .ok (.if_icmp .ge 20, 3) := dk_162 0 20 (dk_at dksX0_digest_2 14 rfl rfl)
theorem dX0_digest_65 : decode cX0_digest 65 = .ok (.lload_n 1, 1) := dk_31 (dk_at dksX0_digest_2 17 rfl rfl)
theorem dX0_digest_66 : decode cX0_digest 66 = .ok (.aload_n 0, 1) := dk_42 (dk_at dksX0_digest_2 18 rfl rfl)
theorem dX0_digest_67 : decode cX0_digest 67 = .ok (.iload_n 3, 1) := dk_29 (dk_at dksX0_digest_2 19 rfl rfl)
theorem dX0_digest_68 : decode cX0_digest 68 = .ok (.invokevirtual 388, 3) := dk_182 1 132 (dk_at dksX0_digest_2 20 rfl rfl)
theorem dX0_digest_71 : decode cX0_digest 71 = .ok (.i2l, 1) := dk_133 (dk_at dksX0_digest_2 23 rfl rfl)
theorem dX0_digest_72 : decode cX0_digest 72 = .ok (.invokestatic 376, 3) := dk_184 1 120 (dk_at dksX0_digest_3 0 rfl rfl)
theorem dX0_digest_75 : decode cX0_digest 75 = .ok (.lstore_n 1, 1) := dk_64 (dk_at dksX0_digest_3 3 rfl rfl)
theorem dX0_digest_76 : decode cX0_digest 76 = .ok (.iinc 3 1, 3) := dk_132 3 1 (dk_at dksX0_digest_3 4 rfl rfl)
theorem dX0_digest_79 : decode cX0_digest 79 = .ok (.goto (-19), 3) := dk_167 255 237 (dk_at dksX0_digest_3 7 rfl rfl)
theorem dX0_digest_82 : decode cX0_digest 82 = .ok (.iconst 0, 1) := dk_3 (dk_at dksX0_digest_3 10 rfl rfl)
theorem dX0_digest_83 : decode cX0_digest 83 = .ok (.istore_n 3, 1) := dk_62 (dk_at dksX0_digest_3 11 rfl rfl)
theorem dX0_digest_84 : decode cX0_digest 84 = .ok (.iload_n 3, 1) := dk_29 (dk_at dksX0_digest_3 12 rfl rfl)
theorem dX0_digest_85 : decode cX0_digest 85 = .ok (.aload_n 0, 1) := dk_42 (dk_at dksX0_digest_3 13 rfl rfl)
theorem dX0_digest_86 : decode cX0_digest 86 = .ok (.getfield 105, 3) := dk_180 0 105 (dk_at dksX0_digest_3 14 rfl rfl)
theorem dX0_digest_89 : decode cX0_digest 89 = .ok (.if_icmp .ge 21, 3) := dk_162 0 21 (dk_at dksX0_digest_3 17 rfl rfl)
theorem dX0_digest_92 : decode cX0_digest 92 = .ok (.lload_n 1, 1) := dk_31 (dk_at dksX0_digest_3 20 rfl rfl)
theorem dX0_digest_93 : decode cX0_digest 93 = .ok (.aload_n 0, 1) := dk_42 (dk_at dksX0_digest_3 21 rfl rfl)
theorem dX0_digest_94 : decode cX0_digest 94 = .ok (.getfield 34, 3) := dk_180 0 34 (dk_at dksX0_digest_4 0 rfl rfl)
theorem dX0_digest_97 : decode cX0_digest 97 = .ok (.iload_n 3, 1) := dk_29 (dk_at dksX0_digest_4 3 rfl rfl)
theorem dX0_digest_98 : decode cX0_digest 98 = .ok (.baload, 1) := dk_51 (dk_at dksX0_digest_4 4 rfl rfl)
theorem dX0_digest_99 : decode cX0_digest 99 = .ok (.i2l, 1) := dk_133 (dk_at dksX0_digest_4 5 rfl rfl)
theorem dX0_digest_100 : decode cX0_digest 100 = .ok (.invokestatic 376, 3) := dk_184 1 120 (dk_at dksX0_digest_4 6 rfl rfl)
theorem dX0_digest_103 : decode cX0_digest 103 = .ok (.lstore_n 1, 1) := dk_64 (dk_at dksX0_digest_4 9 rfl rfl)
theorem dX0_digest_104 : decode cX0_digest 104 = .ok (.iinc 3 1, 3) := dk_132 3 1 (dk_at dksX0_digest_4 10 rfl rfl)
theorem dX0_digest_107 : decode cX0_digest 107 = .ok (.goto (-23), 3) := dk_167 255 233 (dk_at dksX0_digest_4 13 rfl rfl)
theorem dX0_digest_110 : decode cX0_digest 110 = .ok (.iconst 0, 1) := dk_3 (dk_at dksX0_digest_4 16 rfl rfl)
theorem dX0_digest_111 : decode cX0_digest 111 = .ok (.istore_n 3, 1) := dk_62 (dk_at dksX0_digest_4 17 rfl rfl)
theorem dX0_digest_112 : decode cX0_digest 112 = .ok (.iload_n 3, 1) := dk_29 (dk_at dksX0_digest_4 18 rfl rfl)
theorem dX0_digest_113 : decode cX0_digest 113 = .ok (.bipush 6, 2) := dk_16 6 (dk_at dksX0_digest_4 19 rfl rfl)
theorem dX0_digest_115 : decode cX0_digest 115 = .ok (.if_icmp .ge 20, 3) := dk_162 0 20 (dk_at dksX0_digest_4 21 rfl rfl)
theorem dX0_digest_118 : decode cX0_digest 118 = .ok (.lload_n 1, 1) := dk_31 (dk_at dksX0_digest_5 0 rfl rfl)
theorem dX0_digest_119 : decode cX0_digest 119 = .ok (.aload_n 0, 1) := dk_42 (dk_at dksX0_digest_5 1 rfl rfl)
theorem dX0_digest_120 : decode cX0_digest 120 = .ok (.iload_n 3, 1) := dk_29 (dk_at dksX0_digest_5 2 rfl rfl)
theorem dX0_digest_121 : decode cX0_digest 121 = .ok (.invokevirtual 371, 3) := dk_182 1 115 (dk_at dksX0_digest_5 3 rfl rfl)
theorem dX0_digest_124 : decode cX0_digest 124 = .ok (.i2l, 1) := dk_133 (dk_at dksX0_digest_5 6 rfl rfl)
theorem dX0_digest_125 : decode cX0_digest 125 = .ok (.invokestatic 376, 3) := dk_184 1 120 (dk_at dksX0_digest_5 7 rfl rfl)
theorem dX0_digest_128 : decode cX0_digest 128 = .ok (.lstore_n 1, 1) := dk_64 (dk_at dksX0_digest_5 10 rfl rfl)
theorem dX0_digest_129 : decode cX0_digest 129 = .ok (.iinc 3 1, 3) := dk_132 3 1 (dk_at dksX0_digest_5 11 rfl rfl)
theorem dX0_digest_132 : decode cX0_digest 132 = .ok (.goto (-20), 3) := dk_167 255 236 (dk_at dksX0_digest_5 14 rfl rfl)
theorem dX0_digest_135 : decode cX0_digest 135 = .ok (.lload_n 1, 1) := dk_31 (dk_at dksX0_digest_5 17 rfl rfl)
theorem dX0_digest_136 : decode cX0_digest 136 = .ok (.lreturn, 1) := dk_173 (dk_at dksX0_digest_5 18 rfl rfl)
abbrev cX0_mixedRow : ByteArray := prog_1_method_67_code
def yX0_mixedRow : MethodName := ⟨RX0, "mixedRow", "(JI)J"⟩
def dkwX0_mixedRow_5 : List UInt8 := [132, 6, 1, 167, 255, 228, 22, 4, 42, 29, 182, 1, 0, 133, 184, 1, 120, 173]
abbrev dktX0_mixedRow_5 : List UInt8 := dkwX0_mixedRow_5 ++ []
def dkwX0_mixedRow_4 : List UInt8 := [6, 162, 0, 28, 22, 4, 42, 29, 8, 182, 0, 193, 21, 6, 184, 0, 210, 133, 184, 1, 120, 55, 4]
abbrev dktX0_mixedRow_4 : List UInt8 := dkwX0_mixedRow_4 ++ dktX0_mixedRow_5
def dkwX0_mixedRow_3 : List UInt8 := [42, 29, 16, 7, 182, 0, 193, 20, 1, 124, 182, 0, 197, 133, 184, 1, 120, 55, 4, 3, 54, 6, 21, 6]
abbrev dktX0_mixedRow_3 : List UInt8 := dkwX0_mixedRow_3 ++ dktX0_mixedRow_4
def dkwX0_mixedRow_2 : List UInt8 := [42, 29, 182, 0, 67, 42, 21, 6, 182, 0, 186, 184, 1, 120, 55, 4, 132, 6, 1, 167, 255, 228, 22, 4]
abbrev dktX0_mixedRow_2 : List UInt8 := dkwX0_mixedRow_2 ++ dktX0_mixedRow_3
def dkwX0_mixedRow_1 : List UInt8 := [133, 184, 1, 120, 55, 4, 132, 6, 1, 167, 255, 229, 3, 54, 6, 21, 6, 16, 8, 162, 0, 27, 22, 4]
abbrev dktX0_mixedRow_1 : List UInt8 := dkwX0_mixedRow_1 ++ dktX0_mixedRow_2
def dkwX0_mixedRow_0 : List UInt8 := [31, 55, 4, 3, 54, 6, 21, 6, 8, 162, 0, 27, 22, 4, 42, 29, 182, 0, 67, 21, 6, 182, 0, 155]
abbrev dktX0_mixedRow_0 : List UInt8 := dkwX0_mixedRow_0 ++ dktX0_mixedRow_1
theorem dksX0_mixedRow_0 : cX0_mixedRow.data.toList.drop 0 = dktX0_mixedRow_0 := by decide +kernel
theorem dksX0_mixedRow_1 : cX0_mixedRow.data.toList.drop 24 = dktX0_mixedRow_1 := dk_seg dksX0_mixedRow_0 24 rfl rfl
theorem dksX0_mixedRow_2 : cX0_mixedRow.data.toList.drop 48 = dktX0_mixedRow_2 := dk_seg dksX0_mixedRow_1 24 rfl rfl
theorem dksX0_mixedRow_3 : cX0_mixedRow.data.toList.drop 72 = dktX0_mixedRow_3 := dk_seg dksX0_mixedRow_2 24 rfl rfl
theorem dksX0_mixedRow_4 : cX0_mixedRow.data.toList.drop 96 = dktX0_mixedRow_4 := dk_seg dksX0_mixedRow_3 24 rfl rfl
theorem dksX0_mixedRow_5 : cX0_mixedRow.data.toList.drop 119 = dktX0_mixedRow_5 := dk_seg dksX0_mixedRow_4 23 rfl rfl
theorem dX0_mixedRow_0 : decode cX0_mixedRow 0 = .ok (.lload_n 1, 1) := dk_31 (dk_at dksX0_mixedRow_0 0 rfl rfl)
theorem dX0_mixedRow_1 : decode cX0_mixedRow 1 = .ok (.lstore 4, 2) := dk_55 4 (dk_at dksX0_mixedRow_0 1 rfl rfl)
theorem dX0_mixedRow_3 : decode cX0_mixedRow 3 = .ok (.iconst 0, 1) := dk_3 (dk_at dksX0_mixedRow_0 3 rfl rfl)
theorem dX0_mixedRow_4 : decode cX0_mixedRow 4 = .ok (.istore 6, 2) := dk_54 6 (dk_at dksX0_mixedRow_0 4 rfl rfl)
theorem dX0_mixedRow_6 : decode cX0_mixedRow 6 = .ok (.iload 6, 2) := dk_21 6 (dk_at dksX0_mixedRow_0 6 rfl rfl)
theorem dX0_mixedRow_8 : decode cX0_mixedRow 8 = .ok (.iconst 5, 1) := dk_8 (dk_at dksX0_mixedRow_0 8 rfl rfl)
theorem dX0_mixedRow_9 : decode cX0_mixedRow 9 = .ok (.if_icmp .ge 27, 3) := dk_162 0 27 (dk_at dksX0_mixedRow_0 9 rfl rfl)
theorem dX0_mixedRow_12 : decode cX0_mixedRow 12 = .ok (.lload 4, 2) := dk_22 4 (dk_at dksX0_mixedRow_0 12 rfl rfl)
theorem dX0_mixedRow_14 : decode cX0_mixedRow 14 = .ok (.aload_n 0, 1) := dk_42 (dk_at dksX0_mixedRow_0 14 rfl rfl)
theorem dX0_mixedRow_15 : decode cX0_mixedRow 15 = .ok (.iload_n 3, 1) := dk_29 (dk_at dksX0_mixedRow_0 15 rfl rfl)
theorem dX0_mixedRow_16 : decode cX0_mixedRow 16 = .ok (.invokevirtual 67, 3) := dk_182 0 67 (dk_at dksX0_mixedRow_0 16 rfl rfl)
theorem dX0_mixedRow_19 : decode cX0_mixedRow 19 = .ok (.iload 6, 2) := dk_21 6 (dk_at dksX0_mixedRow_0 19 rfl rfl)
theorem dX0_mixedRow_21 : decode cX0_mixedRow 21 = .ok (.invokevirtual 155, 3) := dk_182 0 155 (dk_at dksX0_mixedRow_0 21 rfl rfl)
theorem dX0_mixedRow_24 : decode cX0_mixedRow 24 = .ok (.i2l, 1) := dk_133 (dk_at dksX0_mixedRow_1 0 rfl rfl)
theorem dX0_mixedRow_25 : decode cX0_mixedRow 25 = .ok (.invokestatic 376, 3) := dk_184 1 120 (dk_at dksX0_mixedRow_1 1 rfl rfl)
theorem dX0_mixedRow_28 : decode cX0_mixedRow 28 = .ok (.lstore 4, 2) := dk_55 4 (dk_at dksX0_mixedRow_1 4 rfl rfl)
theorem dX0_mixedRow_30 : decode cX0_mixedRow 30 = .ok (.iinc 6 1, 3) := dk_132 6 1 (dk_at dksX0_mixedRow_1 6 rfl rfl)
theorem dX0_mixedRow_33 : decode cX0_mixedRow 33 = .ok (.goto (-27), 3) := dk_167 255 229 (dk_at dksX0_mixedRow_1 9 rfl rfl)
theorem dX0_mixedRow_36 : decode cX0_mixedRow 36 = .ok (.iconst 0, 1) := dk_3 (dk_at dksX0_mixedRow_1 12 rfl rfl)
theorem dX0_mixedRow_37 : decode cX0_mixedRow 37 = .ok (.istore 6, 2) := dk_54 6 (dk_at dksX0_mixedRow_1 13 rfl rfl)
theorem dX0_mixedRow_39 : decode cX0_mixedRow 39 = .ok (.iload 6, 2) := dk_21 6 (dk_at dksX0_mixedRow_1 15 rfl rfl)
theorem dX0_mixedRow_41 : decode cX0_mixedRow 41 = .ok (.bipush 8, 2) := dk_16 8 (dk_at dksX0_mixedRow_1 17 rfl rfl)
theorem dX0_mixedRow_43 : decode cX0_mixedRow 43 = .ok (.if_icmp .ge 27, 3) := dk_162 0 27 (dk_at dksX0_mixedRow_1 19 rfl rfl)
theorem dX0_mixedRow_46 : decode cX0_mixedRow 46 = .ok (.lload 4, 2) := dk_22 4 (dk_at dksX0_mixedRow_1 22 rfl rfl)
theorem dX0_mixedRow_48 : decode cX0_mixedRow 48 = .ok (.aload_n 0, 1) := dk_42 (dk_at dksX0_mixedRow_2 0 rfl rfl)
theorem dX0_mixedRow_49 : decode cX0_mixedRow 49 = .ok (.iload_n 3, 1) := dk_29 (dk_at dksX0_mixedRow_2 1 rfl rfl)
theorem dX0_mixedRow_50 : decode cX0_mixedRow 50 = .ok (.invokevirtual 67, 3) := dk_182 0 67 (dk_at dksX0_mixedRow_2 2 rfl rfl)
theorem dX0_mixedRow_53 : decode cX0_mixedRow 53 = .ok (.aload_n 0, 1) := dk_42 (dk_at dksX0_mixedRow_2 5 rfl rfl)
theorem dX0_mixedRow_54 : decode cX0_mixedRow 54 = .ok (.iload 6, 2) := dk_21 6 (dk_at dksX0_mixedRow_2 6 rfl rfl)
theorem dX0_mixedRow_56 : decode cX0_mixedRow 56 = .ok (.invokevirtual 186, 3) := dk_182 0 186 (dk_at dksX0_mixedRow_2 8 rfl rfl)
theorem dX0_mixedRow_59 : decode cX0_mixedRow 59 = .ok (.invokestatic 376, 3) := dk_184 1 120 (dk_at dksX0_mixedRow_2 11 rfl rfl)
theorem dX0_mixedRow_62 : decode cX0_mixedRow 62 = .ok (.lstore 4, 2) := dk_55 4 (dk_at dksX0_mixedRow_2 14 rfl rfl)
theorem dX0_mixedRow_64 : decode cX0_mixedRow 64 = .ok (.iinc 6 1, 3) := dk_132 6 1 (dk_at dksX0_mixedRow_2 16 rfl rfl)
theorem dX0_mixedRow_67 : decode cX0_mixedRow 67 = .ok (.goto (-28), 3) := dk_167 255 228 (dk_at dksX0_mixedRow_2 19 rfl rfl)
theorem dX0_mixedRow_70 : decode cX0_mixedRow 70 = .ok (.lload 4, 2) := dk_22 4 (dk_at dksX0_mixedRow_2 22 rfl rfl)
theorem dX0_mixedRow_72 : decode cX0_mixedRow 72 = .ok (.aload_n 0, 1) := dk_42 (dk_at dksX0_mixedRow_3 0 rfl rfl)
theorem dX0_mixedRow_73 : decode cX0_mixedRow 73 = .ok (.iload_n 3, 1) := dk_29 (dk_at dksX0_mixedRow_3 1 rfl rfl)
theorem dX0_mixedRow_74 : decode cX0_mixedRow 74 = .ok (.bipush 7, 2) := dk_16 7 (dk_at dksX0_mixedRow_3 2 rfl rfl)
theorem dX0_mixedRow_76 : decode cX0_mixedRow 76 = .ok (.invokevirtual 193, 3) := dk_182 0 193 (dk_at dksX0_mixedRow_3 4 rfl rfl)
theorem dX0_mixedRow_79 : decode cX0_mixedRow 79 = .ok (.ldc2_w 380, 3) := dk_20 1 124 (dk_at dksX0_mixedRow_3 7 rfl rfl)
theorem dX0_mixedRow_82 : decode cX0_mixedRow 82 = .ok (.invokevirtual 197, 3) := dk_182 0 197 (dk_at dksX0_mixedRow_3 10 rfl rfl)
theorem dX0_mixedRow_85 : decode cX0_mixedRow 85 = .ok (.i2l, 1) := dk_133 (dk_at dksX0_mixedRow_3 13 rfl rfl)
theorem dX0_mixedRow_86 : decode cX0_mixedRow 86 = .ok (.invokestatic 376, 3) := dk_184 1 120 (dk_at dksX0_mixedRow_3 14 rfl rfl)
theorem dX0_mixedRow_89 : decode cX0_mixedRow 89 = .ok (.lstore 4, 2) := dk_55 4 (dk_at dksX0_mixedRow_3 17 rfl rfl)
theorem dX0_mixedRow_91 : decode cX0_mixedRow 91 = .ok (.iconst 0, 1) := dk_3 (dk_at dksX0_mixedRow_3 19 rfl rfl)
theorem dX0_mixedRow_92 : decode cX0_mixedRow 92 = .ok (.istore 6, 2) := dk_54 6 (dk_at dksX0_mixedRow_3 20 rfl rfl)
theorem dX0_mixedRow_94 : decode cX0_mixedRow 94 = .ok (.iload 6, 2) := dk_21 6 (dk_at dksX0_mixedRow_3 22 rfl rfl)
theorem dX0_mixedRow_96 : decode cX0_mixedRow 96 = .ok (.iconst 3, 1) := dk_6 (dk_at dksX0_mixedRow_4 0 rfl rfl)
theorem dX0_mixedRow_97 : decode cX0_mixedRow 97 = .ok (.if_icmp .ge 28, 3) := dk_162 0 28 (dk_at dksX0_mixedRow_4 1 rfl rfl)
theorem dX0_mixedRow_100 : decode cX0_mixedRow 100 = .ok (.lload 4, 2) := dk_22 4 (dk_at dksX0_mixedRow_4 4 rfl rfl)
theorem dX0_mixedRow_102 : decode cX0_mixedRow 102 = .ok (.aload_n 0, 1) := dk_42 (dk_at dksX0_mixedRow_4 6 rfl rfl)
theorem dX0_mixedRow_103 : decode cX0_mixedRow 103 = .ok (.iload_n 3, 1) := dk_29 (dk_at dksX0_mixedRow_4 7 rfl rfl)
theorem dX0_mixedRow_104 : decode cX0_mixedRow 104 = .ok (.iconst 5, 1) := dk_8 (dk_at dksX0_mixedRow_4 8 rfl rfl)
theorem dX0_mixedRow_105 : decode cX0_mixedRow 105 = .ok (.invokevirtual 193, 3) := dk_182 0 193 (dk_at dksX0_mixedRow_4 9 rfl rfl)
theorem dX0_mixedRow_108 : decode cX0_mixedRow 108 = .ok (.iload 6, 2) := dk_21 6 (dk_at dksX0_mixedRow_4 12 rfl rfl)
theorem dX0_mixedRow_110 : decode cX0_mixedRow 110 = .ok (.invokestatic 210, 3) := dk_184 0 210 (dk_at dksX0_mixedRow_4 14 rfl rfl)
theorem dX0_mixedRow_113 : decode cX0_mixedRow 113 = .ok (.i2l, 1) := dk_133 (dk_at dksX0_mixedRow_4 17 rfl rfl)
theorem dX0_mixedRow_114 : decode cX0_mixedRow 114 = .ok (.invokestatic 376, 3) := dk_184 1 120 (dk_at dksX0_mixedRow_4 18 rfl rfl)
theorem dX0_mixedRow_117 : decode cX0_mixedRow 117 = .ok (.lstore 4, 2) := dk_55 4 (dk_at dksX0_mixedRow_4 21 rfl rfl)
theorem dX0_mixedRow_119 : decode cX0_mixedRow 119 = .ok (.iinc 6 1, 3) := dk_132 6 1 (dk_at dksX0_mixedRow_5 0 rfl rfl)
theorem dX0_mixedRow_122 : decode cX0_mixedRow 122 = .ok (.goto (-28), 3) := dk_167 255 228 (dk_at dksX0_mixedRow_5 3 rfl rfl)
theorem dX0_mixedRow_125 : decode cX0_mixedRow 125 = .ok (.lload 4, 2) := dk_22 4 (dk_at dksX0_mixedRow_5 6 rfl rfl)
theorem dX0_mixedRow_127 : decode cX0_mixedRow 127 = .ok (.aload_n 0, 1) := dk_42 (dk_at dksX0_mixedRow_5 8 rfl rfl)
theorem dX0_mixedRow_128 : decode cX0_mixedRow 128 = .ok (.iload_n 3, 1) := dk_29 (dk_at dksX0_mixedRow_5 9 rfl rfl)
theorem dX0_mixedRow_129 : decode cX0_mixedRow 129 = .ok (.invokevirtual 256, 3) := dk_182 1 0 (dk_at dksX0_mixedRow_5 10 rfl rfl)
theorem dX0_mixedRow_132 : decode cX0_mixedRow 132 = .ok (.i2l, 1) := dk_133 (dk_at dksX0_mixedRow_5 13 rfl rfl)
theorem dX0_mixedRow_133 : decode cX0_mixedRow 133 = .ok (.invokestatic 376, 3) := dk_184 1 120 (dk_at dksX0_mixedRow_5 14 rfl rfl)
theorem dX0_mixedRow_136 : decode cX0_mixedRow 136 = .ok (.lreturn, 1) := dk_173 (dk_at dksX0_mixedRow_5 17 rfl rfl)
abbrev cX0_mixed : ByteArray := prog_1_method_66_code
def yX0_mixed : MethodName := ⟨RX0, "mixed", "(JJ)J"⟩
def dkwX0_mixed_0 : List UInt8 := [20, 1, 118, 30, 105, 32, 97, 173]
abbrev dktX0_mixed_0 : List UInt8 := dkwX0_mixed_0 ++ []
theorem dksX0_mixed_0 : cX0_mixed.data.toList.drop 0 = dktX0_mixed_0 := by decide +kernel
theorem dX0_mixed_0 : decode cX0_mixed 0 = .ok (.ldc2_w 374, 3) := dk_20 1 118 (dk_at dksX0_mixed_0 0 rfl rfl)
theorem dX0_mixed_3 : decode cX0_mixed 3 = .ok (.lload_n 0, 1) := dk_30 (dk_at dksX0_mixed_0 3 rfl rfl)
theorem dX0_mixed_4 : decode cX0_mixed 4 = .ok (.lmul, 1) := dk_105 (dk_at dksX0_mixed_0 4 rfl rfl)
theorem dX0_mixed_5 : decode cX0_mixed 5 = .ok (.lload_n 2, 1) := dk_32 (dk_at dksX0_mixed_0 5 rfl rfl)
theorem dX0_mixed_6 : decode cX0_mixed 6 = .ok (.ladd, 1) := dk_97 (dk_at dksX0_mixed_0 6 rfl rfl)
theorem dX0_mixed_7 : decode cX0_mixed 7 = .ok (.lreturn, 1) := dk_173 (dk_at dksX0_mixed_0 7 rfl rfl)
theorem q97 : (Jvm.Cond.initialized "AheadRows") ∈ lw_all := lw_g (lw_at lw_m1 1 rfl) rfl
theorem q128 : (Jvm.Cond.instantiable "AheadRows" (15 : Nat)) ∈ lw_all := lw_g (lw_at lw_m1 32 rfl) rfl
theorem q130 : (Jvm.Cond.instanceMethod ({ cls := "AheadRows", name := "<init>", desc := "()V" } : Jvm.MethodName)) ∈ lw_all := lw_g (lw_at lw_m1 34 rfl) rfl
theorem q131 : (Jvm.Cond.code ({ cls := "AheadRows", name := "<init>", desc := "()V" } : Jvm.MethodName) prog_1_method_5_code (2 : Nat) (Option.none : Option Jvm.ClassFile.FieldType)) ∈ lw_all := lw_g (lw_at lw_m1 35 rfl) rfl
theorem q132 : (Jvm.Cond.methodLink "AheadRows" (11 : Nat) ({ cls := "java/lang/Object", name := "<init>", desc := "()V" } : Jvm.MethodName)) ∈ lw_all := lw_g (lw_at lw_m1 36 rfl) rfl
theorem q135 : (Jvm.Cond.classLink "AheadRows" (17 : Nat) "java/util/ArrayList") ∈ lw_all := lw_g (lw_at lw_m1 39 rfl) rfl
theorem q137 : (Jvm.Cond.methodLink "AheadRows" (19 : Nat) ({ cls := "java/util/ArrayList", name := "<init>", desc := "()V" } : Jvm.MethodName)) ∈ lw_all := lw_g (lw_at lw_m1 41 rfl) rfl
theorem q161 : (Jvm.Cond.classLink "AheadRows" (24 : Nat) "AheadRows$Wheel") ∈ lw_all := lw_g (lw_at lw_m1 65 rfl) rfl
theorem q164 : (Jvm.Cond.methodLinkNest "AheadRows" (41 : Nat) ({ cls := "AheadRows$Wheel", name := "<init>", desc := "()V" } : Jvm.MethodName) "AheadRows") ∈ lw_tbl := lw_at lw_m1 68 rfl
theorem q176 : (Jvm.Cond.fieldLink "AheadRows" (204 : Nat) "AheadRows$Wheel" "head" "I") ∈ lw_all := lw_g (lw_at lw_m1 80 rfl) rfl
theorem q183 : (Jvm.Cond.fieldLink "AheadRows" (201 : Nat) "AheadRows$Wheel" "lap" "I") ∈ lw_all := lw_g (lw_at lw_m1 87 rfl) rfl
theorem q184 : (Jvm.Cond.fieldLink "AheadRows" (66 : Nat) "AheadRows$Wheel" "stamp" "I") ∈ lw_all := lw_g (lw_at lw_m1 88 rfl) rfl
theorem q196 : (Jvm.Cond.constant "AheadRows" (49 : Nat) (2000000001 : Int32)) ∈ lw_all := lw_g (lw_at lw_m1 100 rfl) rfl
theorem q197 : (Jvm.Cond.fieldLink "AheadRows" (20 : Nat) "AheadRows" "rows" "Ljava/util/ArrayList;") ∈ lw_all := lw_g (lw_at lw_m1 101 rfl) rfl
theorem q198 : (Jvm.Cond.fieldLink "AheadRows" (26 : Nat) "AheadRows" "wheels" "[LAheadRows$Wheel;") ∈ lw_all := lw_g (lw_at lw_m1 102 rfl) rfl
theorem q199 : (Jvm.Cond.fieldLink "AheadRows" (30 : Nat) "AheadRows" "seen" "[I") ∈ lw_all := lw_g (lw_at lw_m1 103 rfl) rfl
theorem q201 : (Jvm.Cond.fieldLink "AheadRows" (57 : Nat) "AheadRows" "stamp" "I") ∈ lw_all := lw_g (lw_at lw_m1 105 rfl) rfl
theorem q202 : (Jvm.Cond.fieldLink "AheadRows" (133 : Nat) "AheadRows" "rowsRead" "I") ∈ lw_all := lw_g (lw_at lw_m1 106 rfl) rfl
theorem q204 : (Jvm.Cond.fieldLink "AheadRows" (34 : Nat) "AheadRows" "page" "[B") ∈ lw_all := lw_g (lw_at lw_m1 108 rfl) rfl
theorem q206 : (Jvm.Cond.fieldLink "AheadRows" (105 : Nat) "AheadRows" "pageLength" "I") ∈ lw_all := lw_g (lw_at lw_m1 110 rfl) rfl
theorem q207 : (Jvm.Cond.fieldLink "AheadRows" (314 : Nat) "AheadRows" "given" "I") ∈ lw_all := lw_g (lw_at lw_m1 111 rfl) rfl
theorem q208 : (Jvm.Cond.fieldLink "AheadRows" (38 : Nat) "AheadRows" "givenAt" "[I") ∈ lw_all := lw_g (lw_at lw_m1 112 rfl) rfl
theorem q209 : (Jvm.Cond.fieldLink "AheadRows" (339 : Nat) "AheadRows" "drawn" "J") ∈ lw_all := lw_g (lw_at lw_m1 113 rfl) rfl
theorem q210 : (Jvm.Cond.fieldLink "AheadRows" (42 : Nat) "AheadRows" "tried" "LAheadRows$Wheel;") ∈ lw_all := lw_g (lw_at lw_m1 114 rfl) rfl
theorem q211 : (Jvm.Cond.fieldLink "AheadRows" (46 : Nat) "AheadRows" "kept" "Ljava/util/ArrayList;") ∈ lw_all := lw_g (lw_at lw_m1 115 rfl) rfl
theorem q212 : (Jvm.Cond.fieldLink "AheadRows" (50 : Nat) "AheadRows" "keptRead" "I") ∈ lw_all := lw_g (lw_at lw_m1 116 rfl) rfl
theorem q213 : (Jvm.Cond.fieldLink "AheadRows" (358 : Nat) "AheadRows" "keptGiven" "I") ∈ lw_all := lw_g (lw_at lw_m1 117 rfl) rfl
theorem q214 : (Jvm.Cond.fieldLink "AheadRows" (54 : Nat) "AheadRows" "keptAt" "[I") ∈ lw_all := lw_g (lw_at lw_m1 118 rfl) rfl
theorem q215 : (Jvm.Cond.laysFinal "AheadRows" "AheadRows" "rows" "Ljava/util/ArrayList;") ∈ lw_all := lw_g (lw_at lw_m1 119 rfl) rfl
theorem q216 : (Jvm.Cond.soleField "AheadRows" "rows") ∈ lw_all := lw_g (lw_at lw_m1 120 rfl) rfl
theorem q217 : (Jvm.Cond.laysFinal "AheadRows" "AheadRows" "wheels" "[LAheadRows$Wheel;") ∈ lw_all := lw_g (lw_at lw_m1 121 rfl) rfl
theorem q218 : (Jvm.Cond.soleField "AheadRows" "wheels") ∈ lw_all := lw_g (lw_at lw_m1 122 rfl) rfl
theorem q219 : (Jvm.Cond.laysFinal "AheadRows" "AheadRows" "seen" "[I") ∈ lw_all := lw_g (lw_at lw_m1 123 rfl) rfl
theorem q220 : (Jvm.Cond.soleField "AheadRows" "seen") ∈ lw_all := lw_g (lw_at lw_m1 124 rfl) rfl
theorem q221 : (Jvm.Cond.lays "AheadRows" "AheadRows" "stamp" "I") ∈ lw_all := lw_g (lw_at lw_m1 125 rfl) rfl
theorem q222 : (Jvm.Cond.soleField "AheadRows" "stamp") ∈ lw_all := lw_g (lw_at lw_m1 126 rfl) rfl
theorem q223 : (Jvm.Cond.lays "AheadRows" "AheadRows" "rowsRead" "I") ∈ lw_all := lw_g (lw_at lw_m1 127 rfl) rfl
theorem q224 : (Jvm.Cond.soleField "AheadRows" "rowsRead") ∈ lw_all := lw_g (lw_at lw_m1 128 rfl) rfl
theorem q225 : (Jvm.Cond.laysFinal "AheadRows" "AheadRows" "page" "[B") ∈ lw_all := lw_g (lw_at lw_m1 129 rfl) rfl
theorem q226 : (Jvm.Cond.soleField "AheadRows" "page") ∈ lw_all := lw_g (lw_at lw_m1 130 rfl) rfl
theorem q227 : (Jvm.Cond.lays "AheadRows" "AheadRows" "pageLength" "I") ∈ lw_all := lw_g (lw_at lw_m1 131 rfl) rfl
theorem q228 : (Jvm.Cond.soleField "AheadRows" "pageLength") ∈ lw_all := lw_g (lw_at lw_m1 132 rfl) rfl
theorem q229 : (Jvm.Cond.lays "AheadRows" "AheadRows" "given" "I") ∈ lw_all := lw_g (lw_at lw_m1 133 rfl) rfl
theorem q230 : (Jvm.Cond.soleField "AheadRows" "given") ∈ lw_all := lw_g (lw_at lw_m1 134 rfl) rfl
theorem q231 : (Jvm.Cond.laysFinal "AheadRows" "AheadRows" "givenAt" "[I") ∈ lw_all := lw_g (lw_at lw_m1 135 rfl) rfl
theorem q232 : (Jvm.Cond.soleField "AheadRows" "givenAt") ∈ lw_all := lw_g (lw_at lw_m1 136 rfl) rfl
theorem q233 : (Jvm.Cond.lays "AheadRows" "AheadRows" "drawn" "J") ∈ lw_all := lw_g (lw_at lw_m1 137 rfl) rfl
theorem q234 : (Jvm.Cond.soleField "AheadRows" "drawn") ∈ lw_all := lw_g (lw_at lw_m1 138 rfl) rfl
theorem q235 : (Jvm.Cond.laysFinal "AheadRows" "AheadRows" "tried" "LAheadRows$Wheel;") ∈ lw_all := lw_g (lw_at lw_m1 139 rfl) rfl
theorem q236 : (Jvm.Cond.soleField "AheadRows" "tried") ∈ lw_all := lw_g (lw_at lw_m1 140 rfl) rfl
theorem q237 : (Jvm.Cond.laysFinal "AheadRows" "AheadRows" "kept" "Ljava/util/ArrayList;") ∈ lw_all := lw_g (lw_at lw_m1 141 rfl) rfl
theorem q238 : (Jvm.Cond.soleField "AheadRows" "kept") ∈ lw_all := lw_g (lw_at lw_m1 142 rfl) rfl
theorem q239 : (Jvm.Cond.lays "AheadRows" "AheadRows" "keptRead" "I") ∈ lw_all := lw_g (lw_at lw_m1 143 rfl) rfl
theorem q240 : (Jvm.Cond.soleField "AheadRows" "keptRead") ∈ lw_all := lw_g (lw_at lw_m1 144 rfl) rfl
theorem q241 : (Jvm.Cond.lays "AheadRows" "AheadRows" "keptGiven" "I") ∈ lw_all := lw_g (lw_at lw_m1 145 rfl) rfl
theorem q242 : (Jvm.Cond.soleField "AheadRows" "keptGiven") ∈ lw_all := lw_g (lw_at lw_m1 146 rfl) rfl
theorem q243 : (Jvm.Cond.laysFinal "AheadRows" "AheadRows" "keptAt" "[I") ∈ lw_all := lw_g (lw_at lw_m1 147 rfl) rfl
theorem q244 : (Jvm.Cond.soleField "AheadRows" "keptAt") ∈ lw_all := lw_g (lw_at lw_m1 148 rfl) rfl
theorem q245 : (Jvm.Cond.superclass "AheadRows" "java/lang/Object") ∈ lw_all := lw_g (lw_at lw_m1 149 rfl) rfl
theorem q247 : (Jvm.Cond.instanceMethod ({ cls := "AheadRows", name := "letter", desc := "(I)I" } : Jvm.MethodName)) ∈ lw_all := lw_g (lw_at lw_m1 151 rfl) rfl
theorem q248 : (Jvm.Cond.selects "AheadRows" ({ cls := "AheadRows", name := "letter", desc := "(I)I" } : Jvm.MethodName) ({ cls := "AheadRows", name := "letter", desc := "(I)I" } : Jvm.MethodName)) ∈ lw_all := lw_g (lw_at lw_m1 152 rfl) rfl
theorem q249 : (Jvm.Cond.code ({ cls := "AheadRows", name := "letter", desc := "(I)I" } : Jvm.MethodName) prog_1_method_12_code (2 : Nat) (Option.some Jvm.ClassFile.FieldType.int)) ∈ lw_all := lw_g (lw_at lw_m1 153 rfl) rfl
theorem q250 : (Jvm.Cond.methodLink "AheadRows" (100 : Nat) ({ cls := "AheadRows", name := "in", desc := "(III)Z" } : Jvm.MethodName)) ∈ lw_all := lw_g (lw_at lw_m1 154 rfl) rfl
theorem q251 : (Jvm.Cond.static ({ cls := "AheadRows", name := "in", desc := "(III)Z" } : Jvm.MethodName)) ∈ lw_all := lw_g (lw_at lw_m1 155 rfl) rfl
theorem q252 : (Jvm.Cond.code ({ cls := "AheadRows", name := "in", desc := "(III)Z" } : Jvm.MethodName) prog_1_method_1_code (3 : Nat) (Option.some Jvm.ClassFile.FieldType.boolean)) ∈ lw_all := lw_g (lw_at lw_m1 156 rfl) rfl
theorem q253 : (Jvm.Cond.constant "AheadRows" (104 : Nat) (2000000102 : Int32)) ∈ lw_all := lw_g (lw_at lw_m1 157 rfl) rfl
theorem q254 : (Jvm.Cond.constant "AheadRows" (108 : Nat) (2000000104 : Int32)) ∈ lw_all := lw_g (lw_at lw_m1 158 rfl) rfl
theorem q256 : (Jvm.Cond.instanceMethod ({ cls := "AheadRows", name := "blank", desc := "()I" } : Jvm.MethodName)) ∈ lw_all := lw_g (lw_at lw_m1 160 rfl) rfl
theorem q257 : (Jvm.Cond.selects "AheadRows" ({ cls := "AheadRows", name := "blank", desc := "()I" } : Jvm.MethodName) ({ cls := "AheadRows", name := "blank", desc := "()I" } : Jvm.MethodName)) ∈ lw_all := lw_g (lw_at lw_m1 161 rfl) rfl
theorem q258 : (Jvm.Cond.code ({ cls := "AheadRows", name := "blank", desc := "()I" } : Jvm.MethodName) prog_1_method_13_code (2 : Nat) (Option.some Jvm.ClassFile.FieldType.int)) ∈ lw_all := lw_g (lw_at lw_m1 162 rfl) rfl
theorem q260 : (Jvm.Cond.instanceMethod ({ cls := "AheadRows", name := "fault", desc := "()I" } : Jvm.MethodName)) ∈ lw_all := lw_g (lw_at lw_m1 164 rfl) rfl
theorem q261 : (Jvm.Cond.selects "AheadRows" ({ cls := "AheadRows", name := "fault", desc := "()I" } : Jvm.MethodName) ({ cls := "AheadRows", name := "fault", desc := "()I" } : Jvm.MethodName)) ∈ lw_all := lw_g (lw_at lw_m1 165 rfl) rfl
theorem q262 : (Jvm.Cond.code ({ cls := "AheadRows", name := "fault", desc := "()I" } : Jvm.MethodName) prog_1_method_14_code (1 : Nat) (Option.some Jvm.ClassFile.FieldType.int)) ∈ lw_all := lw_g (lw_at lw_m1 166 rfl) rfl
theorem q263 : (Jvm.Cond.classLink "AheadRows" (109 : Nat) "AheadRows$Reader") ∈ lw_all := lw_g (lw_at lw_m1 167 rfl) rfl
theorem q265 : (Jvm.Cond.methodLinkNest "AheadRows" (111 : Nat) ({ cls := "AheadRows$Reader", name := "<init>", desc := "(LAheadRows;)V" } : Jvm.MethodName) "AheadRows") ∈ lw_tbl := lw_at lw_m1 169 rfl
theorem q272 : (Jvm.Cond.fieldLinkNest "AheadRows" (118 : Nat) "AheadRows$Reader" "place" "I" "AheadRows") ∈ lw_tbl := lw_at lw_m1 176 rfl
theorem q274 : (Jvm.Cond.fieldLinkNest "AheadRows" (121 : Nat) "AheadRows$Reader" "isWrong" "Z" "AheadRows") ∈ lw_tbl := lw_at lw_m1 178 rfl
theorem q276 : (Jvm.Cond.fieldLinkNest "AheadRows" (126 : Nat) "AheadRows$Reader" "read" "Ljava/util/ArrayList;" "AheadRows") ∈ lw_tbl := lw_at lw_m1 180 rfl
theorem q287 : (Jvm.Cond.methodLink "AheadRows" (114 : Nat) ({ cls := "AheadRows$Reader", name := "all", desc := "()LAheadRows$Reader;" } : Jvm.MethodName)) ∈ lw_all := lw_g (lw_at lw_m1 191 rfl) rfl
theorem q328 : (Jvm.Cond.fieldLink "AheadRows" (75 : Nat) "AheadRows$Told" "c" "I") ∈ lw_all := lw_g (lw_at lw_m1 232 rfl) rfl
theorem q333 : (Jvm.Cond.fieldLink "AheadRows" (84 : Nat) "AheadRows$Told" "d" "I") ∈ lw_all := lw_g (lw_at lw_m1 237 rfl) rfl
theorem q336 : (Jvm.Cond.fieldLink "AheadRows" (90 : Nat) "AheadRows$Told" "e" "I") ∈ lw_all := lw_g (lw_at lw_m2 0 rfl) rfl
theorem q338 : (Jvm.Cond.fieldLink "AheadRows" (93 : Nat) "AheadRows$Told" "f" "I") ∈ lw_all := lw_g (lw_at lw_m2 2 rfl) rfl
theorem q460 : (Jvm.Cond.selects "AheadRows" ({ cls := "java/lang/Object", name := "getClass", desc := "()Ljava/lang/Class;" } : Jvm.MethodName) ({ cls := "java/lang/Object", name := "getClass", desc := "()Ljava/lang/Class;" } : Jvm.MethodName)) ∈ lw_all := lw_g (lw_at lw_m2 124 rfl) rfl
theorem q490 : (Jvm.Cond.instanceMethod ({ cls := "AheadRows", name := "rows", desc := "()I" } : Jvm.MethodName)) ∈ lw_all := lw_g (lw_at lw_m2 154 rfl) rfl
theorem q491 : (Jvm.Cond.selects "AheadRows" ({ cls := "AheadRows", name := "rows", desc := "()I" } : Jvm.MethodName) ({ cls := "AheadRows", name := "rows", desc := "()I" } : Jvm.MethodName)) ∈ lw_all := lw_g (lw_at lw_m2 155 rfl) rfl
theorem q492 : (Jvm.Cond.code ({ cls := "AheadRows", name := "rows", desc := "()I" } : Jvm.MethodName) prog_1_method_15_code (2 : Nat) (Option.some Jvm.ClassFile.FieldType.int)) ∈ lw_all := lw_g (lw_at lw_m2 156 rfl) rfl
theorem q493 : (Jvm.Cond.constant "AheadRows" (125 : Nat) (2000000103 : Int32)) ∈ lw_all := lw_g (lw_at lw_m2 157 rfl) rfl
theorem q494 : (Jvm.Cond.methodLink "AheadRows" (129 : Nat) ({ cls := "AheadRows", name := "copyAll", desc := "(Ljava/util/ArrayList;Ljava/util/ArrayList;)V" } : Jvm.MethodName)) ∈ lw_all := lw_g (lw_at lw_m2 158 rfl) rfl
theorem q495 : (Jvm.Cond.static ({ cls := "AheadRows", name := "copyAll", desc := "(Ljava/util/ArrayList;Ljava/util/ArrayList;)V" } : Jvm.MethodName)) ∈ lw_all := lw_g (lw_at lw_m2 159 rfl) rfl
theorem q496 : (Jvm.Cond.code ({ cls := "AheadRows", name := "copyAll", desc := "(Ljava/util/ArrayList;Ljava/util/ArrayList;)V" } : Jvm.MethodName) prog_1_method_16_code (3 : Nat) (Option.none : Option Jvm.ClassFile.FieldType)) ∈ lw_all := lw_g (lw_at lw_m2 160 rfl) rfl
theorem q497 : (Jvm.Cond.methodLink "AheadRows" (139 : Nat) ({ cls := "java/util/ArrayList", name := "clear", desc := "()V" } : Jvm.MethodName)) ∈ lw_all := lw_g (lw_at lw_m2 161 rfl) rfl
theorem q501 : (Jvm.Cond.methodLink "AheadRows" (96 : Nat) ({ cls := "java/util/ArrayList", name := "size", desc := "()I" } : Jvm.MethodName)) ∈ lw_all := lw_g (lw_at lw_m2 165 rfl) rfl
theorem q502 : (Jvm.Cond.methodLink "AheadRows" (60 : Nat) ({ cls := "java/util/ArrayList", name := "get", desc := "(I)Ljava/lang/Object;" } : Jvm.MethodName)) ∈ lw_all := lw_g (lw_at lw_m2 166 rfl) rfl
theorem q516 : (Jvm.Cond.classLink "AheadRows" (64 : Nat) "AheadRows$Row") ∈ lw_all := lw_g (lw_at lw_m2 180 rfl) rfl
theorem q517 : (Jvm.Cond.methodLink "AheadRows" (142 : Nat) ({ cls := "AheadRows$Row", name := "copy", desc := "()LAheadRows$Row;" } : Jvm.MethodName)) ∈ lw_all := lw_g (lw_at lw_m2 181 rfl) rfl
theorem q545 : (Jvm.Cond.methodLink "AheadRows" (146 : Nat) ({ cls := "java/util/ArrayList", name := "add", desc := "(Ljava/lang/Object;)Z" } : Jvm.MethodName)) ∈ lw_all := lw_g (lw_at lw_m2 209 rfl) rfl
theorem q546 : (Jvm.Cond.methodLink "AheadRows" (136 : Nat) ({ cls := "AheadRows", name := "changed", desc := "()V" } : Jvm.MethodName)) ∈ lw_all := lw_g (lw_at lw_m2 210 rfl) rfl
theorem q547 : (Jvm.Cond.privateMethod ({ cls := "AheadRows", name := "changed", desc := "()V" } : Jvm.MethodName)) ∈ lw_tbl := lw_at lw_m2 211 rfl
theorem q548 : (Jvm.Cond.instanceMethod ({ cls := "AheadRows", name := "changed", desc := "()V" } : Jvm.MethodName)) ∈ lw_all := lw_g (lw_at lw_m2 212 rfl) rfl
theorem q549 : (Jvm.Cond.code ({ cls := "AheadRows", name := "changed", desc := "()V" } : Jvm.MethodName) prog_1_method_11_code (1 : Nat) (Option.none : Option Jvm.ClassFile.FieldType)) ∈ lw_all := lw_g (lw_at lw_m2 213 rfl) rfl
theorem q551 : (Jvm.Cond.instanceMethod ({ cls := "AheadRows", name := "row", desc := "(II)I" } : Jvm.MethodName)) ∈ lw_all := lw_g (lw_at lw_m2 215 rfl) rfl
theorem q552 : (Jvm.Cond.selects "AheadRows" ({ cls := "AheadRows", name := "row", desc := "(II)I" } : Jvm.MethodName) ({ cls := "AheadRows", name := "row", desc := "(II)I" } : Jvm.MethodName)) ∈ lw_all := lw_g (lw_at lw_m2 216 rfl) rfl
theorem q553 : (Jvm.Cond.code ({ cls := "AheadRows", name := "row", desc := "(II)I" } : Jvm.MethodName) prog_1_method_17_code (3 : Nat) (Option.some Jvm.ClassFile.FieldType.int)) ∈ lw_all := lw_g (lw_at lw_m2 217 rfl) rfl
theorem q554 : (Jvm.Cond.methodLink "AheadRows" (150 : Nat) ({ cls := "AheadRows", name := "isRow", desc := "(I)Z" } : Jvm.MethodName)) ∈ lw_all := lw_g (lw_at lw_m2 218 rfl) rfl
theorem q555 : (Jvm.Cond.privateMethod ({ cls := "AheadRows", name := "isRow", desc := "(I)Z" } : Jvm.MethodName)) ∈ lw_tbl := lw_at lw_m2 219 rfl
theorem q556 : (Jvm.Cond.instanceMethod ({ cls := "AheadRows", name := "isRow", desc := "(I)Z" } : Jvm.MethodName)) ∈ lw_all := lw_g (lw_at lw_m2 220 rfl) rfl
theorem q557 : (Jvm.Cond.code ({ cls := "AheadRows", name := "isRow", desc := "(I)Z" } : Jvm.MethodName) prog_1_method_9_code (2 : Nat) (Option.some Jvm.ClassFile.FieldType.boolean)) ∈ lw_all := lw_g (lw_at lw_m2 221 rfl) rfl
theorem q558 : (Jvm.Cond.constant "AheadRows" (154 : Nat) (2000000101 : Int32)) ∈ lw_all := lw_g (lw_at lw_m2 222 rfl) rfl
theorem q559 : (Jvm.Cond.methodLink "AheadRows" (67 : Nat) ({ cls := "AheadRows", name := "rowOf", desc := "(I)LAheadRows$Row;" } : Jvm.MethodName)) ∈ lw_all := lw_g (lw_at lw_m2 223 rfl) rfl
theorem q560 : (Jvm.Cond.privateMethod ({ cls := "AheadRows", name := "rowOf", desc := "(I)LAheadRows$Row;" } : Jvm.MethodName)) ∈ lw_tbl := lw_at lw_m2 224 rfl
theorem q561 : (Jvm.Cond.instanceMethod ({ cls := "AheadRows", name := "rowOf", desc := "(I)LAheadRows$Row;" } : Jvm.MethodName)) ∈ lw_all := lw_g (lw_at lw_m2 225 rfl) rfl
theorem q562 : (Jvm.Cond.code ({ cls := "AheadRows", name := "rowOf", desc := "(I)LAheadRows$Row;" } : Jvm.MethodName) prog_1_method_6_code (2 : Nat) (Option.some (Jvm.ClassFile.FieldType.object "AheadRows$Row"))) ∈ lw_all := lw_g (lw_at lw_m2 226 rfl) rfl
theorem q563 : (Jvm.Cond.methodLink "AheadRows" (155 : Nat) ({ cls := "AheadRows$Row", name := "number", desc := "(I)I" } : Jvm.MethodName)) ∈ lw_all := lw_g (lw_at lw_m2 227 rfl) rfl
theorem q612 : (Jvm.Cond.instanceMethod ({ cls := "AheadRows", name := "as", desc := "(II)I" } : Jvm.MethodName)) ∈ lw_all := lw_g (lw_at lw_m3 36 rfl) rfl
theorem q613 : (Jvm.Cond.selects "AheadRows" ({ cls := "AheadRows", name := "as", desc := "(II)I" } : Jvm.MethodName) ({ cls := "AheadRows", name := "as", desc := "(II)I" } : Jvm.MethodName)) ∈ lw_all := lw_g (lw_at lw_m3 37 rfl) rfl
theorem q614 : (Jvm.Cond.codeWith ({ cls := "AheadRows", name := "as", desc := "(II)I" } : Jvm.MethodName) prog_1_method_19_code (4 : Nat) (Option.some Jvm.ClassFile.FieldType.int) [((24 : Nat), (33 : Nat), (34 : Nat), (184 : Nat))]) ∈ lw_all := lw_g (lw_at lw_m3 38 rfl) rfl
theorem q615 : (Jvm.Cond.classLink "AheadRows" (184 : Nat) "java/lang/ClassCastException") ∈ lw_all := lw_g (lw_at lw_m3 39 rfl) rfl
theorem q683 : (Jvm.Cond.methodLink "AheadRows" (180 : Nat) ({ cls := "AheadRows", name := "castTo", desc := "(Ljava/lang/Object;I)I" } : Jvm.MethodName)) ∈ lw_all := lw_g (lw_at lw_m3 107 rfl) rfl
theorem q684 : (Jvm.Cond.static ({ cls := "AheadRows", name := "castTo", desc := "(Ljava/lang/Object;I)I" } : Jvm.MethodName)) ∈ lw_all := lw_g (lw_at lw_m3 108 rfl) rfl
theorem q685 : (Jvm.Cond.code ({ cls := "AheadRows", name := "castTo", desc := "(Ljava/lang/Object;I)I" } : Jvm.MethodName) prog_1_method_18_code (2 : Nat) (Option.some Jvm.ClassFile.FieldType.int)) ∈ lw_all := lw_g (lw_at lw_m3 109 rfl) rfl
theorem q686 : (Jvm.Cond.classLink "AheadRows" (76 : Nat) "AheadRows$Told") ∈ lw_all := lw_g (lw_at lw_m3 110 rfl) rfl
theorem q687 : (Jvm.Cond.methodLink "AheadRows" (159 : Nat) ({ cls := "AheadRows$Told", name := "kind", desc := "()I" } : Jvm.MethodName)) ∈ lw_all := lw_g (lw_at lw_m3 111 rfl) rfl
theorem q688 : (Jvm.Cond.classLink "AheadRows" (162 : Nat) "AheadRows$Sum") ∈ lw_all := lw_g (lw_at lw_m3 112 rfl) rfl
theorem q689 : (Jvm.Cond.methodLink "AheadRows" (164 : Nat) ({ cls := "AheadRows$Sum", name := "kind", desc := "()I" } : Jvm.MethodName)) ∈ lw_all := lw_g (lw_at lw_m3 113 rfl) rfl
theorem q690 : (Jvm.Cond.classLink "AheadRows" (165 : Nat) "AheadRows$Product") ∈ lw_all := lw_g (lw_at lw_m3 114 rfl) rfl
theorem q691 : (Jvm.Cond.methodLink "AheadRows" (167 : Nat) ({ cls := "AheadRows$Product", name := "kind", desc := "()I" } : Jvm.MethodName)) ∈ lw_all := lw_g (lw_at lw_m3 115 rfl) rfl
theorem q692 : (Jvm.Cond.classLink "AheadRows" (168 : Nat) "AheadRows$Each") ∈ lw_all := lw_g (lw_at lw_m3 116 rfl) rfl
theorem q693 : (Jvm.Cond.methodLink "AheadRows" (170 : Nat) ({ cls := "AheadRows$Each", name := "kind", desc := "()I" } : Jvm.MethodName)) ∈ lw_all := lw_g (lw_at lw_m3 117 rfl) rfl
theorem q694 : (Jvm.Cond.classLink "AheadRows" (171 : Nat) "AheadRows$Step") ∈ lw_all := lw_g (lw_at lw_m3 118 rfl) rfl
theorem q695 : (Jvm.Cond.methodLink "AheadRows" (173 : Nat) ({ cls := "AheadRows$Step", name := "kind", desc := "()I" } : Jvm.MethodName)) ∈ lw_all := lw_g (lw_at lw_m3 119 rfl) rfl
theorem q696 : (Jvm.Cond.classLink "AheadRows" (174 : Nat) "AheadRows$Both") ∈ lw_all := lw_g (lw_at lw_m3 120 rfl) rfl
theorem q697 : (Jvm.Cond.methodLink "AheadRows" (176 : Nat) ({ cls := "AheadRows$Both", name := "kind", desc := "()I" } : Jvm.MethodName)) ∈ lw_all := lw_g (lw_at lw_m3 121 rfl) rfl
theorem q701 : (Jvm.Cond.classLink "AheadRows" (177 : Nat) "AheadRows$Over") ∈ lw_all := lw_g (lw_at lw_m3 125 rfl) rfl
theorem q702 : (Jvm.Cond.methodLink "AheadRows" (179 : Nat) ({ cls := "AheadRows$Over", name := "kind", desc := "()I" } : Jvm.MethodName)) ∈ lw_all := lw_g (lw_at lw_m3 126 rfl) rfl
theorem q707 : (Jvm.Cond.instanceMethod ({ cls := "AheadRows", name := "term", desc := "(II)I" } : Jvm.MethodName)) ∈ lw_all := lw_g (lw_at lw_m3 131 rfl) rfl
theorem q708 : (Jvm.Cond.selects "AheadRows" ({ cls := "AheadRows", name := "term", desc := "(II)I" } : Jvm.MethodName) ({ cls := "AheadRows", name := "term", desc := "(II)I" } : Jvm.MethodName)) ∈ lw_all := lw_g (lw_at lw_m3 132 rfl) rfl
theorem q709 : (Jvm.Cond.code ({ cls := "AheadRows", name := "term", desc := "(II)I" } : Jvm.MethodName) prog_1_method_20_code (3 : Nat) (Option.some Jvm.ClassFile.FieldType.int)) ∈ lw_all := lw_g (lw_at lw_m3 133 rfl) rfl
theorem q710 : (Jvm.Cond.methodLink "AheadRows" (186 : Nat) ({ cls := "AheadRows$Row", name := "exact", desc := "(LAheadRows;I)J" } : Jvm.MethodName)) ∈ lw_all := lw_g (lw_at lw_m3 134 rfl) rfl
theorem q770 : (Jvm.Cond.instanceMethod ({ cls := "AheadRows", name := "by", desc := "(III)I" } : Jvm.MethodName)) ∈ lw_all := lw_g (lw_at lw_m3 194 rfl) rfl
theorem q771 : (Jvm.Cond.selects "AheadRows" ({ cls := "AheadRows", name := "by", desc := "(III)I" } : Jvm.MethodName) ({ cls := "AheadRows", name := "by", desc := "(III)I" } : Jvm.MethodName)) ∈ lw_all := lw_g (lw_at lw_m3 195 rfl) rfl
theorem q772 : (Jvm.Cond.code ({ cls := "AheadRows", name := "by", desc := "(III)I" } : Jvm.MethodName) prog_1_method_21_code (4 : Nat) (Option.some Jvm.ClassFile.FieldType.int)) ∈ lw_all := lw_g (lw_at lw_m3 196 rfl) rfl
theorem q773 : (Jvm.Cond.methodLink "AheadRows" (190 : Nat) ({ cls := "AheadRows", name := "isBy", desc := "(I)Z" } : Jvm.MethodName)) ∈ lw_all := lw_g (lw_at lw_m3 197 rfl) rfl
theorem q774 : (Jvm.Cond.static ({ cls := "AheadRows", name := "isBy", desc := "(I)Z" } : Jvm.MethodName)) ∈ lw_all := lw_g (lw_at lw_m3 198 rfl) rfl
theorem q775 : (Jvm.Cond.code ({ cls := "AheadRows", name := "isBy", desc := "(I)Z" } : Jvm.MethodName) prog_1_method_10_code (1 : Nat) (Option.some Jvm.ClassFile.FieldType.boolean)) ∈ lw_all := lw_g (lw_at lw_m3 199 rfl) rfl
theorem q776 : (Jvm.Cond.methodLink "AheadRows" (193 : Nat) ({ cls := "AheadRows", name := "wheel", desc := "(II)LAheadRows$Wheel;" } : Jvm.MethodName)) ∈ lw_all := lw_g (lw_at lw_m3 200 rfl) rfl
theorem q777 : (Jvm.Cond.privateMethod ({ cls := "AheadRows", name := "wheel", desc := "(II)LAheadRows$Wheel;" } : Jvm.MethodName)) ∈ lw_tbl := lw_at lw_m3 201 rfl
theorem q778 : (Jvm.Cond.instanceMethod ({ cls := "AheadRows", name := "wheel", desc := "(II)LAheadRows$Wheel;" } : Jvm.MethodName)) ∈ lw_all := lw_g (lw_at lw_m3 202 rfl) rfl
theorem q779 : (Jvm.Cond.code ({ cls := "AheadRows", name := "wheel", desc := "(II)LAheadRows$Wheel;" } : Jvm.MethodName) prog_1_method_7_code (4 : Nat) (Option.some (Jvm.ClassFile.FieldType.object "AheadRows$Wheel"))) ∈ lw_all := lw_g (lw_at lw_m3 203 rfl) rfl
theorem q780 : (Jvm.Cond.methodLink "AheadRows" (71 : Nat) ({ cls := "AheadRows$Row", name := "turn", desc := "(LAheadRows;ILAheadRows$Wheel;)V" } : Jvm.MethodName)) ∈ lw_all := lw_g (lw_at lw_m3 204 rfl) rfl
theorem q794 : (Jvm.Cond.static ({ cls := "AheadRows", name := "gcd", desc := "(II)I" } : Jvm.MethodName)) ∈ lw_all := lw_g (lw_at lw_m3 218 rfl) rfl
theorem q795 : (Jvm.Cond.code ({ cls := "AheadRows", name := "gcd", desc := "(II)I" } : Jvm.MethodName) prog_1_method_4_code (5 : Nat) (Option.some Jvm.ClassFile.FieldType.int)) ∈ lw_all := lw_g (lw_at lw_m3 219 rfl) rfl
theorem q839 : (Jvm.Cond.methodLink "AheadRows" (197 : Nat) ({ cls := "AheadRows$Wheel", name := "at", desc := "(J)I" } : Jvm.MethodName)) ∈ lw_all := lw_g (lw_at lw_m4 23 rfl) rfl
theorem q841 : (Jvm.Cond.instanceMethod ({ cls := "AheadRows", name := "lap", desc := "(III)I" } : Jvm.MethodName)) ∈ lw_all := lw_g (lw_at lw_m4 25 rfl) rfl
theorem q842 : (Jvm.Cond.selects "AheadRows" ({ cls := "AheadRows", name := "lap", desc := "(III)I" } : Jvm.MethodName) ({ cls := "AheadRows", name := "lap", desc := "(III)I" } : Jvm.MethodName)) ∈ lw_all := lw_g (lw_at lw_m4 26 rfl) rfl
theorem q843 : (Jvm.Cond.code ({ cls := "AheadRows", name := "lap", desc := "(III)I" } : Jvm.MethodName) prog_1_method_23_code (4 : Nat) (Option.some Jvm.ClassFile.FieldType.int)) ∈ lw_all := lw_g (lw_at lw_m4 27 rfl) rfl
theorem q844 : (Jvm.Cond.methodLink "AheadRows" (210 : Nat) ({ cls := "AheadRows", name := "wheelTold", desc := "(LAheadRows$Wheel;I)I" } : Jvm.MethodName)) ∈ lw_all := lw_g (lw_at lw_m4 28 rfl) rfl
theorem q845 : (Jvm.Cond.static ({ cls := "AheadRows", name := "wheelTold", desc := "(LAheadRows$Wheel;I)I" } : Jvm.MethodName)) ∈ lw_all := lw_g (lw_at lw_m4 29 rfl) rfl
theorem q846 : (Jvm.Cond.code ({ cls := "AheadRows", name := "wheelTold", desc := "(LAheadRows$Wheel;I)I" } : Jvm.MethodName) prog_1_method_22_code (2 : Nat) (Option.some Jvm.ClassFile.FieldType.int)) ∈ lw_all := lw_g (lw_at lw_m4 30 rfl) rfl
theorem q847 : (Jvm.Cond.methodLink "AheadRows" (207 : Nat) ({ cls := "AheadRows$Wheel", name := "zeros", desc := "()I" } : Jvm.MethodName)) ∈ lw_all := lw_g (lw_at lw_m4 31 rfl) rfl
theorem q852 : (Jvm.Cond.instanceMethod ({ cls := "AheadRows", name := "least", desc := "(III)I" } : Jvm.MethodName)) ∈ lw_all := lw_g (lw_at lw_m4 36 rfl) rfl
theorem q853 : (Jvm.Cond.selects "AheadRows" ({ cls := "AheadRows", name := "least", desc := "(III)I" } : Jvm.MethodName) ({ cls := "AheadRows", name := "least", desc := "(III)I" } : Jvm.MethodName)) ∈ lw_all := lw_g (lw_at lw_m4 37 rfl) rfl
theorem q854 : (Jvm.Cond.code ({ cls := "AheadRows", name := "least", desc := "(III)I" } : Jvm.MethodName) prog_1_method_25_code (5 : Nat) (Option.some Jvm.ClassFile.FieldType.int)) ∈ lw_all := lw_g (lw_at lw_m4 38 rfl) rfl
theorem q855 : (Jvm.Cond.methodLink "AheadRows" (226 : Nat) ({ cls := "AheadRows", name := "leastTold", desc := "(III)I" } : Jvm.MethodName)) ∈ lw_all := lw_g (lw_at lw_m4 39 rfl) rfl
theorem q856 : (Jvm.Cond.privateMethod ({ cls := "AheadRows", name := "leastTold", desc := "(III)I" } : Jvm.MethodName)) ∈ lw_tbl := lw_at lw_m4 40 rfl
theorem q857 : (Jvm.Cond.instanceMethod ({ cls := "AheadRows", name := "leastTold", desc := "(III)I" } : Jvm.MethodName)) ∈ lw_all := lw_g (lw_at lw_m4 41 rfl) rfl
theorem q858 : (Jvm.Cond.code ({ cls := "AheadRows", name := "leastTold", desc := "(III)I" } : Jvm.MethodName) prog_1_method_24_code (6 : Nat) (Option.some Jvm.ClassFile.FieldType.int)) ∈ lw_all := lw_g (lw_at lw_m4 42 rfl) rfl
theorem q859 : (Jvm.Cond.classLink "AheadRows" (214 : Nat) "AheadRows$Register") ∈ lw_all := lw_g (lw_at lw_m4 43 rfl) rfl
theorem q861 : (Jvm.Cond.methodLink "AheadRows" (216 : Nat) ({ cls := "AheadRows$Register", name := "<init>", desc := "(I)V" } : Jvm.MethodName)) ∈ lw_all := lw_g (lw_at lw_m4 45 rfl) rfl
theorem q884 : (Jvm.Cond.methodLink "AheadRows" (219 : Nat) ({ cls := "AheadRows$Register", name := "learn", desc := "(LAheadRows$Wheel;I)V" } : Jvm.MethodName)) ∈ lw_all := lw_g (lw_at lw_m4 68 rfl) rfl
theorem q909 : (Jvm.Cond.methodLink "AheadRows" (223 : Nat) ({ cls := "AheadRows$Register", name := "tells", desc := "(I)I" } : Jvm.MethodName)) ∈ lw_all := lw_g (lw_at lw_m4 93 rfl) rfl
theorem q915 : (Jvm.Cond.instanceMethod ({ cls := "AheadRows", name := "rule", desc := "(II)I" } : Jvm.MethodName)) ∈ lw_all := lw_g (lw_at lw_m4 99 rfl) rfl
theorem q916 : (Jvm.Cond.selects "AheadRows" ({ cls := "AheadRows", name := "rule", desc := "(II)I" } : Jvm.MethodName) ({ cls := "AheadRows", name := "rule", desc := "(II)I" } : Jvm.MethodName)) ∈ lw_all := lw_g (lw_at lw_m4 100 rfl) rfl
theorem q917 : (Jvm.Cond.code ({ cls := "AheadRows", name := "rule", desc := "(II)I" } : Jvm.MethodName) prog_1_method_26_code (4 : Nat) (Option.some Jvm.ClassFile.FieldType.int)) ∈ lw_all := lw_g (lw_at lw_m4 101 rfl) rfl
theorem q918 : (Jvm.Cond.methodLink "AheadRows" (230 : Nat) ({ cls := "AheadRows$Row", name := "ruleBy", desc := "(LAheadRows;)[I" } : Jvm.MethodName)) ∈ lw_all := lw_g (lw_at lw_m4 102 rfl) rfl
theorem q953 : (Jvm.Cond.instanceMethod ({ cls := "AheadRows", name := "roots", desc := "(II)I" } : Jvm.MethodName)) ∈ lw_all := lw_g (lw_at lw_m4 137 rfl) rfl
theorem q954 : (Jvm.Cond.selects "AheadRows" ({ cls := "AheadRows", name := "roots", desc := "(II)I" } : Jvm.MethodName) ({ cls := "AheadRows", name := "roots", desc := "(II)I" } : Jvm.MethodName)) ∈ lw_all := lw_g (lw_at lw_m4 138 rfl) rfl
theorem q955 : (Jvm.Cond.code ({ cls := "AheadRows", name := "roots", desc := "(II)I" } : Jvm.MethodName) prog_1_method_30_code (5 : Nat) (Option.some Jvm.ClassFile.FieldType.int)) ∈ lw_all := lw_g (lw_at lw_m4 139 rfl) rfl
theorem q956 : (Jvm.Cond.methodLink "AheadRows" (252 : Nat) ({ cls := "AheadRows", name := "rootsTold", desc := "(LAheadRows$Told;I)I" } : Jvm.MethodName)) ∈ lw_all := lw_g (lw_at lw_m4 140 rfl) rfl
theorem q957 : (Jvm.Cond.static ({ cls := "AheadRows", name := "rootsTold", desc := "(LAheadRows$Told;I)I" } : Jvm.MethodName)) ∈ lw_all := lw_g (lw_at lw_m4 141 rfl) rfl
theorem q958 : (Jvm.Cond.code ({ cls := "AheadRows", name := "rootsTold", desc := "(LAheadRows$Told;I)I" } : Jvm.MethodName) prog_1_method_29_code (3 : Nat) (Option.some Jvm.ClassFile.FieldType.int)) ∈ lw_all := lw_g (lw_at lw_m4 142 rfl) rfl
theorem q959 : (Jvm.Cond.methodLink "AheadRows" (234 : Nat) ({ cls := "AheadRows$Told", name := "under", desc := "()I" } : Jvm.MethodName)) ∈ lw_all := lw_g (lw_at lw_m4 143 rfl) rfl
theorem q963 : (Jvm.Cond.methodLink "AheadRows" (240 : Nat) ({ cls := "AheadRows", name := "root", desc := "(LAheadRows$Told;Z)I" } : Jvm.MethodName)) ∈ lw_all := lw_g (lw_at lw_m4 147 rfl) rfl
theorem q964 : (Jvm.Cond.static ({ cls := "AheadRows", name := "root", desc := "(LAheadRows$Told;Z)I" } : Jvm.MethodName)) ∈ lw_all := lw_g (lw_at lw_m4 148 rfl) rfl
theorem q965 : (Jvm.Cond.code ({ cls := "AheadRows", name := "root", desc := "(LAheadRows$Told;Z)I" } : Jvm.MethodName) prog_1_method_28_code (3 : Nat) (Option.some Jvm.ClassFile.FieldType.int)) ∈ lw_all := lw_g (lw_at lw_m4 149 rfl) rfl
theorem q966 : (Jvm.Cond.methodLink "AheadRows" (237 : Nat) ({ cls := "AheadRows", name := "rootOf", desc := "(I)I" } : Jvm.MethodName)) ∈ lw_all := lw_g (lw_at lw_m4 150 rfl) rfl
theorem q967 : (Jvm.Cond.static ({ cls := "AheadRows", name := "rootOf", desc := "(I)I" } : Jvm.MethodName)) ∈ lw_all := lw_g (lw_at lw_m4 151 rfl) rfl
theorem q968 : (Jvm.Cond.code ({ cls := "AheadRows", name := "rootOf", desc := "(I)I" } : Jvm.MethodName) prog_1_method_27_code (2 : Nat) (Option.some Jvm.ClassFile.FieldType.int)) ∈ lw_all := lw_g (lw_at lw_m4 152 rfl) rfl
theorem q969 : (Jvm.Cond.methodLink "AheadRows" (244 : Nat) ({ cls := "AheadRows$Told", name := "degenerate", desc := "()I" } : Jvm.MethodName)) ∈ lw_all := lw_g (lw_at lw_m4 153 rfl) rfl
theorem q974 : (Jvm.Cond.methodLink "AheadRows" (247 : Nat) ({ cls := "java/lang/Integer", name := "signum", desc := "(I)I" } : Jvm.MethodName)) ∈ lw_all := lw_g (lw_at lw_m4 158 rfl) rfl
theorem q978 : (Jvm.Cond.instanceMethod ({ cls := "AheadRows", name := "noughts", desc := "(I)I" } : Jvm.MethodName)) ∈ lw_all := lw_g (lw_at lw_m4 162 rfl) rfl
theorem q979 : (Jvm.Cond.selects "AheadRows" ({ cls := "AheadRows", name := "noughts", desc := "(I)I" } : Jvm.MethodName) ({ cls := "AheadRows", name := "noughts", desc := "(I)I" } : Jvm.MethodName)) ∈ lw_all := lw_g (lw_at lw_m4 163 rfl) rfl
theorem q980 : (Jvm.Cond.code ({ cls := "AheadRows", name := "noughts", desc := "(I)I" } : Jvm.MethodName) prog_1_method_32_code (2 : Nat) (Option.some Jvm.ClassFile.FieldType.int)) ∈ lw_all := lw_g (lw_at lw_m4 164 rfl) rfl
theorem q981 : (Jvm.Cond.methodLink "AheadRows" (256 : Nat) ({ cls := "AheadRows", name := "noughtsOf", desc := "(I)I" } : Jvm.MethodName)) ∈ lw_all := lw_g (lw_at lw_m4 165 rfl) rfl
theorem q982 : (Jvm.Cond.privateMethod ({ cls := "AheadRows", name := "noughtsOf", desc := "(I)I" } : Jvm.MethodName)) ∈ lw_tbl := lw_at lw_m4 166 rfl
theorem q983 : (Jvm.Cond.instanceMethod ({ cls := "AheadRows", name := "noughtsOf", desc := "(I)I" } : Jvm.MethodName)) ∈ lw_all := lw_g (lw_at lw_m4 167 rfl) rfl
theorem q984 : (Jvm.Cond.code ({ cls := "AheadRows", name := "noughtsOf", desc := "(I)I" } : Jvm.MethodName) prog_1_method_31_code (4 : Nat) (Option.some Jvm.ClassFile.FieldType.int)) ∈ lw_all := lw_g (lw_at lw_m4 168 rfl) rfl
theorem q986 : (Jvm.Cond.instanceMethod ({ cls := "AheadRows", name := "ends", desc := "(I)I" } : Jvm.MethodName)) ∈ lw_all := lw_g (lw_at lw_m4 170 rfl) rfl
theorem q987 : (Jvm.Cond.selects "AheadRows" ({ cls := "AheadRows", name := "ends", desc := "(I)I" } : Jvm.MethodName) ({ cls := "AheadRows", name := "ends", desc := "(I)I" } : Jvm.MethodName)) ∈ lw_all := lw_g (lw_at lw_m4 171 rfl) rfl
theorem q988 : (Jvm.Cond.code ({ cls := "AheadRows", name := "ends", desc := "(I)I" } : Jvm.MethodName) prog_1_method_33_code (3 : Nat) (Option.some Jvm.ClassFile.FieldType.int)) ∈ lw_all := lw_g (lw_at lw_m4 172 rfl) rfl
theorem q990 : (Jvm.Cond.instanceMethod ({ cls := "AheadRows", name := "open", desc := "(II)I" } : Jvm.MethodName)) ∈ lw_all := lw_g (lw_at lw_m4 174 rfl) rfl
theorem q991 : (Jvm.Cond.selects "AheadRows" ({ cls := "AheadRows", name := "open", desc := "(II)I" } : Jvm.MethodName) ({ cls := "AheadRows", name := "open", desc := "(II)I" } : Jvm.MethodName)) ∈ lw_all := lw_g (lw_at lw_m4 175 rfl) rfl
theorem q992 : (Jvm.Cond.code ({ cls := "AheadRows", name := "open", desc := "(II)I" } : Jvm.MethodName) prog_1_method_36_code (3 : Nat) (Option.some Jvm.ClassFile.FieldType.int)) ∈ lw_all := lw_g (lw_at lw_m4 176 rfl) rfl
theorem q993 : (Jvm.Cond.methodLink "AheadRows" (263 : Nat) ({ cls := "AheadRows", name := "openTold", desc := "(II)I" } : Jvm.MethodName)) ∈ lw_all := lw_g (lw_at lw_m4 177 rfl) rfl
theorem q994 : (Jvm.Cond.privateMethod ({ cls := "AheadRows", name := "openTold", desc := "(II)I" } : Jvm.MethodName)) ∈ lw_tbl := lw_at lw_m4 178 rfl
theorem q995 : (Jvm.Cond.instanceMethod ({ cls := "AheadRows", name := "openTold", desc := "(II)I" } : Jvm.MethodName)) ∈ lw_all := lw_g (lw_at lw_m4 179 rfl) rfl
theorem q996 : (Jvm.Cond.code ({ cls := "AheadRows", name := "openTold", desc := "(II)I" } : Jvm.MethodName) prog_1_method_35_code (7 : Nat) (Option.some Jvm.ClassFile.FieldType.int)) ∈ lw_all := lw_g (lw_at lw_m4 180 rfl) rfl
theorem q997 : (Jvm.Cond.methodLink "AheadRows" (259 : Nat) ({ cls := "AheadRows", name := "isOpen", desc := "(II)Z" } : Jvm.MethodName)) ∈ lw_all := lw_g (lw_at lw_m4 181 rfl) rfl
theorem q998 : (Jvm.Cond.privateMethod ({ cls := "AheadRows", name := "isOpen", desc := "(II)Z" } : Jvm.MethodName)) ∈ lw_tbl := lw_at lw_m4 182 rfl
theorem q999 : (Jvm.Cond.instanceMethod ({ cls := "AheadRows", name := "isOpen", desc := "(II)Z" } : Jvm.MethodName)) ∈ lw_all := lw_g (lw_at lw_m4 183 rfl) rfl
theorem q1000 : (Jvm.Cond.code ({ cls := "AheadRows", name := "isOpen", desc := "(II)Z" } : Jvm.MethodName) prog_1_method_34_code (5 : Nat) (Option.some Jvm.ClassFile.FieldType.boolean)) ∈ lw_all := lw_g (lw_at lw_m4 184 rfl) rfl
theorem q1002 : (Jvm.Cond.instanceMethod ({ cls := "AheadRows", name := "meets", desc := "(III)I" } : Jvm.MethodName)) ∈ lw_all := lw_g (lw_at lw_m4 186 rfl) rfl
theorem q1003 : (Jvm.Cond.selects "AheadRows" ({ cls := "AheadRows", name := "meets", desc := "(III)I" } : Jvm.MethodName) ({ cls := "AheadRows", name := "meets", desc := "(III)I" } : Jvm.MethodName)) ∈ lw_all := lw_g (lw_at lw_m4 187 rfl) rfl
theorem q1004 : (Jvm.Cond.code ({ cls := "AheadRows", name := "meets", desc := "(III)I" } : Jvm.MethodName) prog_1_method_38_code (4 : Nat) (Option.some Jvm.ClassFile.FieldType.int)) ∈ lw_all := lw_g (lw_at lw_m4 188 rfl) rfl
theorem q1005 : (Jvm.Cond.methodLink "AheadRows" (275 : Nat) ({ cls := "AheadRows", name := "meetsTold", desc := "(LAheadRows$Wheel;LAheadRows$Wheel;)I" } : Jvm.MethodName)) ∈ lw_all := lw_g (lw_at lw_m4 189 rfl) rfl
theorem q1006 : (Jvm.Cond.static ({ cls := "AheadRows", name := "meetsTold", desc := "(LAheadRows$Wheel;LAheadRows$Wheel;)I" } : Jvm.MethodName)) ∈ lw_all := lw_g (lw_at lw_m4 190 rfl) rfl
theorem q1007 : (Jvm.Cond.code ({ cls := "AheadRows", name := "meetsTold", desc := "(LAheadRows$Wheel;LAheadRows$Wheel;)I" } : Jvm.MethodName) prog_1_method_37_code (4 : Nat) (Option.some Jvm.ClassFile.FieldType.int)) ∈ lw_all := lw_g (lw_at lw_m4 191 rfl) rfl
theorem q1008 : (Jvm.Cond.methodLink "AheadRows" (267 : Nat) ({ cls := "java/lang/Math", name := "max", desc := "(II)I" } : Jvm.MethodName)) ∈ lw_all := lw_g (lw_at lw_m4 192 rfl) rfl
theorem q1009 : (Jvm.Cond.methodLink "AheadRows" (272 : Nat) ({ cls := "AheadRows", name := "gcd", desc := "(II)I" } : Jvm.MethodName)) ∈ lw_all := lw_g (lw_at lw_m4 193 rfl) rfl
theorem q1011 : (Jvm.Cond.instanceMethod ({ cls := "AheadRows", name := "told", desc := "(IIII)I" } : Jvm.MethodName)) ∈ lw_all := lw_g (lw_at lw_m4 195 rfl) rfl
theorem q1012 : (Jvm.Cond.selects "AheadRows" ({ cls := "AheadRows", name := "told", desc := "(IIII)I" } : Jvm.MethodName) ({ cls := "AheadRows", name := "told", desc := "(IIII)I" } : Jvm.MethodName)) ∈ lw_all := lw_g (lw_at lw_m4 196 rfl) rfl
theorem q1013 : (Jvm.Cond.code ({ cls := "AheadRows", name := "told", desc := "(IIII)I" } : Jvm.MethodName) prog_1_method_40_code (5 : Nat) (Option.some Jvm.ClassFile.FieldType.int)) ∈ lw_all := lw_g (lw_at lw_m4 197 rfl) rfl
theorem q1014 : (Jvm.Cond.methodLink "AheadRows" (80 : Nat) ({ cls := "AheadRows", name := "isSmall", desc := "(J)Z" } : Jvm.MethodName)) ∈ lw_all := lw_g (lw_at lw_m4 198 rfl) rfl
theorem q1015 : (Jvm.Cond.static ({ cls := "AheadRows", name := "isSmall", desc := "(J)Z" } : Jvm.MethodName)) ∈ lw_all := lw_g (lw_at lw_m4 199 rfl) rfl
theorem q1016 : (Jvm.Cond.code ({ cls := "AheadRows", name := "isSmall", desc := "(J)Z" } : Jvm.MethodName) prog_1_method_2_code (2 : Nat) (Option.some Jvm.ClassFile.FieldType.boolean)) ∈ lw_all := lw_g (lw_at lw_m4 200 rfl) rfl
theorem q1017 : (Jvm.Cond.constantLong "AheadRows" (3 : Nat) (-9 : Int64)) ∈ lw_all := lw_g (lw_at lw_m4 201 rfl) rfl
theorem q1018 : (Jvm.Cond.constantLong "AheadRows" (5 : Nat) (9 : Int64)) ∈ lw_all := lw_g (lw_at lw_m4 202 rfl) rfl
theorem q1019 : (Jvm.Cond.methodLink "AheadRows" (87 : Nat) ({ cls := "AheadRows", name := "isWide", desc := "(J)Z" } : Jvm.MethodName)) ∈ lw_all := lw_g (lw_at lw_m4 203 rfl) rfl
theorem q1020 : (Jvm.Cond.static ({ cls := "AheadRows", name := "isWide", desc := "(J)Z" } : Jvm.MethodName)) ∈ lw_all := lw_g (lw_at lw_m4 204 rfl) rfl
theorem q1021 : (Jvm.Cond.code ({ cls := "AheadRows", name := "isWide", desc := "(J)Z" } : Jvm.MethodName) prog_1_method_3_code (2 : Nat) (Option.some Jvm.ClassFile.FieldType.boolean)) ∈ lw_all := lw_g (lw_at lw_m4 205 rfl) rfl
theorem q1022 : (Jvm.Cond.constantLong "AheadRows" (7 : Nat) (-999 : Int64)) ∈ lw_all := lw_g (lw_at lw_m4 206 rfl) rfl
theorem q1023 : (Jvm.Cond.constantLong "AheadRows" (9 : Nat) (999 : Int64)) ∈ lw_all := lw_g (lw_at lw_m4 207 rfl) rfl
theorem q1024 : (Jvm.Cond.methodLink "AheadRows" (279 : Nat) ({ cls := "AheadRows$Told", name := "<init>", desc := "(IIII)V" } : Jvm.MethodName)) ∈ lw_all := lw_g (lw_at lw_m4 208 rfl) rfl
theorem q1025 : (Jvm.Cond.methodLink "AheadRows" (282 : Nat) ({ cls := "AheadRows", name := "comes", desc := "(LAheadRows$Row;)I" } : Jvm.MethodName)) ∈ lw_all := lw_g (lw_at lw_m4 209 rfl) rfl
theorem q1026 : (Jvm.Cond.privateMethod ({ cls := "AheadRows", name := "comes", desc := "(LAheadRows$Row;)I" } : Jvm.MethodName)) ∈ lw_tbl := lw_at lw_m4 210 rfl
theorem q1027 : (Jvm.Cond.instanceMethod ({ cls := "AheadRows", name := "comes", desc := "(LAheadRows$Row;)I" } : Jvm.MethodName)) ∈ lw_all := lw_g (lw_at lw_m4 211 rfl) rfl
theorem q1028 : (Jvm.Cond.code ({ cls := "AheadRows", name := "comes", desc := "(LAheadRows$Row;)I" } : Jvm.MethodName) prog_1_method_39_code (2 : Nat) (Option.some Jvm.ClassFile.FieldType.int)) ∈ lw_all := lw_g (lw_at lw_m4 212 rfl) rfl
theorem q1030 : (Jvm.Cond.instanceMethod ({ cls := "AheadRows", name := "sum", desc := "(II)I" } : Jvm.MethodName)) ∈ lw_all := lw_g (lw_at lw_m4 214 rfl) rfl
theorem q1031 : (Jvm.Cond.selects "AheadRows" ({ cls := "AheadRows", name := "sum", desc := "(II)I" } : Jvm.MethodName) ({ cls := "AheadRows", name := "sum", desc := "(II)I" } : Jvm.MethodName)) ∈ lw_all := lw_g (lw_at lw_m4 215 rfl) rfl
theorem q1032 : (Jvm.Cond.code ({ cls := "AheadRows", name := "sum", desc := "(II)I" } : Jvm.MethodName) prog_1_method_41_code (3 : Nat) (Option.some Jvm.ClassFile.FieldType.int)) ∈ lw_all := lw_g (lw_at lw_m4 216 rfl) rfl
theorem q1033 : (Jvm.Cond.methodLink "AheadRows" (286 : Nat) ({ cls := "AheadRows$Sum", name := "<init>", desc := "(II)V" } : Jvm.MethodName)) ∈ lw_all := lw_g (lw_at lw_m4 217 rfl) rfl
theorem q1035 : (Jvm.Cond.instanceMethod ({ cls := "AheadRows", name := "product", desc := "(II)I" } : Jvm.MethodName)) ∈ lw_all := lw_g (lw_at lw_m4 219 rfl) rfl
theorem q1036 : (Jvm.Cond.selects "AheadRows" ({ cls := "AheadRows", name := "product", desc := "(II)I" } : Jvm.MethodName) ({ cls := "AheadRows", name := "product", desc := "(II)I" } : Jvm.MethodName)) ∈ lw_all := lw_g (lw_at lw_m4 220 rfl) rfl
theorem q1037 : (Jvm.Cond.code ({ cls := "AheadRows", name := "product", desc := "(II)I" } : Jvm.MethodName) prog_1_method_42_code (3 : Nat) (Option.some Jvm.ClassFile.FieldType.int)) ∈ lw_all := lw_g (lw_at lw_m4 221 rfl) rfl
theorem q1038 : (Jvm.Cond.methodLink "AheadRows" (289 : Nat) ({ cls := "AheadRows$Product", name := "<init>", desc := "(II)V" } : Jvm.MethodName)) ∈ lw_all := lw_g (lw_at lw_m4 222 rfl) rfl
theorem q1040 : (Jvm.Cond.instanceMethod ({ cls := "AheadRows", name := "each", desc := "(III)I" } : Jvm.MethodName)) ∈ lw_all := lw_g (lw_at lw_m4 224 rfl) rfl
theorem q1041 : (Jvm.Cond.selects "AheadRows" ({ cls := "AheadRows", name := "each", desc := "(III)I" } : Jvm.MethodName) ({ cls := "AheadRows", name := "each", desc := "(III)I" } : Jvm.MethodName)) ∈ lw_all := lw_g (lw_at lw_m4 225 rfl) rfl
theorem q1042 : (Jvm.Cond.code ({ cls := "AheadRows", name := "each", desc := "(III)I" } : Jvm.MethodName) prog_1_method_43_code (4 : Nat) (Option.some Jvm.ClassFile.FieldType.int)) ∈ lw_all := lw_g (lw_at lw_m4 226 rfl) rfl
theorem q1043 : (Jvm.Cond.methodLink "AheadRows" (290 : Nat) ({ cls := "AheadRows$Each", name := "<init>", desc := "(III)V" } : Jvm.MethodName)) ∈ lw_all := lw_g (lw_at lw_m4 227 rfl) rfl
theorem q1045 : (Jvm.Cond.instanceMethod ({ cls := "AheadRows", name := "step", desc := "(I)I" } : Jvm.MethodName)) ∈ lw_all := lw_g (lw_at lw_m4 229 rfl) rfl
theorem q1046 : (Jvm.Cond.selects "AheadRows" ({ cls := "AheadRows", name := "step", desc := "(I)I" } : Jvm.MethodName) ({ cls := "AheadRows", name := "step", desc := "(I)I" } : Jvm.MethodName)) ∈ lw_all := lw_g (lw_at lw_m4 230 rfl) rfl
theorem q1047 : (Jvm.Cond.code ({ cls := "AheadRows", name := "step", desc := "(I)I" } : Jvm.MethodName) prog_1_method_44_code (2 : Nat) (Option.some Jvm.ClassFile.FieldType.int)) ∈ lw_all := lw_g (lw_at lw_m4 231 rfl) rfl
theorem q1048 : (Jvm.Cond.methodLink "AheadRows" (293 : Nat) ({ cls := "AheadRows$Step", name := "<init>", desc := "(I)V" } : Jvm.MethodName)) ∈ lw_all := lw_g (lw_at lw_m4 232 rfl) rfl
theorem q1050 : (Jvm.Cond.instanceMethod ({ cls := "AheadRows", name := "put", desc := "(III)I" } : Jvm.MethodName)) ∈ lw_all := lw_g (lw_at lw_m4 234 rfl) rfl
theorem q1051 : (Jvm.Cond.selects "AheadRows" ({ cls := "AheadRows", name := "put", desc := "(III)I" } : Jvm.MethodName) ({ cls := "AheadRows", name := "put", desc := "(III)I" } : Jvm.MethodName)) ∈ lw_all := lw_g (lw_at lw_m4 235 rfl) rfl
theorem q1052 : (Jvm.Cond.code ({ cls := "AheadRows", name := "put", desc := "(III)I" } : Jvm.MethodName) prog_1_method_45_code (6 : Nat) (Option.some Jvm.ClassFile.FieldType.int)) ∈ lw_all := lw_g (lw_at lw_m4 236 rfl) rfl
theorem q1053 : (Jvm.Cond.methodLink "AheadRows" (294 : Nat) ({ cls := "AheadRows$Told", name := "number", desc := "(I)I" } : Jvm.MethodName)) ∈ lw_all := lw_g (lw_at lw_m4 237 rfl) rfl
theorem q1054 : (Jvm.Cond.methodLink "AheadRows" (295 : Nat) ({ cls := "AheadRows$Told", name := "lay", desc := "(II)V" } : Jvm.MethodName)) ∈ lw_all := lw_g (lw_at lw_m4 238 rfl) rfl
theorem q1059 : (Jvm.Cond.instanceMethod ({ cls := "AheadRows", name := "drop", desc := "()I" } : Jvm.MethodName)) ∈ lw_all := lw_g (lw_at lw_m5 3 rfl) rfl
theorem q1060 : (Jvm.Cond.selects "AheadRows" ({ cls := "AheadRows", name := "drop", desc := "()I" } : Jvm.MethodName) ({ cls := "AheadRows", name := "drop", desc := "()I" } : Jvm.MethodName)) ∈ lw_all := lw_g (lw_at lw_m5 4 rfl) rfl
theorem q1061 : (Jvm.Cond.code ({ cls := "AheadRows", name := "drop", desc := "()I" } : Jvm.MethodName) prog_1_method_46_code (1 : Nat) (Option.some Jvm.ClassFile.FieldType.int)) ∈ lw_all := lw_g (lw_at lw_m5 5 rfl) rfl
theorem q1062 : (Jvm.Cond.methodLink "AheadRows" (298 : Nat) ({ cls := "java/util/ArrayList", name := "isEmpty", desc := "()Z" } : Jvm.MethodName)) ∈ lw_all := lw_g (lw_at lw_m5 6 rfl) rfl
theorem q1063 : (Jvm.Cond.methodLink "AheadRows" (302 : Nat) ({ cls := "java/util/ArrayList", name := "remove", desc := "(I)Ljava/lang/Object;" } : Jvm.MethodName)) ∈ lw_all := lw_g (lw_at lw_m5 7 rfl) rfl
theorem q1073 : (Jvm.Cond.instanceMethod ({ cls := "AheadRows", name := "ease", desc := "(I)I" } : Jvm.MethodName)) ∈ lw_all := lw_g (lw_at lw_m5 17 rfl) rfl
theorem q1074 : (Jvm.Cond.selects "AheadRows" ({ cls := "AheadRows", name := "ease", desc := "(I)I" } : Jvm.MethodName) ({ cls := "AheadRows", name := "ease", desc := "(I)I" } : Jvm.MethodName)) ∈ lw_all := lw_g (lw_at lw_m5 18 rfl) rfl
theorem q1075 : (Jvm.Cond.code ({ cls := "AheadRows", name := "ease", desc := "(I)I" } : Jvm.MethodName) prog_1_method_47_code (4 : Nat) (Option.some Jvm.ClassFile.FieldType.int)) ∈ lw_all := lw_g (lw_at lw_m5 19 rfl) rfl
theorem q1076 : (Jvm.Cond.methodLink "AheadRows" (305 : Nat) ({ cls := "AheadRows$Row", name := "eased", desc := "(LAheadRows;)LAheadRows$Told;" } : Jvm.MethodName)) ∈ lw_all := lw_g (lw_at lw_m5 20 rfl) rfl
theorem q1087 : (Jvm.Cond.privateMethod ({ cls := "AheadRows", name := "withTerms", desc := "(LAheadRows$Told;JJ)LAheadRows$Told;" } : Jvm.MethodName)) ∈ lw_tbl := lw_at lw_m5 31 rfl
theorem q1088 : (Jvm.Cond.instanceMethod ({ cls := "AheadRows", name := "withTerms", desc := "(LAheadRows$Told;JJ)LAheadRows$Told;" } : Jvm.MethodName)) ∈ lw_all := lw_g (lw_at lw_m5 32 rfl) rfl
theorem q1089 : (Jvm.Cond.code ({ cls := "AheadRows", name := "withTerms", desc := "(LAheadRows$Told;JJ)LAheadRows$Told;" } : Jvm.MethodName) prog_1_method_8_code (6 : Nat) (Option.some (Jvm.ClassFile.FieldType.object "AheadRows$Told"))) ∈ lw_all := lw_g (lw_at lw_m5 33 rfl) rfl
theorem q1137 : (Jvm.Cond.methodLink "AheadRows" (309 : Nat) ({ cls := "AheadRows$Row", name := "kind", desc := "()I" } : Jvm.MethodName)) ∈ lw_all := lw_g (lw_at lw_m5 81 rfl) rfl
theorem q1138 : (Jvm.Cond.methodLink "AheadRows" (310 : Nat) ({ cls := "java/util/ArrayList", name := "set", desc := "(ILjava/lang/Object;)Ljava/lang/Object;" } : Jvm.MethodName)) ∈ lw_all := lw_g (lw_at lw_m5 82 rfl) rfl
theorem q1143 : (Jvm.Cond.instanceMethod ({ cls := "AheadRows", name := "give", desc := "(I)I" } : Jvm.MethodName)) ∈ lw_all := lw_g (lw_at lw_m5 87 rfl) rfl
theorem q1144 : (Jvm.Cond.selects "AheadRows" ({ cls := "AheadRows", name := "give", desc := "(I)I" } : Jvm.MethodName) ({ cls := "AheadRows", name := "give", desc := "(I)I" } : Jvm.MethodName)) ∈ lw_all := lw_g (lw_at lw_m5 88 rfl) rfl
theorem q1145 : (Jvm.Cond.code ({ cls := "AheadRows", name := "give", desc := "(I)I" } : Jvm.MethodName) prog_1_method_48_code (2 : Nat) (Option.some Jvm.ClassFile.FieldType.int)) ∈ lw_all := lw_g (lw_at lw_m5 89 rfl) rfl
theorem q1147 : (Jvm.Cond.instanceMethod ({ cls := "AheadRows", name := "forget", desc := "()I" } : Jvm.MethodName)) ∈ lw_all := lw_g (lw_at lw_m5 91 rfl) rfl
theorem q1148 : (Jvm.Cond.selects "AheadRows" ({ cls := "AheadRows", name := "forget", desc := "()I" } : Jvm.MethodName) ({ cls := "AheadRows", name := "forget", desc := "()I" } : Jvm.MethodName)) ∈ lw_all := lw_g (lw_at lw_m5 92 rfl) rfl
theorem q1149 : (Jvm.Cond.code ({ cls := "AheadRows", name := "forget", desc := "()I" } : Jvm.MethodName) prog_1_method_49_code (2 : Nat) (Option.some Jvm.ClassFile.FieldType.int)) ∈ lw_all := lw_g (lw_at lw_m5 93 rfl) rfl
theorem q1151 : (Jvm.Cond.instanceMethod ({ cls := "AheadRows", name := "guess", desc := "(I)I" } : Jvm.MethodName)) ∈ lw_all := lw_g (lw_at lw_m5 95 rfl) rfl
theorem q1152 : (Jvm.Cond.selects "AheadRows" ({ cls := "AheadRows", name := "guess", desc := "(I)I" } : Jvm.MethodName) ({ cls := "AheadRows", name := "guess", desc := "(I)I" } : Jvm.MethodName)) ∈ lw_all := lw_g (lw_at lw_m5 96 rfl) rfl
theorem q1153 : (Jvm.Cond.code ({ cls := "AheadRows", name := "guess", desc := "(I)I" } : Jvm.MethodName) prog_1_method_56_code (3 : Nat) (Option.some Jvm.ClassFile.FieldType.int)) ∈ lw_all := lw_g (lw_at lw_m5 97 rfl) rfl
theorem q1154 : (Jvm.Cond.methodLink "AheadRows" (330 : Nat) ({ cls := "AheadRows", name := "guessed", desc := "()LAheadRows$Told;" } : Jvm.MethodName)) ∈ lw_all := lw_g (lw_at lw_m5 98 rfl) rfl
theorem q1155 : (Jvm.Cond.privateMethod ({ cls := "AheadRows", name := "guessed", desc := "()LAheadRows$Told;" } : Jvm.MethodName)) ∈ lw_tbl := lw_at lw_m5 99 rfl
theorem q1156 : (Jvm.Cond.instanceMethod ({ cls := "AheadRows", name := "guessed", desc := "()LAheadRows$Told;" } : Jvm.MethodName)) ∈ lw_all := lw_g (lw_at lw_m5 100 rfl) rfl
theorem q1157 : (Jvm.Cond.code ({ cls := "AheadRows", name := "guessed", desc := "()LAheadRows$Told;" } : Jvm.MethodName) prog_1_method_53_code (3 : Nat) (Option.some (Jvm.ClassFile.FieldType.object "AheadRows$Told"))) ∈ lw_all := lw_g (lw_at lw_m5 101 rfl) rfl
theorem q1158 : (Jvm.Cond.methodLink "AheadRows" (320 : Nat) ({ cls := "AheadRows", name := "goesBy", desc := "(III)Z" } : Jvm.MethodName)) ∈ lw_all := lw_g (lw_at lw_m5 102 rfl) rfl
theorem q1159 : (Jvm.Cond.privateMethod ({ cls := "AheadRows", name := "goesBy", desc := "(III)Z" } : Jvm.MethodName)) ∈ lw_tbl := lw_at lw_m5 103 rfl
theorem q1160 : (Jvm.Cond.instanceMethod ({ cls := "AheadRows", name := "goesBy", desc := "(III)Z" } : Jvm.MethodName)) ∈ lw_all := lw_g (lw_at lw_m5 104 rfl) rfl
theorem q1161 : (Jvm.Cond.code ({ cls := "AheadRows", name := "goesBy", desc := "(III)Z" } : Jvm.MethodName) prog_1_method_51_code (6 : Nat) (Option.some Jvm.ClassFile.FieldType.boolean)) ∈ lw_all := lw_g (lw_at lw_m5 105 rfl) rfl
theorem q1162 : (Jvm.Cond.methodLink "AheadRows" (317 : Nat) ({ cls := "AheadRows", name := "g", desc := "(I)I" } : Jvm.MethodName)) ∈ lw_all := lw_g (lw_at lw_m5 106 rfl) rfl
theorem q1163 : (Jvm.Cond.privateMethod ({ cls := "AheadRows", name := "g", desc := "(I)I" } : Jvm.MethodName)) ∈ lw_tbl := lw_at lw_m5 107 rfl
theorem q1164 : (Jvm.Cond.instanceMethod ({ cls := "AheadRows", name := "g", desc := "(I)I" } : Jvm.MethodName)) ∈ lw_all := lw_g (lw_at lw_m5 108 rfl) rfl
theorem q1165 : (Jvm.Cond.code ({ cls := "AheadRows", name := "g", desc := "(I)I" } : Jvm.MethodName) prog_1_method_50_code (2 : Nat) (Option.some Jvm.ClassFile.FieldType.int)) ∈ lw_all := lw_g (lw_at lw_m5 109 rfl) rfl
theorem q1166 : (Jvm.Cond.methodLink "AheadRows" (323 : Nat) ({ cls := "AheadRows", name := "leastOf", desc := "(II)I" } : Jvm.MethodName)) ∈ lw_all := lw_g (lw_at lw_m5 110 rfl) rfl
theorem q1167 : (Jvm.Cond.static ({ cls := "AheadRows", name := "leastOf", desc := "(II)I" } : Jvm.MethodName)) ∈ lw_all := lw_g (lw_at lw_m5 111 rfl) rfl
theorem q1168 : (Jvm.Cond.code ({ cls := "AheadRows", name := "leastOf", desc := "(II)I" } : Jvm.MethodName) prog_1_method_52_code (2 : Nat) (Option.some Jvm.ClassFile.FieldType.int)) ∈ lw_all := lw_g (lw_at lw_m5 112 rfl) rfl
theorem q1169 : (Jvm.Cond.methodLink "AheadRows" (326 : Nat) ({ cls := "AheadRows", name := "guessedByTwo", desc := "()LAheadRows$Told;" } : Jvm.MethodName)) ∈ lw_all := lw_g (lw_at lw_m5 113 rfl) rfl
theorem q1170 : (Jvm.Cond.privateMethod ({ cls := "AheadRows", name := "guessedByTwo", desc := "()LAheadRows$Told;" } : Jvm.MethodName)) ∈ lw_tbl := lw_at lw_m5 114 rfl
theorem q1171 : (Jvm.Cond.instanceMethod ({ cls := "AheadRows", name := "guessedByTwo", desc := "()LAheadRows$Told;" } : Jvm.MethodName)) ∈ lw_all := lw_g (lw_at lw_m5 115 rfl) rfl
theorem q1172 : (Jvm.Cond.code ({ cls := "AheadRows", name := "guessedByTwo", desc := "()LAheadRows$Told;" } : Jvm.MethodName) prog_1_method_54_code (4 : Nat) (Option.some (Jvm.ClassFile.FieldType.object "AheadRows$Told"))) ∈ lw_all := lw_g (lw_at lw_m5 116 rfl) rfl
theorem q1173 : (Jvm.Cond.methodLink "AheadRows" (333 : Nat) ({ cls := "AheadRows", name := "degreeOf", desc := "(LAheadRows$Told;)I" } : Jvm.MethodName)) ∈ lw_all := lw_g (lw_at lw_m5 117 rfl) rfl
theorem q1174 : (Jvm.Cond.privateMethod ({ cls := "AheadRows", name := "degreeOf", desc := "(LAheadRows$Told;)I" } : Jvm.MethodName)) ∈ lw_tbl := lw_at lw_m5 118 rfl
theorem q1175 : (Jvm.Cond.instanceMethod ({ cls := "AheadRows", name := "degreeOf", desc := "(LAheadRows$Told;)I" } : Jvm.MethodName)) ∈ lw_all := lw_g (lw_at lw_m5 119 rfl) rfl
theorem q1176 : (Jvm.Cond.code ({ cls := "AheadRows", name := "degreeOf", desc := "(LAheadRows$Told;)I" } : Jvm.MethodName) prog_1_method_55_code (2 : Nat) (Option.some Jvm.ClassFile.FieldType.int)) ∈ lw_all := lw_g (lw_at lw_m5 120 rfl) rfl
theorem q1178 : (Jvm.Cond.instanceMethod ({ cls := "AheadRows", name := "found", desc := "()I" } : Jvm.MethodName)) ∈ lw_all := lw_g (lw_at lw_m5 122 rfl) rfl
theorem q1179 : (Jvm.Cond.selects "AheadRows" ({ cls := "AheadRows", name := "found", desc := "()I" } : Jvm.MethodName) ({ cls := "AheadRows", name := "found", desc := "()I" } : Jvm.MethodName)) ∈ lw_all := lw_g (lw_at lw_m5 123 rfl) rfl
theorem q1180 : (Jvm.Cond.code ({ cls := "AheadRows", name := "found", desc := "()I" } : Jvm.MethodName) prog_1_method_57_code (2 : Nat) (Option.some Jvm.ClassFile.FieldType.int)) ∈ lw_all := lw_g (lw_at lw_m5 124 rfl) rfl
theorem q1182 : (Jvm.Cond.instanceMethod ({ cls := "AheadRows", name := "drawn", desc := "(III)I" } : Jvm.MethodName)) ∈ lw_all := lw_g (lw_at lw_m5 126 rfl) rfl
theorem q1183 : (Jvm.Cond.selects "AheadRows" ({ cls := "AheadRows", name := "drawn", desc := "(III)I" } : Jvm.MethodName) ({ cls := "AheadRows", name := "drawn", desc := "(III)I" } : Jvm.MethodName)) ∈ lw_all := lw_g (lw_at lw_m5 127 rfl) rfl
theorem q1184 : (Jvm.Cond.code ({ cls := "AheadRows", name := "drawn", desc := "(III)I" } : Jvm.MethodName) prog_1_method_60_code (4 : Nat) (Option.some Jvm.ClassFile.FieldType.int)) ∈ lw_all := lw_g (lw_at lw_m5 128 rfl) rfl
theorem q1185 : (Jvm.Cond.methodLink "AheadRows" (355 : Nat) ({ cls := "AheadRows", name := "drawnTold", desc := "(III)I" } : Jvm.MethodName)) ∈ lw_all := lw_g (lw_at lw_m5 129 rfl) rfl
theorem q1186 : (Jvm.Cond.privateMethod ({ cls := "AheadRows", name := "drawnTold", desc := "(III)I" } : Jvm.MethodName)) ∈ lw_tbl := lw_at lw_m5 130 rfl
theorem q1187 : (Jvm.Cond.instanceMethod ({ cls := "AheadRows", name := "drawnTold", desc := "(III)I" } : Jvm.MethodName)) ∈ lw_all := lw_g (lw_at lw_m5 131 rfl) rfl
theorem q1188 : (Jvm.Cond.code ({ cls := "AheadRows", name := "drawnTold", desc := "(III)I" } : Jvm.MethodName) prog_1_method_59_code (11 : Nat) (Option.some Jvm.ClassFile.FieldType.int)) ∈ lw_all := lw_g (lw_at lw_m5 132 rfl) rfl
theorem q1189 : (Jvm.Cond.methodLink "AheadRows" (351 : Nat) ({ cls := "AheadRows", name := "draw", desc := "()I" } : Jvm.MethodName)) ∈ lw_all := lw_g (lw_at lw_m5 133 rfl) rfl
theorem q1190 : (Jvm.Cond.privateMethod ({ cls := "AheadRows", name := "draw", desc := "()I" } : Jvm.MethodName)) ∈ lw_tbl := lw_at lw_m5 134 rfl
theorem q1191 : (Jvm.Cond.instanceMethod ({ cls := "AheadRows", name := "draw", desc := "()I" } : Jvm.MethodName)) ∈ lw_all := lw_g (lw_at lw_m5 135 rfl) rfl
theorem q1192 : (Jvm.Cond.code ({ cls := "AheadRows", name := "draw", desc := "()I" } : Jvm.MethodName) prog_1_method_58_code (1 : Nat) (Option.some Jvm.ClassFile.FieldType.int)) ∈ lw_all := lw_g (lw_at lw_m5 136 rfl) rfl
theorem q1193 : (Jvm.Cond.constantLong "AheadRows" (337 : Nat) (1103515245 : Int64)) ∈ lw_all := lw_g (lw_at lw_m5 137 rfl) rfl
theorem q1194 : (Jvm.Cond.constantLong "AheadRows" (343 : Nat) (12345 : Int64)) ∈ lw_all := lw_g (lw_at lw_m5 138 rfl) rfl
theorem q1195 : (Jvm.Cond.constantLong "AheadRows" (345 : Nat) (2147483647 : Int64)) ∈ lw_all := lw_g (lw_at lw_m5 139 rfl) rfl
theorem q1196 : (Jvm.Cond.constantLong "AheadRows" (347 : Nat) (65536 : Int64)) ∈ lw_all := lw_g (lw_at lw_m5 140 rfl) rfl
theorem q1197 : (Jvm.Cond.constantLong "AheadRows" (349 : Nat) (7 : Int64)) ∈ lw_all := lw_g (lw_at lw_m5 141 rfl) rfl
theorem q1198 : (Jvm.Cond.methodLink "AheadRows" (354 : Nat) ({ cls := "AheadRows$Told", name := "turn", desc := "(LAheadRows;ILAheadRows$Wheel;)V" } : Jvm.MethodName)) ∈ lw_all := lw_g (lw_at lw_m5 142 rfl) rfl
theorem q1200 : (Jvm.Cond.instanceMethod ({ cls := "AheadRows", name := "image", desc := "()I" } : Jvm.MethodName)) ∈ lw_all := lw_g (lw_at lw_m5 144 rfl) rfl
theorem q1201 : (Jvm.Cond.selects "AheadRows" ({ cls := "AheadRows", name := "image", desc := "()I" } : Jvm.MethodName) ({ cls := "AheadRows", name := "image", desc := "()I" } : Jvm.MethodName)) ∈ lw_all := lw_g (lw_at lw_m5 145 rfl) rfl
theorem q1202 : (Jvm.Cond.code ({ cls := "AheadRows", name := "image", desc := "()I" } : Jvm.MethodName) prog_1_method_61_code (1 : Nat) (Option.some Jvm.ClassFile.FieldType.int)) ∈ lw_all := lw_g (lw_at lw_m5 146 rfl) rfl
theorem q1203 : (Jvm.Cond.methodLink "AheadRows" (361 : Nat) ({ cls := "java/lang/System", name := "arraycopy", desc := "(Ljava/lang/Object;ILjava/lang/Object;II)V" } : Jvm.MethodName)) ∈ lw_all := lw_g (lw_at lw_m5 147 rfl) rfl
theorem q1205 : (Jvm.Cond.instanceMethod ({ cls := "AheadRows", name := "restore", desc := "()I" } : Jvm.MethodName)) ∈ lw_all := lw_g (lw_at lw_m5 149 rfl) rfl
theorem q1206 : (Jvm.Cond.selects "AheadRows" ({ cls := "AheadRows", name := "restore", desc := "()I" } : Jvm.MethodName) ({ cls := "AheadRows", name := "restore", desc := "()I" } : Jvm.MethodName)) ∈ lw_all := lw_g (lw_at lw_m5 150 rfl) rfl
theorem q1207 : (Jvm.Cond.code ({ cls := "AheadRows", name := "restore", desc := "()I" } : Jvm.MethodName) prog_1_method_62_code (1 : Nat) (Option.some Jvm.ClassFile.FieldType.int)) ∈ lw_all := lw_g (lw_at lw_m5 151 rfl) rfl
theorem q1209 : (Jvm.Cond.instanceMethod ({ cls := "AheadRows", name := "count", desc := "(I)I" } : Jvm.MethodName)) ∈ lw_all := lw_g (lw_at lw_m5 153 rfl) rfl
theorem q1210 : (Jvm.Cond.selects "AheadRows" ({ cls := "AheadRows", name := "count", desc := "(I)I" } : Jvm.MethodName) ({ cls := "AheadRows", name := "count", desc := "(I)I" } : Jvm.MethodName)) ∈ lw_all := lw_g (lw_at lw_m5 154 rfl) rfl
theorem q1211 : (Jvm.Cond.code ({ cls := "AheadRows", name := "count", desc := "(I)I" } : Jvm.MethodName) prog_1_method_65_code (2 : Nat) (Option.some Jvm.ClassFile.FieldType.int)) ∈ lw_all := lw_g (lw_at lw_m5 155 rfl) rfl
theorem q1212 : (Jvm.Cond.methodLink "AheadRows" (371 : Nat) ({ cls := "AheadRows", name := "countOf", desc := "(I)I" } : Jvm.MethodName)) ∈ lw_all := lw_g (lw_at lw_m5 156 rfl) rfl
theorem q1213 : (Jvm.Cond.privateMethod ({ cls := "AheadRows", name := "countOf", desc := "(I)I" } : Jvm.MethodName)) ∈ lw_tbl := lw_at lw_m5 157 rfl
theorem q1214 : (Jvm.Cond.instanceMethod ({ cls := "AheadRows", name := "countOf", desc := "(I)I" } : Jvm.MethodName)) ∈ lw_all := lw_g (lw_at lw_m5 158 rfl) rfl
theorem q1215 : (Jvm.Cond.code ({ cls := "AheadRows", name := "countOf", desc := "(I)I" } : Jvm.MethodName) prog_1_method_64_code (2 : Nat) (Option.some Jvm.ClassFile.FieldType.int)) ∈ lw_all := lw_g (lw_at lw_m5 159 rfl) rfl
theorem q1216 : (Jvm.Cond.methodLink "AheadRows" (367 : Nat) ({ cls := "AheadRows", name := "toldRows", desc := "(Z)I" } : Jvm.MethodName)) ∈ lw_all := lw_g (lw_at lw_m5 160 rfl) rfl
theorem q1217 : (Jvm.Cond.privateMethod ({ cls := "AheadRows", name := "toldRows", desc := "(Z)I" } : Jvm.MethodName)) ∈ lw_tbl := lw_at lw_m5 161 rfl
theorem q1218 : (Jvm.Cond.instanceMethod ({ cls := "AheadRows", name := "toldRows", desc := "(Z)I" } : Jvm.MethodName)) ∈ lw_all := lw_g (lw_at lw_m5 162 rfl) rfl
theorem q1219 : (Jvm.Cond.code ({ cls := "AheadRows", name := "toldRows", desc := "(Z)I" } : Jvm.MethodName) prog_1_method_63_code (6 : Nat) (Option.some Jvm.ClassFile.FieldType.int)) ∈ lw_all := lw_g (lw_at lw_m5 163 rfl) rfl
theorem q1221 : (Jvm.Cond.instanceMethod ({ cls := "AheadRows", name := "digest", desc := "()J" } : Jvm.MethodName)) ∈ lw_all := lw_g (lw_at lw_m5 165 rfl) rfl
theorem q1222 : (Jvm.Cond.selects "AheadRows" ({ cls := "AheadRows", name := "digest", desc := "()J" } : Jvm.MethodName) ({ cls := "AheadRows", name := "digest", desc := "()J" } : Jvm.MethodName)) ∈ lw_all := lw_g (lw_at lw_m5 166 rfl) rfl
theorem q1223 : (Jvm.Cond.code ({ cls := "AheadRows", name := "digest", desc := "()J" } : Jvm.MethodName) prog_1_method_68_code (4 : Nat) (Option.some Jvm.ClassFile.FieldType.long)) ∈ lw_all := lw_g (lw_at lw_m5 167 rfl) rfl
theorem q1224 : (Jvm.Cond.constantLong "AheadRows" (382 : Nat) (1493 : Int64)) ∈ lw_all := lw_g (lw_at lw_m5 168 rfl) rfl
theorem q1225 : (Jvm.Cond.methodLink "AheadRows" (384 : Nat) ({ cls := "AheadRows", name := "mixedRow", desc := "(JI)J" } : Jvm.MethodName)) ∈ lw_all := lw_g (lw_at lw_m5 169 rfl) rfl
theorem q1226 : (Jvm.Cond.privateMethod ({ cls := "AheadRows", name := "mixedRow", desc := "(JI)J" } : Jvm.MethodName)) ∈ lw_tbl := lw_at lw_m5 170 rfl
theorem q1227 : (Jvm.Cond.instanceMethod ({ cls := "AheadRows", name := "mixedRow", desc := "(JI)J" } : Jvm.MethodName)) ∈ lw_all := lw_g (lw_at lw_m5 171 rfl) rfl
theorem q1228 : (Jvm.Cond.code ({ cls := "AheadRows", name := "mixedRow", desc := "(JI)J" } : Jvm.MethodName) prog_1_method_67_code (7 : Nat) (Option.some Jvm.ClassFile.FieldType.long)) ∈ lw_all := lw_g (lw_at lw_m5 172 rfl) rfl
theorem q1229 : (Jvm.Cond.methodLink "AheadRows" (376 : Nat) ({ cls := "AheadRows", name := "mixed", desc := "(JJ)J" } : Jvm.MethodName)) ∈ lw_all := lw_g (lw_at lw_m5 173 rfl) rfl
theorem q1230 : (Jvm.Cond.static ({ cls := "AheadRows", name := "mixed", desc := "(JJ)J" } : Jvm.MethodName)) ∈ lw_all := lw_g (lw_at lw_m5 174 rfl) rfl
theorem q1231 : (Jvm.Cond.code ({ cls := "AheadRows", name := "mixed", desc := "(JJ)J" } : Jvm.MethodName) prog_1_method_66_code (4 : Nat) (Option.some Jvm.ClassFile.FieldType.long)) ∈ lw_all := lw_g (lw_at lw_m5 175 rfl) rfl
theorem q1232 : (Jvm.Cond.constantLong "AheadRows" (374 : Nat) (31 : Int64)) ∈ lw_all := lw_g (lw_at lw_m5 176 rfl) rfl
theorem q1233 : (Jvm.Cond.constantLong "AheadRows" (380 : Nat) (1000000 : Int64)) ∈ lw_all := lw_g (lw_at lw_m5 177 rfl) rfl
theorem q1234 : (Jvm.Cond.methodLink "AheadRows" (388 : Nat) ({ cls := "AheadRows", name := "guess", desc := "(I)I" } : Jvm.MethodName)) ∈ lw_all := lw_g (lw_at lw_m5 178 rfl) rfl
theorem q1804 : (Jvm.Cond.castable "AheadRows" "java/lang/Object") ∈ lw_tbl := lw_at lw_m8 28 rfl
theorem in_X0 : ∀ w ∈ wsX00, w ∈ lw_all := lw_in wsX00 [215, 217, 219, 221, 223, 225, 227, 229, 231, 233, 235, 237, 239, 241, 243] (by decide +kernel) (by decide +kernel)
