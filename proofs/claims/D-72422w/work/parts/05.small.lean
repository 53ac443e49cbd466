/-! AheadRows$Wheel -/
set_option maxRecDepth 100000
def RX1 : String := "AheadRows$Wheel"
def TX1 : u_T := fun k => match k with
  | 0 => ("AheadRows$Wheel", "spokes", "[I", true)
  | 1 => ("AheadRows$Wheel", "head", "I", false)
  | 2 => ("AheadRows$Wheel", "lap", "I", false)
  | _ => ("AheadRows$Wheel", "stamp", "I", false)
def tyX1 : Nat → FieldType := fun k => match k with
  | 0 => .array .int
  | 1 => .int
  | 2 => .int
  | _ => .int
abbrev wsX10 : List Cond := u_ws RX1 TX1 4
theorem nmX1 : ∀ a, a < 4 → ∀ b, b < 4 → a ≠ b → (TX1 a).2.1 ≠ (TX1 b).2.1 := by decide +kernel
theorem tyX1_ok : ∀ k, k < 4 → parseFieldDescriptor (TX1 k).2.2.1 = some (tyX1 k) := by decide +kernel
abbrev cX1_init : ByteArray := prog_15_method_1_code
def yX1_init : MethodName := ⟨RX1, "<init>", "()V"⟩
def dkwX1_init_0 : List UInt8 := [42, 183, 0, 3, 42, 17, 1, 144, 188, 10, 181, 0, 9, 177]
abbrev dktX1_init_0 : List UInt8 := dkwX1_init_0 ++ []
theorem dksX1_init_0 : cX1_init.data.toList.drop 0 = dktX1_init_0 := by decide +kernel
theorem dX1_init_0 : decode cX1_init 0 = .ok (.aload_n 0, 1) := dk_42 (dk_at dksX1_init_0 0 rfl rfl)
theorem dX1_init_1 : decode cX1_init 1 = .ok (.invokespecial 3, 3) := dk_183 0 3 (dk_at dksX1_init_0 1 rfl rfl)
theorem dX1_init_4 : decode cX1_init 4 = .ok (.aload_n 0, 1) := dk_42 (dk_at dksX1_init_0 4 rfl rfl)
theorem dX1_init_5 : decode cX1_init 5 = .ok (.sipush 400, 3) := dk_17 1 144 (dk_at dksX1_init_0 5 rfl rfl)
theorem dX1_init_8 : decode cX1_init 8 = .ok (.newarray .int, 2) := dk_188_10 (dk_at dksX1_init_0 8 rfl rfl)
theorem dX1_init_10 : decode cX1_init 10 = .ok (.putfield 9, 3) := dk_181 0 9 (dk_at dksX1_init_0 10 rfl rfl)
theorem dX1_init_13 : decode cX1_init 13 = .ok (.return_, 1) := dk_177 (dk_at dksX1_init_0 13 rfl rfl)
abbrev cX1_at : ByteArray := prog_15_method_2_code
def yX1_at : MethodName := ⟨RX1, "at", "(J)I"⟩
def dkwX1_at_1 : List UInt8 := [42, 180, 0, 15, 133, 101, 42, 180, 0, 19, 133, 113, 136, 96, 46, 172]
abbrev dktX1_at_1 : List UInt8 := dkwX1_at_1 ++ []
def dkwX1_at_0 : List UInt8 := [42, 180, 0, 9, 31, 42, 180, 0, 15, 133, 148, 156, 0, 8, 31, 136, 167, 0, 22, 42, 180, 0, 15, 31]
abbrev dktX1_at_0 : List UInt8 := dkwX1_at_0 ++ dktX1_at_1
theorem dksX1_at_0 : cX1_at.data.toList.drop 0 = dktX1_at_0 := by decide +kernel
theorem dksX1_at_1 : cX1_at.data.toList.drop 24 = dktX1_at_1 := dk_seg dksX1_at_0 24 rfl rfl
theorem dX1_at_0 : decode cX1_at 0 = .ok (.aload_n 0, 1) := dk_42 (dk_at dksX1_at_0 0 rfl rfl)
theorem dX1_at_1 : decode cX1_at 1 = .ok (.getfield 9, 3) := dk_180 0 9 (dk_at dksX1_at_0 1 rfl rfl)
theorem dX1_at_4 : decode cX1_at 4 = .ok (.lload_n 1, 1) := dk_31 (dk_at dksX1_at_0 4 rfl rfl)
theorem dX1_at_5 : decode cX1_at 5 = .ok (.aload_n 0, 1) := dk_42 (dk_at dksX1_at_0 5 rfl rfl)
theorem dX1_at_6 : decode cX1_at 6 = .ok (.getfield 15, 3) := dk_180 0 15 (dk_at dksX1_at_0 6 rfl rfl)
theorem dX1_at_9 : decode cX1_at 9 = .ok (.i2l, 1) := dk_133 (dk_at dksX1_at_0 9 rfl rfl)
theorem dX1_at_10 : decode cX1_at 10 = .ok (.lcmp, 1) := dk_148 (dk_at dksX1_at_0 10 rfl rfl)
theorem dX1_at_11 : decode cX1_at 11 = .ok (.ifCond .ge 8, 3) := dk_156 0 8 (dk_at dksX1_at_0 11 rfl rfl)
theorem dX1_at_14 : decode cX1_at 14 = .ok (.lload_n 1, 1) := dk_31 (dk_at dksX1_at_0 14 rfl rfl)
theorem dX1_at_15 : decode cX1_at 15 = .ok (.l2i, 1) := dk_136 (dk_at dksX1_at_0 15 rfl rfl)
theorem dX1_at_16 : decode cX1_at 16 = .ok (.goto 22, 3) := dk_167 0 22 (dk_at dksX1_at_0 16 rfl rfl)
theorem dX1_at_19 : decode cX1_at 19 = .ok (.aload_n 0, 1) := dk_42 (dk_at dksX1_at_0 19 rfl rfl)
theorem dX1_at_20 : decode cX1_at 20 = .ok (.getfield 15, 3) := dk_180 0 15 (dk_at dksX1_at_0 20 rfl rfl)
theorem dX1_at_23 : decode cX1_at 23 = .ok (.lload_n 1, 1) := dk_31 (dk_at dksX1_at_0 23 rfl rfl)
theorem dX1_at_24 : decode cX1_at 24 = .ok (.aload_n 0, 1) := dk_42 (dk_at dksX1_at_1 0 rfl rfl)
theorem dX1_at_25 : decode cX1_at 25 = .ok (.getfield 15, 3) := dk_180 0 15 (dk_at dksX1_at_1 1 rfl rfl)
theorem dX1_at_28 : decode cX1_at 28 = .ok (.i2l, 1) := dk_133 (dk_at dksX1_at_1 4 rfl rfl)
theorem dX1_at_29 : decode cX1_at 29 = .ok (.lsub, 1) := dk_101 (dk_at dksX1_at_1 5 rfl rfl)
theorem dX1_at_30 : decode cX1_at 30 = .ok (.aload_n 0, 1) := dk_42 (dk_at dksX1_at_1 6 rfl rfl)
theorem dX1_at_31 : decode cX1_at 31 = .ok (.getfield 19, 3) := dk_180 0 19 (dk_at dksX1_at_1 7 rfl rfl)
theorem dX1_at_34 : decode cX1_at 34 = .ok (.i2l, 1) := dk_133 (dk_at dksX1_at_1 10 rfl rfl)
theorem dX1_at_35 : decode cX1_at 35 = .ok (.lrem, 1) := dk_113 (dk_at dksX1_at_1 11 rfl rfl)
theorem dX1_at_36 : decode cX1_at 36 = .ok (.l2i, 1) := dk_136 (dk_at dksX1_at_1 12 rfl rfl)
theorem dX1_at_37 : decode cX1_at 37 = .ok (.iadd, 1) := dk_96 (dk_at dksX1_at_1 13 rfl rfl)
theorem dX1_at_38 : decode cX1_at 38 = .ok (.iaload, 1) := dk_46 (dk_at dksX1_at_1 14 rfl rfl)
theorem dX1_at_39 : decode cX1_at 39 = .ok (.ireturn, 1) := dk_172 (dk_at dksX1_at_1 15 rfl rfl)
abbrev cX1_lessen : ByteArray := prog_15_method_4_code
def yX1_lessen : MethodName := ⟨RX1, "lessen", "()V"⟩
def dkwX1_lessen_3 : List UInt8 := [167, 255, 209, 177]
abbrev dktX1_lessen_3 : List UInt8 := dkwX1_lessen_3 ++ []
def dkwX1_lessen_2 : List UInt8 := [180, 0, 15, 4, 100, 42, 180, 0, 19, 96, 46, 160, 0, 16, 42, 89, 180, 0, 15, 4, 100, 181, 0, 15]
abbrev dktX1_lessen_2 : List UInt8 := dkwX1_lessen_2 ++ dktX1_lessen_3
def dkwX1_lessen_1 : List UInt8 := [180, 0, 15, 158, 0, 46, 42, 180, 0, 9, 42, 180, 0, 15, 4, 100, 46, 42, 180, 0, 9, 42]
abbrev dktX1_lessen_1 : List UInt8 := dkwX1_lessen_1 ++ dktX1_lessen_2
def dkwX1_lessen_0 : List UInt8 := [4, 60, 42, 27, 182, 0, 22, 154, 0, 9, 132, 1, 1, 167, 255, 245, 42, 27, 181, 0, 19, 42]
abbrev dktX1_lessen_0 : List UInt8 := dkwX1_lessen_0 ++ dktX1_lessen_1
theorem dksX1_lessen_0 : cX1_lessen.data.toList.drop 0 = dktX1_lessen_0 := by decide +kernel
theorem dksX1_lessen_1 : cX1_lessen.data.toList.drop 22 = dktX1_lessen_1 := dk_seg dksX1_lessen_0 22 rfl rfl
theorem dksX1_lessen_2 : cX1_lessen.data.toList.drop 44 = dktX1_lessen_2 := dk_seg dksX1_lessen_1 22 rfl rfl
theorem dksX1_lessen_3 : cX1_lessen.data.toList.drop 68 = dktX1_lessen_3 := dk_seg dksX1_lessen_2 24 rfl rfl
theorem dX1_lessen_0 : decode cX1_lessen 0 = .ok (.iconst 1, 1) := dk_4 (dk_at dksX1_lessen_0 0 rfl rfl)
theorem dX1_lessen_1 : decode cX1_lessen 1 = .ok (.istore_n 1, 1) := dk_60 (dk_at dksX1_lessen_0 1 rfl rfl)
theorem dX1_lessen_2 : decode cX1_lessen 2 = .ok (.aload_n 0, 1) := dk_42 (dk_at dksX1_lessen_0 2 rfl rfl)
theorem dX1_lessen_3 : decode cX1_lessen 3 = .ok (.iload_n 1, 1) := dk_27 (dk_at dksX1_lessen_0 3 rfl rfl)
theorem dX1_lessen_4 : decode cX1_lessen 4 = .ok (.invokevirtual 22, 3) := dk_182 0 22 (dk_at dksX1_lessen_0 4 rfl rfl)
theorem dX1_lessen_7 : decode cX1_lessen 7 = .ok (.ifCond .ne 9, 3) := dk_154 0 9 (dk_at dksX1_lessen_0 7 rfl rfl)
theorem dX1_lessen_10 : decode cX1_lessen 10 = .ok (.iinc 1 1, 3) := dk_132 1 1 (dk_at dksX1_lessen_0 10 rfl rfl)
theorem dX1_lessen_13 : decode cX1_lessen 13 = .ok (.goto (-11), 3) := dk_167 255 245 (dk_at dksX1_lessen_0 13 rfl rfl)
theorem dX1_lessen_16 : decode cX1_lessen 16 = .ok (.aload_n 0, 1) := dk_42 (dk_at dksX1_lessen_0 16 rfl rfl)
theorem dX1_lessen_17 : decode cX1_lessen 17 = .ok (.iload_n 1, 1) := dk_27 (dk_at dksX1_lessen_0 17 rfl rfl)
theorem dX1_lessen_18 : decode cX1_lessen 18 = .ok (.putfield 19, 3) := dk_181 0 19 (dk_at dksX1_lessen_0 18 rfl rfl)
theorem dX1_lessen_21 : decode cX1_lessen 21 = .ok (.aload_n 0, 1) := dk_42 (dk_at dksX1_lessen_0 21 rfl rfl)
theorem dX1_lessen_22 : decode cX1_lessen 22 = .ok (.getfield 15, 3) := dk_180 0 15 (dk_at dksX1_lessen_1 0 rfl rfl)
theorem dX1_lessen_25 : decode cX1_lessen 25 = .ok (.ifCond .le 46, 3) := dk_158 0 46 (dk_at dksX1_lessen_1 3 rfl rfl)
theorem dX1_lessen_28 : decode cX1_lessen 28 = .ok (.aload_n 0, 1) := dk_42 (dk_at dksX1_lessen_1 6 rfl rfl)
theorem dX1_lessen_29 : decode cX1_lessen 29 = .ok (.getfield 9, 3) := dk_180 0 9 (dk_at dksX1_lessen_1 7 rfl rfl)
theorem dX1_lessen_32 : decode cX1_lessen 32 = .ok (.aload_n 0, 1) := dk_42 (dk_at dksX1_lessen_1 10 rfl rfl)
theorem dX1_lessen_33 : decode cX1_lessen 33 = .ok (.getfield 15, 3) := dk_180 0 15 (dk_at dksX1_lessen_1 11 rfl rfl)
theorem dX1_lessen_36 : decode cX1_lessen 36 = .ok (.iconst 1, 1) := dk_4 (dk_at dksX1_lessen_1 14 rfl rfl)
theorem dX1_lessen_37 : decode cX1_lessen 37 = .ok (.isub, 1) := dk_100 (dk_at dksX1_lessen_1 15 rfl rfl)
theorem dX1_lessen_38 : decode cX1_lessen 38 = .ok (.iaload, 1) := dk_46 (dk_at dksX1_lessen_1 16 rfl rfl)
theorem dX1_lessen_39 : decode cX1_lessen 39 = .ok (.aload_n 0, 1) := dk_42 (dk_at dksX1_lessen_1 17 rfl rfl)
theorem dX1_lessen_40 : decode cX1_lessen 40 = .ok (.getfield 9, 3) := dk_180 0 9 (dk_at dksX1_lessen_1 18 rfl rfl)
theorem dX1_lessen_43 : decode cX1_lessen 43 = .ok (.aload_n 0, 1) := dk_42 (dk_at dksX1_lessen_1 21 rfl rfl)
theorem dX1_lessen_44 : decode cX1_lessen 44 = .ok (.getfield 15, 3) := dk_180 0 15 (dk_at dksX1_lessen_2 0 rfl rfl)
theorem dX1_lessen_47 : decode cX1_lessen 47 = .ok (.iconst 1, 1) := dk_4 (dk_at dksX1_lessen_2 3 rfl rfl)
theorem dX1_lessen_48 : decode cX1_lessen 48 = .ok (.isub, 1) := dk_100 (dk_at dksX1_lessen_2 4 rfl rfl)
theorem dX1_lessen_49 : decode cX1_lessen 49 = .ok (.aload_n 0, 1) := dk_42 (dk_at dksX1_lessen_2 5 rfl rfl)
theorem dX1_lessen_50 : decode cX1_lessen 50 = .ok (.getfield 19, 3) := dk_180 0 19 (dk_at dksX1_lessen_2 6 rfl rfl)
theorem dX1_lessen_53 : decode cX1_lessen 53 = .ok (.iadd, 1) := dk_96 (dk_at dksX1_lessen_2 9 rfl rfl)
theorem dX1_lessen_54 : decode cX1_lessen 54 = .ok (.iaload, 1) := dk_46 (dk_at dksX1_lessen_2 10 rfl rfl)
theorem dX1_lessen_55 : decode cX1_lessen 55 = .ok (.if_icmp .ne 16, 3) := dk_160 0 16 (dk_at dksX1_lessen_2 11 rfl rfl)
theorem dX1_lessen_58 : decode cX1_lessen 58 = .ok (.aload_n 0, 1) := dk_42 (dk_at dksX1_lessen_2 14 rfl rfl)
theorem dX1_lessen_59 : decode cX1_lessen 59 = .ok (.dup, 1) := dk_89 (dk_at dksX1_lessen_2 15 rfl rfl)
theorem dX1_lessen_60 : decode cX1_lessen 60 = .ok (.getfield 15, 3) := dk_180 0 15 (dk_at dksX1_lessen_2 16 rfl rfl)
theorem dX1_lessen_63 : decode cX1_lessen 63 = .ok (.iconst 1, 1) := dk_4 (dk_at dksX1_lessen_2 19 rfl rfl)
theorem dX1_lessen_64 : decode cX1_lessen 64 = .ok (.isub, 1) := dk_100 (dk_at dksX1_lessen_2 20 rfl rfl)
theorem dX1_lessen_65 : decode cX1_lessen 65 = .ok (.putfield 15, 3) := dk_181 0 15 (dk_at dksX1_lessen_2 21 rfl rfl)
theorem dX1_lessen_68 : decode cX1_lessen 68 = .ok (.goto (-47), 3) := dk_167 255 209 (dk_at dksX1_lessen_3 0 rfl rfl)
theorem dX1_lessen_71 : decode cX1_lessen 71 = .ok (.return_, 1) := dk_177 (dk_at dksX1_lessen_3 3 rfl rfl)
abbrev cX1_isLap : ByteArray := prog_15_method_3_code
def yX1_isLap : MethodName := ⟨RX1, "isLap", "(I)Z"⟩
def dkwX1_isLap_3 : List UInt8 := [132, 3, 1, 167, 255, 203, 28, 172]
abbrev dktX1_isLap_3 : List UInt8 := dkwX1_isLap_3 ++ []
def dkwX1_isLap_2 : List UInt8 := [180, 0, 15, 29, 27, 96, 42, 180, 0, 19, 112, 96, 46, 160, 0, 7, 4, 167, 0, 4, 3, 61]
abbrev dktX1_isLap_2 : List UInt8 := dkwX1_isLap_2 ++ dktX1_isLap_3
def dkwX1_isLap_1 : List UInt8 := [162, 0, 51, 28, 153, 0, 47, 42, 180, 0, 9, 42, 180, 0, 15, 29, 96, 46, 42, 180, 0, 9, 42]
abbrev dktX1_isLap_1 : List UInt8 := dkwX1_isLap_1 ++ dktX1_isLap_2
def dkwX1_isLap_0 : List UInt8 := [42, 180, 0, 19, 27, 112, 154, 0, 7, 4, 167, 0, 4, 3, 61, 3, 62, 29, 42, 180, 0, 19]
abbrev dktX1_isLap_0 : List UInt8 := dkwX1_isLap_0 ++ dktX1_isLap_1
theorem dksX1_isLap_0 : cX1_isLap.data.toList.drop 0 = dktX1_isLap_0 := by decide +kernel
theorem dksX1_isLap_1 : cX1_isLap.data.toList.drop 22 = dktX1_isLap_1 := dk_seg dksX1_isLap_0 22 rfl rfl
theorem dksX1_isLap_2 : cX1_isLap.data.toList.drop 45 = dktX1_isLap_2 := dk_seg dksX1_isLap_1 23 rfl rfl
theorem dksX1_isLap_3 : cX1_isLap.data.toList.drop 67 = dktX1_isLap_3 := dk_seg dksX1_isLap_2 22 rfl rfl
theorem dX1_isLap_0 : decode cX1_isLap 0 = .ok (.aload_n 0, 1) := dk_42 (dk_at dksX1_isLap_0 0 rfl rfl)
theorem dX1_isLap_1 : decode cX1_isLap 1 = .ok (.getfield 19, 3) := dk_180 0 19 (dk_at dksX1_isLap_0 1 rfl rfl)
theorem dX1_isLap_4 : decode cX1_isLap 4 = .ok (.iload_n 1, 1) := dk_27 (dk_at dksX1_isLap_0 4 rfl rfl)
theorem dX1_isLap_5 : decode cX1_isLap 5 = .ok (.irem, 1) := dk_112 (dk_at dksX1_isLap_0 5 rfl rfl)
theorem dX1_isLap_6 : decode cX1_isLap 6 = .ok (.ifCond .ne 7, 3) := dk_154 0 7 (dk_at dksX1_isLap_0 6 rfl rfl)
theorem dX1_isLap_9 : decode cX1_isLap 9 = .ok (.iconst 1, 1) := dk_4 (dk_at dksX1_isLap_0 9 rfl rfl)
theorem dX1_isLap_10 : decode cX1_isLap 10 = .ok (.goto 4, 3) := dk_167 0 4 (dk_at dksX1_isLap_0 10 rfl rfl)
theorem dX1_isLap_13 : decode cX1_isLap 13 = .ok (.iconst 0, 1) := dk_3 (dk_at dksX1_isLap_0 13 rfl rfl)
theorem dX1_isLap_14 : decode cX1_isLap 14 = .ok (.istore_n 2, 1) := dk_61 (dk_at dksX1_isLap_0 14 rfl rfl)
theorem dX1_isLap_15 : decode cX1_isLap 15 = .ok (.iconst 0, 1) := dk_3 (dk_at dksX1_isLap_0 15 rfl rfl)
theorem dX1_isLap_16 : decode cX1_isLap 16 = .ok (.istore_n 3, 1) := dk_62 (dk_at dksX1_isLap_0 16 rfl rfl)
theorem dX1_isLap_17 : decode cX1_isLap 17 = .ok (.iload_n 3, 1) := dk_29 (dk_at dksX1_isLap_0 17 rfl rfl)
theorem dX1_isLap_18 : decode cX1_isLap 18 = .ok (.aload_n 0, 1) := dk_42 (dk_at dksX1_isLap_0 18 rfl rfl)
theorem dX1_isLap_19 : decode cX1_isLap 19 = .ok (.getfield 19, 3) := dk_180 0 19 (dk_at dksX1_isLap_0 19 rfl rfl)
theorem dX1_isLap_22 : decode cX1_isLap 22 = .ok (.if_icmp .ge 51, 3) := dk_162 0 51 (dk_at dksX1_isLap_1 0 rfl rfl)
theorem dX1_isLap_25 : decode cX1_isLap 25 = .ok (.iload_n 2, 1) := dk_28 (dk_at dksX1_isLap_1 3 rfl rfl)
theorem dX1_isLap_26 : decode cX1_isLap 26 = .ok (.ifCond .eq 47, 3) := dk_153 0 47 (dk_at dksX1_isLap_1 4 rfl rfl)
theorem dX1_isLap_29 : decode cX1_isLap 29 = .ok (.aload_n 0, 1) := dk_42 (dk_at dksX1_isLap_1 7 rfl rfl)
theorem dX1_isLap_30 : decode cX1_isLap 30 = .ok (.getfield 9, 3) := dk_180 0 9 (dk_at dksX1_isLap_1 8 rfl rfl)
theorem dX1_isLap_33 : decode cX1_isLap 33 = .ok (.aload_n 0, 1) := dk_42 (dk_at dksX1_isLap_1 11 rfl rfl)
theorem dX1_isLap_34 : decode cX1_isLap 34 = .ok (.getfield 15, 3) := dk_180 0 15 (dk_at dksX1_isLap_1 12 rfl rfl)
theorem dX1_isLap_37 : decode cX1_isLap 37 = .ok (.iload_n 3, 1) := dk_29 (dk_at dksX1_isLap_1 15 rfl rfl)
theorem dX1_isLap_38 : decode cX1_isLap 38 = .ok (.iadd, 1) := dk_96 (dk_at dksX1_isLap_1 16 rfl rfl)
theorem dX1_isLap_39 : decode cX1_isLap 39 = .ok (.iaload, 1) := dk_46 (dk_at dksX1_isLap_1 17 rfl rfl)
theorem dX1_isLap_40 : decode cX1_isLap 40 = .ok (.aload_n 0, 1) := dk_42 (dk_at dksX1_isLap_1 18 rfl rfl)
theorem dX1_isLap_41 : decode cX1_isLap 41 = .ok (.getfield 9, 3) := dk_180 0 9 (dk_at dksX1_isLap_1 19 rfl rfl)
theorem dX1_isLap_44 : decode cX1_isLap 44 = .ok (.aload_n 0, 1) := dk_42 (dk_at dksX1_isLap_1 22 rfl rfl)
theorem dX1_isLap_45 : decode cX1_isLap 45 = .ok (.getfield 15, 3) := dk_180 0 15 (dk_at dksX1_isLap_2 0 rfl rfl)
theorem dX1_isLap_48 : decode cX1_isLap 48 = .ok (.iload_n 3, 1) := dk_29 (dk_at dksX1_isLap_2 3 rfl rfl)
theorem dX1_isLap_49 : decode cX1_isLap 49 = .ok (.iload_n 1, 1) := dk_27 (dk_at dksX1_isLap_2 4 rfl rfl)
theorem dX1_isLap_50 : decode cX1_isLap 50 = .ok (.iadd, 1) := dk_96 (dk_at dksX1_isLap_2 5 rfl rfl)
theorem dX1_isLap_51 : decode cX1_isLap 51 = .ok (.aload_n 0, 1) := dk_42 (dk_at dksX1_isLap_2 6 rfl rfl)
theorem dX1_isLap_52 : decode cX1_isLap 52 = .ok (.getfield 19, 3) := dk_180 0 19 (dk_at dksX1_isLap_2 7 rfl rfl)
theorem dX1_isLap_55 : decode cX1_isLap 55 = .ok (.irem, 1) := dk_112 (dk_at dksX1_isLap_2 10 rfl rfl)
theorem dX1_isLap_56 : decode cX1_isLap 56 = .ok (.iadd, 1) := dk_96 (dk_at dksX1_isLap_2 11 rfl rfl)
theorem dX1_isLap_57 : decode cX1_isLap 57 = .ok (.iaload, 1) := dk_46 (dk_at dksX1_isLap_2 12 rfl rfl)
theorem dX1_isLap_58 : decode cX1_isLap 58 = .ok (.if_icmp .ne 7, 3) := dk_160 0 7 (dk_at dksX1_isLap_2 13 rfl rfl)
theorem dX1_isLap_61 : decode cX1_isLap 61 = .ok (.iconst 1, 1) := dk_4 (dk_at dksX1_isLap_2 16 rfl rfl)
theorem dX1_isLap_62 : decode cX1_isLap 62 = .ok (.goto 4, 3) := dk_167 0 4 (dk_at dksX1_isLap_2 17 rfl rfl)
theorem dX1_isLap_65 : decode cX1_isLap 65 = .ok (.iconst 0, 1) := dk_3 (dk_at dksX1_isLap_2 20 rfl rfl)
theorem dX1_isLap_66 : decode cX1_isLap 66 = .ok (.istore_n 2, 1) := dk_61 (dk_at dksX1_isLap_2 21 rfl rfl)
theorem dX1_isLap_67 : decode cX1_isLap 67 = .ok (.iinc 3 1, 3) := dk_132 3 1 (dk_at dksX1_isLap_3 0 rfl rfl)
theorem dX1_isLap_70 : decode cX1_isLap 70 = .ok (.goto (-53), 3) := dk_167 255 203 (dk_at dksX1_isLap_3 3 rfl rfl)
theorem dX1_isLap_73 : decode cX1_isLap 73 = .ok (.iload_n 2, 1) := dk_28 (dk_at dksX1_isLap_3 6 rfl rfl)
theorem dX1_isLap_74 : decode cX1_isLap 74 = .ok (.ireturn, 1) := dk_172 (dk_at dksX1_isLap_3 7 rfl rfl)
abbrev cX1_zeros : ByteArray := prog_15_method_5_code
def yX1_zeros : MethodName := ⟨RX1, "zeros", "()I"⟩
def dkwX1_zeros_1 : List UInt8 := [154, 0, 7, 4, 167, 0, 4, 3, 96, 60, 132, 2, 1, 167, 255, 223, 27, 172]
abbrev dktX1_zeros_1 : List UInt8 := dkwX1_zeros_1 ++ []
def dkwX1_zeros_0 : List UInt8 := [3, 60, 3, 61, 28, 42, 180, 0, 19, 162, 0, 31, 27, 42, 180, 0, 9, 42, 180, 0, 15, 28, 96, 46]
abbrev dktX1_zeros_0 : List UInt8 := dkwX1_zeros_0 ++ dktX1_zeros_1
theorem dksX1_zeros_0 : cX1_zeros.data.toList.drop 0 = dktX1_zeros_0 := by decide +kernel
theorem dksX1_zeros_1 : cX1_zeros.data.toList.drop 24 = dktX1_zeros_1 := dk_seg dksX1_zeros_0 24 rfl rfl
theorem dX1_zeros_0 : decode cX1_zeros 0 = .ok (.iconst 0, 1) := dk_3 (dk_at dksX1_zeros_0 0 rfl rfl)
theorem dX1_zeros_1 : decode cX1_zeros 1 = .ok (.istore_n 1, 1) := dk_60 (dk_at dksX1_zeros_0 1 rfl rfl)
theorem dX1_zeros_2 : decode cX1_zeros 2 = .ok (.iconst 0, 1) := dk_3 (dk_at dksX1_zeros_0 2 rfl rfl)
theorem dX1_zeros_3 : decode cX1_zeros 3 = .ok (.istore_n 2, 1) := dk_61 (dk_at dksX1_zeros_0 3 rfl rfl)
theorem dX1_zeros_4 : decode cX1_zeros 4 = .ok (.iload_n 2, 1) := dk_28 (dk_at dksX1_zeros_0 4 rfl rfl)
theorem dX1_zeros_5 : decode cX1_zeros 5 = .ok (.aload_n 0, 1) := dk_42 (dk_at dksX1_zeros_0 5 rfl rfl)
theorem dX1_zeros_6 : decode cX1_zeros 6 = .ok (.getfield 19, 3) := dk_180 0 19 (dk_at dksX1_zeros_0 6 rfl rfl)
theorem dX1_zeros_9 : decode cX1_zeros 9 = .ok (.if_icmp .ge 31, 3) := dk_162 0 31 (dk_at dksX1_zeros_0 9 rfl rfl)
theorem dX1_zeros_12 : decode cX1_zeros 12 = .ok (.iload_n 1, 1) := dk_27 (dk_at dksX1_zeros_0 12 rfl rfl)
theorem dX1_zeros_13 : decode cX1_zeros 13 = .ok (.aload_n 0, 1) := dk_42 (dk_at dksX1_zeros_0 13 rfl rfl)
theorem dX1_zeros_14 : decode cX1_zeros 14 = .ok (.getfield 9, 3) := dk_180 0 9 (dk_at dksX1_zeros_0 14 rfl rfl)
theorem dX1_zeros_17 : decode cX1_zeros 17 = .ok (.aload_n 0, 1) := dk_42 (dk_at dksX1_zeros_0 17 rfl rfl)
theorem dX1_zeros_18 : decode cX1_zeros 18 = .ok (.getfield 15, 3) := dk_180 0 15 (dk_at dksX1_zeros_0 18 rfl rfl)
theorem dX1_zeros_21 : decode cX1_zeros 21 = .ok (.iload_n 2, 1) := dk_28 (dk_at dksX1_zeros_0 21 rfl rfl)
theorem dX1_zeros_22 : decode cX1_zeros 22 = .ok (.iadd, 1) := dk_96 (dk_at dksX1_zeros_0 22 rfl rfl)
theorem dX1_zeros_23 : decode cX1_zeros 23 = .ok (.iaload, 1) := dk_46 (dk_at dksX1_zeros_0 23 rfl rfl)
theorem dX1_zeros_24 : decode cX1_zeros 24 = .ok (.ifCond .ne 7, 3) := dk_154 0 7 (dk_at dksX1_zeros_1 0 rfl rfl)
theorem dX1_zeros_27 : decode cX1_zeros 27 = .ok (.iconst 1, 1) := dk_4 (dk_at dksX1_zeros_1 3 rfl rfl)
theorem dX1_zeros_28 : decode cX1_zeros 28 = .ok (.goto 4, 3) := dk_167 0 4 (dk_at dksX1_zeros_1 4 rfl rfl)
theorem dX1_zeros_31 : decode cX1_zeros 31 = .ok (.iconst 0, 1) := dk_3 (dk_at dksX1_zeros_1 7 rfl rfl)
theorem dX1_zeros_32 : decode cX1_zeros 32 = .ok (.iadd, 1) := dk_96 (dk_at dksX1_zeros_1 8 rfl rfl)
theorem dX1_zeros_33 : decode cX1_zeros 33 = .ok (.istore_n 1, 1) := dk_60 (dk_at dksX1_zeros_1 9 rfl rfl)
theorem dX1_zeros_34 : decode cX1_zeros 34 = .ok (.iinc 2 1, 3) := dk_132 2 1 (dk_at dksX1_zeros_1 10 rfl rfl)
theorem dX1_zeros_37 : decode cX1_zeros 37 = .ok (.goto (-33), 3) := dk_167 255 223 (dk_at dksX1_zeros_1 13 rfl rfl)
theorem dX1_zeros_40 : decode cX1_zeros 40 = .ok (.iload_n 1, 1) := dk_27 (dk_at dksX1_zeros_1 16 rfl rfl)
theorem dX1_zeros_41 : decode cX1_zeros 41 = .ok (.ireturn, 1) := dk_172 (dk_at dksX1_zeros_1 17 rfl rfl)
theorem q101 : (Jvm.Cond.initialized "AheadRows$Wheel") ∈ lw_all := lw_g (lw_at lw_m1 5 rfl) rfl
theorem q163 : (Jvm.Cond.instantiable "AheadRows$Wheel" (4 : Nat)) ∈ lw_all := lw_g (lw_at lw_m1 67 rfl) rfl
theorem q165 : (Jvm.Cond.instanceMethod ({ cls := "AheadRows$Wheel", name := "<init>", desc := "()V" } : Jvm.MethodName)) ∈ lw_all := lw_g (lw_at lw_m1 69 rfl) rfl
theorem q166 : (Jvm.Cond.code ({ cls := "AheadRows$Wheel", name := "<init>", desc := "()V" } : Jvm.MethodName) prog_15_method_1_code (1 : Nat) (Option.none : Option Jvm.ClassFile.FieldType)) ∈ lw_all := lw_g (lw_at lw_m1 70 rfl) rfl
theorem q167 : (Jvm.Cond.methodLink "AheadRows$Wheel" (3 : Nat) ({ cls := "java/lang/Object", name := "<init>", desc := "()V" } : Jvm.MethodName)) ∈ lw_all := lw_g (lw_at lw_m1 71 rfl) rfl
theorem q168 : (Jvm.Cond.fieldLink "AheadRows$Wheel" (9 : Nat) "AheadRows$Wheel" "spokes" "[I") ∈ lw_all := lw_g (lw_at lw_m1 72 rfl) rfl
theorem q172 : (Jvm.Cond.fieldLink "AheadRows$Wheel" (15 : Nat) "AheadRows$Wheel" "head" "I") ∈ lw_all := lw_g (lw_at lw_m1 76 rfl) rfl
theorem q177 : (Jvm.Cond.fieldLink "AheadRows$Wheel" (19 : Nat) "AheadRows$Wheel" "lap" "I") ∈ lw_all := lw_g (lw_at lw_m1 81 rfl) rfl
theorem q185 : (Jvm.Cond.laysFinal "AheadRows$Wheel" "AheadRows$Wheel" "spokes" "[I") ∈ lw_all := lw_g (lw_at lw_m1 89 rfl) rfl
theorem q186 : (Jvm.Cond.soleField "AheadRows$Wheel" "spokes") ∈ lw_all := lw_g (lw_at lw_m1 90 rfl) rfl
theorem q187 : (Jvm.Cond.lays "AheadRows$Wheel" "AheadRows$Wheel" "head" "I") ∈ lw_all := lw_g (lw_at lw_m1 91 rfl) rfl
theorem q188 : (Jvm.Cond.soleField "AheadRows$Wheel" "head") ∈ lw_all := lw_g (lw_at lw_m1 92 rfl) rfl
theorem q189 : (Jvm.Cond.lays "AheadRows$Wheel" "AheadRows$Wheel" "lap" "I") ∈ lw_all := lw_g (lw_at lw_m1 93 rfl) rfl
theorem q190 : (Jvm.Cond.soleField "AheadRows$Wheel" "lap") ∈ lw_all := lw_g (lw_at lw_m1 94 rfl) rfl
theorem q191 : (Jvm.Cond.lays "AheadRows$Wheel" "AheadRows$Wheel" "stamp" "I") ∈ lw_all := lw_g (lw_at lw_m1 95 rfl) rfl
theorem q192 : (Jvm.Cond.soleField "AheadRows$Wheel" "stamp") ∈ lw_all := lw_g (lw_at lw_m1 96 rfl) rfl
theorem q193 : (Jvm.Cond.superclass "AheadRows$Wheel" "java/lang/Object") ∈ lw_all := lw_g (lw_at lw_m1 97 rfl) rfl
theorem q470 : (Jvm.Cond.selects "AheadRows$Wheel" ({ cls := "java/lang/Object", name := "getClass", desc := "()Ljava/lang/Class;" } : Jvm.MethodName) ({ cls := "java/lang/Object", name := "getClass", desc := "()Ljava/lang/Class;" } : Jvm.MethodName)) ∈ lw_all := lw_g (lw_at lw_m2 134 rfl) rfl
theorem q806 : (Jvm.Cond.instanceMethod ({ cls := "AheadRows$Wheel", name := "at", desc := "(J)I" } : Jvm.MethodName)) ∈ lw_all := lw_g (lw_at lw_m3 230 rfl) rfl
theorem q807 : (Jvm.Cond.selects "AheadRows$Wheel" ({ cls := "AheadRows$Wheel", name := "at", desc := "(J)I" } : Jvm.MethodName) ({ cls := "AheadRows$Wheel", name := "at", desc := "(J)I" } : Jvm.MethodName)) ∈ lw_all := lw_g (lw_at lw_m3 231 rfl) rfl
theorem q808 : (Jvm.Cond.code ({ cls := "AheadRows$Wheel", name := "at", desc := "(J)I" } : Jvm.MethodName) prog_15_method_2_code (3 : Nat) (Option.some Jvm.ClassFile.FieldType.int)) ∈ lw_all := lw_g (lw_at lw_m3 232 rfl) rfl
theorem q817 : (Jvm.Cond.instanceMethod ({ cls := "AheadRows$Wheel", name := "lessen", desc := "()V" } : Jvm.MethodName)) ∈ lw_all := lw_g (lw_at lw_m4 1 rfl) rfl
theorem q818 : (Jvm.Cond.selects "AheadRows$Wheel" ({ cls := "AheadRows$Wheel", name := "lessen", desc := "()V" } : Jvm.MethodName) ({ cls := "AheadRows$Wheel", name := "lessen", desc := "()V" } : Jvm.MethodName)) ∈ lw_all := lw_g (lw_at lw_m4 2 rfl) rfl
theorem q819 : (Jvm.Cond.code ({ cls := "AheadRows$Wheel", name := "lessen", desc := "()V" } : Jvm.MethodName) prog_15_method_4_code (2 : Nat) (Option.none : Option Jvm.ClassFile.FieldType)) ∈ lw_all := lw_g (lw_at lw_m4 3 rfl) rfl
theorem q820 : (Jvm.Cond.methodLink "AheadRows$Wheel" (22 : Nat) ({ cls := "AheadRows$Wheel", name := "isLap", desc := "(I)Z" } : Jvm.MethodName)) ∈ lw_all := lw_g (lw_at lw_m4 4 rfl) rfl
theorem q821 : (Jvm.Cond.privateMethod ({ cls := "AheadRows$Wheel", name := "isLap", desc := "(I)Z" } : Jvm.MethodName)) ∈ lw_tbl := lw_at lw_m4 5 rfl
theorem q822 : (Jvm.Cond.instanceMethod ({ cls := "AheadRows$Wheel", name := "isLap", desc := "(I)Z" } : Jvm.MethodName)) ∈ lw_all := lw_g (lw_at lw_m4 6 rfl) rfl
theorem q823 : (Jvm.Cond.code ({ cls := "AheadRows$Wheel", name := "isLap", desc := "(I)Z" } : Jvm.MethodName) prog_15_method_3_code (4 : Nat) (Option.some Jvm.ClassFile.FieldType.boolean)) ∈ lw_all := lw_g (lw_at lw_m4 7 rfl) rfl
theorem q848 : (Jvm.Cond.instanceMethod ({ cls := "AheadRows$Wheel", name := "zeros", desc := "()I" } : Jvm.MethodName)) ∈ lw_all := lw_g (lw_at lw_m4 32 rfl) rfl
theorem q849 : (Jvm.Cond.selects "AheadRows$Wheel" ({ cls := "AheadRows$Wheel", name := "zeros", desc := "()I" } : Jvm.MethodName) ({ cls := "AheadRows$Wheel", name := "zeros", desc := "()I" } : Jvm.MethodName)) ∈ lw_all := lw_g (lw_at lw_m4 33 rfl) rfl
theorem q850 : (Jvm.Cond.code ({ cls := "AheadRows$Wheel", name := "zeros", desc := "()I" } : Jvm.MethodName) prog_15_method_5_code (3 : Nat) (Option.some Jvm.ClassFile.FieldType.int)) ∈ lw_all := lw_g (lw_at lw_m4 34 rfl) rfl
theorem q1803 : (Jvm.Cond.castable "AheadRows$Wheel" "java/lang/Object") ∈ lw_tbl := lw_at lw_m8 27 rfl
theorem in_X1 : ∀ w ∈ wsX10, w ∈ lw_all := lw_in wsX10 [185, 187, 189, 191] (by decide +kernel) (by decide +kernel)
/-! AheadRows$Reader -/
set_option maxRecDepth 100000
def RX3 : String := "AheadRows$Reader"
def TX3 : u_T := fun k => match k with
  | 0 => ("AheadRows$Reader", "place", "I", false)
  | 1 => ("AheadRows$Reader", "isWrong", "Z", false)
  | 2 => ("AheadRows$Reader", "read", "Ljava/util/ArrayList;", true)
  | _ => ("AheadRows$Reader", "this$0", "LAheadRows;", true)
def tyX3 : Nat → FieldType := fun k => match k with
  | 0 => .int
  | 1 => .boolean
  | 2 => .object "java/util/ArrayList"
  | _ => .object "AheadRows"
abbrev wsX30 : List Cond := u_ws RX3 TX3 4
theorem nmX3 : ∀ a, a < 4 → ∀ b, b < 4 → a ≠ b → (TX3 a).2.1 ≠ (TX3 b).2.1 := by decide +kernel
theorem tyX3_ok : ∀ k, k < 4 → parseFieldDescriptor (TX3 k).2.2.1 = some (tyX3 k) := by decide +kernel
abbrev cX3_init : ByteArray := prog_9_method_1_code
def yX3_init : MethodName := ⟨RX3, "<init>", "(LAheadRows;)V"⟩
def dkwX3_init_0 : List UInt8 := [42, 43, 181, 0, 3, 42, 183, 0, 9, 42, 187, 0, 15, 89, 183, 0, 17, 181, 0, 18, 177]
abbrev dktX3_init_0 : List UInt8 := dkwX3_init_0 ++ []
theorem dksX3_init_0 : cX3_init.data.toList.drop 0 = dktX3_init_0 := by decide +kernel
theorem dX3_init_0 : decode cX3_init 0 = .ok (.aload_n 0, 1) := dk_42 (dk_at dksX3_init_0 0 rfl rfl)
theorem dX3_init_1 : decode cX3_init 1 = .ok (.aload_n 1, 1) := dk_43 (dk_at dksX3_init_0 1 rfl rfl)
theorem dX3_init_2 : decode cX3_init 2 = .ok (.putfield 3, 3) := dk_181 0 3 (dk_at dksX3_init_0 2 rfl rfl)
theorem dX3_init_5 : decode cX3_init 5 = .ok (.aload_n 0, 1) := dk_42 (dk_at dksX3_init_0 5 rfl rfl)
theorem dX3_init_6 : decode cX3_init 6 = .ok (.invokespecial 9, 3) := dk_183 0 9 (dk_at dksX3_init_0 6 rfl rfl)
theorem dX3_init_9 : decode cX3_init 9 = .ok (.aload_n 0, 1) := dk_42 (dk_at dksX3_init_0 9 rfl rfl)
theorem dX3_init_10 : decode cX3_init 10 = .ok (.new 15, 3) := dk_187 0 15 (dk_at dksX3_init_0 10 rfl rfl)
theorem dX3_init_13 : decode cX3_init 13 = .ok (.dup, 1) := dk_89 (dk_at dksX3_init_0 13 rfl rfl)
theorem dX3_init_14 : decode cX3_init 14 = .ok (.invokespecial 17, 3) := dk_183 0 17 (dk_at dksX3_init_0 14 rfl rfl)
theorem dX3_init_17 : decode cX3_init 17 = .ok (.putfield 18, 3) := dk_181 0 18 (dk_at dksX3_init_0 17 rfl rfl)
theorem dX3_init_20 : decode cX3_init 20 = .ok (.return_, 1) := dk_177 (dk_at dksX3_init_0 20 rfl rfl)
abbrev cX3_all : ByteArray := prog_9_method_10_code
def yX3_all : MethodName := ⟨RX3, "all", "()LAheadRows$Reader;"⟩
def dkwX3_all_3 : List UInt8 := [180, 0, 3, 180, 0, 26, 162, 0, 7, 4, 167, 0, 4, 3, 128, 181, 0, 33, 42, 176]
abbrev dktX3_all_3 : List UInt8 := dkwX3_all_3 ++ []
def dkwX3_all_2 : List UInt8 := [153, 0, 7, 4, 167, 0, 4, 3, 60, 167, 255, 204, 42, 89, 180, 0, 33, 42, 180, 0, 22, 42]
abbrev dktX3_all_2 : List UInt8 := dkwX3_all_2 ++ dktX3_all_3
def dkwX3_all_1 : List UInt8 := [182, 0, 99, 87, 42, 180, 0, 18, 182, 0, 52, 16, 8, 162, 0, 16, 42, 16, 59, 182, 0, 55]
abbrev dktX3_all_1 : List UInt8 := dkwX3_all_1 ++ dktX3_all_2
def dkwX3_all_0 : List UInt8 := [4, 60, 27, 153, 0, 54, 42, 182, 0, 96, 77, 42, 180, 0, 33, 154, 0, 12, 42, 180, 0, 18, 44]
abbrev dktX3_all_0 : List UInt8 := dkwX3_all_0 ++ dktX3_all_1
theorem dksX3_all_0 : cX3_all.data.toList.drop 0 = dktX3_all_0 := by decide +kernel
theorem dksX3_all_1 : cX3_all.data.toList.drop 23 = dktX3_all_1 := dk_seg dksX3_all_0 23 rfl rfl
theorem dksX3_all_2 : cX3_all.data.toList.drop 45 = dktX3_all_2 := dk_seg dksX3_all_1 22 rfl rfl
theorem dksX3_all_3 : cX3_all.data.toList.drop 67 = dktX3_all_3 := dk_seg dksX3_all_2 22 rfl rfl
theorem dX3_all_0 : decode cX3_all 0 = .ok (.iconst 1, 1) := dk_4 (dk_at dksX3_all_0 0 rfl rfl)
theorem dX3_all_1 : decode cX3_all 1 = .ok (.istore_n 1, 1) := dk_60 (dk_at dksX3_all_0 1 rfl rfl)
theorem dX3_all_2 : decode cX3_all 2 = .ok (.iload_n 1, 1) := dk_27 (dk_at dksX3_all_0 2 rfl rfl)
theorem dX3_all_3 : decode cX3_all 3 = .ok (.ifCond .eq 54, 3) := dk_153 0 54 (dk_at dksX3_all_0 3 rfl rfl)
theorem dX3_all_6 : decode cX3_all 6 = .ok (.aload_n 0, 1) := dk_42 (dk_at dksX3_all_0 6 rfl rfl)
theorem dX3_all_7 : decode cX3_all 7 = .ok (.invokevirtual 96, 3) := dk_182 0 96 (dk_at dksX3_all_0 7 rfl rfl)
theorem dX3_all_10 : decode cX3_all 10 = .ok (.astore_n 2, 1) := dk_77 (dk_at dksX3_all_0 10 rfl rfl)
theorem dX3_all_11 : decode cX3_all 11 = .ok (.aload_n 0, 1) := dk_42 (dk_at dksX3_all_0 11 rfl rfl)
theorem dX3_all_12 : decode cX3_all 12 = .ok (.getfield 33, 3) := dk_180 0 33 (dk_at dksX3_all_0 12 rfl rfl)
theorem dX3_all_15 : decode cX3_all 15 = .ok (.ifCond .ne 12, 3) := dk_154 0 12 (dk_at dksX3_all_0 15 rfl rfl)
theorem dX3_all_18 : decode cX3_all 18 = .ok (.aload_n 0, 1) := dk_42 (dk_at dksX3_all_0 18 rfl rfl)
theorem dX3_all_19 : decode cX3_all 19 = .ok (.getfield 18, 3) := dk_180 0 18 (dk_at dksX3_all_0 19 rfl rfl)
theorem dX3_all_22 : decode cX3_all 22 = .ok (.aload_n 2, 1) := dk_44 (dk_at dksX3_all_0 22 rfl rfl)
theorem dX3_all_23 : decode cX3_all 23 = .ok (.invokevirtual 99, 3) := dk_182 0 99 (dk_at dksX3_all_1 0 rfl rfl)
theorem dX3_all_26 : decode cX3_all 26 = .ok (.pop, 1) := dk_87 (dk_at dksX3_all_1 3 rfl rfl)
theorem dX3_all_27 : decode cX3_all 27 = .ok (.aload_n 0, 1) := dk_42 (dk_at dksX3_all_1 4 rfl rfl)
theorem dX3_all_28 : decode cX3_all 28 = .ok (.getfield 18, 3) := dk_180 0 18 (dk_at dksX3_all_1 5 rfl rfl)
theorem dX3_all_31 : decode cX3_all 31 = .ok (.invokevirtual 52, 3) := dk_182 0 52 (dk_at dksX3_all_1 8 rfl rfl)
theorem dX3_all_34 : decode cX3_all 34 = .ok (.bipush 8, 2) := dk_16 8 (dk_at dksX3_all_1 11 rfl rfl)
theorem dX3_all_36 : decode cX3_all 36 = .ok (.if_icmp .ge 16, 3) := dk_162 0 16 (dk_at dksX3_all_1 13 rfl rfl)
theorem dX3_all_39 : decode cX3_all 39 = .ok (.aload_n 0, 1) := dk_42 (dk_at dksX3_all_1 16 rfl rfl)
theorem dX3_all_40 : decode cX3_all 40 = .ok (.bipush 59, 2) := dk_16 59 (dk_at dksX3_all_1 17 rfl rfl)
theorem dX3_all_42 : decode cX3_all 42 = .ok (.invokevirtual 55, 3) := dk_182 0 55 (dk_at dksX3_all_1 19 rfl rfl)
theorem dX3_all_45 : decode cX3_all 45 = .ok (.ifCond .eq 7, 3) := dk_153 0 7 (dk_at dksX3_all_2 0 rfl rfl)
theorem dX3_all_48 : decode cX3_all 48 = .ok (.iconst 1, 1) := dk_4 (dk_at dksX3_all_2 3 rfl rfl)
theorem dX3_all_49 : decode cX3_all 49 = .ok (.goto 4, 3) := dk_167 0 4 (dk_at dksX3_all_2 4 rfl rfl)
theorem dX3_all_52 : decode cX3_all 52 = .ok (.iconst 0, 1) := dk_3 (dk_at dksX3_all_2 7 rfl rfl)
theorem dX3_all_53 : decode cX3_all 53 = .ok (.istore_n 1, 1) := dk_60 (dk_at dksX3_all_2 8 rfl rfl)
theorem dX3_all_54 : decode cX3_all 54 = .ok (.goto (-52), 3) := dk_167 255 204 (dk_at dksX3_all_2 9 rfl rfl)
theorem dX3_all_57 : decode cX3_all 57 = .ok (.aload_n 0, 1) := dk_42 (dk_at dksX3_all_2 12 rfl rfl)
theorem dX3_all_58 : decode cX3_all 58 = .ok (.dup, 1) := dk_89 (dk_at dksX3_all_2 13 rfl rfl)
theorem dX3_all_59 : decode cX3_all 59 = .ok (.getfield 33, 3) := dk_180 0 33 (dk_at dksX3_all_2 14 rfl rfl)
theorem dX3_all_62 : decode cX3_all 62 = .ok (.aload_n 0, 1) := dk_42 (dk_at dksX3_all_2 17 rfl rfl)
theorem dX3_all_63 : decode cX3_all 63 = .ok (.getfield 22, 3) := dk_180 0 22 (dk_at dksX3_all_2 18 rfl rfl)
theorem dX3_all_66 : decode cX3_all 66 = .ok (.aload_n 0, 1) := dk_42 (dk_at dksX3_all_2 21 rfl rfl)
theorem dX3_all_67 : decode cX3_all 67 = .ok (.getfield 3, 3) := dk_180 0 3 (dk_at dksX3_all_3 0 rfl rfl)
theorem dX3_all_70 : decode cX3_all 70 = .ok (.getfield 26, 3) := dk_180 0 26 (dk_at dksX3_all_3 3 rfl rfl)
theorem dX3_all_73 : decode cX3_all 73 = .ok (.if_icmp .ge 7, 3) := dk_162 0 7 (dk_at dksX3_all_3 6 rfl rfl)
theorem dX3_all_76 : decode cX3_all 76 = .ok (.iconst 1, 1) := dk_4 (dk_at dksX3_all_3 9 rfl rfl)
theorem dX3_all_77 : decode cX3_all 77 = .ok (.goto 4, 3) := dk_167 0 4 (dk_at dksX3_all_3 10 rfl rfl)
theorem dX3_all_80 : decode cX3_all 80 = .ok (.iconst 0, 1) := dk_3 (dk_at dksX3_all_3 13 rfl rfl)
theorem dX3_all_81 : decode cX3_all 81 = .ok (.ior, 1) := dk_128 (dk_at dksX3_all_3 14 rfl rfl)
theorem dX3_all_82 : decode cX3_all 82 = .ok (.putfield 33, 3) := dk_181 0 33 (dk_at dksX3_all_3 15 rfl rfl)
theorem dX3_all_85 : decode cX3_all 85 = .ok (.aload_n 0, 1) := dk_42 (dk_at dksX3_all_3 18 rfl rfl)
theorem dX3_all_86 : decode cX3_all 86 = .ok (.areturn, 1) := dk_176 (dk_at dksX3_all_3 19 rfl rfl)
abbrev cX3_one : ByteArray := prog_9_method_8_code
def yX3_one : MethodName := ⟨RX3, "one", "()LAheadRows$Row;"⟩
def dkwX3_one_2 : List UInt8 := [153, 0, 10, 42, 4, 181, 0, 33, 1, 176, 42, 182, 0, 71, 176]
abbrev dktX3_one_2 : List UInt8 := dkwX3_one_2 ++ []
def dkwX3_one_1 : List UInt8 := [187, 0, 62, 89, 27, 28, 29, 42, 182, 0, 59, 183, 0, 64, 176, 42, 180, 0, 18, 182, 0, 67]
abbrev dktX3_one_1 : List UInt8 := dkwX3_one_1 ++ dktX3_one_2
def dkwX3_one_0 : List UInt8 := [42, 16, 116, 182, 0, 55, 153, 0, 33, 42, 182, 0, 59, 60, 42, 182, 0, 59, 61, 42, 182, 0, 59, 62]
abbrev dktX3_one_0 : List UInt8 := dkwX3_one_0 ++ dktX3_one_1
theorem dksX3_one_0 : cX3_one.data.toList.drop 0 = dktX3_one_0 := by decide +kernel
theorem dksX3_one_1 : cX3_one.data.toList.drop 24 = dktX3_one_1 := dk_seg dksX3_one_0 24 rfl rfl
theorem dksX3_one_2 : cX3_one.data.toList.drop 46 = dktX3_one_2 := dk_seg dksX3_one_1 22 rfl rfl
theorem dX3_one_0 : decode cX3_one 0 = .ok (.aload_n 0, 1) := dk_42 (dk_at dksX3_one_0 0 rfl rfl)
theorem dX3_one_1 : decode cX3_one 1 = .ok (.bipush 116, 2) := dk_16 116 (dk_at dksX3_one_0 1 rfl rfl)
theorem dX3_one_3 : decode cX3_one 3 = .ok (.invokevirtual 55, 3) := dk_182 0 55 (dk_at dksX3_one_0 3 rfl rfl)
theorem dX3_one_6 : decode cX3_one 6 = .ok (.ifCond .eq 33, 3) := dk_153 0 33 (dk_at dksX3_one_0 6 rfl rfl)
theorem dX3_one_9 : decode cX3_one 9 = .ok (.aload_n 0, 1) := dk_42 (dk_at dksX3_one_0 9 rfl rfl)
theorem dX3_one_10 : decode cX3_one 10 = .ok (.invokevirtual 59, 3) := dk_182 0 59 (dk_at dksX3_one_0 10 rfl rfl)
theorem dX3_one_13 : decode cX3_one 13 = .ok (.istore_n 1, 1) := dk_60 (dk_at dksX3_one_0 13 rfl rfl)
theorem dX3_one_14 : decode cX3_one 14 = .ok (.aload_n 0, 1) := dk_42 (dk_at dksX3_one_0 14 rfl rfl)
theorem dX3_one_15 : decode cX3_one 15 = .ok (.invokevirtual 59, 3) := dk_182 0 59 (dk_at dksX3_one_0 15 rfl rfl)
theorem dX3_one_18 : decode cX3_one 18 = .ok (.istore_n 2, 1) := dk_61 (dk_at dksX3_one_0 18 rfl rfl)
theorem dX3_one_19 : decode cX3_one 19 = .ok (.aload_n 0, 1) := dk_42 (dk_at dksX3_one_0 19 rfl rfl)
theorem dX3_one_20 : decode cX3_one 20 = .ok (.invokevirtual 59, 3) := dk_182 0 59 (dk_at dksX3_one_0 20 rfl rfl)
theorem dX3_one_23 : decode cX3_one 23 = .ok (.istore_n 3, 1) := dk_62 (dk_at dksX3_one_0 23 rfl rfl)
theorem dX3_one_24 : decode cX3_one 24 = .ok (.new 62, 3) := dk_187 0 62 (dk_at dksX3_one_1 0 rfl rfl)
theorem dX3_one_27 : decode cX3_one 27 = .ok (.dup, 1) := dk_89 (dk_at dksX3_one_1 3 rfl rfl)
theorem dX3_one_28 : decode cX3_one 28 = .ok (.iload_n 1, 1) := dk_27 (dk_at dksX3_one_1 4 rfl rfl)
theorem dX3_one_29 : decode cX3_one 29 = .ok (.iload_n 2, 1) := dk_28 (dk_at dksX3_one_1 5 rfl rfl)
theorem dX3_one_30 : decode cX3_one 30 = .ok (.iload_n 3, 1) := dk_29 (dk_at dksX3_one_1 6 rfl rfl)
theorem dX3_one_31 : decode cX3_one 31 = .ok (.aload_n 0, 1) := dk_42 (dk_at dksX3_one_1 7 rfl rfl)
theorem dX3_one_32 : decode cX3_one 32 = .ok (.invokevirtual 59, 3) := dk_182 0 59 (dk_at dksX3_one_1 8 rfl rfl)
theorem dX3_one_35 : decode cX3_one 35 = .ok (.invokespecial 64, 3) := dk_183 0 64 (dk_at dksX3_one_1 11 rfl rfl)
theorem dX3_one_38 : decode cX3_one 38 = .ok (.areturn, 1) := dk_176 (dk_at dksX3_one_1 14 rfl rfl)
theorem dX3_one_39 : decode cX3_one 39 = .ok (.aload_n 0, 1) := dk_42 (dk_at dksX3_one_1 15 rfl rfl)
theorem dX3_one_40 : decode cX3_one 40 = .ok (.getfield 18, 3) := dk_180 0 18 (dk_at dksX3_one_1 16 rfl rfl)
theorem dX3_one_43 : decode cX3_one 43 = .ok (.invokevirtual 67, 3) := dk_182 0 67 (dk_at dksX3_one_1 19 rfl rfl)
theorem dX3_one_46 : decode cX3_one 46 = .ok (.ifCond .eq 10, 3) := dk_153 0 10 (dk_at dksX3_one_2 0 rfl rfl)
theorem dX3_one_49 : decode cX3_one 49 = .ok (.aload_n 0, 1) := dk_42 (dk_at dksX3_one_2 3 rfl rfl)
theorem dX3_one_50 : decode cX3_one 50 = .ok (.iconst 1, 1) := dk_4 (dk_at dksX3_one_2 4 rfl rfl)
theorem dX3_one_51 : decode cX3_one 51 = .ok (.putfield 33, 3) := dk_181 0 33 (dk_at dksX3_one_2 5 rfl rfl)
theorem dX3_one_54 : decode cX3_one 54 = .ok (.aconst_null, 1) := dk_1 (dk_at dksX3_one_2 8 rfl rfl)
theorem dX3_one_55 : decode cX3_one 55 = .ok (.areturn, 1) := dk_176 (dk_at dksX3_one_2 9 rfl rfl)
theorem dX3_one_56 : decode cX3_one 56 = .ok (.aload_n 0, 1) := dk_42 (dk_at dksX3_one_2 10 rfl rfl)
theorem dX3_one_57 : decode cX3_one 57 = .ok (.invokevirtual 71, 3) := dk_182 0 71 (dk_at dksX3_one_2 11 rfl rfl)
theorem dX3_one_60 : decode cX3_one 60 = .ok (.areturn, 1) := dk_176 (dk_at dksX3_one_2 14 rfl rfl)
abbrev cX3_takes : ByteArray := prog_9_method_3_code
def yX3_takes : MethodName := ⟨RX3, "takes", "(C)Z"⟩
def dkwX3_takes_1 : List UInt8 := [180, 0, 22, 28, 153, 0, 7, 4, 167, 0, 4, 3, 96, 181, 0, 22, 28, 172]
abbrev dktX3_takes_1 : List UInt8 := dkwX3_takes_1 ++ []
def dkwX3_takes_0 : List UInt8 := [42, 180, 0, 33, 154, 0, 15, 42, 182, 0, 37, 27, 160, 0, 7, 4, 167, 0, 4, 3, 61, 42, 89]
abbrev dktX3_takes_0 : List UInt8 := dkwX3_takes_0 ++ dktX3_takes_1
theorem dksX3_takes_0 : cX3_takes.data.toList.drop 0 = dktX3_takes_0 := by decide +kernel
theorem dksX3_takes_1 : cX3_takes.data.toList.drop 23 = dktX3_takes_1 := dk_seg dksX3_takes_0 23 rfl rfl
theorem dX3_takes_0 : decode cX3_takes 0 = .ok (.aload_n 0, 1) := dk_42 (dk_at dksX3_takes_0 0 rfl rfl)
theorem dX3_takes_1 : decode cX3_takes 1 = .ok (.getfield 33, 3) := dk_180 0 33 (dk_at dksX3_takes_0 1 rfl rfl)
theorem dX3_takes_4 : decode cX3_takes 4 = .ok (.ifCond .ne 15, 3) := dk_154 0 15 (dk_at dksX3_takes_0 4 rfl rfl)
theorem dX3_takes_7 : decode cX3_takes 7 = .ok (.aload_n 0, 1) := dk_42 (dk_at dksX3_takes_0 7 rfl rfl)
theorem dX3_takes_8 : decode cX3_takes 8 = .ok (.invokevirtual 37, 3) := dk_182 0 37 (dk_at dksX3_takes_0 8 rfl rfl)
theorem dX3_takes_11 : decode cX3_takes 11 = .ok (.iload_n 1, 1) := dk_27 (dk_at dksX3_takes_0 11 rfl rfl)
theorem dX3_takes_12 : decode cX3_takes 12 = .ok (.if_icmp .ne 7, 3) := dk_160 0 7 (dk_at dksX3_takes_0 12 rfl rfl)
theorem dX3_takes_15 : decode cX3_takes 15 = .ok (.iconst 1, 1) := dk_4 (dk_at dksX3_takes_0 15 rfl rfl)
theorem dX3_takes_16 : decode cX3_takes 16 = .ok (.goto 4, 3) := dk_167 0 4 (dk_at dksX3_takes_0 16 rfl rfl)
theorem dX3_takes_19 : decode cX3_takes 19 = .ok (.iconst 0, 1) := dk_3 (dk_at dksX3_takes_0 19 rfl rfl)
theorem dX3_takes_20 : decode cX3_takes 20 = .ok (.istore_n 2, 1) := dk_61 (dk_at dksX3_takes_0 20 rfl rfl)
theorem dX3_takes_21 : decode cX3_takes 21 = .ok (.aload_n 0, 1) := dk_42 (dk_at dksX3_takes_0 21 rfl rfl)
theorem dX3_takes_22 : decode cX3_takes 22 = .ok (.dup, 1) := dk_89 (dk_at dksX3_takes_0 22 rfl rfl)
theorem dX3_takes_23 : decode cX3_takes 23 = .ok (.getfield 22, 3) := dk_180 0 22 (dk_at dksX3_takes_1 0 rfl rfl)
theorem dX3_takes_26 : decode cX3_takes 26 = .ok (.iload_n 2, 1) := dk_28 (dk_at dksX3_takes_1 3 rfl rfl)
theorem dX3_takes_27 : decode cX3_takes 27 = .ok (.ifCond .eq 7, 3) := dk_153 0 7 (dk_at dksX3_takes_1 4 rfl rfl)
theorem dX3_takes_30 : decode cX3_takes 30 = .ok (.iconst 1, 1) := dk_4 (dk_at dksX3_takes_1 7 rfl rfl)
theorem dX3_takes_31 : decode cX3_takes 31 = .ok (.goto 4, 3) := dk_167 0 4 (dk_at dksX3_takes_1 8 rfl rfl)
theorem dX3_takes_34 : decode cX3_takes 34 = .ok (.iconst 0, 1) := dk_3 (dk_at dksX3_takes_1 11 rfl rfl)
theorem dX3_takes_35 : decode cX3_takes 35 = .ok (.iadd, 1) := dk_96 (dk_at dksX3_takes_1 12 rfl rfl)
theorem dX3_takes_36 : decode cX3_takes 36 = .ok (.putfield 22, 3) := dk_181 0 22 (dk_at dksX3_takes_1 13 rfl rfl)
theorem dX3_takes_39 : decode cX3_takes 39 = .ok (.iload_n 2, 1) := dk_28 (dk_at dksX3_takes_1 16 rfl rfl)
theorem dX3_takes_40 : decode cX3_takes 40 = .ok (.ireturn, 1) := dk_172 (dk_at dksX3_takes_1 17 rfl rfl)
abbrev cX3_next : ByteArray := prog_9_method_2_code
def yX3_next : MethodName := ⟨RX3, "next", "()I"⟩
def dkwX3_next_1 : List UInt8 := [180, 0, 22, 51, 167, 0, 4, 3, 172]
abbrev dktX3_next_1 : List UInt8 := dkwX3_next_1 ++ []
def dkwX3_next_0 : List UInt8 := [42, 180, 0, 22, 42, 180, 0, 3, 180, 0, 26, 162, 0, 18, 42, 180, 0, 3, 180, 0, 29, 42]
abbrev dktX3_next_0 : List UInt8 := dkwX3_next_0 ++ dktX3_next_1
theorem dksX3_next_0 : cX3_next.data.toList.drop 0 = dktX3_next_0 := by decide +kernel
theorem dksX3_next_1 : cX3_next.data.toList.drop 22 = dktX3_next_1 := dk_seg dksX3_next_0 22 rfl rfl
theorem dX3_next_0 : decode cX3_next 0 = .ok (.aload_n 0, 1) := dk_42 (dk_at dksX3_next_0 0 rfl rfl)
theorem dX3_next_1 : decode cX3_next 1 = .ok (.getfield 22, 3) := dk_180 0 22 (dk_at dksX3_next_0 1 rfl rfl)
theorem dX3_next_4 : decode cX3_next 4 = .ok (.aload_n 0, 1) := dk_42 (dk_at dksX3_next_0 4 rfl rfl)
theorem dX3_next_5 : decode cX3_next 5 = .ok (.getfield 3, 3) := dk_180 0 3 (dk_at dksX3_next_0 5 rfl rfl)
theorem dX3_next_8 : decode cX3_next 8 = .ok (.getfield 26, 3) := dk_180 0 26 (dk_at dksX3_next_0 8 rfl rfl)
theorem dX3_next_11 : decode cX3_next 11 = .ok (.if_icmp .ge 18, 3) := dk_162 0 18 (dk_at dksX3_next_0 11 rfl rfl)
theorem dX3_next_14 : decode cX3_next 14 = .ok (.aload_n 0, 1) := dk_42 (dk_at dksX3_next_0 14 rfl rfl)
theorem dX3_next_15 : decode cX3_next 15 = .ok (.getfield 3, 3) := dk_180 0 3 (dk_at dksX3_next_0 15 rfl rfl)
theorem dX3_next_18 : decode cX3_next 18 = .ok (.getfield 29, 3) := dk_180 0 29 (dk_at dksX3_next_0 18 rfl rfl)
theorem dX3_next_21 : decode cX3_next 21 = .ok (.aload_n 0, 1) := dk_42 (dk_at dksX3_next_0 21 rfl rfl)
theorem dX3_next_22 : decode cX3_next 22 = .ok (.getfield 22, 3) := dk_180 0 22 (dk_at dksX3_next_1 0 rfl rfl)
theorem dX3_next_25 : decode cX3_next 25 = .ok (.baload, 1) := dk_51 (dk_at dksX3_next_1 3 rfl rfl)
theorem dX3_next_26 : decode cX3_next 26 = .ok (.goto 4, 3) := dk_167 0 4 (dk_at dksX3_next_1 4 rfl rfl)
theorem dX3_next_29 : decode cX3_next 29 = .ok (.iconst 0, 1) := dk_3 (dk_at dksX3_next_1 7 rfl rfl)
theorem dX3_next_30 : decode cX3_next 30 = .ok (.ireturn, 1) := dk_172 (dk_at dksX3_next_1 8 rfl rfl)
abbrev cX3_sign : ByteArray := prog_9_method_5_code
def yX3_sign : MethodName := ⟨RX3, "sign", "()I"⟩
def dkwX3_sign_1 : List UInt8 := [182, 0, 45, 167, 0, 10, 42, 3, 16, 9, 182, 0, 48, 172]
abbrev dktX3_sign_1 : List UInt8 := dkwX3_sign_1 ++ []
def dkwX3_sign_0 : List UInt8 := [42, 182, 0, 37, 16, 97, 16, 105, 184, 0, 41, 153, 0, 17, 42, 180, 0, 33, 154, 0, 10, 42]
abbrev dktX3_sign_0 : List UInt8 := dkwX3_sign_0 ++ dktX3_sign_1
theorem dksX3_sign_0 : cX3_sign.data.toList.drop 0 = dktX3_sign_0 := by decide +kernel
theorem dksX3_sign_1 : cX3_sign.data.toList.drop 22 = dktX3_sign_1 := dk_seg dksX3_sign_0 22 rfl rfl
theorem dX3_sign_0 : decode cX3_sign 0 = .ok (.aload_n 0, 1) := dk_42 (dk_at dksX3_sign_0 0 rfl rfl)
theorem dX3_sign_1 : decode cX3_sign 1 = .ok (.invokevirtual 37, 3) := dk_182 0 37 (dk_at dksX3_sign_0 1 rfl rfl)
theorem dX3_sign_4 : decode cX3_sign 4 = .ok (.bipush 97, 2) := dk_16 97 (dk_at dksX3_sign_0 4 rfl rfl)
theorem dX3_sign_6 : decode cX3_sign 6 = .ok (.bipush 105, 2) := dk_16 105 (dk_at dksX3_sign_0 6 rfl rfl)
theorem dX3_sign_8 : decode cX3_sign 8 = .ok (.invokestatic 41, 3) := dk_184 0 41 (dk_at dksX3_sign_0 8 rfl rfl)
theorem dX3_sign_11 : decode cX3_sign 11 = .ok (.ifCond .eq 17, 3) := dk_153 0 17 (dk_at dksX3_sign_0 11 rfl rfl)
theorem dX3_sign_14 : decode cX3_sign 14 = .ok (.aload_n 0, 1) := dk_42 (dk_at dksX3_sign_0 14 rfl rfl)
theorem dX3_sign_15 : decode cX3_sign 15 = .ok (.getfield 33, 3) := dk_180 0 33 (dk_at dksX3_sign_0 15 rfl rfl)
theorem dX3_sign_18 : decode cX3_sign 18 = .ok (.ifCond .ne 10, 3) := dk_154 0 10 (dk_at dksX3_sign_0 18 rfl rfl)
theorem dX3_sign_21 : decode cX3_sign 21 = .ok (.aload_n 0, 1) := dk_42 (dk_at dksX3_sign_0 21 rfl rfl)
theorem dX3_sign_22 : decode cX3_sign 22 = .ok (.invokevirtual 45, 3) := dk_182 0 45 (dk_at dksX3_sign_1 0 rfl rfl)
theorem dX3_sign_25 : decode cX3_sign 25 = .ok (.goto 10, 3) := dk_167 0 10 (dk_at dksX3_sign_1 3 rfl rfl)
theorem dX3_sign_28 : decode cX3_sign 28 = .ok (.aload_n 0, 1) := dk_42 (dk_at dksX3_sign_1 6 rfl rfl)
theorem dX3_sign_29 : decode cX3_sign 29 = .ok (.iconst 0, 1) := dk_3 (dk_at dksX3_sign_1 7 rfl rfl)
theorem dX3_sign_30 : decode cX3_sign 30 = .ok (.bipush 9, 2) := dk_16 9 (dk_at dksX3_sign_1 8 rfl rfl)
theorem dX3_sign_32 : decode cX3_sign 32 = .ok (.invokevirtual 48, 3) := dk_182 0 48 (dk_at dksX3_sign_1 10 rfl rfl)
theorem dX3_sign_35 : decode cX3_sign 35 = .ok (.ireturn, 1) := dk_172 (dk_at dksX3_sign_1 13 rfl rfl)
abbrev cX3_below : ByteArray := prog_9_method_6_code
def yX3_below : MethodName := ⟨RX3, "below", "()I"⟩
def dkwX3_below_1 : List UInt8 := [100, 51, 100, 172]
abbrev dktX3_below_1 : List UInt8 := dkwX3_below_1 ++ []
def dkwX3_below_0 : List UInt8 := [42, 89, 180, 0, 22, 4, 96, 181, 0, 22, 16, 96, 42, 180, 0, 3, 180, 0, 29, 42, 180, 0, 22, 4]
abbrev dktX3_below_0 : List UInt8 := dkwX3_below_0 ++ dktX3_below_1
theorem dksX3_below_0 : cX3_below.data.toList.drop 0 = dktX3_below_0 := by decide +kernel
theorem dksX3_below_1 : cX3_below.data.toList.drop 24 = dktX3_below_1 := dk_seg dksX3_below_0 24 rfl rfl
theorem dX3_below_0 : decode cX3_below 0 = .ok (.aload_n 0, 1) := dk_42 (dk_at dksX3_below_0 0 rfl rfl)
theorem dX3_below_1 : decode cX3_below 1 = .ok (.dup, 1) := dk_89 (dk_at dksX3_below_0 1 rfl rfl)
theorem dX3_below_2 : decode cX3_below 2 = .ok (.getfield 22, 3) := dk_180 0 22 (dk_at dksX3_below_0 2 rfl rfl)
theorem dX3_below_5 : decode cX3_below 5 = .ok (.iconst 1, 1) := dk_4 (dk_at dksX3_below_0 5 rfl rfl)
theorem dX3_below_6 : decode cX3_below 6 = .ok (.iadd, 1) := dk_96 (dk_at dksX3_below_0 6 rfl rfl)
theorem dX3_below_7 : decode cX3_below 7 = .ok (.putfield 22, 3) := dk_181 0 22 (dk_at dksX3_below_0 7 rfl rfl)
theorem dX3_below_10 : decode cX3_below 10 = .ok (.bipush 96, 2) := dk_16 96 (dk_at dksX3_below_0 10 rfl rfl)
theorem dX3_below_12 : decode cX3_below 12 = .ok (.aload_n 0, 1) := dk_42 (dk_at dksX3_below_0 12 rfl rfl)
theorem dX3_below_13 : decode cX3_below 13 = .ok (.getfield 3, 3) := dk_180 0 3 (dk_at dksX3_below_0 13 rfl rfl)
theorem dX3_below_16 : decode cX3_below 16 = .ok (.getfield 29, 3) := dk_180 0 29 (dk_at dksX3_below_0 16 rfl rfl)
theorem dX3_below_19 : decode cX3_below 19 = .ok (.aload_n 0, 1) := dk_42 (dk_at dksX3_below_0 19 rfl rfl)
theorem dX3_below_20 : decode cX3_below 20 = .ok (.getfield 22, 3) := dk_180 0 22 (dk_at dksX3_below_0 20 rfl rfl)
theorem dX3_below_23 : decode cX3_below 23 = .ok (.iconst 1, 1) := dk_4 (dk_at dksX3_below_0 23 rfl rfl)
theorem dX3_below_24 : decode cX3_below 24 = .ok (.isub, 1) := dk_100 (dk_at dksX3_below_1 0 rfl rfl)
theorem dX3_below_25 : decode cX3_below 25 = .ok (.baload, 1) := dk_51 (dk_at dksX3_below_1 1 rfl rfl)
theorem dX3_below_26 : decode cX3_below 26 = .ok (.isub, 1) := dk_100 (dk_at dksX3_below_1 2 rfl rfl)
theorem dX3_below_27 : decode cX3_below 27 = .ok (.ireturn, 1) := dk_172 (dk_at dksX3_below_1 3 rfl rfl)
abbrev cX3_digit : ByteArray := prog_9_method_4_code
def yX3_digit : MethodName := ⟨RX3, "digit", "(II)I"⟩
def dkwX3_digit_3 : List UInt8 := [180, 0, 22, 4, 100, 51, 16, 48, 100, 172]
abbrev dktX3_digit_3 : List UInt8 := dkwX3_digit_3 ++ []
def dkwX3_digit_2 : List UInt8 := [181, 0, 22, 42, 180, 0, 33, 153, 0, 7, 3, 167, 0, 20, 42, 180, 0, 3, 180, 0, 29, 42]
abbrev dktX3_digit_2 : List UInt8 := dkwX3_digit_2 ++ dktX3_digit_3
def dkwX3_digit_1 : List UInt8 := [3, 128, 181, 0, 33, 42, 89, 180, 0, 22, 42, 180, 0, 33, 153, 0, 7, 3, 167, 0, 4, 4, 96]
abbrev dktX3_digit_1 : List UInt8 := dkwX3_digit_1 ++ dktX3_digit_2
def dkwX3_digit_0 : List UInt8 := [42, 89, 180, 0, 33, 42, 182, 0, 37, 16, 48, 100, 27, 28, 184, 0, 41, 154, 0, 7, 4, 167, 0, 4]
abbrev dktX3_digit_0 : List UInt8 := dkwX3_digit_0 ++ dktX3_digit_1
theorem dksX3_digit_0 : cX3_digit.data.toList.drop 0 = dktX3_digit_0 := by decide +kernel
theorem dksX3_digit_1 : cX3_digit.data.toList.drop 24 = dktX3_digit_1 := dk_seg dksX3_digit_0 24 rfl rfl
theorem dksX3_digit_2 : cX3_digit.data.toList.drop 47 = dktX3_digit_2 := dk_seg dksX3_digit_1 23 rfl rfl
theorem dksX3_digit_3 : cX3_digit.data.toList.drop 69 = dktX3_digit_3 := dk_seg dksX3_digit_2 22 rfl rfl
theorem dX3_digit_0 : decode cX3_digit 0 = .ok (.aload_n 0, 1) := dk_42 (dk_at dksX3_digit_0 0 rfl rfl)
theorem dX3_digit_1 : decode cX3_digit 1 = .ok (.dup, 1) := dk_89 (dk_at dksX3_digit_0 1 rfl rfl)
theorem dX3_digit_2 : decode cX3_digit 2 = .ok (.getfield 33, 3) := dk_180 0 33 (dk_at dksX3_digit_0 2 rfl rfl)
theorem dX3_digit_5 : decode cX3_digit 5 = .ok (.aload_n 0, 1) := dk_42 (dk_at dksX3_digit_0 5 rfl rfl)
theorem dX3_digit_6 : decode cX3_digit 6 = .ok (.invokevirtual 37, 3) := dk_182 0 37 (dk_at dksX3_digit_0 6 rfl rfl)
theorem dX3_digit_9 : decode cX3_digit 9 = .ok (.bipush 48, 2) := dk_16 48 (dk_at dksX3_digit_0 9 rfl rfl)
theorem dX3_digit_11 : decode cX3_digit 11 = .ok (.isub, 1) := dk_100 (dk_at dksX3_digit_0 11 rfl rfl)
theorem dX3_digit_12 : decode cX3_digit 12 = .ok (.iload_n 1, 1) := dk_27 (dk_at dksX3_digit_0 12 rfl rfl)
theorem dX3_digit_13 : decode cX3_digit 13 = .ok (.iload_n 2, 1) := dk_28 (dk_at dksX3_digit_0 13 rfl rfl)
theorem dX3_digit_14 : decode cX3_digit 14 = .ok (.invokestatic 41, 3) := dk_184 0 41 (dk_at dksX3_digit_0 14 rfl rfl)
theorem dX3_digit_17 : decode cX3_digit 17 = .ok (.ifCond .ne 7, 3) := dk_154 0 7 (dk_at dksX3_digit_0 17 rfl rfl)
theorem dX3_digit_20 : decode cX3_digit 20 = .ok (.iconst 1, 1) := dk_4 (dk_at dksX3_digit_0 20 rfl rfl)
theorem dX3_digit_21 : decode cX3_digit 21 = .ok (.goto 4, 3) := dk_167 0 4 (dk_at dksX3_digit_0 21 rfl rfl)
theorem dX3_digit_24 : decode cX3_digit 24 = .ok (.iconst 0, 1) := dk_3 (dk_at dksX3_digit_1 0 rfl rfl)
theorem dX3_digit_25 : decode cX3_digit 25 = .ok (.ior, 1) := dk_128 (dk_at dksX3_digit_1 1 rfl rfl)
theorem dX3_digit_26 : decode cX3_digit 26 = .ok (.putfield 33, 3) := dk_181 0 33 (dk_at dksX3_digit_1 2 rfl rfl)
theorem dX3_digit_29 : decode cX3_digit 29 = .ok (.aload_n 0, 1) := dk_42 (dk_at dksX3_digit_1 5 rfl rfl)
theorem dX3_digit_30 : decode cX3_digit 30 = .ok (.dup, 1) := dk_89 (dk_at dksX3_digit_1 6 rfl rfl)
theorem dX3_digit_31 : decode cX3_digit 31 = .ok (.getfield 22, 3) := dk_180 0 22 (dk_at dksX3_digit_1 7 rfl rfl)
theorem dX3_digit_34 : decode cX3_digit 34 = .ok (.aload_n 0, 1) := dk_42 (dk_at dksX3_digit_1 10 rfl rfl)
theorem dX3_digit_35 : decode cX3_digit 35 = .ok (.getfield 33, 3) := dk_180 0 33 (dk_at dksX3_digit_1 11 rfl rfl)
theorem dX3_digit_38 : decode cX3_digit 38 = .ok (.ifCond .eq 7, 3) := dk_153 0 7 (dk_at dksX3_digit_1 14 rfl rfl)
theorem dX3_digit_41 : decode cX3_digit 41 = .ok (.iconst 0, 1) := dk_3 (dk_at dksX3_digit_1 17 rfl rfl)
theorem dX3_digit_42 : decode cX3_digit 42 = .ok (.goto 4, 3) := dk_167 0 4 (dk_at dksX3_digit_1 18 rfl rfl)
theorem dX3_digit_45 : decode cX3_digit 45 = .ok (.iconst 1, 1) := dk_4 (dk_at dksX3_digit_1 21 rfl rfl)
theorem dX3_digit_46 : decode cX3_digit 46 = .ok (.iadd, 1) := dk_96 (dk_at dksX3_digit_1 22 rfl rfl)
theorem dX3_digit_47 : decode cX3_digit 47 = .ok (.putfield 22, 3) := dk_181 0 22 (dk_at dksX3_digit_2 0 rfl rfl)
theorem dX3_digit_50 : decode cX3_digit 50 = .ok (.aload_n 0, 1) := dk_42 (dk_at dksX3_digit_2 3 rfl rfl)
theorem dX3_digit_51 : decode cX3_digit 51 = .ok (.getfield 33, 3) := dk_180 0 33 (dk_at dksX3_digit_2 4 rfl rfl)
theorem dX3_digit_54 : decode cX3_digit 54 = .ok (.ifCond .eq 7, 3) := dk_153 0 7 (dk_at dksX3_digit_2 7 rfl rfl)
theorem dX3_digit_57 : decode cX3_digit 57 = .ok (.iconst 0, 1) := dk_3 (dk_at dksX3_digit_2 10 rfl rfl)
theorem dX3_digit_58 : decode cX3_digit 58 = .ok (.goto 20, 3) := dk_167 0 20 (dk_at dksX3_digit_2 11 rfl rfl)
theorem dX3_digit_61 : decode cX3_digit 61 = .ok (.aload_n 0, 1) := dk_42 (dk_at dksX3_digit_2 14 rfl rfl)
theorem dX3_digit_62 : decode cX3_digit 62 = .ok (.getfield 3, 3) := dk_180 0 3 (dk_at dksX3_digit_2 15 rfl rfl)
theorem dX3_digit_65 : decode cX3_digit 65 = .ok (.getfield 29, 3) := dk_180 0 29 (dk_at dksX3_digit_2 18 rfl rfl)
theorem dX3_digit_68 : decode cX3_digit 68 = .ok (.aload_n 0, 1) := dk_42 (dk_at dksX3_digit_2 21 rfl rfl)
theorem dX3_digit_69 : decode cX3_digit 69 = .ok (.getfield 22, 3) := dk_180 0 22 (dk_at dksX3_digit_3 0 rfl rfl)
theorem dX3_digit_72 : decode cX3_digit 72 = .ok (.iconst 1, 1) := dk_4 (dk_at dksX3_digit_3 3 rfl rfl)
theorem dX3_digit_73 : decode cX3_digit 73 = .ok (.isub, 1) := dk_100 (dk_at dksX3_digit_3 4 rfl rfl)
theorem dX3_digit_74 : decode cX3_digit 74 = .ok (.baload, 1) := dk_51 (dk_at dksX3_digit_3 5 rfl rfl)
theorem dX3_digit_75 : decode cX3_digit 75 = .ok (.bipush 48, 2) := dk_16 48 (dk_at dksX3_digit_3 6 rfl rfl)
theorem dX3_digit_77 : decode cX3_digit 77 = .ok (.isub, 1) := dk_100 (dk_at dksX3_digit_3 8 rfl rfl)
theorem dX3_digit_78 : decode cX3_digit 78 = .ok (.ireturn, 1) := dk_172 (dk_at dksX3_digit_3 9 rfl rfl)
abbrev cX3_made : ByteArray := prog_9_method_9_code
def yX3_made : MethodName := ⟨RX3, "made", "()LAheadRows$Row;"⟩
def dkwX3_made_7 : List UInt8 := [181, 0, 33, 1, 176]
abbrev dktX3_made_7 : List UInt8 := dkwX3_made_7 ++ []
def dkwX3_made_6 : List UInt8 := [89, 180, 0, 22, 4, 96, 181, 0, 22, 187, 0, 91, 89, 42, 182, 0, 75, 183, 0, 93, 176, 42, 4]
abbrev dktX3_made_6 : List UInt8 := dkwX3_made_6 ++ dktX3_made_7
def dkwX3_made_5 : List UInt8 := [4, 8, 182, 0, 48, 61, 187, 0, 86, 89, 27, 28, 42, 3, 16, 9, 182, 0, 48, 183, 0, 88, 176, 42]
abbrev dktX3_made_5 : List UInt8 := dkwX3_made_5 ++ dktX3_made_6
def dkwX3_made_4 : List UInt8 := [42, 182, 0, 75, 183, 0, 85, 176, 42, 89, 180, 0, 22, 4, 96, 181, 0, 22, 42, 182, 0, 75, 60, 42]
abbrev dktX3_made_4 : List UInt8 := dkwX3_made_4 ++ dktX3_made_5
def dkwX3_made_3 : List UInt8 := [183, 0, 80, 176, 42, 89, 180, 0, 22, 4, 96, 181, 0, 22, 42, 182, 0, 75, 60, 187, 0, 83, 89, 27]
abbrev dktX3_made_3 : List UInt8 := dkwX3_made_3 ++ dktX3_made_4
def dkwX3_made_2 : List UInt8 := [42, 89, 180, 0, 22, 4, 96, 181, 0, 22, 42, 182, 0, 75, 60, 187, 0, 78, 89, 27, 42, 182, 0, 75]
abbrev dktX3_made_2 : List UInt8 := dkwX3_made_2 ++ dktX3_made_3
def dkwX3_made_1 : List UInt8 := [171, 0, 0, 0, 0, 0, 0, 161, 0, 0, 0, 4, 0, 0, 0, 42, 0, 0, 0, 72, 0, 0, 0, 43, 0, 0, 0, 44, 0, 0, 0, 100, 0, 0, 0, 139, 0, 0, 0, 101, 0, 0, 0, 100]
abbrev dktX3_made_1 : List UInt8 := dkwX3_made_1 ++ dktX3_made_2
def dkwX3_made_0 : List UInt8 := [42, 182, 0, 37]
abbrev dktX3_made_0 : List UInt8 := dkwX3_made_0 ++ dktX3_made_1
theorem dksX3_made_0 : cX3_made.data.toList.drop 0 = dktX3_made_0 := by decide +kernel
theorem dksX3_made_1 : cX3_made.data.toList.drop 4 = dktX3_made_1 := dk_seg dksX3_made_0 4 rfl rfl
theorem dksX3_made_2 : cX3_made.data.toList.drop 48 = dktX3_made_2 := dk_seg dksX3_made_1 44 rfl rfl
theorem dksX3_made_3 : cX3_made.data.toList.drop 72 = dktX3_made_3 := dk_seg dksX3_made_2 24 rfl rfl
theorem dksX3_made_4 : cX3_made.data.toList.drop 96 = dktX3_made_4 := dk_seg dksX3_made_3 24 rfl rfl
theorem dksX3_made_5 : cX3_made.data.toList.drop 120 = dktX3_made_5 := dk_seg dksX3_made_4 24 rfl rfl
theorem dksX3_made_6 : cX3_made.data.toList.drop 144 = dktX3_made_6 := dk_seg dksX3_made_5 24 rfl rfl
theorem dksX3_made_7 : cX3_made.data.toList.drop 167 = dktX3_made_7 := dk_seg dksX3_made_6 23 rfl rfl
theorem dX3_made_0 : decode cX3_made 0 = .ok (.aload_n 0, 1) := dk_42 (dk_at dksX3_made_0 0 rfl rfl)
theorem dX3_made_1 : decode cX3_made 1 = .ok (.invokevirtual 37, 3) := dk_182 0 37 (dk_at dksX3_made_0 1 rfl rfl)
theorem dX3_made_4 : decode cX3_made 4 = .ok (.lookupswitch 161 #[(42, 72), (43, 44), (100, 139), (101, 100)], 44) := by decide +kernel
theorem dX3_made_48 : decode cX3_made 48 = .ok (.aload_n 0, 1) := dk_42 (dk_at dksX3_made_2 0 rfl rfl)
theorem dX3_made_49 : decode cX3_made 49 = .ok (.dup, 1) := dk_89 (dk_at dksX3_made_2 1 rfl rfl)
theorem dX3_made_50 : decode cX3_made 50 = .ok (.getfield 22, 3) := dk_180 0 22 (dk_at dksX3_made_2 2 rfl rfl)
theorem dX3_made_53 : decode cX3_made 53 = .ok (.iconst 1, 1) := dk_4 (dk_at dksX3_made_2 5 rfl rfl)
theorem dX3_made_54 : decode cX3_made 54 = .ok (.iadd, 1) := dk_96 (dk_at dksX3_made_2 6 rfl rfl)
theorem dX3_made_55 : decode cX3_made 55 = .ok (.putfield 22, 3) := dk_181 0 22 (dk_at dksX3_made_2 7 rfl rfl)
theorem dX3_made_58 : decode cX3_made 58 = .ok (.aload_n 0, 1) := dk_42 (dk_at dksX3_made_2 10 rfl rfl)
theorem dX3_made_59 : decode cX3_made 59 = .ok (.invokevirtual 75, 3) := dk_182 0 75 (dk_at dksX3_made_2 11 rfl rfl)
theorem dX3_made_62 : decode cX3_made 62 = .ok (.istore_n 1, 1) := dk_60 (dk_at dksX3_made_2 14 rfl rfl)
theorem dX3_made_63 : decode cX3_made 63 = .ok (.new 78, 3) := dk_187 0 78 (dk_at dksX3_made_2 15 rfl rfl)
theorem dX3_made_66 : decode cX3_made 66 = .ok (.dup, 1) := dk_89 (dk_at dksX3_made_2 18 rfl rfl)
theorem dX3_made_67 : decode cX3_made 67 = .ok (.iload_n 1, 1) := dk_27 (dk_at dksX3_made_2 19 rfl rfl)
theorem dX3_made_68 : decode cX3_made 68 = .ok (.aload_n 0, 1) := dk_42 (dk_at dksX3_made_2 20 rfl rfl)
theorem dX3_made_69 : decode cX3_made 69 = .ok (.invokevirtual 75, 3) := dk_182 0 75 (dk_at dksX3_made_2 21 rfl rfl)
theorem dX3_made_72 : decode cX3_made 72 = .ok (.invokespecial 80, 3) := dk_183 0 80 (dk_at dksX3_made_3 0 rfl rfl)
theorem dX3_made_75 : decode cX3_made 75 = .ok (.areturn, 1) := dk_176 (dk_at dksX3_made_3 3 rfl rfl)
theorem dX3_made_76 : decode cX3_made 76 = .ok (.aload_n 0, 1) := dk_42 (dk_at dksX3_made_3 4 rfl rfl)
theorem dX3_made_77 : decode cX3_made 77 = .ok (.dup, 1) := dk_89 (dk_at dksX3_made_3 5 rfl rfl)
theorem dX3_made_78 : decode cX3_made 78 = .ok (.getfield 22, 3) := dk_180 0 22 (dk_at dksX3_made_3 6 rfl rfl)
theorem dX3_made_81 : decode cX3_made 81 = .ok (.iconst 1, 1) := dk_4 (dk_at dksX3_made_3 9 rfl rfl)
theorem dX3_made_82 : decode cX3_made 82 = .ok (.iadd, 1) := dk_96 (dk_at dksX3_made_3 10 rfl rfl)
theorem dX3_made_83 : decode cX3_made 83 = .ok (.putfield 22, 3) := dk_181 0 22 (dk_at dksX3_made_3 11 rfl rfl)
theorem dX3_made_86 : decode cX3_made 86 = .ok (.aload_n 0, 1) := dk_42 (dk_at dksX3_made_3 14 rfl rfl)
theorem dX3_made_87 : decode cX3_made 87 = .ok (.invokevirtual 75, 3) := dk_182 0 75 (dk_at dksX3_made_3 15 rfl rfl)
theorem dX3_made_90 : decode cX3_made 90 = .ok (.istore_n 1, 1) := dk_60 (dk_at dksX3_made_3 18 rfl rfl)
theorem dX3_made_91 : decode cX3_made 91 = .ok (.new 83, 3) := dk_187 0 83 (dk_at dksX3_made_3 19 rfl rfl)
theorem dX3_made_94 : decode cX3_made 94 = .ok (.dup, 1) := dk_89 (dk_at dksX3_made_3 22 rfl rfl)
theorem dX3_made_95 : decode cX3_made 95 = .ok (.iload_n 1, 1) := dk_27 (dk_at dksX3_made_3 23 rfl rfl)
theorem dX3_made_96 : decode cX3_made 96 = .ok (.aload_n 0, 1) := dk_42 (dk_at dksX3_made_4 0 rfl rfl)
theorem dX3_made_97 : decode cX3_made 97 = .ok (.invokevirtual 75, 3) := dk_182 0 75 (dk_at dksX3_made_4 1 rfl rfl)
theorem dX3_made_100 : decode cX3_made 100 = .ok (.invokespecial 85, 3) := dk_183 0 85 (dk_at dksX3_made_4 4 rfl rfl)
theorem dX3_made_103 : decode cX3_made 103 = .ok (.areturn, 1) := dk_176 (dk_at dksX3_made_4 7 rfl rfl)
theorem dX3_made_104 : decode cX3_made 104 = .ok (.aload_n 0, 1) := dk_42 (dk_at dksX3_made_4 8 rfl rfl)
theorem dX3_made_105 : decode cX3_made 105 = .ok (.dup, 1) := dk_89 (dk_at dksX3_made_4 9 rfl rfl)
theorem dX3_made_106 : decode cX3_made 106 = .ok (.getfield 22, 3) := dk_180 0 22 (dk_at dksX3_made_4 10 rfl rfl)
theorem dX3_made_109 : decode cX3_made 109 = .ok (.iconst 1, 1) := dk_4 (dk_at dksX3_made_4 13 rfl rfl)
theorem dX3_made_110 : decode cX3_made 110 = .ok (.iadd, 1) := dk_96 (dk_at dksX3_made_4 14 rfl rfl)
theorem dX3_made_111 : decode cX3_made 111 = .ok (.putfield 22, 3) := dk_181 0 22 (dk_at dksX3_made_4 15 rfl rfl)
theorem dX3_made_114 : decode cX3_made 114 = .ok (.aload_n 0, 1) := dk_42 (dk_at dksX3_made_4 18 rfl rfl)
theorem dX3_made_115 : decode cX3_made 115 = .ok (.invokevirtual 75, 3) := dk_182 0 75 (dk_at dksX3_made_4 19 rfl rfl)
theorem dX3_made_118 : decode cX3_made 118 = .ok (.istore_n 1, 1) := dk_60 (dk_at dksX3_made_4 22 rfl rfl)
theorem dX3_made_119 : decode cX3_made 119 = .ok (.aload_n 0, 1) := dk_42 (dk_at dksX3_made_4 23 rfl rfl)
theorem dX3_made_120 : decode cX3_made 120 = .ok (.iconst 1, 1) := dk_4 (dk_at dksX3_made_5 0 rfl rfl)
theorem dX3_made_121 : decode cX3_made 121 = .ok (.iconst 5, 1) := dk_8 (dk_at dksX3_made_5 1 rfl rfl)
theorem dX3_made_122 : decode cX3_made 122 = .ok (.invokevirtual 48, 3) := dk_182 0 48 (dk_at dksX3_made_5 2 rfl rfl)
theorem dX3_made_125 : decode cX3_made 125 = .ok (.istore_n 2, 1) := dk_61 (dk_at dksX3_made_5 5 rfl rfl)
theorem dX3_made_126 : decode cX3_made 126 = .ok (.new 86, 3) := dk_187 0 86 (dk_at dksX3_made_5 6 rfl rfl)
theorem dX3_made_129 : decode cX3_made 129 = .ok (.dup, 1) := dk_89 (dk_at dksX3_made_5 9 rfl rfl)
theorem dX3_made_130 : decode cX3_made 130 = .ok (.iload_n 1, 1) := dk_27 (dk_at dksX3_made_5 10 rfl rfl)
theorem dX3_made_131 : decode cX3_made 131 = .ok (.iload_n 2, 1) := dk_28 (dk_at dksX3_made_5 11 rfl rfl)
theorem dX3_made_132 : decode cX3_made 132 = .ok (.aload_n 0, 1) := dk_42 (dk_at dksX3_made_5 12 rfl rfl)
theorem dX3_made_133 : decode cX3_made 133 = .ok (.iconst 0, 1) := dk_3 (dk_at dksX3_made_5 13 rfl rfl)
theorem dX3_made_134 : decode cX3_made 134 = .ok (.bipush 9, 2) := dk_16 9 (dk_at dksX3_made_5 14 rfl rfl)
theorem dX3_made_136 : decode cX3_made 136 = .ok (.invokevirtual 48, 3) := dk_182 0 48 (dk_at dksX3_made_5 16 rfl rfl)
theorem dX3_made_139 : decode cX3_made 139 = .ok (.invokespecial 88, 3) := dk_183 0 88 (dk_at dksX3_made_5 19 rfl rfl)
theorem dX3_made_142 : decode cX3_made 142 = .ok (.areturn, 1) := dk_176 (dk_at dksX3_made_5 22 rfl rfl)
theorem dX3_made_143 : decode cX3_made 143 = .ok (.aload_n 0, 1) := dk_42 (dk_at dksX3_made_5 23 rfl rfl)
theorem dX3_made_144 : decode cX3_made 144 = .ok (.dup, 1) := dk_89 (dk_at dksX3_made_6 0 rfl rfl)
theorem dX3_made_145 : decode cX3_made 145 = .ok (.getfield 22, 3) := dk_180 0 22 (dk_at dksX3_made_6 1 rfl rfl)
theorem dX3_made_148 : decode cX3_made 148 = .ok (.iconst 1, 1) := dk_4 (dk_at dksX3_made_6 4 rfl rfl)
theorem dX3_made_149 : decode cX3_made 149 = .ok (.iadd, 1) := dk_96 (dk_at dksX3_made_6 5 rfl rfl)
theorem dX3_made_150 : decode cX3_made 150 = .ok (.putfield 22, 3) := dk_181 0 22 (dk_at dksX3_made_6 6 rfl rfl)
theorem dX3_made_153 : decode cX3_made 153 = .ok (.new 91, 3) := dk_187 0 91 (dk_at dksX3_made_6 9 rfl rfl)
theorem dX3_made_156 : decode cX3_made 156 = .ok (.dup, 1) := dk_89 (dk_at dksX3_made_6 12 rfl rfl)
theorem dX3_made_157 : decode cX3_made 157 = .ok (.aload_n 0, 1) := dk_42 (dk_at dksX3_made_6 13 rfl rfl)
theorem dX3_made_158 : decode cX3_made 158 = .ok (.invokevirtual 75, 3) := dk_182 0 75 (dk_at dksX3_made_6 14 rfl rfl)
theorem dX3_made_161 : decode cX3_made 161 = .ok (.invokespecial 93, 3) := dk_183 0 93 (dk_at dksX3_made_6 17 rfl rfl)
theorem dX3_made_164 : decode cX3_made 164 = .ok (.areturn, 1) := dk_176 (dk_at dksX3_made_6 20 rfl rfl)
theorem dX3_made_165 : decode cX3_made 165 = .ok (.aload_n 0, 1) := dk_42 (dk_at dksX3_made_6 21 rfl rfl)
theorem dX3_made_166 : decode cX3_made 166 = .ok (.iconst 1, 1) := dk_4 (dk_at dksX3_made_6 22 rfl rfl)
theorem dX3_made_167 : decode cX3_made 167 = .ok (.putfield 33, 3) := dk_181 0 33 (dk_at dksX3_made_7 0 rfl rfl)
theorem dX3_made_170 : decode cX3_made 170 = .ok (.aconst_null, 1) := dk_1 (dk_at dksX3_made_7 3 rfl rfl)
theorem dX3_made_171 : decode cX3_made 171 = .ok (.areturn, 1) := dk_176 (dk_at dksX3_made_7 4 rfl rfl)
abbrev cX3_part : ByteArray := prog_9_method_7_code
def yX3_part : MethodName := ⟨RX3, "part", "()I"⟩
def dkwX3_part_0 : List UInt8 := [42, 3, 42, 180, 0, 18, 182, 0, 52, 4, 100, 182, 0, 48, 172]
abbrev dktX3_part_0 : List UInt8 := dkwX3_part_0 ++ []
theorem dksX3_part_0 : cX3_part.data.toList.drop 0 = dktX3_part_0 := by decide +kernel
theorem dX3_part_0 : decode cX3_part 0 = .ok (.aload_n 0, 1) := dk_42 (dk_at dksX3_part_0 0 rfl rfl)
theorem dX3_part_1 : decode cX3_part 1 = .ok (.iconst 0, 1) := dk_3 (dk_at dksX3_part_0 1 rfl rfl)
theorem dX3_part_2 : decode cX3_part 2 = .ok (.aload_n 0, 1) := dk_42 (dk_at dksX3_part_0 2 rfl rfl)
theorem dX3_part_3 : decode cX3_part 3 = .ok (.getfield 18, 3) := dk_180 0 18 (dk_at dksX3_part_0 3 rfl rfl)
theorem dX3_part_6 : decode cX3_part 6 = .ok (.invokevirtual 52, 3) := dk_182 0 52 (dk_at dksX3_part_0 6 rfl rfl)
theorem dX3_part_9 : decode cX3_part 9 = .ok (.iconst 1, 1) := dk_4 (dk_at dksX3_part_0 9 rfl rfl)
theorem dX3_part_10 : decode cX3_part 10 = .ok (.isub, 1) := dk_100 (dk_at dksX3_part_0 10 rfl rfl)
theorem dX3_part_11 : decode cX3_part 11 = .ok (.invokevirtual 48, 3) := dk_182 0 48 (dk_at dksX3_part_0 11 rfl rfl)
theorem dX3_part_14 : decode cX3_part 14 = .ok (.ireturn, 1) := dk_172 (dk_at dksX3_part_0 14 rfl rfl)
theorem q103 : (Jvm.Cond.initialized "AheadRows$Reader") ∈ lw_all := lw_g (lw_at lw_m1 7 rfl) rfl
theorem q203 : (Jvm.Cond.fieldLinkNest "AheadRows$Reader" (29 : Nat) "AheadRows" "page" "[B" "AheadRows") ∈ lw_tbl := lw_at lw_m1 107 rfl
theorem q205 : (Jvm.Cond.fieldLinkNest "AheadRows$Reader" (26 : Nat) "AheadRows" "pageLength" "I" "AheadRows") ∈ lw_tbl := lw_at lw_m1 109 rfl
theorem q264 : (Jvm.Cond.instantiable "AheadRows$Reader" (4 : Nat)) ∈ lw_all := lw_g (lw_at lw_m1 168 rfl) rfl
theorem q266 : (Jvm.Cond.instanceMethod ({ cls := "AheadRows$Reader", name := "<init>", desc := "(LAheadRows;)V" } : Jvm.MethodName)) ∈ lw_all := lw_g (lw_at lw_m1 170 rfl) rfl
theorem q267 : (Jvm.Cond.code ({ cls := "AheadRows$Reader", name := "<init>", desc := "(LAheadRows;)V" } : Jvm.MethodName) prog_9_method_1_code (2 : Nat) (Option.none : Option Jvm.ClassFile.FieldType)) ∈ lw_all := lw_g (lw_at lw_m1 171 rfl) rfl
theorem q268 : (Jvm.Cond.methodLink "AheadRows$Reader" (9 : Nat) ({ cls := "java/lang/Object", name := "<init>", desc := "()V" } : Jvm.MethodName)) ∈ lw_all := lw_g (lw_at lw_m1 172 rfl) rfl
theorem q269 : (Jvm.Cond.classLink "AheadRows$Reader" (15 : Nat) "java/util/ArrayList") ∈ lw_all := lw_g (lw_at lw_m1 173 rfl) rfl
theorem q270 : (Jvm.Cond.methodLink "AheadRows$Reader" (17 : Nat) ({ cls := "java/util/ArrayList", name := "<init>", desc := "()V" } : Jvm.MethodName)) ∈ lw_all := lw_g (lw_at lw_m1 174 rfl) rfl
theorem q271 : (Jvm.Cond.fieldLink "AheadRows$Reader" (22 : Nat) "AheadRows$Reader" "place" "I") ∈ lw_all := lw_g (lw_at lw_m1 175 rfl) rfl
theorem q273 : (Jvm.Cond.fieldLink "AheadRows$Reader" (33 : Nat) "AheadRows$Reader" "isWrong" "Z") ∈ lw_all := lw_g (lw_at lw_m1 177 rfl) rfl
theorem q275 : (Jvm.Cond.fieldLink "AheadRows$Reader" (18 : Nat) "AheadRows$Reader" "read" "Ljava/util/ArrayList;") ∈ lw_all := lw_g (lw_at lw_m1 179 rfl) rfl
theorem q277 : (Jvm.Cond.fieldLink "AheadRows$Reader" (3 : Nat) "AheadRows$Reader" "this$0" "LAheadRows;") ∈ lw_all := lw_g (lw_at lw_m1 181 rfl) rfl
theorem q278 : (Jvm.Cond.lays "AheadRows$Reader" "AheadRows$Reader" "place" "I") ∈ lw_all := lw_g (lw_at lw_m1 182 rfl) rfl
theorem q279 : (Jvm.Cond.soleField "AheadRows$Reader" "place") ∈ lw_all := lw_g (lw_at lw_m1 183 rfl) rfl
theorem q280 : (Jvm.Cond.lays "AheadRows$Reader" "AheadRows$Reader" "isWrong" "Z") ∈ lw_all := lw_g (lw_at lw_m1 184 rfl) rfl
theorem q281 : (Jvm.Cond.soleField "AheadRows$Reader" "isWrong") ∈ lw_all := lw_g (lw_at lw_m1 185 rfl) rfl
theorem q282 : (Jvm.Cond.laysFinal "AheadRows$Reader" "AheadRows$Reader" "read" "Ljava/util/ArrayList;") ∈ lw_all := lw_g (lw_at lw_m1 186 rfl) rfl
theorem q283 : (Jvm.Cond.soleField "AheadRows$Reader" "read") ∈ lw_all := lw_g (lw_at lw_m1 187 rfl) rfl
theorem q284 : (Jvm.Cond.laysFinal "AheadRows$Reader" "AheadRows$Reader" "this$0" "LAheadRows;") ∈ lw_all := lw_g (lw_at lw_m1 188 rfl) rfl
theorem q285 : (Jvm.Cond.soleField "AheadRows$Reader" "this$0") ∈ lw_all := lw_g (lw_at lw_m1 189 rfl) rfl
theorem q286 : (Jvm.Cond.superclass "AheadRows$Reader" "java/lang/Object") ∈ lw_all := lw_g (lw_at lw_m1 190 rfl) rfl
theorem q288 : (Jvm.Cond.instanceMethod ({ cls := "AheadRows$Reader", name := "all", desc := "()LAheadRows$Reader;" } : Jvm.MethodName)) ∈ lw_all := lw_g (lw_at lw_m1 192 rfl) rfl
theorem q289 : (Jvm.Cond.selects "AheadRows$Reader" ({ cls := "AheadRows$Reader", name := "all", desc := "()LAheadRows$Reader;" } : Jvm.MethodName) ({ cls := "AheadRows$Reader", name := "all", desc := "()LAheadRows$Reader;" } : Jvm.MethodName)) ∈ lw_all := lw_g (lw_at lw_m1 193 rfl) rfl
theorem q290 : (Jvm.Cond.code ({ cls := "AheadRows$Reader", name := "all", desc := "()LAheadRows$Reader;" } : Jvm.MethodName) prog_9_method_10_code (3 : Nat) (Option.some (Jvm.ClassFile.FieldType.object "AheadRows$Reader"))) ∈ lw_all := lw_g (lw_at lw_m1 194 rfl) rfl
theorem q291 : (Jvm.Cond.methodLink "AheadRows$Reader" (96 : Nat) ({ cls := "AheadRows$Reader", name := "one", desc := "()LAheadRows$Row;" } : Jvm.MethodName)) ∈ lw_all := lw_g (lw_at lw_m1 195 rfl) rfl
theorem q292 : (Jvm.Cond.privateMethod ({ cls := "AheadRows$Reader", name := "one", desc := "()LAheadRows$Row;" } : Jvm.MethodName)) ∈ lw_tbl := lw_at lw_m1 196 rfl
theorem q293 : (Jvm.Cond.instanceMethod ({ cls := "AheadRows$Reader", name := "one", desc := "()LAheadRows$Row;" } : Jvm.MethodName)) ∈ lw_all := lw_g (lw_at lw_m1 197 rfl) rfl
theorem q294 : (Jvm.Cond.code ({ cls := "AheadRows$Reader", name := "one", desc := "()LAheadRows$Row;" } : Jvm.MethodName) prog_9_method_8_code (4 : Nat) (Option.some (Jvm.ClassFile.FieldType.object "AheadRows$Row"))) ∈ lw_all := lw_g (lw_at lw_m1 198 rfl) rfl
theorem q295 : (Jvm.Cond.methodLink "AheadRows$Reader" (55 : Nat) ({ cls := "AheadRows$Reader", name := "takes", desc := "(C)Z" } : Jvm.MethodName)) ∈ lw_all := lw_g (lw_at lw_m1 199 rfl) rfl
theorem q296 : (Jvm.Cond.privateMethod ({ cls := "AheadRows$Reader", name := "takes", desc := "(C)Z" } : Jvm.MethodName)) ∈ lw_tbl := lw_at lw_m1 200 rfl
theorem q297 : (Jvm.Cond.instanceMethod ({ cls := "AheadRows$Reader", name := "takes", desc := "(C)Z" } : Jvm.MethodName)) ∈ lw_all := lw_g (lw_at lw_m1 201 rfl) rfl
theorem q298 : (Jvm.Cond.code ({ cls := "AheadRows$Reader", name := "takes", desc := "(C)Z" } : Jvm.MethodName) prog_9_method_3_code (3 : Nat) (Option.some Jvm.ClassFile.FieldType.boolean)) ∈ lw_all := lw_g (lw_at lw_m1 202 rfl) rfl
theorem q299 : (Jvm.Cond.methodLink "AheadRows$Reader" (37 : Nat) ({ cls := "AheadRows$Reader", name := "next", desc := "()I" } : Jvm.MethodName)) ∈ lw_all := lw_g (lw_at lw_m1 203 rfl) rfl
theorem q300 : (Jvm.Cond.privateMethod ({ cls := "AheadRows$Reader", name := "next", desc := "()I" } : Jvm.MethodName)) ∈ lw_tbl := lw_at lw_m1 204 rfl
theorem q301 : (Jvm.Cond.instanceMethod ({ cls := "AheadRows$Reader", name := "next", desc := "()I" } : Jvm.MethodName)) ∈ lw_all := lw_g (lw_at lw_m1 205 rfl) rfl
theorem q302 : (Jvm.Cond.code ({ cls := "AheadRows$Reader", name := "next", desc := "()I" } : Jvm.MethodName) prog_9_method_2_code (1 : Nat) (Option.some Jvm.ClassFile.FieldType.int)) ∈ lw_all := lw_g (lw_at lw_m1 206 rfl) rfl
theorem q303 : (Jvm.Cond.methodLink "AheadRows$Reader" (59 : Nat) ({ cls := "AheadRows$Reader", name := "sign", desc := "()I" } : Jvm.MethodName)) ∈ lw_all := lw_g (lw_at lw_m1 207 rfl) rfl
theorem q304 : (Jvm.Cond.privateMethod ({ cls := "AheadRows$Reader", name := "sign", desc := "()I" } : Jvm.MethodName)) ∈ lw_tbl := lw_at lw_m1 208 rfl
theorem q305 : (Jvm.Cond.instanceMethod ({ cls := "AheadRows$Reader", name := "sign", desc := "()I" } : Jvm.MethodName)) ∈ lw_all := lw_g (lw_at lw_m1 209 rfl) rfl
theorem q306 : (Jvm.Cond.code ({ cls := "AheadRows$Reader", name := "sign", desc := "()I" } : Jvm.MethodName) prog_9_method_5_code (1 : Nat) (Option.some Jvm.ClassFile.FieldType.int)) ∈ lw_all := lw_g (lw_at lw_m1 210 rfl) rfl
theorem q307 : (Jvm.Cond.methodLinkNest "AheadRows$Reader" (41 : Nat) ({ cls := "AheadRows", name := "in", desc := "(III)Z" } : Jvm.MethodName) "AheadRows") ∈ lw_tbl := lw_at lw_m1 211 rfl
theorem q308 : (Jvm.Cond.methodLink "AheadRows$Reader" (45 : Nat) ({ cls := "AheadRows$Reader", name := "below", desc := "()I" } : Jvm.MethodName)) ∈ lw_all := lw_g (lw_at lw_m1 212 rfl) rfl
theorem q309 : (Jvm.Cond.privateMethod ({ cls := "AheadRows$Reader", name := "below", desc := "()I" } : Jvm.MethodName)) ∈ lw_tbl := lw_at lw_m1 213 rfl
theorem q310 : (Jvm.Cond.instanceMethod ({ cls := "AheadRows$Reader", name := "below", desc := "()I" } : Jvm.MethodName)) ∈ lw_all := lw_g (lw_at lw_m1 214 rfl) rfl
theorem q311 : (Jvm.Cond.code ({ cls := "AheadRows$Reader", name := "below", desc := "()I" } : Jvm.MethodName) prog_9_method_6_code (1 : Nat) (Option.some Jvm.ClassFile.FieldType.int)) ∈ lw_all := lw_g (lw_at lw_m1 215 rfl) rfl
theorem q312 : (Jvm.Cond.methodLink "AheadRows$Reader" (48 : Nat) ({ cls := "AheadRows$Reader", name := "digit", desc := "(II)I" } : Jvm.MethodName)) ∈ lw_all := lw_g (lw_at lw_m1 216 rfl) rfl
theorem q313 : (Jvm.Cond.privateMethod ({ cls := "AheadRows$Reader", name := "digit", desc := "(II)I" } : Jvm.MethodName)) ∈ lw_tbl := lw_at lw_m1 217 rfl
theorem q314 : (Jvm.Cond.instanceMethod ({ cls := "AheadRows$Reader", name := "digit", desc := "(II)I" } : Jvm.MethodName)) ∈ lw_all := lw_g (lw_at lw_m1 218 rfl) rfl
theorem q315 : (Jvm.Cond.code ({ cls := "AheadRows$Reader", name := "digit", desc := "(II)I" } : Jvm.MethodName) prog_9_method_4_code (3 : Nat) (Option.some Jvm.ClassFile.FieldType.int)) ∈ lw_all := lw_g (lw_at lw_m1 219 rfl) rfl
theorem q316 : (Jvm.Cond.classLink "AheadRows$Reader" (62 : Nat) "AheadRows$Told") ∈ lw_all := lw_g (lw_at lw_m1 220 rfl) rfl
theorem q318 : (Jvm.Cond.methodLink "AheadRows$Reader" (64 : Nat) ({ cls := "AheadRows$Told", name := "<init>", desc := "(IIII)V" } : Jvm.MethodName)) ∈ lw_all := lw_g (lw_at lw_m1 222 rfl) rfl
theorem q348 : (Jvm.Cond.methodLink "AheadRows$Reader" (67 : Nat) ({ cls := "java/util/ArrayList", name := "isEmpty", desc := "()Z" } : Jvm.MethodName)) ∈ lw_all := lw_g (lw_at lw_m2 12 rfl) rfl
theorem q352 : (Jvm.Cond.methodLink "AheadRows$Reader" (71 : Nat) ({ cls := "AheadRows$Reader", name := "made", desc := "()LAheadRows$Row;" } : Jvm.MethodName)) ∈ lw_all := lw_g (lw_at lw_m2 16 rfl) rfl
theorem q353 : (Jvm.Cond.privateMethod ({ cls := "AheadRows$Reader", name := "made", desc := "()LAheadRows$Row;" } : Jvm.MethodName)) ∈ lw_tbl := lw_at lw_m2 17 rfl
theorem q354 : (Jvm.Cond.instanceMethod ({ cls := "AheadRows$Reader", name := "made", desc := "()LAheadRows$Row;" } : Jvm.MethodName)) ∈ lw_all := lw_g (lw_at lw_m2 18 rfl) rfl
theorem q355 : (Jvm.Cond.code ({ cls := "AheadRows$Reader", name := "made", desc := "()LAheadRows$Row;" } : Jvm.MethodName) prog_9_method_9_code (3 : Nat) (Option.some (Jvm.ClassFile.FieldType.object "AheadRows$Row"))) ∈ lw_all := lw_g (lw_at lw_m2 19 rfl) rfl
theorem q356 : (Jvm.Cond.methodLink "AheadRows$Reader" (75 : Nat) ({ cls := "AheadRows$Reader", name := "part", desc := "()I" } : Jvm.MethodName)) ∈ lw_all := lw_g (lw_at lw_m2 20 rfl) rfl
theorem q357 : (Jvm.Cond.privateMethod ({ cls := "AheadRows$Reader", name := "part", desc := "()I" } : Jvm.MethodName)) ∈ lw_tbl := lw_at lw_m2 21 rfl
theorem q358 : (Jvm.Cond.instanceMethod ({ cls := "AheadRows$Reader", name := "part", desc := "()I" } : Jvm.MethodName)) ∈ lw_all := lw_g (lw_at lw_m2 22 rfl) rfl
theorem q359 : (Jvm.Cond.code ({ cls := "AheadRows$Reader", name := "part", desc := "()I" } : Jvm.MethodName) prog_9_method_7_code (1 : Nat) (Option.some Jvm.ClassFile.FieldType.int)) ∈ lw_all := lw_g (lw_at lw_m2 23 rfl) rfl
theorem q360 : (Jvm.Cond.methodLink "AheadRows$Reader" (52 : Nat) ({ cls := "java/util/ArrayList", name := "size", desc := "()I" } : Jvm.MethodName)) ∈ lw_all := lw_g (lw_at lw_m2 24 rfl) rfl
theorem q364 : (Jvm.Cond.classLink "AheadRows$Reader" (78 : Nat) "AheadRows$Sum") ∈ lw_all := lw_g (lw_at lw_m2 28 rfl) rfl
theorem q366 : (Jvm.Cond.methodLink "AheadRows$Reader" (80 : Nat) ({ cls := "AheadRows$Sum", name := "<init>", desc := "(II)V" } : Jvm.MethodName)) ∈ lw_all := lw_g (lw_at lw_m2 30 rfl) rfl
theorem q388 : (Jvm.Cond.classLink "AheadRows$Reader" (83 : Nat) "AheadRows$Product") ∈ lw_all := lw_g (lw_at lw_m2 52 rfl) rfl
theorem q390 : (Jvm.Cond.methodLink "AheadRows$Reader" (85 : Nat) ({ cls := "AheadRows$Product", name := "<init>", desc := "(II)V" } : Jvm.MethodName)) ∈ lw_all := lw_g (lw_at lw_m2 54 rfl) rfl
theorem q397 : (Jvm.Cond.classLink "AheadRows$Reader" (86 : Nat) "AheadRows$Each") ∈ lw_all := lw_g (lw_at lw_m2 61 rfl) rfl
theorem q399 : (Jvm.Cond.methodLink "AheadRows$Reader" (88 : Nat) ({ cls := "AheadRows$Each", name := "<init>", desc := "(III)V" } : Jvm.MethodName)) ∈ lw_all := lw_g (lw_at lw_m2 63 rfl) rfl
theorem q420 : (Jvm.Cond.classLink "AheadRows$Reader" (91 : Nat) "AheadRows$Step") ∈ lw_all := lw_g (lw_at lw_m2 84 rfl) rfl
theorem q422 : (Jvm.Cond.methodLink "AheadRows$Reader" (93 : Nat) ({ cls := "AheadRows$Step", name := "<init>", desc := "(I)V" } : Jvm.MethodName)) ∈ lw_all := lw_g (lw_at lw_m2 86 rfl) rfl
theorem q428 : (Jvm.Cond.methodLink "AheadRows$Reader" (99 : Nat) ({ cls := "java/util/ArrayList", name := "add", desc := "(Ljava/lang/Object;)Z" } : Jvm.MethodName)) ∈ lw_all := lw_g (lw_at lw_m2 92 rfl) rfl
theorem q465 : (Jvm.Cond.selects "AheadRows$Reader" ({ cls := "java/lang/Object", name := "getClass", desc := "()Ljava/lang/Class;" } : Jvm.MethodName) ({ cls := "java/lang/Object", name := "getClass", desc := "()Ljava/lang/Class;" } : Jvm.MethodName)) ∈ lw_all := lw_g (lw_at lw_m2 129 rfl) rfl
theorem q1807 : (Jvm.Cond.castable "AheadRows$Reader" "java/lang/Object") ∈ lw_tbl := lw_at lw_m8 31 rfl
theorem in_X3 : ∀ w ∈ wsX30, w ∈ lw_all := lw_in wsX30 [278, 280, 282, 284] (by decide +kernel) (by decide +kernel)
/-! AheadRows$Row -/
set_option maxRecDepth 100000
def RX4 : String := "AheadRows$Row"
abbrev cX4_init : ByteArray := prog_11_method_1_code
def yX4_init : MethodName := ⟨RX4, "<init>", "()V"⟩
theorem dX4_init_0 : decode cX4_init 0 = .ok (.aload_n 0, 1) := by decide +kernel
theorem dX4_init_1 : decode cX4_init 1 = .ok (.invokespecial 3, 3) := by decide +kernel
theorem dX4_init_4 : decode cX4_init 4 = .ok (.return_, 1) := by decide +kernel
abbrev cX4_number : ByteArray := prog_11_method_3_code
def yX4_number : MethodName := ⟨RX4, "number", "(I)I"⟩
def dkwX4_number_0 : List UInt8 := [27, 154, 0, 10, 42, 182, 0, 9, 167, 0, 5, 18, 15, 172]
abbrev dktX4_number_0 : List UInt8 := dkwX4_number_0 ++ []
theorem dksX4_number_0 : cX4_number.data.toList.drop 0 = dktX4_number_0 := by decide +kernel
theorem dX4_number_0 : decode cX4_number 0 = .ok (.iload_n 1, 1) := dk_27 (dk_at dksX4_number_0 0 rfl rfl)
theorem dX4_number_1 : decode cX4_number 1 = .ok (.ifCond .ne 10, 3) := dk_154 0 10 (dk_at dksX4_number_0 1 rfl rfl)
theorem dX4_number_4 : decode cX4_number 4 = .ok (.aload_n 0, 1) := dk_42 (dk_at dksX4_number_0 4 rfl rfl)
theorem dX4_number_5 : decode cX4_number 5 = .ok (.invokevirtual 9, 3) := dk_182 0 9 (dk_at dksX4_number_0 5 rfl rfl)
theorem dX4_number_8 : decode cX4_number 8 = .ok (.goto 5, 3) := dk_167 0 5 (dk_at dksX4_number_0 8 rfl rfl)
theorem dX4_number_11 : decode cX4_number 11 = .ok (.ldc 15, 2) := dk_18 15 (dk_at dksX4_number_0 11 rfl rfl)
theorem dX4_number_13 : decode cX4_number 13 = .ok (.ireturn, 1) := dk_172 (dk_at dksX4_number_0 13 rfl rfl)
abbrev cX4_near : ByteArray := prog_11_method_9_code
def yX4_near : MethodName := ⟨RX4, "near", "(J)J"⟩
def dkwX4_near_0 : List UInt8 := [30, 20, 0, 16, 148, 157, 0, 11, 30, 20, 0, 18, 148, 156, 0, 9, 20, 0, 20, 167, 0, 4, 30, 173]
abbrev dktX4_near_0 : List UInt8 := dkwX4_near_0 ++ []
theorem dksX4_near_0 : cX4_near.data.toList.drop 0 = dktX4_near_0 := by decide +kernel
theorem dX4_near_0 : decode cX4_near 0 = .ok (.lload_n 0, 1) := dk_30 (dk_at dksX4_near_0 0 rfl rfl)
theorem dX4_near_1 : decode cX4_near 1 = .ok (.ldc2_w 16, 3) := dk_20 0 16 (dk_at dksX4_near_0 1 rfl rfl)
theorem dX4_near_4 : decode cX4_near 4 = .ok (.lcmp, 1) := dk_148 (dk_at dksX4_near_0 4 rfl rfl)
theorem dX4_near_5 : decode cX4_near 5 = .ok (.ifCond .gt 11, 3) := dk_157 0 11 (dk_at dksX4_near_0 5 rfl rfl)
theorem dX4_near_8 : decode cX4_near 8 = .ok (.lload_n 0, 1) := dk_30 (dk_at dksX4_near_0 8 rfl rfl)
theorem dX4_near_9 : decode cX4_near 9 = .ok (.ldc2_w 18, 3) := dk_20 0 18 (dk_at dksX4_near_0 9 rfl rfl)
theorem dX4_near_12 : decode cX4_near 12 = .ok (.lcmp, 1) := dk_148 (dk_at dksX4_near_0 12 rfl rfl)
theorem dX4_near_13 : decode cX4_near 13 = .ok (.ifCond .ge 9, 3) := dk_156 0 9 (dk_at dksX4_near_0 13 rfl rfl)
theorem dX4_near_16 : decode cX4_near 16 = .ok (.ldc2_w 20, 3) := dk_20 0 20 (dk_at dksX4_near_0 16 rfl rfl)
theorem dX4_near_19 : decode cX4_near 19 = .ok (.goto 4, 3) := dk_167 0 4 (dk_at dksX4_near_0 19 rfl rfl)
theorem dX4_near_22 : decode cX4_near 22 = .ok (.lload_n 0, 1) := dk_30 (dk_at dksX4_near_0 22 rfl rfl)
theorem dX4_near_23 : decode cX4_near 23 = .ok (.lreturn, 1) := dk_173 (dk_at dksX4_near_0 23 rfl rfl)
theorem q104 : (Jvm.Cond.initialized "AheadRows$Row") ∈ lw_all := lw_g (lw_at lw_m1 8 rfl) rfl
theorem q322 : (Jvm.Cond.instanceMethod ({ cls := "AheadRows$Row", name := "<init>", desc := "()V" } : Jvm.MethodName)) ∈ lw_all := lw_g (lw_at lw_m1 226 rfl) rfl
theorem q323 : (Jvm.Cond.code ({ cls := "AheadRows$Row", name := "<init>", desc := "()V" } : Jvm.MethodName) prog_11_method_1_code (1 : Nat) (Option.none : Option Jvm.ClassFile.FieldType)) ∈ lw_all := lw_g (lw_at lw_m1 227 rfl) rfl
theorem q324 : (Jvm.Cond.methodLink "AheadRows$Row" (3 : Nat) ({ cls := "java/lang/Object", name := "<init>", desc := "()V" } : Jvm.MethodName)) ∈ lw_all := lw_g (lw_at lw_m1 228 rfl) rfl
theorem q518 : (Jvm.Cond.declares ({ cls := "AheadRows$Row", name := "copy", desc := "()LAheadRows$Row;" } : Jvm.MethodName)) ∈ lw_tbl := lw_at lw_m2 182 rfl
theorem q519 : (Jvm.Cond.sameMethod "AheadRows$Row" "AheadRows$Row" "copy" "()LAheadRows$Row;") ∈ lw_all := lw_g (lw_at lw_m2 183 rfl) rfl
theorem q564 : (Jvm.Cond.instanceMethod ({ cls := "AheadRows$Row", name := "number", desc := "(I)I" } : Jvm.MethodName)) ∈ lw_all := lw_g (lw_at lw_m2 228 rfl) rfl
theorem q565 : (Jvm.Cond.sameMethod "AheadRows$Row" "AheadRows$Row" "number" "(I)I") ∈ lw_all := lw_g (lw_at lw_m2 229 rfl) rfl
theorem q571 : (Jvm.Cond.declares ({ cls := "AheadRows$Row", name := "number", desc := "(I)I" } : Jvm.MethodName)) ∈ lw_tbl := lw_at lw_m2 235 rfl
theorem q591 : (Jvm.Cond.code ({ cls := "AheadRows$Row", name := "number", desc := "(I)I" } : Jvm.MethodName) prog_11_method_3_code (2 : Nat) (Option.some Jvm.ClassFile.FieldType.int)) ∈ lw_all := lw_g (lw_at lw_m3 15 rfl) rfl
theorem q592 : (Jvm.Cond.methodLink "AheadRows$Row" (9 : Nat) ({ cls := "AheadRows$Row", name := "kind", desc := "()I" } : Jvm.MethodName)) ∈ lw_all := lw_g (lw_at lw_m3 16 rfl) rfl
theorem q593 : (Jvm.Cond.declares ({ cls := "AheadRows$Row", name := "kind", desc := "()I" } : Jvm.MethodName)) ∈ lw_tbl := lw_at lw_m3 17 rfl
theorem q594 : (Jvm.Cond.sameMethod "AheadRows$Row" "AheadRows$Row" "kind" "()I") ∈ lw_all := lw_g (lw_at lw_m3 18 rfl) rfl
theorem q610 : (Jvm.Cond.constant "AheadRows$Row" (15 : Nat) (2000000001 : Int32)) ∈ lw_all := lw_g (lw_at lw_m3 34 rfl) rfl
theorem q711 : (Jvm.Cond.declares ({ cls := "AheadRows$Row", name := "exact", desc := "(LAheadRows;I)J" } : Jvm.MethodName)) ∈ lw_tbl := lw_at lw_m3 135 rfl
theorem q712 : (Jvm.Cond.sameMethod "AheadRows$Row" "AheadRows$Row" "exact" "(LAheadRows;I)J") ∈ lw_all := lw_g (lw_at lw_m3 136 rfl) rfl
theorem q732 : (Jvm.Cond.static ({ cls := "AheadRows$Row", name := "near", desc := "(J)J" } : Jvm.MethodName)) ∈ lw_all := lw_g (lw_at lw_m3 156 rfl) rfl
theorem q733 : (Jvm.Cond.code ({ cls := "AheadRows$Row", name := "near", desc := "(J)J" } : Jvm.MethodName) prog_11_method_9_code (2 : Nat) (Option.some Jvm.ClassFile.FieldType.long)) ∈ lw_all := lw_g (lw_at lw_m3 157 rfl) rfl
theorem q734 : (Jvm.Cond.constantLong "AheadRows$Row" (16 : Nat) (1000000000 : Int64)) ∈ lw_all := lw_g (lw_at lw_m3 158 rfl) rfl
theorem q735 : (Jvm.Cond.constantLong "AheadRows$Row" (18 : Nat) (-1000000000 : Int64)) ∈ lw_all := lw_g (lw_at lw_m3 159 rfl) rfl
theorem q736 : (Jvm.Cond.constantLong "AheadRows$Row" (20 : Nat) (2000000002 : Int64)) ∈ lw_all := lw_g (lw_at lw_m3 160 rfl) rfl
theorem q781 : (Jvm.Cond.declares ({ cls := "AheadRows$Row", name := "turn", desc := "(LAheadRows;ILAheadRows$Wheel;)V" } : Jvm.MethodName)) ∈ lw_tbl := lw_at lw_m3 205 rfl
theorem q782 : (Jvm.Cond.sameMethod "AheadRows$Row" "AheadRows$Row" "turn" "(LAheadRows;ILAheadRows$Wheel;)V") ∈ lw_all := lw_g (lw_at lw_m3 206 rfl) rfl
theorem q919 : (Jvm.Cond.declares ({ cls := "AheadRows$Row", name := "ruleBy", desc := "(LAheadRows;)[I" } : Jvm.MethodName)) ∈ lw_tbl := lw_at lw_m4 103 rfl
theorem q920 : (Jvm.Cond.sameMethod "AheadRows$Row" "AheadRows$Row" "ruleBy" "(LAheadRows;)[I") ∈ lw_all := lw_g (lw_at lw_m4 104 rfl) rfl
theorem q1077 : (Jvm.Cond.declares ({ cls := "AheadRows$Row", name := "eased", desc := "(LAheadRows;)LAheadRows$Told;" } : Jvm.MethodName)) ∈ lw_tbl := lw_at lw_m5 21 rfl
theorem q1078 : (Jvm.Cond.sameMethod "AheadRows$Row" "AheadRows$Row" "eased" "(LAheadRows;)LAheadRows$Told;") ∈ lw_all := lw_g (lw_at lw_m5 22 rfl) rfl
/-! AheadRows$Told -/
set_option maxRecDepth 100000
def RX5 : String := "AheadRows$Told"
def TX5 : u_T := fun k => match k with
  | 0 => ("AheadRows$Told", "c", "I", false)
  | 1 => ("AheadRows$Told", "d", "I", false)
  | 2 => ("AheadRows$Told", "e", "I", false)
  | _ => ("AheadRows$Told", "f", "I", false)
def tyX5 : Nat → FieldType := fun k => match k with
  | 0 => .int
  | 1 => .int
  | 2 => .int
  | _ => .int
abbrev wsX50 : List Cond := u_ws RX5 TX5 4
theorem nmX5 : ∀ a, a < 4 → ∀ b, b < 4 → a ≠ b → (TX5 a).2.1 ≠ (TX5 b).2.1 := by decide +kernel
theorem tyX5_ok : ∀ k, k < 4 → parseFieldDescriptor (TX5 k).2.2.1 = some (tyX5 k) := by decide +kernel
abbrev cX5_init : ByteArray := prog_14_method_1_code
def yX5_init : MethodName := ⟨RX5, "<init>", "(IIII)V"⟩
def dkwX5_init_1 : List UInt8 := [181, 0, 21, 177]
abbrev dktX5_init_1 : List UInt8 := dkwX5_init_1 ++ []
def dkwX5_init_0 : List UInt8 := [42, 183, 0, 3, 42, 27, 181, 0, 9, 42, 28, 181, 0, 15, 42, 29, 181, 0, 18, 42, 21, 4]
abbrev dktX5_init_0 : List UInt8 := dkwX5_init_0 ++ dktX5_init_1
theorem dksX5_init_0 : cX5_init.data.toList.drop 0 = dktX5_init_0 := by decide +kernel
theorem dksX5_init_1 : cX5_init.data.toList.drop 22 = dktX5_init_1 := dk_seg dksX5_init_0 22 rfl rfl
theorem dX5_init_0 : decode cX5_init 0 = .ok (.aload_n 0, 1) := dk_42 (dk_at dksX5_init_0 0 rfl rfl)
theorem dX5_init_1 : decode cX5_init 1 = .ok (.invokespecial 3, 3) := dk_183 0 3 (dk_at dksX5_init_0 1 rfl rfl)
theorem dX5_init_4 : decode cX5_init 4 = .ok (.aload_n 0, 1) := dk_42 (dk_at dksX5_init_0 4 rfl rfl)
theorem dX5_init_5 : decode cX5_init 5 = .ok (.iload_n 1, 1) := dk_27 (dk_at dksX5_init_0 5 rfl rfl)
theorem dX5_init_6 : decode cX5_init 6 = .ok (.putfield 9, 3) := dk_181 0 9 (dk_at dksX5_init_0 6 rfl rfl)
theorem dX5_init_9 : decode cX5_init 9 = .ok (.aload_n 0, 1) := dk_42 (dk_at dksX5_init_0 9 rfl rfl)
theorem dX5_init_10 : decode cX5_init 10 = .ok (.iload_n 2, 1) := dk_28 (dk_at dksX5_init_0 10 rfl rfl)
theorem dX5_init_11 : decode cX5_init 11 = .ok (.putfield 15, 3) := dk_181 0 15 (dk_at dksX5_init_0 11 rfl rfl)
theorem dX5_init_14 : decode cX5_init 14 = .ok (.aload_n 0, 1) := dk_42 (dk_at dksX5_init_0 14 rfl rfl)
theorem dX5_init_15 : decode cX5_init 15 = .ok (.iload_n 3, 1) := dk_29 (dk_at dksX5_init_0 15 rfl rfl)
theorem dX5_init_16 : decode cX5_init 16 = .ok (.putfield 18, 3) := dk_181 0 18 (dk_at dksX5_init_0 16 rfl rfl)
theorem dX5_init_19 : decode cX5_init 19 = .ok (.aload_n 0, 1) := dk_42 (dk_at dksX5_init_0 19 rfl rfl)
theorem dX5_init_20 : decode cX5_init 20 = .ok (.iload 4, 2) := dk_21 4 (dk_at dksX5_init_0 20 rfl rfl)
theorem dX5_init_22 : decode cX5_init 22 = .ok (.putfield 21, 3) := dk_181 0 21 (dk_at dksX5_init_1 0 rfl rfl)
theorem dX5_init_25 : decode cX5_init 25 = .ok (.return_, 1) := dk_177 (dk_at dksX5_init_1 3 rfl rfl)
abbrev cX5_copy : ByteArray := prog_14_method_11_code
def yX5_copy : MethodName := ⟨RX5, "copy", "()LAheadRows$Row;"⟩
def dkwX5_copy_0 : List UInt8 := [187, 0, 10, 89, 42, 180, 0, 9, 42, 180, 0, 15, 42, 180, 0, 18, 42, 180, 0, 21, 183, 0, 56, 176]
abbrev dktX5_copy_0 : List UInt8 := dkwX5_copy_0 ++ []
theorem dksX5_copy_0 : cX5_copy.data.toList.drop 0 = dktX5_copy_0 := by decide +kernel
theorem dX5_copy_0 : decode cX5_copy 0 = .ok (.new 10, 3) := dk_187 0 10 (dk_at dksX5_copy_0 0 rfl rfl)
theorem dX5_copy_3 : decode cX5_copy 3 = .ok (.dup, 1) := dk_89 (dk_at dksX5_copy_0 3 rfl rfl)
theorem dX5_copy_4 : decode cX5_copy 4 = .ok (.aload_n 0, 1) := dk_42 (dk_at dksX5_copy_0 4 rfl rfl)
theorem dX5_copy_5 : decode cX5_copy 5 = .ok (.getfield 9, 3) := dk_180 0 9 (dk_at dksX5_copy_0 5 rfl rfl)
theorem dX5_copy_8 : decode cX5_copy 8 = .ok (.aload_n 0, 1) := dk_42 (dk_at dksX5_copy_0 8 rfl rfl)
theorem dX5_copy_9 : decode cX5_copy 9 = .ok (.getfield 15, 3) := dk_180 0 15 (dk_at dksX5_copy_0 9 rfl rfl)
theorem dX5_copy_12 : decode cX5_copy 12 = .ok (.aload_n 0, 1) := dk_42 (dk_at dksX5_copy_0 12 rfl rfl)
theorem dX5_copy_13 : decode cX5_copy 13 = .ok (.getfield 18, 3) := dk_180 0 18 (dk_at dksX5_copy_0 13 rfl rfl)
theorem dX5_copy_16 : decode cX5_copy 16 = .ok (.aload_n 0, 1) := dk_42 (dk_at dksX5_copy_0 16 rfl rfl)
theorem dX5_copy_17 : decode cX5_copy 17 = .ok (.getfield 21, 3) := dk_180 0 21 (dk_at dksX5_copy_0 17 rfl rfl)
theorem dX5_copy_20 : decode cX5_copy 20 = .ok (.invokespecial 56, 3) := dk_183 0 56 (dk_at dksX5_copy_0 20 rfl rfl)
theorem dX5_copy_23 : decode cX5_copy 23 = .ok (.areturn, 1) := dk_176 (dk_at dksX5_copy_0 23 rfl rfl)
abbrev cX5_number : ByteArray := prog_14_method_3_code
def yX5_number : MethodName := ⟨RX5, "number", "(I)I"⟩
def dkwX5_number_3 : List UInt8 := [183, 0, 24, 172]
abbrev dktX5_number_3 : List UInt8 := dkwX5_number_3 ++ []
def dkwX5_number_2 : List UInt8 := [42, 180, 0, 9, 172, 42, 180, 0, 15, 172, 42, 180, 0, 18, 172, 42, 180, 0, 21, 172, 42, 27]
abbrev dktX5_number_2 : List UInt8 := dkwX5_number_2 ++ dktX5_number_3
def dkwX5_number_1 : List UInt8 := [170, 0, 0, 0, 0, 0, 51, 0, 0, 0, 1, 0, 0, 0, 4, 0, 0, 0, 31, 0, 0, 0, 36, 0, 0, 0, 41, 0, 0, 0, 46]
abbrev dktX5_number_1 : List UInt8 := dkwX5_number_1 ++ dktX5_number_2
def dkwX5_number_0 : List UInt8 := [27]
abbrev dktX5_number_0 : List UInt8 := dkwX5_number_0 ++ dktX5_number_1
theorem dksX5_number_0 : cX5_number.data.toList.drop 0 = dktX5_number_0 := by decide +kernel
theorem dksX5_number_1 : cX5_number.data.toList.drop 1 = dktX5_number_1 := dk_seg dksX5_number_0 1 rfl rfl
theorem dksX5_number_2 : cX5_number.data.toList.drop 32 = dktX5_number_2 := dk_seg dksX5_number_1 31 rfl rfl
theorem dksX5_number_3 : cX5_number.data.toList.drop 54 = dktX5_number_3 := dk_seg dksX5_number_2 22 rfl rfl
theorem dX5_number_0 : decode cX5_number 0 = .ok (.iload_n 1, 1) := dk_27 (dk_at dksX5_number_0 0 rfl rfl)
theorem dX5_number_1 : decode cX5_number 1 = .ok (.tableswitch 51 1 4 #[31, 36, 41, 46], 31) := by decide +kernel
theorem dX5_number_32 : decode cX5_number 32 = .ok (.aload_n 0, 1) := dk_42 (dk_at dksX5_number_2 0 rfl rfl)
theorem dX5_number_33 : decode cX5_number 33 = .ok (.getfield 9, 3) := dk_180 0 9 (dk_at dksX5_number_2 1 rfl rfl)
theorem dX5_number_36 : decode cX5_number 36 = .ok (.ireturn, 1) := dk_172 (dk_at dksX5_number_2 4 rfl rfl)
theorem dX5_number_37 : decode cX5_number 37 = .ok (.aload_n 0, 1) := dk_42 (dk_at dksX5_number_2 5 rfl rfl)
theorem dX5_number_38 : decode cX5_number 38 = .ok (.getfield 15, 3) := dk_180 0 15 (dk_at dksX5_number_2 6 rfl rfl)
theorem dX5_number_41 : decode cX5_number 41 = .ok (.ireturn, 1) := dk_172 (dk_at dksX5_number_2 9 rfl rfl)
theorem dX5_number_42 : decode cX5_number 42 = .ok (.aload_n 0, 1) := dk_42 (dk_at dksX5_number_2 10 rfl rfl)
theorem dX5_number_43 : decode cX5_number 43 = .ok (.getfield 18, 3) := dk_180 0 18 (dk_at dksX5_number_2 11 rfl rfl)
theorem dX5_number_46 : decode cX5_number 46 = .ok (.ireturn, 1) := dk_172 (dk_at dksX5_number_2 14 rfl rfl)
theorem dX5_number_47 : decode cX5_number 47 = .ok (.aload_n 0, 1) := dk_42 (dk_at dksX5_number_2 15 rfl rfl)
theorem dX5_number_48 : decode cX5_number 48 = .ok (.getfield 21, 3) := dk_180 0 21 (dk_at dksX5_number_2 16 rfl rfl)
theorem dX5_number_51 : decode cX5_number 51 = .ok (.ireturn, 1) := dk_172 (dk_at dksX5_number_2 19 rfl rfl)
theorem dX5_number_52 : decode cX5_number 52 = .ok (.aload_n 0, 1) := dk_42 (dk_at dksX5_number_2 20 rfl rfl)
theorem dX5_number_53 : decode cX5_number 53 = .ok (.iload_n 1, 1) := dk_27 (dk_at dksX5_number_2 21 rfl rfl)
theorem dX5_number_54 : decode cX5_number 54 = .ok (.invokespecial 24, 3) := dk_183 0 24 (dk_at dksX5_number_3 0 rfl rfl)
theorem dX5_number_57 : decode cX5_number 57 = .ok (.ireturn, 1) := dk_172 (dk_at dksX5_number_3 3 rfl rfl)
abbrev cX5_kind : ByteArray := prog_14_method_2_code
def yX5_kind : MethodName := ⟨RX5, "kind", "()I"⟩
theorem dX5_kind_0 : decode cX5_kind 0 = .ok (.iconst 0, 1) := by decide +kernel
theorem dX5_kind_1 : decode cX5_kind 1 = .ok (.ireturn, 1) := by decide +kernel
abbrev cX5_exact : ByteArray := prog_14_method_6_code
def yX5_exact : MethodName := ⟨RX5, "exact", "(LAheadRows;I)J"⟩
def dkwX5_exact_4 : List UInt8 := [22, 5, 173]
abbrev dktX5_exact_4 : List UInt8 := dkwX5_exact_4 ++ []
def dkwX5_exact_3 : List UInt8 := [20, 0, 28, 148, 154, 0, 7, 20, 0, 28, 173, 22, 5, 66, 22, 8, 55, 5, 132, 7, 1, 167, 255, 206]
abbrev dktX5_exact_3 : List UInt8 := dkwX5_exact_3 ++ dktX5_exact_4
def dkwX5_exact_2 : List UInt8 := [180, 0, 9, 133, 22, 5, 105, 42, 180, 0, 15, 133, 33, 105, 97, 184, 0, 30, 55, 8, 22, 8]
abbrev dktX5_exact_2 : List UInt8 := dkwX5_exact_2 ++ dktX5_exact_3
def dkwX5_exact_1 : List UInt8 := [180, 0, 18, 133, 167, 0, 8, 42, 180, 0, 21, 133, 55, 5, 5, 54, 7, 21, 7, 28, 163, 0, 50, 42]
abbrev dktX5_exact_1 : List UInt8 := dkwX5_exact_1 ++ dktX5_exact_2
def dkwX5_exact_0 : List UInt8 := [28, 17, 0, 200, 164, 0, 7, 20, 0, 28, 173, 42, 180, 0, 18, 133, 66, 28, 154, 0, 11, 42]
abbrev dktX5_exact_0 : List UInt8 := dkwX5_exact_0 ++ dktX5_exact_1
theorem dksX5_exact_0 : cX5_exact.data.toList.drop 0 = dktX5_exact_0 := by decide +kernel
theorem dksX5_exact_1 : cX5_exact.data.toList.drop 22 = dktX5_exact_1 := dk_seg dksX5_exact_0 22 rfl rfl
theorem dksX5_exact_2 : cX5_exact.data.toList.drop 46 = dktX5_exact_2 := dk_seg dksX5_exact_1 24 rfl rfl
theorem dksX5_exact_3 : cX5_exact.data.toList.drop 68 = dktX5_exact_3 := dk_seg dksX5_exact_2 22 rfl rfl
theorem dksX5_exact_4 : cX5_exact.data.toList.drop 92 = dktX5_exact_4 := dk_seg dksX5_exact_3 24 rfl rfl
theorem dX5_exact_0 : decode cX5_exact 0 = .ok (.iload_n 2, 1) := dk_28 (dk_at dksX5_exact_0 0 rfl rfl)
theorem dX5_exact_1 : decode cX5_exact 1 = .ok (.sipush 200, 3) := dk_17 0 200 (dk_at dksX5_exact_0 1 rfl rfl)
theorem dX5_exact_4 : decode cX5_exact 4 = .ok (.if_icmp .le 7, 3) := dk_164 0 7 (dk_at dksX5_exact_0 4 rfl rfl)
theorem dX5_exact_7 : decode cX5_exact 7 = .ok (.ldc2_w 28, 3) := dk_20 0 28 (dk_at dksX5_exact_0 7 rfl rfl)
theorem dX5_exact_10 : decode cX5_exact 10 = .ok (.lreturn, 1) := dk_173 (dk_at dksX5_exact_0 10 rfl rfl)
theorem dX5_exact_11 : decode cX5_exact 11 = .ok (.aload_n 0, 1) := dk_42 (dk_at dksX5_exact_0 11 rfl rfl)
theorem dX5_exact_12 : decode cX5_exact 12 = .ok (.getfield 18, 3) := dk_180 0 18 (dk_at dksX5_exact_0 12 rfl rfl)
theorem dX5_exact_15 : decode cX5_exact 15 = .ok (.i2l, 1) := dk_133 (dk_at dksX5_exact_0 15 rfl rfl)
theorem dX5_exact_16 : decode cX5_exact 16 = .ok (.lstore_n 3, 1) := dk_66 (dk_at dksX5_exact_0 16 rfl rfl)
theorem dX5_exact_17 : decode cX5_exact 17 = .ok (.iload_n 2, 1) := dk_28 (dk_at dksX5_exact_0 17 rfl rfl)
theorem dX5_exact_18 : decode cX5_exact 18 = .ok (.ifCond .ne 11, 3) := dk_154 0 11 (dk_at dksX5_exact_0 18 rfl rfl)
theorem dX5_exact_21 : decode cX5_exact 21 = .ok (.aload_n 0, 1) := dk_42 (dk_at dksX5_exact_0 21 rfl rfl)
theorem dX5_exact_22 : decode cX5_exact 22 = .ok (.getfield 18, 3) := dk_180 0 18 (dk_at dksX5_exact_1 0 rfl rfl)
theorem dX5_exact_25 : decode cX5_exact 25 = .ok (.i2l, 1) := dk_133 (dk_at dksX5_exact_1 3 rfl rfl)
theorem dX5_exact_26 : decode cX5_exact 26 = .ok (.goto 8, 3) := dk_167 0 8 (dk_at dksX5_exact_1 4 rfl rfl)
theorem dX5_exact_29 : decode cX5_exact 29 = .ok (.aload_n 0, 1) := dk_42 (dk_at dksX5_exact_1 7 rfl rfl)
theorem dX5_exact_30 : decode cX5_exact 30 = .ok (.getfield 21, 3) := dk_180 0 21 (dk_at dksX5_exact_1 8 rfl rfl)
theorem dX5_exact_33 : decode cX5_exact 33 = .ok (.i2l, 1) := dk_133 (dk_at dksX5_exact_1 11 rfl rfl)
theorem dX5_exact_34 : decode cX5_exact 34 = .ok (.lstore 5, 2) := dk_55 5 (dk_at dksX5_exact_1 12 rfl rfl)
theorem dX5_exact_36 : decode cX5_exact 36 = .ok (.iconst 2, 1) := dk_5 (dk_at dksX5_exact_1 14 rfl rfl)
theorem dX5_exact_37 : decode cX5_exact 37 = .ok (.istore 7, 2) := dk_54 7 (dk_at dksX5_exact_1 15 rfl rfl)
theorem dX5_exact_39 : decode cX5_exact 39 = .ok (.iload 7, 2) := dk_21 7 (dk_at dksX5_exact_1 17 rfl rfl)
theorem dX5_exact_41 : decode cX5_exact 41 = .ok (.iload_n 2, 1) := dk_28 (dk_at dksX5_exact_1 19 rfl rfl)
theorem dX5_exact_42 : decode cX5_exact 42 = .ok (.if_icmp .gt 50, 3) := dk_163 0 50 (dk_at dksX5_exact_1 20 rfl rfl)
theorem dX5_exact_45 : decode cX5_exact 45 = .ok (.aload_n 0, 1) := dk_42 (dk_at dksX5_exact_1 23 rfl rfl)
theorem dX5_exact_46 : decode cX5_exact 46 = .ok (.getfield 9, 3) := dk_180 0 9 (dk_at dksX5_exact_2 0 rfl rfl)
theorem dX5_exact_49 : decode cX5_exact 49 = .ok (.i2l, 1) := dk_133 (dk_at dksX5_exact_2 3 rfl rfl)
theorem dX5_exact_50 : decode cX5_exact 50 = .ok (.lload 5, 2) := dk_22 5 (dk_at dksX5_exact_2 4 rfl rfl)
theorem dX5_exact_52 : decode cX5_exact 52 = .ok (.lmul, 1) := dk_105 (dk_at dksX5_exact_2 6 rfl rfl)
theorem dX5_exact_53 : decode cX5_exact 53 = .ok (.aload_n 0, 1) := dk_42 (dk_at dksX5_exact_2 7 rfl rfl)
theorem dX5_exact_54 : decode cX5_exact 54 = .ok (.getfield 15, 3) := dk_180 0 15 (dk_at dksX5_exact_2 8 rfl rfl)
theorem dX5_exact_57 : decode cX5_exact 57 = .ok (.i2l, 1) := dk_133 (dk_at dksX5_exact_2 11 rfl rfl)
theorem dX5_exact_58 : decode cX5_exact 58 = .ok (.lload_n 3, 1) := dk_33 (dk_at dksX5_exact_2 12 rfl rfl)
theorem dX5_exact_59 : decode cX5_exact 59 = .ok (.lmul, 1) := dk_105 (dk_at dksX5_exact_2 13 rfl rfl)
theorem dX5_exact_60 : decode cX5_exact 60 = .ok (.ladd, 1) := dk_97 (dk_at dksX5_exact_2 14 rfl rfl)
theorem dX5_exact_61 : decode cX5_exact 61 = .ok (.invokestatic 30, 3) := dk_184 0 30 (dk_at dksX5_exact_2 15 rfl rfl)
theorem dX5_exact_64 : decode cX5_exact 64 = .ok (.lstore 8, 2) := dk_55 8 (dk_at dksX5_exact_2 18 rfl rfl)
theorem dX5_exact_66 : decode cX5_exact 66 = .ok (.lload 8, 2) := dk_22 8 (dk_at dksX5_exact_2 20 rfl rfl)
theorem dX5_exact_68 : decode cX5_exact 68 = .ok (.ldc2_w 28, 3) := dk_20 0 28 (dk_at dksX5_exact_3 0 rfl rfl)
theorem dX5_exact_71 : decode cX5_exact 71 = .ok (.lcmp, 1) := dk_148 (dk_at dksX5_exact_3 3 rfl rfl)
theorem dX5_exact_72 : decode cX5_exact 72 = .ok (.ifCond .ne 7, 3) := dk_154 0 7 (dk_at dksX5_exact_3 4 rfl rfl)
theorem dX5_exact_75 : decode cX5_exact 75 = .ok (.ldc2_w 28, 3) := dk_20 0 28 (dk_at dksX5_exact_3 7 rfl rfl)
theorem dX5_exact_78 : decode cX5_exact 78 = .ok (.lreturn, 1) := dk_173 (dk_at dksX5_exact_3 10 rfl rfl)
theorem dX5_exact_79 : decode cX5_exact 79 = .ok (.lload 5, 2) := dk_22 5 (dk_at dksX5_exact_3 11 rfl rfl)
theorem dX5_exact_81 : decode cX5_exact 81 = .ok (.lstore_n 3, 1) := dk_66 (dk_at dksX5_exact_3 13 rfl rfl)
theorem dX5_exact_82 : decode cX5_exact 82 = .ok (.lload 8, 2) := dk_22 8 (dk_at dksX5_exact_3 14 rfl rfl)
theorem dX5_exact_84 : decode cX5_exact 84 = .ok (.lstore 5, 2) := dk_55 5 (dk_at dksX5_exact_3 16 rfl rfl)
theorem dX5_exact_86 : decode cX5_exact 86 = .ok (.iinc 7 1, 3) := dk_132 7 1 (dk_at dksX5_exact_3 18 rfl rfl)
theorem dX5_exact_89 : decode cX5_exact 89 = .ok (.goto (-50), 3) := dk_167 255 206 (dk_at dksX5_exact_3 21 rfl rfl)
theorem dX5_exact_92 : decode cX5_exact 92 = .ok (.lload 5, 2) := dk_22 5 (dk_at dksX5_exact_4 0 rfl rfl)
theorem dX5_exact_94 : decode cX5_exact 94 = .ok (.lreturn, 1) := dk_173 (dk_at dksX5_exact_4 2 rfl rfl)
abbrev cX5_turn : ByteArray := prog_14_method_7_code
def yX5_turn : MethodName := ⟨RX5, "turn", "(LAheadRows;ILAheadRows$Wheel;)V"⟩
def dkwX5_turn_6 : List UInt8 := [180, 0, 50, 100, 181, 0, 53, 177]
abbrev dktX5_turn_6 : List UInt8 := dkwX5_turn_6 ++ []
def dkwX5_turn_5 : List UInt8 := [132, 7, 1, 167, 255, 188, 45, 25, 4, 28, 21, 5, 104, 21, 6, 96, 46, 181, 0, 50, 45, 21, 7, 45]
abbrev dktX5_turn_5 : List UInt8 := dkwX5_turn_5 ++ dktX5_turn_6
def dkwX5_turn_4 : List UInt8 := [104, 42, 180, 0, 15, 21, 5, 104, 96, 28, 184, 0, 39, 54, 8, 21, 6, 54, 5, 21, 8, 54, 6]
abbrev dktX5_turn_4 : List UInt8 := dkwX5_turn_4 ++ dktX5_turn_5
def dkwX5_turn_3 : List UInt8 := [21, 5, 104, 21, 6, 96, 21, 7, 79, 45, 180, 0, 45, 21, 7, 21, 5, 79, 42, 180, 0, 9, 21, 6]
abbrev dktX5_turn_3 : List UInt8 := dkwX5_turn_3 ++ dktX5_turn_4
def dkwX5_turn_2 : List UInt8 := [54, 6, 3, 54, 7, 25, 4, 28, 21, 5, 104, 21, 6, 96, 46, 18, 38, 160, 0, 59, 25, 4, 28]
abbrev dktX5_turn_2 : List UInt8 := dkwX5_turn_2 ++ dktX5_turn_3
def dkwX5_turn_1 : List UInt8 := [132, 5, 1, 167, 255, 239, 42, 180, 0, 18, 28, 184, 0, 39, 54, 5, 42, 180, 0, 21, 28, 184, 0, 39]
abbrev dktX5_turn_1 : List UInt8 := dkwX5_turn_1 ++ dktX5_turn_2
def dkwX5_turn_0 : List UInt8 := [43, 180, 0, 34, 58, 4, 3, 54, 5, 21, 5, 16, 100, 162, 0, 16, 25, 4, 21, 5, 18, 38, 79]
abbrev dktX5_turn_0 : List UInt8 := dkwX5_turn_0 ++ dktX5_turn_1
theorem dksX5_turn_0 : cX5_turn.data.toList.drop 0 = dktX5_turn_0 := by decide +kernel
theorem dksX5_turn_1 : cX5_turn.data.toList.drop 23 = dktX5_turn_1 := dk_seg dksX5_turn_0 23 rfl rfl
theorem dksX5_turn_2 : cX5_turn.data.toList.drop 47 = dktX5_turn_2 := dk_seg dksX5_turn_1 24 rfl rfl
theorem dksX5_turn_3 : cX5_turn.data.toList.drop 70 = dktX5_turn_3 := dk_seg dksX5_turn_2 23 rfl rfl
theorem dksX5_turn_4 : cX5_turn.data.toList.drop 94 = dktX5_turn_4 := dk_seg dksX5_turn_3 24 rfl rfl
theorem dksX5_turn_5 : cX5_turn.data.toList.drop 117 = dktX5_turn_5 := dk_seg dksX5_turn_4 23 rfl rfl
theorem dksX5_turn_6 : cX5_turn.data.toList.drop 141 = dktX5_turn_6 := dk_seg dksX5_turn_5 24 rfl rfl
theorem dX5_turn_0 : decode cX5_turn 0 = .ok (.aload_n 1, 1) := dk_43 (dk_at dksX5_turn_0 0 rfl rfl)
theorem dX5_turn_1 : decode cX5_turn 1 = .ok (.getfield 34, 3) := dk_180 0 34 (dk_at dksX5_turn_0 1 rfl rfl)
theorem dX5_turn_4 : decode cX5_turn 4 = .ok (.astore 4, 2) := dk_58 4 (dk_at dksX5_turn_0 4 rfl rfl)
theorem dX5_turn_6 : decode cX5_turn 6 = .ok (.iconst 0, 1) := dk_3 (dk_at dksX5_turn_0 6 rfl rfl)
theorem dX5_turn_7 : decode cX5_turn 7 = .ok (.istore 5, 2) := dk_54 5 (dk_at dksX5_turn_0 7 rfl rfl)
theorem dX5_turn_9 : decode cX5_turn 9 = .ok (.iload 5, 2) := dk_21 5 (dk_at dksX5_turn_0 9 rfl rfl)
theorem dX5_turn_11 : decode cX5_turn 11 = .ok (.bipush 100, 2) := dk_16 100 (dk_at dksX5_turn_0 11 rfl rfl)
theorem dX5_turn_13 : decode cX5_turn 13 = .ok (.if_icmp .ge 16, 3) := dk_162 0 16 (dk_at dksX5_turn_0 13 rfl rfl)
theorem dX5_turn_16 : decode cX5_turn 16 = .ok (.aload 4, 2) := dk_25 4 (dk_at dksX5_turn_0 16 rfl rfl)
theorem dX5_turn_18 : decode cX5_turn 18 = .ok (.iload 5, 2) := dk_21 5 (dk_at dksX5_turn_0 18 rfl rfl)
theorem dX5_turn_20 : decode cX5_turn 20 = .ok (.ldc 38, 2) := dk_18 38 (dk_at dksX5_turn_0 20 rfl rfl)
theorem dX5_turn_22 : decode cX5_turn 22 = .ok (.iastore, 1) := dk_79 (dk_at dksX5_turn_0 22 rfl rfl)
theorem dX5_turn_23 : decode cX5_turn 23 = .ok (.iinc 5 1, 3) := dk_132 5 1 (dk_at dksX5_turn_1 0 rfl rfl)
theorem dX5_turn_26 : decode cX5_turn 26 = .ok (.goto (-17), 3) := dk_167 255 239 (dk_at dksX5_turn_1 3 rfl rfl)
theorem dX5_turn_29 : decode cX5_turn 29 = .ok (.aload_n 0, 1) := dk_42 (dk_at dksX5_turn_1 6 rfl rfl)
theorem dX5_turn_30 : decode cX5_turn 30 = .ok (.getfield 18, 3) := dk_180 0 18 (dk_at dksX5_turn_1 7 rfl rfl)
theorem dX5_turn_33 : decode cX5_turn 33 = .ok (.iload_n 2, 1) := dk_28 (dk_at dksX5_turn_1 10 rfl rfl)
theorem dX5_turn_34 : decode cX5_turn 34 = .ok (.invokestatic 39, 3) := dk_184 0 39 (dk_at dksX5_turn_1 11 rfl rfl)
theorem dX5_turn_37 : decode cX5_turn 37 = .ok (.istore 5, 2) := dk_54 5 (dk_at dksX5_turn_1 14 rfl rfl)
theorem dX5_turn_39 : decode cX5_turn 39 = .ok (.aload_n 0, 1) := dk_42 (dk_at dksX5_turn_1 16 rfl rfl)
theorem dX5_turn_40 : decode cX5_turn 40 = .ok (.getfield 21, 3) := dk_180 0 21 (dk_at dksX5_turn_1 17 rfl rfl)
theorem dX5_turn_43 : decode cX5_turn 43 = .ok (.iload_n 2, 1) := dk_28 (dk_at dksX5_turn_1 20 rfl rfl)
theorem dX5_turn_44 : decode cX5_turn 44 = .ok (.invokestatic 39, 3) := dk_184 0 39 (dk_at dksX5_turn_1 21 rfl rfl)
theorem dX5_turn_47 : decode cX5_turn 47 = .ok (.istore 6, 2) := dk_54 6 (dk_at dksX5_turn_2 0 rfl rfl)
theorem dX5_turn_49 : decode cX5_turn 49 = .ok (.iconst 0, 1) := dk_3 (dk_at dksX5_turn_2 2 rfl rfl)
theorem dX5_turn_50 : decode cX5_turn 50 = .ok (.istore 7, 2) := dk_54 7 (dk_at dksX5_turn_2 3 rfl rfl)
theorem dX5_turn_52 : decode cX5_turn 52 = .ok (.aload 4, 2) := dk_25 4 (dk_at dksX5_turn_2 5 rfl rfl)
theorem dX5_turn_54 : decode cX5_turn 54 = .ok (.iload_n 2, 1) := dk_28 (dk_at dksX5_turn_2 7 rfl rfl)
theorem dX5_turn_55 : decode cX5_turn 55 = .ok (.iload 5, 2) := dk_21 5 (dk_at dksX5_turn_2 8 rfl rfl)
theorem dX5_turn_57 : decode cX5_turn 57 = .ok (.imul, 1) := dk_104 (dk_at dksX5_turn_2 10 rfl rfl)
theorem dX5_turn_58 : decode cX5_turn 58 = .ok (.iload 6, 2) := dk_21 6 (dk_at dksX5_turn_2 11 rfl rfl)
theorem dX5_turn_60 : decode cX5_turn 60 = .ok (.iadd, 1) := dk_96 (dk_at dksX5_turn_2 13 rfl rfl)
theorem dX5_turn_61 : decode cX5_turn 61 = .ok (.iaload, 1) := dk_46 (dk_at dksX5_turn_2 14 rfl rfl)
theorem dX5_turn_62 : decode cX5_turn 62 = .ok (.ldc 38, 2) := dk_18 38 (dk_at dksX5_turn_2 15 rfl rfl)
theorem dX5_turn_64 : decode cX5_turn 64 = .ok (.if_icmp .ne 59, 3) := dk_160 0 59 (dk_at dksX5_turn_2 17 rfl rfl)
theorem dX5_turn_67 : decode cX5_turn 67 = .ok (.aload 4, 2) := dk_25 4 (dk_at dksX5_turn_2 20 rfl rfl)
theorem dX5_turn_69 : decode cX5_turn 69 = .ok (.iload_n 2, 1) := dk_28 (dk_at dksX5_turn_2 22 rfl rfl)
theorem dX5_turn_70 : decode cX5_turn 70 = .ok (.iload 5, 2) := dk_21 5 (dk_at dksX5_turn_3 0 rfl rfl)
theorem dX5_turn_72 : decode cX5_turn 72 = .ok (.imul, 1) := dk_104 (dk_at dksX5_turn_3 2 rfl rfl)
theorem dX5_turn_73 : decode cX5_turn 73 = .ok (.iload 6, 2) := dk_21 6 (dk_at dksX5_turn_3 3 rfl rfl)
theorem dX5_turn_75 : decode cX5_turn 75 = .ok (.iadd, 1) := dk_96 (dk_at dksX5_turn_3 5 rfl rfl)
theorem dX5_turn_76 : decode cX5_turn 76 = .ok (.iload 7, 2) := dk_21 7 (dk_at dksX5_turn_3 6 rfl rfl)
theorem dX5_turn_78 : decode cX5_turn 78 = .ok (.iastore, 1) := dk_79 (dk_at dksX5_turn_3 8 rfl rfl)
theorem dX5_turn_79 : decode cX5_turn 79 = .ok (.aload_n 3, 1) := dk_45 (dk_at dksX5_turn_3 9 rfl rfl)
theorem dX5_turn_80 : decode cX5_turn 80 = .ok (.getfield 45, 3) := dk_180 0 45 (dk_at dksX5_turn_3 10 rfl rfl)
theorem dX5_turn_83 : decode cX5_turn 83 = .ok (.iload 7, 2) := dk_21 7 (dk_at dksX5_turn_3 13 rfl rfl)
theorem dX5_turn_85 : decode cX5_turn 85 = .ok (.iload 5, 2) := dk_21 5 (dk_at dksX5_turn_3 15 rfl rfl)
theorem dX5_turn_87 : decode cX5_turn 87 = .ok (.iastore, 1) := dk_79 (dk_at dksX5_turn_3 17 rfl rfl)
theorem dX5_turn_88 : decode cX5_turn 88 = .ok (.aload_n 0, 1) := dk_42 (dk_at dksX5_turn_3 18 rfl rfl)
theorem dX5_turn_89 : decode cX5_turn 89 = .ok (.getfield 9, 3) := dk_180 0 9 (dk_at dksX5_turn_3 19 rfl rfl)
theorem dX5_turn_92 : decode cX5_turn 92 = .ok (.iload 6, 2) := dk_21 6 (dk_at dksX5_turn_3 22 rfl rfl)
theorem dX5_turn_94 : decode cX5_turn 94 = .ok (.imul, 1) := dk_104 (dk_at dksX5_turn_4 0 rfl rfl)
theorem dX5_turn_95 : decode cX5_turn 95 = .ok (.aload_n 0, 1) := dk_42 (dk_at dksX5_turn_4 1 rfl rfl)
theorem dX5_turn_96 : decode cX5_turn 96 = .ok (.getfield 15, 3) := dk_180 0 15 (dk_at dksX5_turn_4 2 rfl rfl)
theorem dX5_turn_99 : decode cX5_turn 99 = .ok (.iload 5, 2) := dk_21 5 (dk_at dksX5_turn_4 5 rfl rfl)
theorem dX5_turn_101 : decode cX5_turn 101 = .ok (.imul, 1) := dk_104 (dk_at dksX5_turn_4 7 rfl rfl)
theorem dX5_turn_102 : decode cX5_turn 102 = .ok (.iadd, 1) := dk_96 (dk_at dksX5_turn_4 8 rfl rfl)
theorem dX5_turn_103 : decode cX5_turn 103 = .ok (.iload_n 2, 1) := dk_28 (dk_at dksX5_turn_4 9 rfl rfl)
theorem dX5_turn_104 : decode cX5_turn 104 = .ok (.invokestatic 39, 3) := dk_184 0 39 (dk_at dksX5_turn_4 10 rfl rfl)
theorem dX5_turn_107 : decode cX5_turn 107 = .ok (.istore 8, 2) := dk_54 8 (dk_at dksX5_turn_4 13 rfl rfl)
theorem dX5_turn_109 : decode cX5_turn 109 = .ok (.iload 6, 2) := dk_21 6 (dk_at dksX5_turn_4 15 rfl rfl)
theorem dX5_turn_111 : decode cX5_turn 111 = .ok (.istore 5, 2) := dk_54 5 (dk_at dksX5_turn_4 17 rfl rfl)
theorem dX5_turn_113 : decode cX5_turn 113 = .ok (.iload 8, 2) := dk_21 8 (dk_at dksX5_turn_4 19 rfl rfl)
theorem dX5_turn_115 : decode cX5_turn 115 = .ok (.istore 6, 2) := dk_54 6 (dk_at dksX5_turn_4 21 rfl rfl)
theorem dX5_turn_117 : decode cX5_turn 117 = .ok (.iinc 7 1, 3) := dk_132 7 1 (dk_at dksX5_turn_5 0 rfl rfl)
theorem dX5_turn_120 : decode cX5_turn 120 = .ok (.goto (-68), 3) := dk_167 255 188 (dk_at dksX5_turn_5 3 rfl rfl)
theorem dX5_turn_123 : decode cX5_turn 123 = .ok (.aload_n 3, 1) := dk_45 (dk_at dksX5_turn_5 6 rfl rfl)
theorem dX5_turn_124 : decode cX5_turn 124 = .ok (.aload 4, 2) := dk_25 4 (dk_at dksX5_turn_5 7 rfl rfl)
theorem dX5_turn_126 : decode cX5_turn 126 = .ok (.iload_n 2, 1) := dk_28 (dk_at dksX5_turn_5 9 rfl rfl)
theorem dX5_turn_127 : decode cX5_turn 127 = .ok (.iload 5, 2) := dk_21 5 (dk_at dksX5_turn_5 10 rfl rfl)
theorem dX5_turn_129 : decode cX5_turn 129 = .ok (.imul, 1) := dk_104 (dk_at dksX5_turn_5 12 rfl rfl)
theorem dX5_turn_130 : decode cX5_turn 130 = .ok (.iload 6, 2) := dk_21 6 (dk_at dksX5_turn_5 13 rfl rfl)
theorem dX5_turn_132 : decode cX5_turn 132 = .ok (.iadd, 1) := dk_96 (dk_at dksX5_turn_5 15 rfl rfl)
theorem dX5_turn_133 : decode cX5_turn 133 = .ok (.iaload, 1) := dk_46 (dk_at dksX5_turn_5 16 rfl rfl)
theorem dX5_turn_134 : decode cX5_turn 134 = .ok (.putfield 50, 3) := dk_181 0 50 (dk_at dksX5_turn_5 17 rfl rfl)
theorem dX5_turn_137 : decode cX5_turn 137 = .ok (.aload_n 3, 1) := dk_45 (dk_at dksX5_turn_5 20 rfl rfl)
theorem dX5_turn_138 : decode cX5_turn 138 = .ok (.iload 7, 2) := dk_21 7 (dk_at dksX5_turn_5 21 rfl rfl)
theorem dX5_turn_140 : decode cX5_turn 140 = .ok (.aload_n 3, 1) := dk_45 (dk_at dksX5_turn_5 23 rfl rfl)
theorem dX5_turn_141 : decode cX5_turn 141 = .ok (.getfield 50, 3) := dk_180 0 50 (dk_at dksX5_turn_6 0 rfl rfl)
theorem dX5_turn_144 : decode cX5_turn 144 = .ok (.isub, 1) := dk_100 (dk_at dksX5_turn_6 3 rfl rfl)
theorem dX5_turn_145 : decode cX5_turn 145 = .ok (.putfield 53, 3) := dk_181 0 53 (dk_at dksX5_turn_6 4 rfl rfl)
theorem dX5_turn_148 : decode cX5_turn 148 = .ok (.return_, 1) := dk_177 (dk_at dksX5_turn_6 7 rfl rfl)
abbrev cX5_power : ByteArray := prog_14_method_9_code
def yX5_power : MethodName := ⟨RX5, "power", "(I)[I"⟩
def dkwX5_power_3 : List UInt8 := [89, 5, 21, 4, 116, 79, 89, 6, 3, 79, 89, 7, 3, 79, 176]
abbrev dktX5_power_3 : List UInt8 := dkwX5_power_3 ++ []
def dkwX5_power_2 : List UInt8 := [180, 0, 15, 116, 104, 54, 4, 132, 5, 1, 167, 255, 217, 8, 188, 10, 89, 3, 5, 79, 89, 4, 29, 79]
abbrev dktX5_power_2 : List UInt8 := dkwX5_power_2 ++ dktX5_power_3
def dkwX5_power_1 : List UInt8 := [180, 0, 9, 29, 104, 42, 180, 0, 15, 28, 104, 96, 54, 6, 29, 61, 21, 6, 62, 21, 4, 42]
abbrev dktX5_power_1 : List UInt8 := dkwX5_power_1 ++ dktX5_power_2
def dkwX5_power_0 : List UInt8 := [5, 61, 42, 180, 0, 9, 62, 42, 180, 0, 15, 116, 54, 4, 4, 54, 5, 21, 5, 27, 162, 0, 39, 42]
abbrev dktX5_power_0 : List UInt8 := dkwX5_power_0 ++ dktX5_power_1
theorem dksX5_power_0 : cX5_power.data.toList.drop 0 = dktX5_power_0 := by decide +kernel
theorem dksX5_power_1 : cX5_power.data.toList.drop 24 = dktX5_power_1 := dk_seg dksX5_power_0 24 rfl rfl
theorem dksX5_power_2 : cX5_power.data.toList.drop 46 = dktX5_power_2 := dk_seg dksX5_power_1 22 rfl rfl
theorem dksX5_power_3 : cX5_power.data.toList.drop 70 = dktX5_power_3 := dk_seg dksX5_power_2 24 rfl rfl
theorem dX5_power_0 : decode cX5_power 0 = .ok (.iconst 2, 1) := dk_5 (dk_at dksX5_power_0 0 rfl rfl)
theorem dX5_power_1 : decode cX5_power 1 = .ok (.istore_n 2, 1) := dk_61 (dk_at dksX5_power_0 1 rfl rfl)
theorem dX5_power_2 : decode cX5_power 2 = .ok (.aload_n 0, 1) := dk_42 (dk_at dksX5_power_0 2 rfl rfl)
theorem dX5_power_3 : decode cX5_power 3 = .ok (.getfield 9, 3) := dk_180 0 9 (dk_at dksX5_power_0 3 rfl rfl)
theorem dX5_power_6 : decode cX5_power 6 = .ok (.istore_n 3, 1) := dk_62 (dk_at dksX5_power_0 6 rfl rfl)
theorem dX5_power_7 : decode cX5_power 7 = .ok (.aload_n 0, 1) := dk_42 (dk_at dksX5_power_0 7 rfl rfl)
theorem dX5_power_8 : decode cX5_power 8 = .ok (.getfield 15, 3) := dk_180 0 15 (dk_at dksX5_power_0 8 rfl rfl)
theorem dX5_power_11 : decode cX5_power 11 = .ok (.ineg, 1) := dk_116 (dk_at dksX5_power_0 11 rfl rfl)
theorem dX5_power_12 : decode cX5_power 12 = .ok (.istore 4, 2) := dk_54 4 (dk_at dksX5_power_0 12 rfl rfl)
theorem dX5_power_14 : decode cX5_power 14 = .ok (.iconst 1, 1) := dk_4 (dk_at dksX5_power_0 14 rfl rfl)
theorem dX5_power_15 : decode cX5_power 15 = .ok (.istore 5, 2) := dk_54 5 (dk_at dksX5_power_0 15 rfl rfl)
theorem dX5_power_17 : decode cX5_power 17 = .ok (.iload 5, 2) := dk_21 5 (dk_at dksX5_power_0 17 rfl rfl)
theorem dX5_power_19 : decode cX5_power 19 = .ok (.iload_n 1, 1) := dk_27 (dk_at dksX5_power_0 19 rfl rfl)
theorem dX5_power_20 : decode cX5_power 20 = .ok (.if_icmp .ge 39, 3) := dk_162 0 39 (dk_at dksX5_power_0 20 rfl rfl)
theorem dX5_power_23 : decode cX5_power 23 = .ok (.aload_n 0, 1) := dk_42 (dk_at dksX5_power_0 23 rfl rfl)
theorem dX5_power_24 : decode cX5_power 24 = .ok (.getfield 9, 3) := dk_180 0 9 (dk_at dksX5_power_1 0 rfl rfl)
theorem dX5_power_27 : decode cX5_power 27 = .ok (.iload_n 3, 1) := dk_29 (dk_at dksX5_power_1 3 rfl rfl)
theorem dX5_power_28 : decode cX5_power 28 = .ok (.imul, 1) := dk_104 (dk_at dksX5_power_1 4 rfl rfl)
theorem dX5_power_29 : decode cX5_power 29 = .ok (.aload_n 0, 1) := dk_42 (dk_at dksX5_power_1 5 rfl rfl)
theorem dX5_power_30 : decode cX5_power 30 = .ok (.getfield 15, 3) := dk_180 0 15 (dk_at dksX5_power_1 6 rfl rfl)
theorem dX5_power_33 : decode cX5_power 33 = .ok (.iload_n 2, 1) := dk_28 (dk_at dksX5_power_1 9 rfl rfl)
theorem dX5_power_34 : decode cX5_power 34 = .ok (.imul, 1) := dk_104 (dk_at dksX5_power_1 10 rfl rfl)
theorem dX5_power_35 : decode cX5_power 35 = .ok (.iadd, 1) := dk_96 (dk_at dksX5_power_1 11 rfl rfl)
theorem dX5_power_36 : decode cX5_power 36 = .ok (.istore 6, 2) := dk_54 6 (dk_at dksX5_power_1 12 rfl rfl)
theorem dX5_power_38 : decode cX5_power 38 = .ok (.iload_n 3, 1) := dk_29 (dk_at dksX5_power_1 14 rfl rfl)
theorem dX5_power_39 : decode cX5_power 39 = .ok (.istore_n 2, 1) := dk_61 (dk_at dksX5_power_1 15 rfl rfl)
theorem dX5_power_40 : decode cX5_power 40 = .ok (.iload 6, 2) := dk_21 6 (dk_at dksX5_power_1 16 rfl rfl)
theorem dX5_power_42 : decode cX5_power 42 = .ok (.istore_n 3, 1) := dk_62 (dk_at dksX5_power_1 18 rfl rfl)
theorem dX5_power_43 : decode cX5_power 43 = .ok (.iload 4, 2) := dk_21 4 (dk_at dksX5_power_1 19 rfl rfl)
theorem dX5_power_45 : decode cX5_power 45 = .ok (.aload_n 0, 1) := dk_42 (dk_at dksX5_power_1 21 rfl rfl)
theorem dX5_power_46 : decode cX5_power 46 = .ok (.getfield 15, 3) := dk_180 0 15 (dk_at dksX5_power_2 0 rfl rfl)
theorem dX5_power_49 : decode cX5_power 49 = .ok (.ineg, 1) := dk_116 (dk_at dksX5_power_2 3 rfl rfl)
theorem dX5_power_50 : decode cX5_power 50 = .ok (.imul, 1) := dk_104 (dk_at dksX5_power_2 4 rfl rfl)
theorem dX5_power_51 : decode cX5_power 51 = .ok (.istore 4, 2) := dk_54 4 (dk_at dksX5_power_2 5 rfl rfl)
theorem dX5_power_53 : decode cX5_power 53 = .ok (.iinc 5 1, 3) := dk_132 5 1 (dk_at dksX5_power_2 7 rfl rfl)
theorem dX5_power_56 : decode cX5_power 56 = .ok (.goto (-39), 3) := dk_167 255 217 (dk_at dksX5_power_2 10 rfl rfl)
theorem dX5_power_59 : decode cX5_power 59 = .ok (.iconst 5, 1) := dk_8 (dk_at dksX5_power_2 13 rfl rfl)
theorem dX5_power_60 : decode cX5_power 60 = .ok (.newarray .int, 2) := dk_188_10 (dk_at dksX5_power_2 14 rfl rfl)
theorem dX5_power_62 : decode cX5_power 62 = .ok (.dup, 1) := dk_89 (dk_at dksX5_power_2 16 rfl rfl)
theorem dX5_power_63 : decode cX5_power 63 = .ok (.iconst 0, 1) := dk_3 (dk_at dksX5_power_2 17 rfl rfl)
theorem dX5_power_64 : decode cX5_power 64 = .ok (.iconst 2, 1) := dk_5 (dk_at dksX5_power_2 18 rfl rfl)
theorem dX5_power_65 : decode cX5_power 65 = .ok (.iastore, 1) := dk_79 (dk_at dksX5_power_2 19 rfl rfl)
theorem dX5_power_66 : decode cX5_power 66 = .ok (.dup, 1) := dk_89 (dk_at dksX5_power_2 20 rfl rfl)
theorem dX5_power_67 : decode cX5_power 67 = .ok (.iconst 1, 1) := dk_4 (dk_at dksX5_power_2 21 rfl rfl)
theorem dX5_power_68 : decode cX5_power 68 = .ok (.iload_n 3, 1) := dk_29 (dk_at dksX5_power_2 22 rfl rfl)
theorem dX5_power_69 : decode cX5_power 69 = .ok (.iastore, 1) := dk_79 (dk_at dksX5_power_2 23 rfl rfl)
theorem dX5_power_70 : decode cX5_power 70 = .ok (.dup, 1) := dk_89 (dk_at dksX5_power_3 0 rfl rfl)
theorem dX5_power_71 : decode cX5_power 71 = .ok (.iconst 2, 1) := dk_5 (dk_at dksX5_power_3 1 rfl rfl)
theorem dX5_power_72 : decode cX5_power 72 = .ok (.iload 4, 2) := dk_21 4 (dk_at dksX5_power_3 2 rfl rfl)
theorem dX5_power_74 : decode cX5_power 74 = .ok (.ineg, 1) := dk_116 (dk_at dksX5_power_3 4 rfl rfl)
theorem dX5_power_75 : decode cX5_power 75 = .ok (.iastore, 1) := dk_79 (dk_at dksX5_power_3 5 rfl rfl)
theorem dX5_power_76 : decode cX5_power 76 = .ok (.dup, 1) := dk_89 (dk_at dksX5_power_3 6 rfl rfl)
theorem dX5_power_77 : decode cX5_power 77 = .ok (.iconst 3, 1) := dk_6 (dk_at dksX5_power_3 7 rfl rfl)
theorem dX5_power_78 : decode cX5_power 78 = .ok (.iconst 0, 1) := dk_3 (dk_at dksX5_power_3 8 rfl rfl)
theorem dX5_power_79 : decode cX5_power 79 = .ok (.iastore, 1) := dk_79 (dk_at dksX5_power_3 9 rfl rfl)
theorem dX5_power_80 : decode cX5_power 80 = .ok (.dup, 1) := dk_89 (dk_at dksX5_power_3 10 rfl rfl)
theorem dX5_power_81 : decode cX5_power 81 = .ok (.iconst 4, 1) := dk_7 (dk_at dksX5_power_3 11 rfl rfl)
theorem dX5_power_82 : decode cX5_power 82 = .ok (.iconst 0, 1) := dk_3 (dk_at dksX5_power_3 12 rfl rfl)
theorem dX5_power_83 : decode cX5_power 83 = .ok (.iastore, 1) := dk_79 (dk_at dksX5_power_3 13 rfl rfl)
theorem dX5_power_84 : decode cX5_power 84 = .ok (.areturn, 1) := dk_176 (dk_at dksX5_power_3 14 rfl rfl)
abbrev cX5_ruleBy : ByteArray := prog_14_method_8_code
def yX5_ruleBy : MethodName := ⟨RX5, "ruleBy", "(LAheadRows;)[I"⟩
def dkwX5_ruleBy_1 : List UInt8 := [79, 89, 7, 3, 79, 176]
abbrev dktX5_ruleBy_1 : List UInt8 := dkwX5_ruleBy_1 ++ []
def dkwX5_ruleBy_0 : List UInt8 := [8, 188, 10, 89, 3, 5, 79, 89, 4, 42, 180, 0, 9, 79, 89, 5, 42, 180, 0, 15, 79, 89, 6, 3]
abbrev dktX5_ruleBy_0 : List UInt8 := dkwX5_ruleBy_0 ++ dktX5_ruleBy_1
theorem dksX5_ruleBy_0 : cX5_ruleBy.data.toList.drop 0 = dktX5_ruleBy_0 := by decide +kernel
theorem dksX5_ruleBy_1 : cX5_ruleBy.data.toList.drop 24 = dktX5_ruleBy_1 := dk_seg dksX5_ruleBy_0 24 rfl rfl
theorem dX5_ruleBy_0 : decode cX5_ruleBy 0 = .ok (.iconst 5, 1) := dk_8 (dk_at dksX5_ruleBy_0 0 rfl rfl)
theorem dX5_ruleBy_1 : decode cX5_ruleBy 1 = .ok (.newarray .int, 2) := dk_188_10 (dk_at dksX5_ruleBy_0 1 rfl rfl)
theorem dX5_ruleBy_3 : decode cX5_ruleBy 3 = .ok (.dup, 1) := dk_89 (dk_at dksX5_ruleBy_0 3 rfl rfl)
theorem dX5_ruleBy_4 : decode cX5_ruleBy 4 = .ok (.iconst 0, 1) := dk_3 (dk_at dksX5_ruleBy_0 4 rfl rfl)
theorem dX5_ruleBy_5 : decode cX5_ruleBy 5 = .ok (.iconst 2, 1) := dk_5 (dk_at dksX5_ruleBy_0 5 rfl rfl)
theorem dX5_ruleBy_6 : decode cX5_ruleBy 6 = .ok (.iastore, 1) := dk_79 (dk_at dksX5_ruleBy_0 6 rfl rfl)
theorem dX5_ruleBy_7 : decode cX5_ruleBy 7 = .ok (.dup, 1) := dk_89 (dk_at dksX5_ruleBy_0 7 rfl rfl)
theorem dX5_ruleBy_8 : decode cX5_ruleBy 8 = .ok (.iconst 1, 1) := dk_4 (dk_at dksX5_ruleBy_0 8 rfl rfl)
theorem dX5_ruleBy_9 : decode cX5_ruleBy 9 = .ok (.aload_n 0, 1) := dk_42 (dk_at dksX5_ruleBy_0 9 rfl rfl)
theorem dX5_ruleBy_10 : decode cX5_ruleBy 10 = .ok (.getfield 9, 3) := dk_180 0 9 (dk_at dksX5_ruleBy_0 10 rfl rfl)
theorem dX5_ruleBy_13 : decode cX5_ruleBy 13 = .ok (.iastore, 1) := dk_79 (dk_at dksX5_ruleBy_0 13 rfl rfl)
theorem dX5_ruleBy_14 : decode cX5_ruleBy 14 = .ok (.dup, 1) := dk_89 (dk_at dksX5_ruleBy_0 14 rfl rfl)
theorem dX5_ruleBy_15 : decode cX5_ruleBy 15 = .ok (.iconst 2, 1) := dk_5 (dk_at dksX5_ruleBy_0 15 rfl rfl)
theorem dX5_ruleBy_16 : decode cX5_ruleBy 16 = .ok (.aload_n 0, 1) := dk_42 (dk_at dksX5_ruleBy_0 16 rfl rfl)
theorem dX5_ruleBy_17 : decode cX5_ruleBy 17 = .ok (.getfield 15, 3) := dk_180 0 15 (dk_at dksX5_ruleBy_0 17 rfl rfl)
theorem dX5_ruleBy_20 : decode cX5_ruleBy 20 = .ok (.iastore, 1) := dk_79 (dk_at dksX5_ruleBy_0 20 rfl rfl)
theorem dX5_ruleBy_21 : decode cX5_ruleBy 21 = .ok (.dup, 1) := dk_89 (dk_at dksX5_ruleBy_0 21 rfl rfl)
theorem dX5_ruleBy_22 : decode cX5_ruleBy 22 = .ok (.iconst 3, 1) := dk_6 (dk_at dksX5_ruleBy_0 22 rfl rfl)
theorem dX5_ruleBy_23 : decode cX5_ruleBy 23 = .ok (.iconst 0, 1) := dk_3 (dk_at dksX5_ruleBy_0 23 rfl rfl)
theorem dX5_ruleBy_24 : decode cX5_ruleBy 24 = .ok (.iastore, 1) := dk_79 (dk_at dksX5_ruleBy_1 0 rfl rfl)
theorem dX5_ruleBy_25 : decode cX5_ruleBy 25 = .ok (.dup, 1) := dk_89 (dk_at dksX5_ruleBy_1 1 rfl rfl)
theorem dX5_ruleBy_26 : decode cX5_ruleBy 26 = .ok (.iconst 4, 1) := dk_7 (dk_at dksX5_ruleBy_1 2 rfl rfl)
theorem dX5_ruleBy_27 : decode cX5_ruleBy 27 = .ok (.iconst 0, 1) := dk_3 (dk_at dksX5_ruleBy_1 3 rfl rfl)
theorem dX5_ruleBy_28 : decode cX5_ruleBy 28 = .ok (.iastore, 1) := dk_79 (dk_at dksX5_ruleBy_1 4 rfl rfl)
theorem dX5_ruleBy_29 : decode cX5_ruleBy 29 = .ok (.areturn, 1) := dk_176 (dk_at dksX5_ruleBy_1 5 rfl rfl)
abbrev cX5_under : ByteArray := prog_14_method_12_code
def yX5_under : MethodName := ⟨RX5, "under", "()I"⟩
def dkwX5_under_0 : List UInt8 := [42, 180, 0, 9, 42, 180, 0, 9, 104, 7, 42, 180, 0, 15, 104, 96, 172]
abbrev dktX5_under_0 : List UInt8 := dkwX5_under_0 ++ []
theorem dksX5_under_0 : cX5_under.data.toList.drop 0 = dktX5_under_0 := by decide +kernel
theorem dX5_under_0 : decode cX5_under 0 = .ok (.aload_n 0, 1) := dk_42 (dk_at dksX5_under_0 0 rfl rfl)
theorem dX5_under_1 : decode cX5_under 1 = .ok (.getfield 9, 3) := dk_180 0 9 (dk_at dksX5_under_0 1 rfl rfl)
theorem dX5_under_4 : decode cX5_under 4 = .ok (.aload_n 0, 1) := dk_42 (dk_at dksX5_under_0 4 rfl rfl)
theorem dX5_under_5 : decode cX5_under 5 = .ok (.getfield 9, 3) := dk_180 0 9 (dk_at dksX5_under_0 5 rfl rfl)
theorem dX5_under_8 : decode cX5_under 8 = .ok (.imul, 1) := dk_104 (dk_at dksX5_under_0 8 rfl rfl)
theorem dX5_under_9 : decode cX5_under 9 = .ok (.iconst 4, 1) := dk_7 (dk_at dksX5_under_0 9 rfl rfl)
theorem dX5_under_10 : decode cX5_under 10 = .ok (.aload_n 0, 1) := dk_42 (dk_at dksX5_under_0 10 rfl rfl)
theorem dX5_under_11 : decode cX5_under 11 = .ok (.getfield 15, 3) := dk_180 0 15 (dk_at dksX5_under_0 11 rfl rfl)
theorem dX5_under_14 : decode cX5_under 14 = .ok (.imul, 1) := dk_104 (dk_at dksX5_under_0 14 rfl rfl)
theorem dX5_under_15 : decode cX5_under 15 = .ok (.iadd, 1) := dk_96 (dk_at dksX5_under_0 15 rfl rfl)
theorem dX5_under_16 : decode cX5_under 16 = .ok (.ireturn, 1) := dk_172 (dk_at dksX5_under_0 16 rfl rfl)
abbrev cX5_degenerate : ByteArray := prog_14_method_13_code
def yX5_degenerate : MethodName := ⟨RX5, "degenerate", "()I"⟩
def dkwX5_degenerate_4 : List UInt8 := [172]
abbrev dktX5_degenerate_4 : List UInt8 := dkwX5_degenerate_4 ++ []
def dkwX5_degenerate_3 : List UInt8 := [180, 0, 9, 42, 180, 0, 9, 104, 16, 253, 42, 180, 0, 15, 104, 160, 0, 8, 16, 6, 167, 0, 4, 3]
abbrev dktX5_degenerate_3 : List UInt8 := dkwX5_degenerate_3 ++ dktX5_degenerate_4
def dkwX5_degenerate_2 : List UInt8 := [42, 180, 0, 9, 42, 180, 0, 9, 104, 16, 254, 42, 180, 0, 15, 104, 160, 0, 7, 7, 167, 0, 28, 42]
abbrev dktX5_degenerate_2 : List UInt8 := dkwX5_degenerate_2 ++ dktX5_degenerate_3
def dkwX5_degenerate_1 : List UInt8 := [167, 0, 72, 42, 180, 0, 9, 42, 180, 0, 9, 104, 42, 180, 0, 15, 116, 160, 0, 7, 6, 167, 0, 51]
abbrev dktX5_degenerate_1 : List UInt8 := dkwX5_degenerate_1 ++ dktX5_degenerate_2
def dkwX5_degenerate_0 : List UInt8 := [42, 180, 0, 15, 153, 0, 10, 42, 182, 0, 59, 154, 0, 5, 3, 172, 42, 180, 0, 9, 154, 0, 7, 5]
abbrev dktX5_degenerate_0 : List UInt8 := dkwX5_degenerate_0 ++ dktX5_degenerate_1
theorem dksX5_degenerate_0 : cX5_degenerate.data.toList.drop 0 = dktX5_degenerate_0 := by decide +kernel
theorem dksX5_degenerate_1 : cX5_degenerate.data.toList.drop 24 = dktX5_degenerate_1 := dk_seg dksX5_degenerate_0 24 rfl rfl
theorem dksX5_degenerate_2 : cX5_degenerate.data.toList.drop 48 = dktX5_degenerate_2 := dk_seg dksX5_degenerate_1 24 rfl rfl
theorem dksX5_degenerate_3 : cX5_degenerate.data.toList.drop 72 = dktX5_degenerate_3 := dk_seg dksX5_degenerate_2 24 rfl rfl
theorem dksX5_degenerate_4 : cX5_degenerate.data.toList.drop 96 = dktX5_degenerate_4 := dk_seg dksX5_degenerate_3 24 rfl rfl
theorem dX5_degenerate_0 : decode cX5_degenerate 0 = .ok (.aload_n 0, 1) := dk_42 (dk_at dksX5_degenerate_0 0 rfl rfl)
theorem dX5_degenerate_1 : decode cX5_degenerate 1 = .ok (.getfield 15, 3) := dk_180 0 15 (dk_at dksX5_degenerate_0 1 rfl rfl)
theorem dX5_degenerate_4 : decode cX5_degenerate 4 = .ok (.ifCond .eq 10, 3) := dk_153 0 10 (dk_at dksX5_degenerate_0 4 rfl rfl)
theorem dX5_degenerate_7 : decode cX5_degenerate 7 = .ok (.aload_n 0, 1) := dk_42 (dk_at dksX5_degenerate_0 7 rfl rfl)
theorem dX5_degenerate_8 : decode cX5_degenerate 8 = .ok (.invokevirtual 59, 3) := dk_182 0 59 (dk_at dksX5_degenerate_0 8 rfl rfl)
theorem dX5_degenerate_11 : decode cX5_degenerate 11 = .ok (.ifCond .ne 5, 3) := dk_154 0 5 (dk_at dksX5_degenerate_0 11 rfl rfl)
theorem dX5_degenerate_14 : decode cX5_degenerate 14 = .ok (.iconst 0, 1) := dk_3 (dk_at dksX5_degenerate_0 14 rfl rfl)
theorem dX5_degenerate_15 : decode cX5_degenerate 15 = .ok (.ireturn, 1) := dk_172 (dk_at dksX5_degenerate_0 15 rfl rfl)
theorem dX5_degenerate_16 : decode cX5_degenerate 16 = .ok (.aload_n 0, 1) := dk_42 (dk_at dksX5_degenerate_0 16 rfl rfl)
theorem dX5_degenerate_17 : decode cX5_degenerate 17 = .ok (.getfield 9, 3) := dk_180 0 9 (dk_at dksX5_degenerate_0 17 rfl rfl)
theorem dX5_degenerate_20 : decode cX5_degenerate 20 = .ok (.ifCond .ne 7, 3) := dk_154 0 7 (dk_at dksX5_degenerate_0 20 rfl rfl)
theorem dX5_degenerate_23 : decode cX5_degenerate 23 = .ok (.iconst 2, 1) := dk_5 (dk_at dksX5_degenerate_0 23 rfl rfl)
theorem dX5_degenerate_24 : decode cX5_degenerate 24 = .ok (.goto 72, 3) := dk_167 0 72 (dk_at dksX5_degenerate_1 0 rfl rfl)
theorem dX5_degenerate_27 : decode cX5_degenerate 27 = .ok (.aload_n 0, 1) := dk_42 (dk_at dksX5_degenerate_1 3 rfl rfl)
theorem dX5_degenerate_28 : decode cX5_degenerate 28 = .ok (.getfield 9, 3) := dk_180 0 9 (dk_at dksX5_degenerate_1 4 rfl rfl)
theorem dX5_degenerate_31 : decode cX5_degenerate 31 = .ok (.aload_n 0, 1) := dk_42 (dk_at dksX5_degenerate_1 7 rfl rfl)
theorem dX5_degenerate_32 : decode cX5_degenerate 32 = .ok (.getfield 9, 3) := dk_180 0 9 (dk_at dksX5_degenerate_1 8 rfl rfl)
theorem dX5_degenerate_35 : decode cX5_degenerate 35 = .ok (.imul, 1) := dk_104 (dk_at dksX5_degenerate_1 11 rfl rfl)
theorem dX5_degenerate_36 : decode cX5_degenerate 36 = .ok (.aload_n 0, 1) := dk_42 (dk_at dksX5_degenerate_1 12 rfl rfl)
theorem dX5_degenerate_37 : decode cX5_degenerate 37 = .ok (.getfield 15, 3) := dk_180 0 15 (dk_at dksX5_degenerate_1 13 rfl rfl)
theorem dX5_degenerate_40 : decode cX5_degenerate 40 = .ok (.ineg, 1) := dk_116 (dk_at dksX5_degenerate_1 16 rfl rfl)
theorem dX5_degenerate_41 : decode cX5_degenerate 41 = .ok (.if_icmp .ne 7, 3) := dk_160 0 7 (dk_at dksX5_degenerate_1 17 rfl rfl)
theorem dX5_degenerate_44 : decode cX5_degenerate 44 = .ok (.iconst 3, 1) := dk_6 (dk_at dksX5_degenerate_1 20 rfl rfl)
theorem dX5_degenerate_45 : decode cX5_degenerate 45 = .ok (.goto 51, 3) := dk_167 0 51 (dk_at dksX5_degenerate_1 21 rfl rfl)
theorem dX5_degenerate_48 : decode cX5_degenerate 48 = .ok (.aload_n 0, 1) := dk_42 (dk_at dksX5_degenerate_2 0 rfl rfl)
theorem dX5_degenerate_49 : decode cX5_degenerate 49 = .ok (.getfield 9, 3) := dk_180 0 9 (dk_at dksX5_degenerate_2 1 rfl rfl)
theorem dX5_degenerate_52 : decode cX5_degenerate 52 = .ok (.aload_n 0, 1) := dk_42 (dk_at dksX5_degenerate_2 4 rfl rfl)
theorem dX5_degenerate_53 : decode cX5_degenerate 53 = .ok (.getfield 9, 3) := dk_180 0 9 (dk_at dksX5_degenerate_2 5 rfl rfl)
theorem dX5_degenerate_56 : decode cX5_degenerate 56 = .ok (.imul, 1) := dk_104 (dk_at dksX5_degenerate_2 8 rfl rfl)
theorem dX5_degenerate_57 : decode cX5_degenerate 57 = .ok (.bipush (-2), 2) := dk_16 254 (dk_at dksX5_degenerate_2 9 rfl rfl)
theorem dX5_degenerate_59 : decode cX5_degenerate 59 = .ok (.aload_n 0, 1) := dk_42 (dk_at dksX5_degenerate_2 11 rfl rfl)
theorem dX5_degenerate_60 : decode cX5_degenerate 60 = .ok (.getfield 15, 3) := dk_180 0 15 (dk_at dksX5_degenerate_2 12 rfl rfl)
theorem dX5_degenerate_63 : decode cX5_degenerate 63 = .ok (.imul, 1) := dk_104 (dk_at dksX5_degenerate_2 15 rfl rfl)
theorem dX5_degenerate_64 : decode cX5_degenerate 64 = .ok (.if_icmp .ne 7, 3) := dk_160 0 7 (dk_at dksX5_degenerate_2 16 rfl rfl)
theorem dX5_degenerate_67 : decode cX5_degenerate 67 = .ok (.iconst 4, 1) := dk_7 (dk_at dksX5_degenerate_2 19 rfl rfl)
theorem dX5_degenerate_68 : decode cX5_degenerate 68 = .ok (.goto 28, 3) := dk_167 0 28 (dk_at dksX5_degenerate_2 20 rfl rfl)
theorem dX5_degenerate_71 : decode cX5_degenerate 71 = .ok (.aload_n 0, 1) := dk_42 (dk_at dksX5_degenerate_2 23 rfl rfl)
theorem dX5_degenerate_72 : decode cX5_degenerate 72 = .ok (.getfield 9, 3) := dk_180 0 9 (dk_at dksX5_degenerate_3 0 rfl rfl)
theorem dX5_degenerate_75 : decode cX5_degenerate 75 = .ok (.aload_n 0, 1) := dk_42 (dk_at dksX5_degenerate_3 3 rfl rfl)
theorem dX5_degenerate_76 : decode cX5_degenerate 76 = .ok (.getfield 9, 3) := dk_180 0 9 (dk_at dksX5_degenerate_3 4 rfl rfl)
theorem dX5_degenerate_79 : decode cX5_degenerate 79 = .ok (.imul, 1) := dk_104 (dk_at dksX5_degenerate_3 7 rfl rfl)
theorem dX5_degenerate_80 : decode cX5_degenerate 80 = .ok (.bipush (-3), 2) := dk_16 253 (dk_at dksX5_degenerate_3 8 rfl rfl)
theorem dX5_degenerate_82 : decode cX5_degenerate 82 = .ok (.aload_n 0, 1) := dk_42 (dk_at dksX5_degenerate_3 10 rfl rfl)
theorem dX5_degenerate_83 : decode cX5_degenerate 83 = .ok (.getfield 15, 3) := dk_180 0 15 (dk_at dksX5_degenerate_3 11 rfl rfl)
theorem dX5_degenerate_86 : decode cX5_degenerate 86 = .ok (.imul, 1) := dk_104 (dk_at dksX5_degenerate_3 14 rfl rfl)
theorem dX5_degenerate_87 : decode cX5_degenerate 87 = .ok (.if_icmp .ne 8, 3) := dk_160 0 8 (dk_at dksX5_degenerate_3 15 rfl rfl)
theorem dX5_degenerate_90 : decode cX5_degenerate 90 = .ok (.bipush 6, 2) := dk_16 6 (dk_at dksX5_degenerate_3 18 rfl rfl)
theorem dX5_degenerate_92 : decode cX5_degenerate 92 = .ok (.goto 4, 3) := dk_167 0 4 (dk_at dksX5_degenerate_3 20 rfl rfl)
theorem dX5_degenerate_95 : decode cX5_degenerate 95 = .ok (.iconst 0, 1) := dk_3 (dk_at dksX5_degenerate_3 23 rfl rfl)
theorem dX5_degenerate_96 : decode cX5_degenerate 96 = .ok (.ireturn, 1) := dk_172 (dk_at dksX5_degenerate_4 0 rfl rfl)
abbrev cX5_lay : ByteArray := prog_14_method_4_code
def yX5_lay : MethodName := ⟨RX5, "lay", "(II)V"⟩
def dkwX5_lay_2 : List UInt8 := [181, 0, 18, 42, 27, 6, 160, 0, 7, 28, 167, 0, 7, 42, 180, 0, 21, 181, 0, 21, 177]
abbrev dktX5_lay_2 : List UInt8 := dkwX5_lay_2 ++ []
def dkwX5_lay_1 : List UInt8 := [167, 0, 7, 42, 180, 0, 15, 181, 0, 15, 42, 27, 5, 160, 0, 7, 28, 167, 0, 7, 42, 180, 0, 18]
abbrev dktX5_lay_1 : List UInt8 := dkwX5_lay_1 ++ dktX5_lay_2
def dkwX5_lay_0 : List UInt8 := [42, 27, 154, 0, 7, 28, 167, 0, 7, 42, 180, 0, 9, 181, 0, 9, 42, 27, 4, 160, 0, 7, 28]
abbrev dktX5_lay_0 : List UInt8 := dkwX5_lay_0 ++ dktX5_lay_1
theorem dksX5_lay_0 : cX5_lay.data.toList.drop 0 = dktX5_lay_0 := by decide +kernel
theorem dksX5_lay_1 : cX5_lay.data.toList.drop 23 = dktX5_lay_1 := dk_seg dksX5_lay_0 23 rfl rfl
theorem dksX5_lay_2 : cX5_lay.data.toList.drop 47 = dktX5_lay_2 := dk_seg dksX5_lay_1 24 rfl rfl
theorem dX5_lay_0 : decode cX5_lay 0 = .ok (.aload_n 0, 1) := dk_42 (dk_at dksX5_lay_0 0 rfl rfl)
theorem dX5_lay_1 : decode cX5_lay 1 = .ok (.iload_n 1, 1) := dk_27 (dk_at dksX5_lay_0 1 rfl rfl)
theorem dX5_lay_2 : decode cX5_lay 2 = .ok (.ifCond .ne 7, 3) := dk_154 0 7 (dk_at dksX5_lay_0 2 rfl rfl)
theorem dX5_lay_5 : decode cX5_lay 5 = .ok (.iload_n 2, 1) := dk_28 (dk_at dksX5_lay_0 5 rfl rfl)
theorem dX5_lay_6 : decode cX5_lay 6 = .ok (.goto 7, 3) := dk_167 0 7 (dk_at dksX5_lay_0 6 rfl rfl)
theorem dX5_lay_9 : decode cX5_lay 9 = .ok (.aload_n 0, 1) := dk_42 (dk_at dksX5_lay_0 9 rfl rfl)
theorem dX5_lay_10 : decode cX5_lay 10 = .ok (.getfield 9, 3) := dk_180 0 9 (dk_at dksX5_lay_0 10 rfl rfl)
theorem dX5_lay_13 : decode cX5_lay 13 = .ok (.putfield 9, 3) := dk_181 0 9 (dk_at dksX5_lay_0 13 rfl rfl)
theorem dX5_lay_16 : decode cX5_lay 16 = .ok (.aload_n 0, 1) := dk_42 (dk_at dksX5_lay_0 16 rfl rfl)
theorem dX5_lay_17 : decode cX5_lay 17 = .ok (.iload_n 1, 1) := dk_27 (dk_at dksX5_lay_0 17 rfl rfl)
theorem dX5_lay_18 : decode cX5_lay 18 = .ok (.iconst 1, 1) := dk_4 (dk_at dksX5_lay_0 18 rfl rfl)
theorem dX5_lay_19 : decode cX5_lay 19 = .ok (.if_icmp .ne 7, 3) := dk_160 0 7 (dk_at dksX5_lay_0 19 rfl rfl)
theorem dX5_lay_22 : decode cX5_lay 22 = .ok (.iload_n 2, 1) := dk_28 (dk_at dksX5_lay_0 22 rfl rfl)
theorem dX5_lay_23 : decode cX5_lay 23 = .ok (.goto 7, 3) := dk_167 0 7 (dk_at dksX5_lay_1 0 rfl rfl)
theorem dX5_lay_26 : decode cX5_lay 26 = .ok (.aload_n 0, 1) := dk_42 (dk_at dksX5_lay_1 3 rfl rfl)
theorem dX5_lay_27 : decode cX5_lay 27 = .ok (.getfield 15, 3) := dk_180 0 15 (dk_at dksX5_lay_1 4 rfl rfl)
theorem dX5_lay_30 : decode cX5_lay 30 = .ok (.putfield 15, 3) := dk_181 0 15 (dk_at dksX5_lay_1 7 rfl rfl)
theorem dX5_lay_33 : decode cX5_lay 33 = .ok (.aload_n 0, 1) := dk_42 (dk_at dksX5_lay_1 10 rfl rfl)
theorem dX5_lay_34 : decode cX5_lay 34 = .ok (.iload_n 1, 1) := dk_27 (dk_at dksX5_lay_1 11 rfl rfl)
theorem dX5_lay_35 : decode cX5_lay 35 = .ok (.iconst 2, 1) := dk_5 (dk_at dksX5_lay_1 12 rfl rfl)
theorem dX5_lay_36 : decode cX5_lay 36 = .ok (.if_icmp .ne 7, 3) := dk_160 0 7 (dk_at dksX5_lay_1 13 rfl rfl)
theorem dX5_lay_39 : decode cX5_lay 39 = .ok (.iload_n 2, 1) := dk_28 (dk_at dksX5_lay_1 16 rfl rfl)
theorem dX5_lay_40 : decode cX5_lay 40 = .ok (.goto 7, 3) := dk_167 0 7 (dk_at dksX5_lay_1 17 rfl rfl)
theorem dX5_lay_43 : decode cX5_lay 43 = .ok (.aload_n 0, 1) := dk_42 (dk_at dksX5_lay_1 20 rfl rfl)
theorem dX5_lay_44 : decode cX5_lay 44 = .ok (.getfield 18, 3) := dk_180 0 18 (dk_at dksX5_lay_1 21 rfl rfl)
theorem dX5_lay_47 : decode cX5_lay 47 = .ok (.putfield 18, 3) := dk_181 0 18 (dk_at dksX5_lay_2 0 rfl rfl)
theorem dX5_lay_50 : decode cX5_lay 50 = .ok (.aload_n 0, 1) := dk_42 (dk_at dksX5_lay_2 3 rfl rfl)
theorem dX5_lay_51 : decode cX5_lay 51 = .ok (.iload_n 1, 1) := dk_27 (dk_at dksX5_lay_2 4 rfl rfl)
theorem dX5_lay_52 : decode cX5_lay 52 = .ok (.iconst 3, 1) := dk_6 (dk_at dksX5_lay_2 5 rfl rfl)
theorem dX5_lay_53 : decode cX5_lay 53 = .ok (.if_icmp .ne 7, 3) := dk_160 0 7 (dk_at dksX5_lay_2 6 rfl rfl)
theorem dX5_lay_56 : decode cX5_lay 56 = .ok (.iload_n 2, 1) := dk_28 (dk_at dksX5_lay_2 9 rfl rfl)
theorem dX5_lay_57 : decode cX5_lay 57 = .ok (.goto 7, 3) := dk_167 0 7 (dk_at dksX5_lay_2 10 rfl rfl)
theorem dX5_lay_60 : decode cX5_lay 60 = .ok (.aload_n 0, 1) := dk_42 (dk_at dksX5_lay_2 13 rfl rfl)
theorem dX5_lay_61 : decode cX5_lay 61 = .ok (.getfield 21, 3) := dk_180 0 21 (dk_at dksX5_lay_2 14 rfl rfl)
theorem dX5_lay_64 : decode cX5_lay 64 = .ok (.putfield 21, 3) := dk_181 0 21 (dk_at dksX5_lay_2 17 rfl rfl)
theorem dX5_lay_67 : decode cX5_lay 67 = .ok (.return_, 1) := dk_177 (dk_at dksX5_lay_2 20 rfl rfl)
abbrev cX5_isPower : ByteArray := prog_14_method_5_code
def yX5_isPower : MethodName := ⟨RX5, "isPower", "()Z"⟩
def dkwX5_isPower_1 : List UInt8 := [167, 0, 4, 3, 172]
abbrev dktX5_isPower_1 : List UInt8 := dkwX5_isPower_1 ++ []
def dkwX5_isPower_0 : List UInt8 := [42, 180, 0, 15, 154, 0, 23, 42, 180, 0, 21, 42, 180, 0, 9, 42, 180, 0, 18, 104, 160, 0, 7, 4]
abbrev dktX5_isPower_0 : List UInt8 := dkwX5_isPower_0 ++ dktX5_isPower_1
theorem dksX5_isPower_0 : cX5_isPower.data.toList.drop 0 = dktX5_isPower_0 := by decide +kernel
theorem dksX5_isPower_1 : cX5_isPower.data.toList.drop 24 = dktX5_isPower_1 := dk_seg dksX5_isPower_0 24 rfl rfl
theorem dX5_isPower_0 : decode cX5_isPower 0 = .ok (.aload_n 0, 1) := dk_42 (dk_at dksX5_isPower_0 0 rfl rfl)
theorem dX5_isPower_1 : decode cX5_isPower 1 = .ok (.getfield 15, 3) := dk_180 0 15 (dk_at dksX5_isPower_0 1 rfl rfl)
theorem dX5_isPower_4 : decode cX5_isPower 4 = .ok (.ifCond .ne 23, 3) := dk_154 0 23 (dk_at dksX5_isPower_0 4 rfl rfl)
theorem dX5_isPower_7 : decode cX5_isPower 7 = .ok (.aload_n 0, 1) := dk_42 (dk_at dksX5_isPower_0 7 rfl rfl)
theorem dX5_isPower_8 : decode cX5_isPower 8 = .ok (.getfield 21, 3) := dk_180 0 21 (dk_at dksX5_isPower_0 8 rfl rfl)
theorem dX5_isPower_11 : decode cX5_isPower 11 = .ok (.aload_n 0, 1) := dk_42 (dk_at dksX5_isPower_0 11 rfl rfl)
theorem dX5_isPower_12 : decode cX5_isPower 12 = .ok (.getfield 9, 3) := dk_180 0 9 (dk_at dksX5_isPower_0 12 rfl rfl)
theorem dX5_isPower_15 : decode cX5_isPower 15 = .ok (.aload_n 0, 1) := dk_42 (dk_at dksX5_isPower_0 15 rfl rfl)
theorem dX5_isPower_16 : decode cX5_isPower 16 = .ok (.getfield 18, 3) := dk_180 0 18 (dk_at dksX5_isPower_0 16 rfl rfl)
theorem dX5_isPower_19 : decode cX5_isPower 19 = .ok (.imul, 1) := dk_104 (dk_at dksX5_isPower_0 19 rfl rfl)
theorem dX5_isPower_20 : decode cX5_isPower 20 = .ok (.if_icmp .ne 7, 3) := dk_160 0 7 (dk_at dksX5_isPower_0 20 rfl rfl)
theorem dX5_isPower_23 : decode cX5_isPower 23 = .ok (.iconst 1, 1) := dk_4 (dk_at dksX5_isPower_0 23 rfl rfl)
theorem dX5_isPower_24 : decode cX5_isPower 24 = .ok (.goto 4, 3) := dk_167 0 4 (dk_at dksX5_isPower_1 0 rfl rfl)
theorem dX5_isPower_27 : decode cX5_isPower 27 = .ok (.iconst 0, 1) := dk_3 (dk_at dksX5_isPower_1 3 rfl rfl)
theorem dX5_isPower_28 : decode cX5_isPower 28 = .ok (.ireturn, 1) := dk_172 (dk_at dksX5_isPower_1 4 rfl rfl)
abbrev cX5_eased : ByteArray := prog_14_method_10_code
def yX5_eased : MethodName := ⟨RX5, "eased", "(LAheadRows;)LAheadRows$Told;"⟩
theorem dX5_eased_0 : decode cX5_eased 0 = .ok (.aconst_null, 1) := by decide +kernel
theorem dX5_eased_1 : decode cX5_eased 1 = .ok (.areturn, 1) := by decide +kernel
theorem q105 : (Jvm.Cond.initialized "AheadRows$Told") ∈ lw_all := lw_g (lw_at lw_m1 9 rfl) rfl
theorem q171 : (Jvm.Cond.fieldLink "AheadRows$Told" (45 : Nat) "AheadRows$Wheel" "spokes" "[I") ∈ lw_all := lw_g (lw_at lw_m1 75 rfl) rfl
theorem q175 : (Jvm.Cond.fieldLink "AheadRows$Told" (50 : Nat) "AheadRows$Wheel" "head" "I") ∈ lw_all := lw_g (lw_at lw_m1 79 rfl) rfl
theorem q182 : (Jvm.Cond.fieldLink "AheadRows$Told" (53 : Nat) "AheadRows$Wheel" "lap" "I") ∈ lw_all := lw_g (lw_at lw_m1 86 rfl) rfl
theorem q200 : (Jvm.Cond.fieldLinkNest "AheadRows$Told" (34 : Nat) "AheadRows" "seen" "[I" "AheadRows") ∈ lw_tbl := lw_at lw_m1 104 rfl
theorem q317 : (Jvm.Cond.instantiable "AheadRows$Told" (4 : Nat)) ∈ lw_all := lw_g (lw_at lw_m1 221 rfl) rfl
theorem q319 : (Jvm.Cond.instanceMethod ({ cls := "AheadRows$Told", name := "<init>", desc := "(IIII)V" } : Jvm.MethodName)) ∈ lw_all := lw_g (lw_at lw_m1 223 rfl) rfl
theorem q320 : (Jvm.Cond.code ({ cls := "AheadRows$Told", name := "<init>", desc := "(IIII)V" } : Jvm.MethodName) prog_14_method_1_code (5 : Nat) (Option.none : Option Jvm.ClassFile.FieldType)) ∈ lw_all := lw_g (lw_at lw_m1 224 rfl) rfl
theorem q321 : (Jvm.Cond.methodLinkNest "AheadRows$Told" (3 : Nat) ({ cls := "AheadRows$Row", name := "<init>", desc := "()V" } : Jvm.MethodName) "AheadRows") ∈ lw_tbl := lw_at lw_m1 225 rfl
theorem q325 : (Jvm.Cond.fieldLink "AheadRows$Told" (9 : Nat) "AheadRows$Told" "c" "I") ∈ lw_all := lw_g (lw_at lw_m1 229 rfl) rfl
theorem q330 : (Jvm.Cond.fieldLink "AheadRows$Told" (15 : Nat) "AheadRows$Told" "d" "I") ∈ lw_all := lw_g (lw_at lw_m1 234 rfl) rfl
theorem q335 : (Jvm.Cond.fieldLink "AheadRows$Told" (18 : Nat) "AheadRows$Told" "e" "I") ∈ lw_all := lw_g (lw_at lw_m1 239 rfl) rfl
theorem q337 : (Jvm.Cond.fieldLink "AheadRows$Told" (21 : Nat) "AheadRows$Told" "f" "I") ∈ lw_all := lw_g (lw_at lw_m2 1 rfl) rfl
theorem q339 : (Jvm.Cond.lays "AheadRows$Told" "AheadRows$Told" "c" "I") ∈ lw_all := lw_g (lw_at lw_m2 3 rfl) rfl
theorem q340 : (Jvm.Cond.soleField "AheadRows$Told" "c") ∈ lw_all := lw_g (lw_at lw_m2 4 rfl) rfl
theorem q341 : (Jvm.Cond.lays "AheadRows$Told" "AheadRows$Told" "d" "I") ∈ lw_all := lw_g (lw_at lw_m2 5 rfl) rfl
theorem q342 : (Jvm.Cond.soleField "AheadRows$Told" "d") ∈ lw_all := lw_g (lw_at lw_m2 6 rfl) rfl
theorem q343 : (Jvm.Cond.lays "AheadRows$Told" "AheadRows$Told" "e" "I") ∈ lw_all := lw_g (lw_at lw_m2 7 rfl) rfl
theorem q344 : (Jvm.Cond.soleField "AheadRows$Told" "e") ∈ lw_all := lw_g (lw_at lw_m2 8 rfl) rfl
theorem q345 : (Jvm.Cond.lays "AheadRows$Told" "AheadRows$Told" "f" "I") ∈ lw_all := lw_g (lw_at lw_m2 9 rfl) rfl
theorem q346 : (Jvm.Cond.soleField "AheadRows$Told" "f") ∈ lw_all := lw_g (lw_at lw_m2 10 rfl) rfl
theorem q347 : (Jvm.Cond.superclass "AheadRows$Told" "AheadRows$Row") ∈ lw_all := lw_g (lw_at lw_m2 11 rfl) rfl
theorem q469 : (Jvm.Cond.selects "AheadRows$Told" ({ cls := "java/lang/Object", name := "getClass", desc := "()Ljava/lang/Class;" } : Jvm.MethodName) ({ cls := "java/lang/Object", name := "getClass", desc := "()Ljava/lang/Class;" } : Jvm.MethodName)) ∈ lw_all := lw_g (lw_at lw_m2 133 rfl) rfl
theorem q540 : (Jvm.Cond.selects "AheadRows$Told" ({ cls := "AheadRows$Row", name := "copy", desc := "()LAheadRows$Row;" } : Jvm.MethodName) ({ cls := "AheadRows$Told", name := "copy", desc := "()LAheadRows$Row;" } : Jvm.MethodName)) ∈ lw_all := lw_g (lw_at lw_m2 204 rfl) rfl
theorem q541 : (Jvm.Cond.instanceMethod ({ cls := "AheadRows$Told", name := "copy", desc := "()LAheadRows$Row;" } : Jvm.MethodName)) ∈ lw_all := lw_g (lw_at lw_m2 205 rfl) rfl
theorem q542 : (Jvm.Cond.code ({ cls := "AheadRows$Told", name := "copy", desc := "()LAheadRows$Row;" } : Jvm.MethodName) prog_14_method_11_code (1 : Nat) (Option.some (Jvm.ClassFile.FieldType.object "AheadRows$Row"))) ∈ lw_all := lw_g (lw_at lw_m2 206 rfl) rfl
theorem q543 : (Jvm.Cond.classLink "AheadRows$Told" (10 : Nat) "AheadRows$Told") ∈ lw_all := lw_g (lw_at lw_m2 207 rfl) rfl
theorem q544 : (Jvm.Cond.methodLink "AheadRows$Told" (56 : Nat) ({ cls := "AheadRows$Told", name := "<init>", desc := "(IIII)V" } : Jvm.MethodName)) ∈ lw_all := lw_g (lw_at lw_m2 208 rfl) rfl
theorem q587 : (Jvm.Cond.selects "AheadRows$Told" ({ cls := "AheadRows$Row", name := "number", desc := "(I)I" } : Jvm.MethodName) ({ cls := "AheadRows$Told", name := "number", desc := "(I)I" } : Jvm.MethodName)) ∈ lw_all := lw_g (lw_at lw_m3 11 rfl) rfl
theorem q588 : (Jvm.Cond.instanceMethod ({ cls := "AheadRows$Told", name := "number", desc := "(I)I" } : Jvm.MethodName)) ∈ lw_all := lw_g (lw_at lw_m3 12 rfl) rfl
theorem q589 : (Jvm.Cond.code ({ cls := "AheadRows$Told", name := "number", desc := "(I)I" } : Jvm.MethodName) prog_14_method_3_code (2 : Nat) (Option.some Jvm.ClassFile.FieldType.int)) ∈ lw_all := lw_g (lw_at lw_m3 13 rfl) rfl
theorem q590 : (Jvm.Cond.methodLink "AheadRows$Told" (24 : Nat) ({ cls := "AheadRows$Row", name := "number", desc := "(I)I" } : Jvm.MethodName)) ∈ lw_all := lw_g (lw_at lw_m3 14 rfl) rfl
theorem q607 : (Jvm.Cond.selects "AheadRows$Told" ({ cls := "AheadRows$Row", name := "kind", desc := "()I" } : Jvm.MethodName) ({ cls := "AheadRows$Told", name := "kind", desc := "()I" } : Jvm.MethodName)) ∈ lw_all := lw_g (lw_at lw_m3 31 rfl) rfl
theorem q608 : (Jvm.Cond.instanceMethod ({ cls := "AheadRows$Told", name := "kind", desc := "()I" } : Jvm.MethodName)) ∈ lw_all := lw_g (lw_at lw_m3 32 rfl) rfl
theorem q609 : (Jvm.Cond.code ({ cls := "AheadRows$Told", name := "kind", desc := "()I" } : Jvm.MethodName) prog_14_method_2_code (1 : Nat) (Option.some Jvm.ClassFile.FieldType.int)) ∈ lw_all := lw_g (lw_at lw_m3 33 rfl) rfl
theorem q727 : (Jvm.Cond.instanceMethod ({ cls := "AheadRows$Told", name := "exact", desc := "(LAheadRows;I)J" } : Jvm.MethodName)) ∈ lw_all := lw_g (lw_at lw_m3 151 rfl) rfl
theorem q728 : (Jvm.Cond.code ({ cls := "AheadRows$Told", name := "exact", desc := "(LAheadRows;I)J" } : Jvm.MethodName) prog_14_method_6_code (10 : Nat) (Option.some Jvm.ClassFile.FieldType.long)) ∈ lw_all := lw_g (lw_at lw_m3 152 rfl) rfl
theorem q729 : (Jvm.Cond.constantLong "AheadRows$Told" (28 : Nat) (2000000002 : Int64)) ∈ lw_all := lw_g (lw_at lw_m3 153 rfl) rfl
theorem q730 : (Jvm.Cond.methodLink "AheadRows$Told" (30 : Nat) ({ cls := "AheadRows$Told", name := "near", desc := "(J)J" } : Jvm.MethodName)) ∈ lw_all := lw_g (lw_at lw_m3 154 rfl) rfl
theorem q731 : (Jvm.Cond.sameMethod "AheadRows$Told" "AheadRows$Row" "near" "(J)J") ∈ lw_all := lw_g (lw_at lw_m3 155 rfl) rfl
theorem q768 : (Jvm.Cond.selects "AheadRows$Told" ({ cls := "AheadRows$Row", name := "exact", desc := "(LAheadRows;I)J" } : Jvm.MethodName) ({ cls := "AheadRows$Told", name := "exact", desc := "(LAheadRows;I)J" } : Jvm.MethodName)) ∈ lw_all := lw_g (lw_at lw_m3 192 rfl) rfl
theorem q834 : (Jvm.Cond.selects "AheadRows$Told" ({ cls := "AheadRows$Row", name := "turn", desc := "(LAheadRows;ILAheadRows$Wheel;)V" } : Jvm.MethodName) ({ cls := "AheadRows$Told", name := "turn", desc := "(LAheadRows;ILAheadRows$Wheel;)V" } : Jvm.MethodName)) ∈ lw_all := lw_g (lw_at lw_m4 18 rfl) rfl
theorem q835 : (Jvm.Cond.instanceMethod ({ cls := "AheadRows$Told", name := "turn", desc := "(LAheadRows;ILAheadRows$Wheel;)V" } : Jvm.MethodName)) ∈ lw_all := lw_g (lw_at lw_m4 19 rfl) rfl
theorem q836 : (Jvm.Cond.code ({ cls := "AheadRows$Told", name := "turn", desc := "(LAheadRows;ILAheadRows$Wheel;)V" } : Jvm.MethodName) prog_14_method_7_code (9 : Nat) (Option.none : Option Jvm.ClassFile.FieldType)) ∈ lw_all := lw_g (lw_at lw_m4 20 rfl) rfl
theorem q837 : (Jvm.Cond.constant "AheadRows$Told" (38 : Nat) (2000000001 : Int32)) ∈ lw_all := lw_g (lw_at lw_m4 21 rfl) rfl
theorem q838 : (Jvm.Cond.methodLink "AheadRows$Told" (39 : Nat) ({ cls := "java/lang/Math", name := "floorMod", desc := "(II)I" } : Jvm.MethodName)) ∈ lw_all := lw_g (lw_at lw_m4 22 rfl) rfl
theorem q926 : (Jvm.Cond.instanceMethod ({ cls := "AheadRows$Told", name := "power", desc := "(I)[I" } : Jvm.MethodName)) ∈ lw_all := lw_g (lw_at lw_m4 110 rfl) rfl
theorem q927 : (Jvm.Cond.selects "AheadRows$Told" ({ cls := "AheadRows$Told", name := "power", desc := "(I)[I" } : Jvm.MethodName) ({ cls := "AheadRows$Told", name := "power", desc := "(I)[I" } : Jvm.MethodName)) ∈ lw_all := lw_g (lw_at lw_m4 111 rfl) rfl
theorem q928 : (Jvm.Cond.code ({ cls := "AheadRows$Told", name := "power", desc := "(I)[I" } : Jvm.MethodName) prog_14_method_9_code (7 : Nat) (Option.some (Jvm.ClassFile.FieldType.array Jvm.ClassFile.FieldType.int))) ∈ lw_all := lw_g (lw_at lw_m4 112 rfl) rfl
theorem q947 : (Jvm.Cond.instanceMethod ({ cls := "AheadRows$Told", name := "ruleBy", desc := "(LAheadRows;)[I" } : Jvm.MethodName)) ∈ lw_all := lw_g (lw_at lw_m4 131 rfl) rfl
theorem q948 : (Jvm.Cond.selects "AheadRows$Told" ({ cls := "AheadRows$Told", name := "ruleBy", desc := "(LAheadRows;)[I" } : Jvm.MethodName) ({ cls := "AheadRows$Told", name := "ruleBy", desc := "(LAheadRows;)[I" } : Jvm.MethodName)) ∈ lw_all := lw_g (lw_at lw_m4 132 rfl) rfl
theorem q949 : (Jvm.Cond.code ({ cls := "AheadRows$Told", name := "ruleBy", desc := "(LAheadRows;)[I" } : Jvm.MethodName) prog_14_method_8_code (2 : Nat) (Option.some (Jvm.ClassFile.FieldType.array Jvm.ClassFile.FieldType.int))) ∈ lw_all := lw_g (lw_at lw_m4 133 rfl) rfl
theorem q951 : (Jvm.Cond.selects "AheadRows$Told" ({ cls := "AheadRows$Row", name := "ruleBy", desc := "(LAheadRows;)[I" } : Jvm.MethodName) ({ cls := "AheadRows$Told", name := "ruleBy", desc := "(LAheadRows;)[I" } : Jvm.MethodName)) ∈ lw_all := lw_g (lw_at lw_m4 135 rfl) rfl
theorem q960 : (Jvm.Cond.instanceMethod ({ cls := "AheadRows$Told", name := "under", desc := "()I" } : Jvm.MethodName)) ∈ lw_all := lw_g (lw_at lw_m4 144 rfl) rfl
theorem q961 : (Jvm.Cond.selects "AheadRows$Told" ({ cls := "AheadRows$Told", name := "under", desc := "()I" } : Jvm.MethodName) ({ cls := "AheadRows$Told", name := "under", desc := "()I" } : Jvm.MethodName)) ∈ lw_all := lw_g (lw_at lw_m4 145 rfl) rfl
theorem q962 : (Jvm.Cond.code ({ cls := "AheadRows$Told", name := "under", desc := "()I" } : Jvm.MethodName) prog_14_method_12_code (1 : Nat) (Option.some Jvm.ClassFile.FieldType.int)) ∈ lw_all := lw_g (lw_at lw_m4 146 rfl) rfl
theorem q970 : (Jvm.Cond.instanceMethod ({ cls := "AheadRows$Told", name := "degenerate", desc := "()I" } : Jvm.MethodName)) ∈ lw_all := lw_g (lw_at lw_m4 154 rfl) rfl
theorem q971 : (Jvm.Cond.selects "AheadRows$Told" ({ cls := "AheadRows$Told", name := "degenerate", desc := "()I" } : Jvm.MethodName) ({ cls := "AheadRows$Told", name := "degenerate", desc := "()I" } : Jvm.MethodName)) ∈ lw_all := lw_g (lw_at lw_m4 155 rfl) rfl
theorem q972 : (Jvm.Cond.code ({ cls := "AheadRows$Told", name := "degenerate", desc := "()I" } : Jvm.MethodName) prog_14_method_13_code (1 : Nat) (Option.some Jvm.ClassFile.FieldType.int)) ∈ lw_all := lw_g (lw_at lw_m4 156 rfl) rfl
theorem q973 : (Jvm.Cond.methodLink "AheadRows$Told" (59 : Nat) ({ cls := "AheadRows$Told", name := "under", desc := "()I" } : Jvm.MethodName)) ∈ lw_all := lw_g (lw_at lw_m4 157 rfl) rfl
theorem q1055 : (Jvm.Cond.instanceMethod ({ cls := "AheadRows$Told", name := "lay", desc := "(II)V" } : Jvm.MethodName)) ∈ lw_all := lw_g (lw_at lw_m4 239 rfl) rfl
theorem q1056 : (Jvm.Cond.selects "AheadRows$Told" ({ cls := "AheadRows$Told", name := "lay", desc := "(II)V" } : Jvm.MethodName) ({ cls := "AheadRows$Told", name := "lay", desc := "(II)V" } : Jvm.MethodName)) ∈ lw_all := lw_g (lw_at lw_m5 0 rfl) rfl
theorem q1057 : (Jvm.Cond.code ({ cls := "AheadRows$Told", name := "lay", desc := "(II)V" } : Jvm.MethodName) prog_14_method_4_code (3 : Nat) (Option.none : Option Jvm.ClassFile.FieldType)) ∈ lw_all := lw_g (lw_at lw_m5 1 rfl) rfl
theorem q1109 : (Jvm.Cond.instanceMethod ({ cls := "AheadRows$Told", name := "isPower", desc := "()Z" } : Jvm.MethodName)) ∈ lw_all := lw_g (lw_at lw_m5 53 rfl) rfl
theorem q1110 : (Jvm.Cond.selects "AheadRows$Told" ({ cls := "AheadRows$Told", name := "isPower", desc := "()Z" } : Jvm.MethodName) ({ cls := "AheadRows$Told", name := "isPower", desc := "()Z" } : Jvm.MethodName)) ∈ lw_all := lw_g (lw_at lw_m5 54 rfl) rfl
theorem q1111 : (Jvm.Cond.code ({ cls := "AheadRows$Told", name := "isPower", desc := "()Z" } : Jvm.MethodName) prog_14_method_5_code (1 : Nat) (Option.some Jvm.ClassFile.FieldType.boolean)) ∈ lw_all := lw_g (lw_at lw_m5 55 rfl) rfl
theorem q1134 : (Jvm.Cond.selects "AheadRows$Told" ({ cls := "AheadRows$Row", name := "eased", desc := "(LAheadRows;)LAheadRows$Told;" } : Jvm.MethodName) ({ cls := "AheadRows$Told", name := "eased", desc := "(LAheadRows;)LAheadRows$Told;" } : Jvm.MethodName)) ∈ lw_all := lw_g (lw_at lw_m5 78 rfl) rfl
theorem q1135 : (Jvm.Cond.instanceMethod ({ cls := "AheadRows$Told", name := "eased", desc := "(LAheadRows;)LAheadRows$Told;" } : Jvm.MethodName)) ∈ lw_all := lw_g (lw_at lw_m5 79 rfl) rfl
theorem q1136 : (Jvm.Cond.code ({ cls := "AheadRows$Told", name := "eased", desc := "(LAheadRows;)LAheadRows$Told;" } : Jvm.MethodName) prog_14_method_10_code (2 : Nat) (Option.some (Jvm.ClassFile.FieldType.object "AheadRows$Told"))) ∈ lw_all := lw_g (lw_at lw_m5 80 rfl) rfl
theorem q1780 : (Jvm.Cond.selects "AheadRows$Told" ({ cls := "AheadRows$Told", name := "kind", desc := "()I" } : Jvm.MethodName) ({ cls := "AheadRows$Told", name := "kind", desc := "()I" } : Jvm.MethodName)) ∈ lw_all := lw_g (lw_at lw_m8 4 rfl) rfl
theorem q1785 : (Jvm.Cond.selects "AheadRows$Told" ({ cls := "AheadRows$Told", name := "number", desc := "(I)I" } : Jvm.MethodName) ({ cls := "AheadRows$Told", name := "number", desc := "(I)I" } : Jvm.MethodName)) ∈ lw_all := lw_g (lw_at lw_m8 9 rfl) rfl
theorem q1792 : (Jvm.Cond.selects "AheadRows$Told" ({ cls := "AheadRows$Told", name := "turn", desc := "(LAheadRows;ILAheadRows$Wheel;)V" } : Jvm.MethodName) ({ cls := "AheadRows$Told", name := "turn", desc := "(LAheadRows;ILAheadRows$Wheel;)V" } : Jvm.MethodName)) ∈ lw_all := lw_g (lw_at lw_m8 16 rfl) rfl
theorem q1798 : (Jvm.Cond.castable "AheadRows$Told" "AheadRows$Row") ∈ lw_tbl := lw_at lw_m8 22 rfl
theorem q1808 : (Jvm.Cond.castable "AheadRows$Told" "java/lang/Object") ∈ lw_tbl := lw_at lw_m8 32 rfl
theorem in_X5 : ∀ w ∈ wsX50, w ∈ lw_all := lw_in wsX50 [339, 341, 343, 345] (by decide +kernel) (by decide +kernel)
/-! AheadRows$Both -/
set_option maxRecDepth 100000
def RX6 : String := "AheadRows$Both"
abbrev cX6_init : ByteArray := prog_2_method_1_code
def yX6_init : MethodName := ⟨RX6, "<init>", "(II)V"⟩
def dkwX6_init_0 : List UInt8 := [42, 183, 0, 3, 42, 27, 181, 0, 9, 42, 28, 181, 0, 15, 177]
abbrev dktX6_init_0 : List UInt8 := dkwX6_init_0 ++ []
theorem dksX6_init_0 : cX6_init.data.toList.drop 0 = dktX6_init_0 := by decide +kernel
theorem dX6_init_0 : decode cX6_init 0 = .ok (.aload_n 0, 1) := dk_42 (dk_at dksX6_init_0 0 rfl rfl)
theorem dX6_init_1 : decode cX6_init 1 = .ok (.invokespecial 3, 3) := dk_183 0 3 (dk_at dksX6_init_0 1 rfl rfl)
theorem dX6_init_4 : decode cX6_init 4 = .ok (.aload_n 0, 1) := dk_42 (dk_at dksX6_init_0 4 rfl rfl)
theorem dX6_init_5 : decode cX6_init 5 = .ok (.iload_n 1, 1) := dk_27 (dk_at dksX6_init_0 5 rfl rfl)
theorem dX6_init_6 : decode cX6_init 6 = .ok (.putfield 9, 3) := dk_181 0 9 (dk_at dksX6_init_0 6 rfl rfl)
theorem dX6_init_9 : decode cX6_init 9 = .ok (.aload_n 0, 1) := dk_42 (dk_at dksX6_init_0 9 rfl rfl)
theorem dX6_init_10 : decode cX6_init 10 = .ok (.iload_n 2, 1) := dk_28 (dk_at dksX6_init_0 10 rfl rfl)
theorem dX6_init_11 : decode cX6_init 11 = .ok (.putfield 15, 3) := dk_181 0 15 (dk_at dksX6_init_0 11 rfl rfl)
theorem dX6_init_14 : decode cX6_init 14 = .ok (.return_, 1) := dk_177 (dk_at dksX6_init_0 14 rfl rfl)
abbrev cX6_exact : ByteArray := prog_2_method_3_code
def yX6_exact : MethodName := ⟨RX6, "exact", "(LAheadRows;I)J"⟩
def dkwX6_exact_2 : List UInt8 := [20, 0, 26, 167, 0, 16, 42, 182, 0, 28, 33, 22, 5, 182, 0, 32, 184, 0, 38, 173]
abbrev dktX6_exact_2 : List UInt8 := dkwX6_exact_2 ++ []
def dkwX6_exact_1 : List UInt8 := [182, 0, 22, 55, 5, 33, 20, 0, 26, 148, 153, 0, 12, 22, 5, 20, 0, 26, 148, 154, 0, 9]
abbrev dktX6_exact_1 : List UInt8 := dkwX6_exact_1 ++ dktX6_exact_2
def dkwX6_exact_0 : List UInt8 := [43, 42, 180, 0, 9, 182, 0, 18, 43, 28, 182, 0, 22, 66, 43, 42, 180, 0, 15, 182, 0, 18, 43, 28]
abbrev dktX6_exact_0 : List UInt8 := dkwX6_exact_0 ++ dktX6_exact_1
theorem dksX6_exact_0 : cX6_exact.data.toList.drop 0 = dktX6_exact_0 := by decide +kernel
theorem dksX6_exact_1 : cX6_exact.data.toList.drop 24 = dktX6_exact_1 := dk_seg dksX6_exact_0 24 rfl rfl
theorem dksX6_exact_2 : cX6_exact.data.toList.drop 46 = dktX6_exact_2 := dk_seg dksX6_exact_1 22 rfl rfl
theorem dX6_exact_0 : decode cX6_exact 0 = .ok (.aload_n 1, 1) := dk_43 (dk_at dksX6_exact_0 0 rfl rfl)
theorem dX6_exact_1 : decode cX6_exact 1 = .ok (.aload_n 0, 1) := dk_42 (dk_at dksX6_exact_0 1 rfl rfl)
theorem dX6_exact_2 : decode cX6_exact 2 = .ok (.getfield 9, 3) := dk_180 0 9 (dk_at dksX6_exact_0 2 rfl rfl)
theorem dX6_exact_5 : decode cX6_exact 5 = .ok (.invokevirtual 18, 3) := dk_182 0 18 (dk_at dksX6_exact_0 5 rfl rfl)
theorem dX6_exact_8 : decode cX6_exact 8 = .ok (.aload_n 1, 1) := dk_43 (dk_at dksX6_exact_0 8 rfl rfl)
theorem dX6_exact_9 : decode cX6_exact 9 = .ok (.iload_n 2, 1) := dk_28 (dk_at dksX6_exact_0 9 rfl rfl)
theorem dX6_exact_10 : decode cX6_exact 10 = .ok (.invokevirtual 22, 3) := dk_182 0 22 (dk_at dksX6_exact_0 10 rfl rfl)
theorem dX6_exact_13 : decode cX6_exact 13 = .ok (.lstore_n 3, 1) := dk_66 (dk_at dksX6_exact_0 13 rfl rfl)
theorem dX6_exact_14 : decode cX6_exact 14 = .ok (.aload_n 1, 1) := dk_43 (dk_at dksX6_exact_0 14 rfl rfl)
theorem dX6_exact_15 : decode cX6_exact 15 = .ok (.aload_n 0, 1) := dk_42 (dk_at dksX6_exact_0 15 rfl rfl)
theorem dX6_exact_16 : decode cX6_exact 16 = .ok (.getfield 15, 3) := dk_180 0 15 (dk_at dksX6_exact_0 16 rfl rfl)
theorem dX6_exact_19 : decode cX6_exact 19 = .ok (.invokevirtual 18, 3) := dk_182 0 18 (dk_at dksX6_exact_0 19 rfl rfl)
theorem dX6_exact_22 : decode cX6_exact 22 = .ok (.aload_n 1, 1) := dk_43 (dk_at dksX6_exact_0 22 rfl rfl)
theorem dX6_exact_23 : decode cX6_exact 23 = .ok (.iload_n 2, 1) := dk_28 (dk_at dksX6_exact_0 23 rfl rfl)
theorem dX6_exact_24 : decode cX6_exact 24 = .ok (.invokevirtual 22, 3) := dk_182 0 22 (dk_at dksX6_exact_1 0 rfl rfl)
theorem dX6_exact_27 : decode cX6_exact 27 = .ok (.lstore 5, 2) := dk_55 5 (dk_at dksX6_exact_1 3 rfl rfl)
theorem dX6_exact_29 : decode cX6_exact 29 = .ok (.lload_n 3, 1) := dk_33 (dk_at dksX6_exact_1 5 rfl rfl)
theorem dX6_exact_30 : decode cX6_exact 30 = .ok (.ldc2_w 26, 3) := dk_20 0 26 (dk_at dksX6_exact_1 6 rfl rfl)
theorem dX6_exact_33 : decode cX6_exact 33 = .ok (.lcmp, 1) := dk_148 (dk_at dksX6_exact_1 9 rfl rfl)
theorem dX6_exact_34 : decode cX6_exact 34 = .ok (.ifCond .eq 12, 3) := dk_153 0 12 (dk_at dksX6_exact_1 10 rfl rfl)
theorem dX6_exact_37 : decode cX6_exact 37 = .ok (.lload 5, 2) := dk_22 5 (dk_at dksX6_exact_1 13 rfl rfl)
theorem dX6_exact_39 : decode cX6_exact 39 = .ok (.ldc2_w 26, 3) := dk_20 0 26 (dk_at dksX6_exact_1 15 rfl rfl)
theorem dX6_exact_42 : decode cX6_exact 42 = .ok (.lcmp, 1) := dk_148 (dk_at dksX6_exact_1 18 rfl rfl)
theorem dX6_exact_43 : decode cX6_exact 43 = .ok (.ifCond .ne 9, 3) := dk_154 0 9 (dk_at dksX6_exact_1 19 rfl rfl)
theorem dX6_exact_46 : decode cX6_exact 46 = .ok (.ldc2_w 26, 3) := dk_20 0 26 (dk_at dksX6_exact_2 0 rfl rfl)
theorem dX6_exact_49 : decode cX6_exact 49 = .ok (.goto 16, 3) := dk_167 0 16 (dk_at dksX6_exact_2 3 rfl rfl)
theorem dX6_exact_52 : decode cX6_exact 52 = .ok (.aload_n 0, 1) := dk_42 (dk_at dksX6_exact_2 6 rfl rfl)
theorem dX6_exact_53 : decode cX6_exact 53 = .ok (.invokevirtual 28, 3) := dk_182 0 28 (dk_at dksX6_exact_2 7 rfl rfl)
theorem dX6_exact_56 : decode cX6_exact 56 = .ok (.lload_n 3, 1) := dk_33 (dk_at dksX6_exact_2 10 rfl rfl)
theorem dX6_exact_57 : decode cX6_exact 57 = .ok (.lload 5, 2) := dk_22 5 (dk_at dksX6_exact_2 11 rfl rfl)
theorem dX6_exact_59 : decode cX6_exact 59 = .ok (.invokevirtual 32, 3) := dk_182 0 32 (dk_at dksX6_exact_2 13 rfl rfl)
theorem dX6_exact_62 : decode cX6_exact 62 = .ok (.invokestatic 38, 3) := dk_184 0 38 (dk_at dksX6_exact_2 16 rfl rfl)
theorem dX6_exact_65 : decode cX6_exact 65 = .ok (.lreturn, 1) := dk_173 (dk_at dksX6_exact_2 19 rfl rfl)
abbrev cX6_turn : ByteArray := prog_2_method_4_code
def yX6_turn : MethodName := ⟨RX6, "turn", "(LAheadRows;ILAheadRows$Wheel;)V"⟩
def dkwX6_turn_5 : List UInt8 := [136, 79, 132, 6, 1, 167, 255, 203, 45, 182, 0, 71, 177]
abbrev dktX6_turn_5 : List UInt8 := dkwX6_turn_5 ++ []
def dkwX6_turn_4 : List UInt8 := [25, 4, 21, 6, 133, 182, 0, 67, 133, 25, 5, 21, 6, 133, 182, 0, 67, 133, 182, 0, 32, 28, 133, 113]
abbrev dktX6_turn_4 : List UInt8 := dkwX6_turn_4 ++ dktX6_turn_5
def dkwX6_turn_3 : List UInt8 := [21, 6, 45, 180, 0, 46, 45, 180, 0, 57, 96, 162, 0, 45, 45, 180, 0, 63, 21, 6, 42, 182, 0, 28]
abbrev dktX6_turn_3 : List UInt8 := dkwX6_turn_3 ++ dktX6_turn_4
def dkwX6_turn_2 : List UInt8 := [180, 0, 57, 25, 5, 180, 0, 57, 184, 0, 60, 108, 25, 5, 180, 0, 57, 104, 181, 0, 57, 3, 54, 6]
abbrev dktX6_turn_2 : List UInt8 := dkwX6_turn_2 ++ dktX6_turn_3
def dkwX6_turn_1 : List UInt8 := [25, 4, 180, 0, 46, 25, 5, 180, 0, 46, 184, 0, 51, 181, 0, 46, 45, 25, 4, 180, 0, 57, 25, 4]
abbrev dktX6_turn_1 : List UInt8 := dkwX6_turn_1 ++ dktX6_turn_2
def dkwX6_turn_0 : List UInt8 := [43, 42, 180, 0, 9, 28, 182, 0, 42, 58, 4, 43, 42, 180, 0, 15, 28, 182, 0, 42, 58, 5, 45]
abbrev dktX6_turn_0 : List UInt8 := dkwX6_turn_0 ++ dktX6_turn_1
theorem dksX6_turn_0 : cX6_turn.data.toList.drop 0 = dktX6_turn_0 := by decide +kernel
theorem dksX6_turn_1 : cX6_turn.data.toList.drop 23 = dktX6_turn_1 := dk_seg dksX6_turn_0 23 rfl rfl
theorem dksX6_turn_2 : cX6_turn.data.toList.drop 47 = dktX6_turn_2 := dk_seg dksX6_turn_1 24 rfl rfl
theorem dksX6_turn_3 : cX6_turn.data.toList.drop 71 = dktX6_turn_3 := dk_seg dksX6_turn_2 24 rfl rfl
theorem dksX6_turn_4 : cX6_turn.data.toList.drop 95 = dktX6_turn_4 := dk_seg dksX6_turn_3 24 rfl rfl
theorem dksX6_turn_5 : cX6_turn.data.toList.drop 119 = dktX6_turn_5 := dk_seg dksX6_turn_4 24 rfl rfl
theorem dX6_turn_0 : decode cX6_turn 0 = .ok (.aload_n 1, 1) := dk_43 (dk_at dksX6_turn_0 0 rfl rfl)
theorem dX6_turn_1 : decode cX6_turn 1 = .ok (.aload_n 0, 1) := dk_42 (dk_at dksX6_turn_0 1 rfl rfl)
theorem dX6_turn_2 : decode cX6_turn 2 = .ok (.getfield 9, 3) := dk_180 0 9 (dk_at dksX6_turn_0 2 rfl rfl)
theorem dX6_turn_5 : decode cX6_turn 5 = .ok (.iload_n 2, 1) := dk_28 (dk_at dksX6_turn_0 5 rfl rfl)
theorem dX6_turn_6 : decode cX6_turn 6 = .ok (.invokevirtual 42, 3) := dk_182 0 42 (dk_at dksX6_turn_0 6 rfl rfl)
theorem dX6_turn_9 : decode cX6_turn 9 = .ok (.astore 4, 2) := dk_58 4 (dk_at dksX6_turn_0 9 rfl rfl)
theorem dX6_turn_11 : decode cX6_turn 11 = .ok (.aload_n 1, 1) := dk_43 (dk_at dksX6_turn_0 11 rfl rfl)
theorem dX6_turn_12 : decode cX6_turn 12 = .ok (.aload_n 0, 1) := dk_42 (dk_at dksX6_turn_0 12 rfl rfl)
theorem dX6_turn_13 : decode cX6_turn 13 = .ok (.getfield 15, 3) := dk_180 0 15 (dk_at dksX6_turn_0 13 rfl rfl)
theorem dX6_turn_16 : decode cX6_turn 16 = .ok (.iload_n 2, 1) := dk_28 (dk_at dksX6_turn_0 16 rfl rfl)
theorem dX6_turn_17 : decode cX6_turn 17 = .ok (.invokevirtual 42, 3) := dk_182 0 42 (dk_at dksX6_turn_0 17 rfl rfl)
theorem dX6_turn_20 : decode cX6_turn 20 = .ok (.astore 5, 2) := dk_58 5 (dk_at dksX6_turn_0 20 rfl rfl)
theorem dX6_turn_22 : decode cX6_turn 22 = .ok (.aload_n 3, 1) := dk_45 (dk_at dksX6_turn_0 22 rfl rfl)
theorem dX6_turn_23 : decode cX6_turn 23 = .ok (.aload 4, 2) := dk_25 4 (dk_at dksX6_turn_1 0 rfl rfl)
theorem dX6_turn_25 : decode cX6_turn 25 = .ok (.getfield 46, 3) := dk_180 0 46 (dk_at dksX6_turn_1 2 rfl rfl)
theorem dX6_turn_28 : decode cX6_turn 28 = .ok (.aload 5, 2) := dk_25 5 (dk_at dksX6_turn_1 5 rfl rfl)
theorem dX6_turn_30 : decode cX6_turn 30 = .ok (.getfield 46, 3) := dk_180 0 46 (dk_at dksX6_turn_1 7 rfl rfl)
theorem dX6_turn_33 : decode cX6_turn 33 = .ok (.invokestatic 51, 3) := dk_184 0 51 (dk_at dksX6_turn_1 10 rfl rfl)
theorem dX6_turn_36 : decode cX6_turn 36 = .ok (.putfield 46, 3) := dk_181 0 46 (dk_at dksX6_turn_1 13 rfl rfl)
theorem dX6_turn_39 : decode cX6_turn 39 = .ok (.aload_n 3, 1) := dk_45 (dk_at dksX6_turn_1 16 rfl rfl)
theorem dX6_turn_40 : decode cX6_turn 40 = .ok (.aload 4, 2) := dk_25 4 (dk_at dksX6_turn_1 17 rfl rfl)
theorem dX6_turn_42 : decode cX6_turn 42 = .ok (.getfield 57, 3) := dk_180 0 57 (dk_at dksX6_turn_1 19 rfl rfl)
theorem dX6_turn_45 : decode cX6_turn 45 = .ok (.aload 4, 2) := dk_25 4 (dk_at dksX6_turn_1 22 rfl rfl)
theorem dX6_turn_47 : decode cX6_turn 47 = .ok (.getfield 57, 3) := dk_180 0 57 (dk_at dksX6_turn_2 0 rfl rfl)
theorem dX6_turn_50 : decode cX6_turn 50 = .ok (.aload 5, 2) := dk_25 5 (dk_at dksX6_turn_2 3 rfl rfl)
theorem dX6_turn_52 : decode cX6_turn 52 = .ok (.getfield 57, 3) := dk_180 0 57 (dk_at dksX6_turn_2 5 rfl rfl)
theorem dX6_turn_55 : decode cX6_turn 55 = .ok (.invokestatic 60, 3) := dk_184 0 60 (dk_at dksX6_turn_2 8 rfl rfl)
theorem dX6_turn_58 : decode cX6_turn 58 = .ok (.idiv, 1) := dk_108 (dk_at dksX6_turn_2 11 rfl rfl)
theorem dX6_turn_59 : decode cX6_turn 59 = .ok (.aload 5, 2) := dk_25 5 (dk_at dksX6_turn_2 12 rfl rfl)
theorem dX6_turn_61 : decode cX6_turn 61 = .ok (.getfield 57, 3) := dk_180 0 57 (dk_at dksX6_turn_2 14 rfl rfl)
theorem dX6_turn_64 : decode cX6_turn 64 = .ok (.imul, 1) := dk_104 (dk_at dksX6_turn_2 17 rfl rfl)
theorem dX6_turn_65 : decode cX6_turn 65 = .ok (.putfield 57, 3) := dk_181 0 57 (dk_at dksX6_turn_2 18 rfl rfl)
theorem dX6_turn_68 : decode cX6_turn 68 = .ok (.iconst 0, 1) := dk_3 (dk_at dksX6_turn_2 21 rfl rfl)
theorem dX6_turn_69 : decode cX6_turn 69 = .ok (.istore 6, 2) := dk_54 6 (dk_at dksX6_turn_2 22 rfl rfl)
theorem dX6_turn_71 : decode cX6_turn 71 = .ok (.iload 6, 2) := dk_21 6 (dk_at dksX6_turn_3 0 rfl rfl)
theorem dX6_turn_73 : decode cX6_turn 73 = .ok (.aload_n 3, 1) := dk_45 (dk_at dksX6_turn_3 2 rfl rfl)
theorem dX6_turn_74 : decode cX6_turn 74 = .ok (.getfield 46, 3) := dk_180 0 46 (dk_at dksX6_turn_3 3 rfl rfl)
theorem dX6_turn_77 : decode cX6_turn 77 = .ok (.aload_n 3, 1) := dk_45 (dk_at dksX6_turn_3 6 rfl rfl)
theorem dX6_turn_78 : decode cX6_turn 78 = .ok (.getfield 57, 3) := dk_180 0 57 (dk_at dksX6_turn_3 7 rfl rfl)
theorem dX6_turn_81 : decode cX6_turn 81 = .ok (.iadd, 1) := dk_96 (dk_at dksX6_turn_3 10 rfl rfl)
theorem dX6_turn_82 : decode cX6_turn 82 = .ok (.if_icmp .ge 45, 3) := dk_162 0 45 (dk_at dksX6_turn_3 11 rfl rfl)
theorem dX6_turn_85 : decode cX6_turn 85 = .ok (.aload_n 3, 1) := dk_45 (dk_at dksX6_turn_3 14 rfl rfl)
theorem dX6_turn_86 : decode cX6_turn 86 = .ok (.getfield 63, 3) := dk_180 0 63 (dk_at dksX6_turn_3 15 rfl rfl)
theorem dX6_turn_89 : decode cX6_turn 89 = .ok (.iload 6, 2) := dk_21 6 (dk_at dksX6_turn_3 18 rfl rfl)
theorem dX6_turn_91 : decode cX6_turn 91 = .ok (.aload_n 0, 1) := dk_42 (dk_at dksX6_turn_3 20 rfl rfl)
theorem dX6_turn_92 : decode cX6_turn 92 = .ok (.invokevirtual 28, 3) := dk_182 0 28 (dk_at dksX6_turn_3 21 rfl rfl)
theorem dX6_turn_95 : decode cX6_turn 95 = .ok (.aload 4, 2) := dk_25 4 (dk_at dksX6_turn_4 0 rfl rfl)
theorem dX6_turn_97 : decode cX6_turn 97 = .ok (.iload 6, 2) := dk_21 6 (dk_at dksX6_turn_4 2 rfl rfl)
theorem dX6_turn_99 : decode cX6_turn 99 = .ok (.i2l, 1) := dk_133 (dk_at dksX6_turn_4 4 rfl rfl)
theorem dX6_turn_100 : decode cX6_turn 100 = .ok (.invokevirtual 67, 3) := dk_182 0 67 (dk_at dksX6_turn_4 5 rfl rfl)
theorem dX6_turn_103 : decode cX6_turn 103 = .ok (.i2l, 1) := dk_133 (dk_at dksX6_turn_4 8 rfl rfl)
theorem dX6_turn_104 : decode cX6_turn 104 = .ok (.aload 5, 2) := dk_25 5 (dk_at dksX6_turn_4 9 rfl rfl)
theorem dX6_turn_106 : decode cX6_turn 106 = .ok (.iload 6, 2) := dk_21 6 (dk_at dksX6_turn_4 11 rfl rfl)
theorem dX6_turn_108 : decode cX6_turn 108 = .ok (.i2l, 1) := dk_133 (dk_at dksX6_turn_4 13 rfl rfl)
theorem dX6_turn_109 : decode cX6_turn 109 = .ok (.invokevirtual 67, 3) := dk_182 0 67 (dk_at dksX6_turn_4 14 rfl rfl)
theorem dX6_turn_112 : decode cX6_turn 112 = .ok (.i2l, 1) := dk_133 (dk_at dksX6_turn_4 17 rfl rfl)
theorem dX6_turn_113 : decode cX6_turn 113 = .ok (.invokevirtual 32, 3) := dk_182 0 32 (dk_at dksX6_turn_4 18 rfl rfl)
theorem dX6_turn_116 : decode cX6_turn 116 = .ok (.iload_n 2, 1) := dk_28 (dk_at dksX6_turn_4 21 rfl rfl)
theorem dX6_turn_117 : decode cX6_turn 117 = .ok (.i2l, 1) := dk_133 (dk_at dksX6_turn_4 22 rfl rfl)
theorem dX6_turn_118 : decode cX6_turn 118 = .ok (.lrem, 1) := dk_113 (dk_at dksX6_turn_4 23 rfl rfl)
theorem dX6_turn_119 : decode cX6_turn 119 = .ok (.l2i, 1) := dk_136 (dk_at dksX6_turn_5 0 rfl rfl)
theorem dX6_turn_120 : decode cX6_turn 120 = .ok (.iastore, 1) := dk_79 (dk_at dksX6_turn_5 1 rfl rfl)
theorem dX6_turn_121 : decode cX6_turn 121 = .ok (.iinc 6 1, 3) := dk_132 6 1 (dk_at dksX6_turn_5 2 rfl rfl)
theorem dX6_turn_124 : decode cX6_turn 124 = .ok (.goto (-53), 3) := dk_167 255 203 (dk_at dksX6_turn_5 5 rfl rfl)
theorem dX6_turn_127 : decode cX6_turn 127 = .ok (.aload_n 3, 1) := dk_45 (dk_at dksX6_turn_5 8 rfl rfl)
theorem dX6_turn_128 : decode cX6_turn 128 = .ok (.invokevirtual 71, 3) := dk_182 0 71 (dk_at dksX6_turn_5 9 rfl rfl)
theorem dX6_turn_131 : decode cX6_turn 131 = .ok (.return_, 1) := dk_177 (dk_at dksX6_turn_5 12 rfl rfl)
abbrev cX6_ruleBy : ByteArray := prog_2_method_6_code
def yX6_ruleBy : MethodName := ⟨RX6, "ruleBy", "(LAheadRows;)[I"⟩
def dkwX6_ruleBy_2 : List UInt8 := [42, 182, 0, 28, 45, 44, 182, 0, 76, 167, 0, 4, 1, 176]
abbrev dktX6_ruleBy_2 : List UInt8 := dkwX6_ruleBy_2 ++ []
def dkwX6_ruleBy_1 : List UInt8 := [43, 42, 180, 0, 15, 182, 0, 18, 58, 4, 25, 4, 193, 0, 74, 153, 0, 21, 25, 4, 192, 0, 74, 77]
abbrev dktX6_ruleBy_1 : List UInt8 := dkwX6_ruleBy_1 ++ dktX6_ruleBy_2
def dkwX6_ruleBy_0 : List UInt8 := [43, 42, 180, 0, 9, 182, 0, 18, 58, 4, 25, 4, 193, 0, 74, 153, 0, 45, 25, 4, 192, 0, 74, 78]
abbrev dktX6_ruleBy_0 : List UInt8 := dkwX6_ruleBy_0 ++ dktX6_ruleBy_1
theorem dksX6_ruleBy_0 : cX6_ruleBy.data.toList.drop 0 = dktX6_ruleBy_0 := by decide +kernel
theorem dksX6_ruleBy_1 : cX6_ruleBy.data.toList.drop 24 = dktX6_ruleBy_1 := dk_seg dksX6_ruleBy_0 24 rfl rfl
theorem dksX6_ruleBy_2 : cX6_ruleBy.data.toList.drop 48 = dktX6_ruleBy_2 := dk_seg dksX6_ruleBy_1 24 rfl rfl
theorem dX6_ruleBy_0 : decode cX6_ruleBy 0 = .ok (.aload_n 1, 1) := dk_43 (dk_at dksX6_ruleBy_0 0 rfl rfl)
theorem dX6_ruleBy_1 : decode cX6_ruleBy 1 = .ok (.aload_n 0, 1) := dk_42 (dk_at dksX6_ruleBy_0 1 rfl rfl)
theorem dX6_ruleBy_2 : decode cX6_ruleBy 2 = .ok (.getfield 9, 3) := dk_180 0 9 (dk_at dksX6_ruleBy_0 2 rfl rfl)
theorem dX6_ruleBy_5 : decode cX6_ruleBy 5 = .ok (.invokevirtual 18, 3) := dk_182 0 18 (dk_at dksX6_ruleBy_0 5 rfl rfl)
theorem dX6_ruleBy_8 : decode cX6_ruleBy 8 = .ok (.astore 4, 2) := dk_58 4 (dk_at dksX6_ruleBy_0 8 rfl rfl)
theorem dX6_ruleBy_10 : decode cX6_ruleBy 10 = .ok (.aload 4, 2) := dk_25 4 (dk_at dksX6_ruleBy_0 10 rfl rfl)
theorem dX6_ruleBy_12 : decode cX6_ruleBy 12 = .ok (.instanceof 74, 3) := dk_193 0 74 (dk_at dksX6_ruleBy_0 12 rfl rfl)
theorem dX6_ruleBy_15 : decode cX6_ruleBy 15 = .ok (.ifCond .eq 45, 3) := dk_153 0 45 (dk_at dksX6_ruleBy_0 15 rfl rfl)
theorem dX6_ruleBy_18 : decode cX6_ruleBy 18 = .ok (.aload 4, 2) := dk_25 4 (dk_at dksX6_ruleBy_0 18 rfl rfl)
theorem dX6_ruleBy_20 : decode cX6_ruleBy 20 = .ok (.checkcast 74, 3) := dk_192 0 74 (dk_at dksX6_ruleBy_0 20 rfl rfl)
theorem dX6_ruleBy_23 : decode cX6_ruleBy 23 = .ok (.astore_n 3, 1) := dk_78 (dk_at dksX6_ruleBy_0 23 rfl rfl)
theorem dX6_ruleBy_24 : decode cX6_ruleBy 24 = .ok (.aload_n 1, 1) := dk_43 (dk_at dksX6_ruleBy_1 0 rfl rfl)
theorem dX6_ruleBy_25 : decode cX6_ruleBy 25 = .ok (.aload_n 0, 1) := dk_42 (dk_at dksX6_ruleBy_1 1 rfl rfl)
theorem dX6_ruleBy_26 : decode cX6_ruleBy 26 = .ok (.getfield 15, 3) := dk_180 0 15 (dk_at dksX6_ruleBy_1 2 rfl rfl)
theorem dX6_ruleBy_29 : decode cX6_ruleBy 29 = .ok (.invokevirtual 18, 3) := dk_182 0 18 (dk_at dksX6_ruleBy_1 5 rfl rfl)
theorem dX6_ruleBy_32 : decode cX6_ruleBy 32 = .ok (.astore 4, 2) := dk_58 4 (dk_at dksX6_ruleBy_1 8 rfl rfl)
theorem dX6_ruleBy_34 : decode cX6_ruleBy 34 = .ok (.aload 4, 2) := dk_25 4 (dk_at dksX6_ruleBy_1 10 rfl rfl)
theorem dX6_ruleBy_36 : decode cX6_ruleBy 36 = .ok (.instanceof 74, 3) := dk_193 0 74 (dk_at dksX6_ruleBy_1 12 rfl rfl)
theorem dX6_ruleBy_39 : decode cX6_ruleBy 39 = .ok (.ifCond .eq 21, 3) := dk_153 0 21 (dk_at dksX6_ruleBy_1 15 rfl rfl)
theorem dX6_ruleBy_42 : decode cX6_ruleBy 42 = .ok (.aload 4, 2) := dk_25 4 (dk_at dksX6_ruleBy_1 18 rfl rfl)
theorem dX6_ruleBy_44 : decode cX6_ruleBy 44 = .ok (.checkcast 74, 3) := dk_192 0 74 (dk_at dksX6_ruleBy_1 20 rfl rfl)
theorem dX6_ruleBy_47 : decode cX6_ruleBy 47 = .ok (.astore_n 2, 1) := dk_77 (dk_at dksX6_ruleBy_1 23 rfl rfl)
theorem dX6_ruleBy_48 : decode cX6_ruleBy 48 = .ok (.aload_n 0, 1) := dk_42 (dk_at dksX6_ruleBy_2 0 rfl rfl)
theorem dX6_ruleBy_49 : decode cX6_ruleBy 49 = .ok (.invokevirtual 28, 3) := dk_182 0 28 (dk_at dksX6_ruleBy_2 1 rfl rfl)
theorem dX6_ruleBy_52 : decode cX6_ruleBy 52 = .ok (.aload_n 3, 1) := dk_45 (dk_at dksX6_ruleBy_2 4 rfl rfl)
theorem dX6_ruleBy_53 : decode cX6_ruleBy 53 = .ok (.aload_n 2, 1) := dk_44 (dk_at dksX6_ruleBy_2 5 rfl rfl)
theorem dX6_ruleBy_54 : decode cX6_ruleBy 54 = .ok (.invokevirtual 76, 3) := dk_182 0 76 (dk_at dksX6_ruleBy_2 6 rfl rfl)
theorem dX6_ruleBy_57 : decode cX6_ruleBy 57 = .ok (.goto 4, 3) := dk_167 0 4 (dk_at dksX6_ruleBy_2 9 rfl rfl)
theorem dX6_ruleBy_60 : decode cX6_ruleBy 60 = .ok (.aconst_null, 1) := dk_1 (dk_at dksX6_ruleBy_2 12 rfl rfl)
theorem dX6_ruleBy_61 : decode cX6_ruleBy 61 = .ok (.areturn, 1) := dk_176 (dk_at dksX6_ruleBy_2 13 rfl rfl)
abbrev cX6_eased : ByteArray := prog_2_method_7_code
def yX6_eased : MethodName := ⟨RX6, "eased", "(LAheadRows;)LAheadRows$Told;"⟩
def dkwX6_eased_3 : List UInt8 := [167, 0, 4, 1, 176]
abbrev dktX6_eased_3 : List UInt8 := dkwX6_eased_3 ++ []
def dkwX6_eased_2 : List UInt8 := [182, 0, 28, 44, 45, 182, 0, 88, 42, 43, 3, 182, 0, 92, 42, 43, 4, 182, 0, 92, 182, 0, 93]
abbrev dktX6_eased_2 : List UInt8 := dkwX6_eased_2 ++ dktX6_eased_3
def dkwX6_eased_1 : List UInt8 := [180, 0, 15, 182, 0, 18, 192, 0, 74, 78, 42, 182, 0, 28, 44, 45, 182, 0, 84, 153, 0, 31, 43, 42]
abbrev dktX6_eased_1 : List UInt8 := dkwX6_eased_1 ++ dktX6_eased_2
def dkwX6_eased_0 : List UInt8 := [42, 43, 182, 0, 80, 154, 0, 5, 1, 176, 43, 42, 180, 0, 9, 182, 0, 18, 192, 0, 74, 77, 43, 42]
abbrev dktX6_eased_0 : List UInt8 := dkwX6_eased_0 ++ dktX6_eased_1
theorem dksX6_eased_0 : cX6_eased.data.toList.drop 0 = dktX6_eased_0 := by decide +kernel
theorem dksX6_eased_1 : cX6_eased.data.toList.drop 24 = dktX6_eased_1 := dk_seg dksX6_eased_0 24 rfl rfl
theorem dksX6_eased_2 : cX6_eased.data.toList.drop 48 = dktX6_eased_2 := dk_seg dksX6_eased_1 24 rfl rfl
theorem dksX6_eased_3 : cX6_eased.data.toList.drop 71 = dktX6_eased_3 := dk_seg dksX6_eased_2 23 rfl rfl
theorem dX6_eased_0 : decode cX6_eased 0 = .ok (.aload_n 0, 1) := dk_42 (dk_at dksX6_eased_0 0 rfl rfl)
theorem dX6_eased_1 : decode cX6_eased 1 = .ok (.aload_n 1, 1) := dk_43 (dk_at dksX6_eased_0 1 rfl rfl)
theorem dX6_eased_2 : decode cX6_eased 2 = .ok (.invokevirtual 80, 3) := dk_182 0 80 (dk_at dksX6_eased_0 2 rfl rfl)
theorem dX6_eased_5 : decode cX6_eased 5 = .ok (.ifCond .ne 5, 3) := dk_154 0 5 (dk_at dksX6_eased_0 5 rfl rfl)
theorem dX6_eased_8 : decode cX6_eased 8 = .ok (.aconst_null, 1) := dk_1 (dk_at dksX6_eased_0 8 rfl rfl)
theorem dX6_eased_9 : decode cX6_eased 9 = .ok (.areturn, 1) := dk_176 (dk_at dksX6_eased_0 9 rfl rfl)
theorem dX6_eased_10 : decode cX6_eased 10 = .ok (.aload_n 1, 1) := dk_43 (dk_at dksX6_eased_0 10 rfl rfl)
theorem dX6_eased_11 : decode cX6_eased 11 = .ok (.aload_n 0, 1) := dk_42 (dk_at dksX6_eased_0 11 rfl rfl)
theorem dX6_eased_12 : decode cX6_eased 12 = .ok (.getfield 9, 3) := dk_180 0 9 (dk_at dksX6_eased_0 12 rfl rfl)
theorem dX6_eased_15 : decode cX6_eased 15 = .ok (.invokevirtual 18, 3) := dk_182 0 18 (dk_at dksX6_eased_0 15 rfl rfl)
theorem dX6_eased_18 : decode cX6_eased 18 = .ok (.checkcast 74, 3) := dk_192 0 74 (dk_at dksX6_eased_0 18 rfl rfl)
theorem dX6_eased_21 : decode cX6_eased 21 = .ok (.astore_n 2, 1) := dk_77 (dk_at dksX6_eased_0 21 rfl rfl)
theorem dX6_eased_22 : decode cX6_eased 22 = .ok (.aload_n 1, 1) := dk_43 (dk_at dksX6_eased_0 22 rfl rfl)
theorem dX6_eased_23 : decode cX6_eased 23 = .ok (.aload_n 0, 1) := dk_42 (dk_at dksX6_eased_0 23 rfl rfl)
theorem dX6_eased_24 : decode cX6_eased 24 = .ok (.getfield 15, 3) := dk_180 0 15 (dk_at dksX6_eased_1 0 rfl rfl)
theorem dX6_eased_27 : decode cX6_eased 27 = .ok (.invokevirtual 18, 3) := dk_182 0 18 (dk_at dksX6_eased_1 3 rfl rfl)
theorem dX6_eased_30 : decode cX6_eased 30 = .ok (.checkcast 74, 3) := dk_192 0 74 (dk_at dksX6_eased_1 6 rfl rfl)
theorem dX6_eased_33 : decode cX6_eased 33 = .ok (.astore_n 3, 1) := dk_78 (dk_at dksX6_eased_1 9 rfl rfl)
theorem dX6_eased_34 : decode cX6_eased 34 = .ok (.aload_n 0, 1) := dk_42 (dk_at dksX6_eased_1 10 rfl rfl)
theorem dX6_eased_35 : decode cX6_eased 35 = .ok (.invokevirtual 28, 3) := dk_182 0 28 (dk_at dksX6_eased_1 11 rfl rfl)
theorem dX6_eased_38 : decode cX6_eased 38 = .ok (.aload_n 2, 1) := dk_44 (dk_at dksX6_eased_1 14 rfl rfl)
theorem dX6_eased_39 : decode cX6_eased 39 = .ok (.aload_n 3, 1) := dk_45 (dk_at dksX6_eased_1 15 rfl rfl)
theorem dX6_eased_40 : decode cX6_eased 40 = .ok (.invokevirtual 84, 3) := dk_182 0 84 (dk_at dksX6_eased_1 16 rfl rfl)
theorem dX6_eased_43 : decode cX6_eased 43 = .ok (.ifCond .eq 31, 3) := dk_153 0 31 (dk_at dksX6_eased_1 19 rfl rfl)
theorem dX6_eased_46 : decode cX6_eased 46 = .ok (.aload_n 1, 1) := dk_43 (dk_at dksX6_eased_1 22 rfl rfl)
theorem dX6_eased_47 : decode cX6_eased 47 = .ok (.aload_n 0, 1) := dk_42 (dk_at dksX6_eased_1 23 rfl rfl)
theorem dX6_eased_48 : decode cX6_eased 48 = .ok (.invokevirtual 28, 3) := dk_182 0 28 (dk_at dksX6_eased_2 0 rfl rfl)
theorem dX6_eased_51 : decode cX6_eased 51 = .ok (.aload_n 2, 1) := dk_44 (dk_at dksX6_eased_2 3 rfl rfl)
theorem dX6_eased_52 : decode cX6_eased 52 = .ok (.aload_n 3, 1) := dk_45 (dk_at dksX6_eased_2 4 rfl rfl)
theorem dX6_eased_53 : decode cX6_eased 53 = .ok (.invokevirtual 88, 3) := dk_182 0 88 (dk_at dksX6_eased_2 5 rfl rfl)
theorem dX6_eased_56 : decode cX6_eased 56 = .ok (.aload_n 0, 1) := dk_42 (dk_at dksX6_eased_2 8 rfl rfl)
theorem dX6_eased_57 : decode cX6_eased 57 = .ok (.aload_n 1, 1) := dk_43 (dk_at dksX6_eased_2 9 rfl rfl)
theorem dX6_eased_58 : decode cX6_eased 58 = .ok (.iconst 0, 1) := dk_3 (dk_at dksX6_eased_2 10 rfl rfl)
theorem dX6_eased_59 : decode cX6_eased 59 = .ok (.invokevirtual 92, 3) := dk_182 0 92 (dk_at dksX6_eased_2 11 rfl rfl)
theorem dX6_eased_62 : decode cX6_eased 62 = .ok (.aload_n 0, 1) := dk_42 (dk_at dksX6_eased_2 14 rfl rfl)
theorem dX6_eased_63 : decode cX6_eased 63 = .ok (.aload_n 1, 1) := dk_43 (dk_at dksX6_eased_2 15 rfl rfl)
theorem dX6_eased_64 : decode cX6_eased 64 = .ok (.iconst 1, 1) := dk_4 (dk_at dksX6_eased_2 16 rfl rfl)
theorem dX6_eased_65 : decode cX6_eased 65 = .ok (.invokevirtual 92, 3) := dk_182 0 92 (dk_at dksX6_eased_2 17 rfl rfl)
theorem dX6_eased_68 : decode cX6_eased 68 = .ok (.invokevirtual 93, 3) := dk_182 0 93 (dk_at dksX6_eased_2 20 rfl rfl)
theorem dX6_eased_71 : decode cX6_eased 71 = .ok (.goto 4, 3) := dk_167 0 4 (dk_at dksX6_eased_3 0 rfl rfl)
theorem dX6_eased_74 : decode cX6_eased 74 = .ok (.aconst_null, 1) := dk_1 (dk_at dksX6_eased_3 3 rfl rfl)
theorem dX6_eased_75 : decode cX6_eased 75 = .ok (.areturn, 1) := dk_176 (dk_at dksX6_eased_3 4 rfl rfl)
abbrev cX6_isPlain : ByteArray := prog_2_method_5_code
def yX6_isPlain : MethodName := ⟨RX6, "isPlain", "(LAheadRows;)Z"⟩
def dkwX6_isPlain_1 : List UInt8 := [193, 0, 74, 153, 0, 7, 4, 167, 0, 4, 3, 172]
abbrev dktX6_isPlain_1 : List UInt8 := dkwX6_isPlain_1 ++ []
def dkwX6_isPlain_0 : List UInt8 := [43, 42, 180, 0, 9, 182, 0, 18, 193, 0, 74, 153, 0, 21, 43, 42, 180, 0, 15, 182, 0, 18]
abbrev dktX6_isPlain_0 : List UInt8 := dkwX6_isPlain_0 ++ dktX6_isPlain_1
theorem dksX6_isPlain_0 : cX6_isPlain.data.toList.drop 0 = dktX6_isPlain_0 := by decide +kernel
theorem dksX6_isPlain_1 : cX6_isPlain.data.toList.drop 22 = dktX6_isPlain_1 := dk_seg dksX6_isPlain_0 22 rfl rfl
theorem dX6_isPlain_0 : decode cX6_isPlain 0 = .ok (.aload_n 1, 1) := dk_43 (dk_at dksX6_isPlain_0 0 rfl rfl)
theorem dX6_isPlain_1 : decode cX6_isPlain 1 = .ok (.aload_n 0, 1) := dk_42 (dk_at dksX6_isPlain_0 1 rfl rfl)
theorem dX6_isPlain_2 : decode cX6_isPlain 2 = .ok (.getfield 9, 3) := dk_180 0 9 (dk_at dksX6_isPlain_0 2 rfl rfl)
theorem dX6_isPlain_5 : decode cX6_isPlain 5 = .ok (.invokevirtual 18, 3) := dk_182 0 18 (dk_at dksX6_isPlain_0 5 rfl rfl)
theorem dX6_isPlain_8 : decode cX6_isPlain 8 = .ok (.instanceof 74, 3) := dk_193 0 74 (dk_at dksX6_isPlain_0 8 rfl rfl)
theorem dX6_isPlain_11 : decode cX6_isPlain 11 = .ok (.ifCond .eq 21, 3) := dk_153 0 21 (dk_at dksX6_isPlain_0 11 rfl rfl)
theorem dX6_isPlain_14 : decode cX6_isPlain 14 = .ok (.aload_n 1, 1) := dk_43 (dk_at dksX6_isPlain_0 14 rfl rfl)
theorem dX6_isPlain_15 : decode cX6_isPlain 15 = .ok (.aload_n 0, 1) := dk_42 (dk_at dksX6_isPlain_0 15 rfl rfl)
theorem dX6_isPlain_16 : decode cX6_isPlain 16 = .ok (.getfield 15, 3) := dk_180 0 15 (dk_at dksX6_isPlain_0 16 rfl rfl)
theorem dX6_isPlain_19 : decode cX6_isPlain 19 = .ok (.invokevirtual 18, 3) := dk_182 0 18 (dk_at dksX6_isPlain_0 19 rfl rfl)
theorem dX6_isPlain_22 : decode cX6_isPlain 22 = .ok (.instanceof 74, 3) := dk_193 0 74 (dk_at dksX6_isPlain_1 0 rfl rfl)
theorem dX6_isPlain_25 : decode cX6_isPlain 25 = .ok (.ifCond .eq 7, 3) := dk_153 0 7 (dk_at dksX6_isPlain_1 3 rfl rfl)
theorem dX6_isPlain_28 : decode cX6_isPlain 28 = .ok (.iconst 1, 1) := dk_4 (dk_at dksX6_isPlain_1 6 rfl rfl)
theorem dX6_isPlain_29 : decode cX6_isPlain 29 = .ok (.goto 4, 3) := dk_167 0 4 (dk_at dksX6_isPlain_1 7 rfl rfl)
theorem dX6_isPlain_32 : decode cX6_isPlain 32 = .ok (.iconst 0, 1) := dk_3 (dk_at dksX6_isPlain_1 10 rfl rfl)
theorem dX6_isPlain_33 : decode cX6_isPlain 33 = .ok (.ireturn, 1) := dk_172 (dk_at dksX6_isPlain_1 11 rfl rfl)
theorem q106 : (Jvm.Cond.initialized "AheadRows$Both") ∈ lw_all := lw_g (lw_at lw_m1 10 rfl) rfl
theorem q170 : (Jvm.Cond.fieldLink "AheadRows$Both" (63 : Nat) "AheadRows$Wheel" "spokes" "[I") ∈ lw_all := lw_g (lw_at lw_m1 74 rfl) rfl
theorem q174 : (Jvm.Cond.fieldLink "AheadRows$Both" (46 : Nat) "AheadRows$Wheel" "head" "I") ∈ lw_all := lw_g (lw_at lw_m1 78 rfl) rfl
theorem q179 : (Jvm.Cond.fieldLink "AheadRows$Both" (57 : Nat) "AheadRows$Wheel" "lap" "I") ∈ lw_all := lw_g (lw_at lw_m1 83 rfl) rfl
theorem q370 : (Jvm.Cond.instanceMethod ({ cls := "AheadRows$Both", name := "<init>", desc := "(II)V" } : Jvm.MethodName)) ∈ lw_all := lw_g (lw_at lw_m2 34 rfl) rfl
theorem q371 : (Jvm.Cond.code ({ cls := "AheadRows$Both", name := "<init>", desc := "(II)V" } : Jvm.MethodName) prog_2_method_1_code (3 : Nat) (Option.none : Option Jvm.ClassFile.FieldType)) ∈ lw_all := lw_g (lw_at lw_m2 35 rfl) rfl
theorem q372 : (Jvm.Cond.methodLinkNest "AheadRows$Both" (3 : Nat) ({ cls := "AheadRows$Row", name := "<init>", desc := "()V" } : Jvm.MethodName) "AheadRows") ∈ lw_tbl := lw_at lw_m2 36 rfl
theorem q373 : (Jvm.Cond.fieldLink "AheadRows$Both" (9 : Nat) "AheadRows$Both" "one" "I") ∈ lw_all := lw_g (lw_at lw_m2 37 rfl) rfl
theorem q378 : (Jvm.Cond.fieldLink "AheadRows$Both" (15 : Nat) "AheadRows$Both" "other" "I") ∈ lw_all := lw_g (lw_at lw_m2 42 rfl) rfl
theorem q384 : (Jvm.Cond.soleField "AheadRows$Both" "one") ∈ lw_all := lw_g (lw_at lw_m2 48 rfl) rfl
theorem q386 : (Jvm.Cond.soleField "AheadRows$Both" "other") ∈ lw_all := lw_g (lw_at lw_m2 50 rfl) rfl
theorem q577 : (Jvm.Cond.sameMethod "AheadRows$Both" "AheadRows$Row" "number" "(I)I") ∈ lw_all := lw_g (lw_at lw_m3 1 rfl) rfl
theorem q578 : (Jvm.Cond.superclass "AheadRows$Both" "AheadRows$Row") ∈ lw_all := lw_g (lw_at lw_m3 2 rfl) rfl
theorem q698 : (Jvm.Cond.sameMethod "AheadRows$Both" "AheadRows$Row" "kind" "()I") ∈ lw_all := lw_g (lw_at lw_m3 122 rfl) rfl
theorem q719 : (Jvm.Cond.instanceMethod ({ cls := "AheadRows$Both", name := "exact", desc := "(LAheadRows;I)J" } : Jvm.MethodName)) ∈ lw_all := lw_g (lw_at lw_m3 143 rfl) rfl
theorem q720 : (Jvm.Cond.code ({ cls := "AheadRows$Both", name := "exact", desc := "(LAheadRows;I)J" } : Jvm.MethodName) prog_2_method_3_code (7 : Nat) (Option.some Jvm.ClassFile.FieldType.long)) ∈ lw_all := lw_g (lw_at lw_m3 144 rfl) rfl
theorem q721 : (Jvm.Cond.methodLinkNest "AheadRows$Both" (18 : Nat) ({ cls := "AheadRows", name := "rowOf", desc := "(I)LAheadRows$Row;" } : Jvm.MethodName) "AheadRows") ∈ lw_tbl := lw_at lw_m3 145 rfl
theorem q722 : (Jvm.Cond.methodLink "AheadRows$Both" (22 : Nat) ({ cls := "AheadRows$Row", name := "exact", desc := "(LAheadRows;I)J" } : Jvm.MethodName)) ∈ lw_all := lw_g (lw_at lw_m3 146 rfl) rfl
theorem q740 : (Jvm.Cond.constantLong "AheadRows$Both" (26 : Nat) (2000000002 : Int64)) ∈ lw_all := lw_g (lw_at lw_m3 164 rfl) rfl
theorem q741 : (Jvm.Cond.methodLink "AheadRows$Both" (28 : Nat) ({ cls := "AheadRows$Both", name := "mix", desc := "()LAheadRows$Mix;" } : Jvm.MethodName)) ∈ lw_all := lw_g (lw_at lw_m3 165 rfl) rfl
theorem q742 : (Jvm.Cond.declares ({ cls := "AheadRows$Both", name := "mix", desc := "()LAheadRows$Mix;" } : Jvm.MethodName)) ∈ lw_tbl := lw_at lw_m3 166 rfl
theorem q743 : (Jvm.Cond.sameMethod "AheadRows$Both" "AheadRows$Both" "mix" "()LAheadRows$Mix;") ∈ lw_all := lw_g (lw_at lw_m3 167 rfl) rfl
theorem q754 : (Jvm.Cond.methodLink "AheadRows$Both" (32 : Nat) ({ cls := "AheadRows$Mix", name := "of", desc := "(JJ)J" } : Jvm.MethodName)) ∈ lw_all := lw_g (lw_at lw_m3 178 rfl) rfl
theorem q763 : (Jvm.Cond.methodLink "AheadRows$Both" (38 : Nat) ({ cls := "AheadRows$Both", name := "near", desc := "(J)J" } : Jvm.MethodName)) ∈ lw_all := lw_g (lw_at lw_m3 187 rfl) rfl
theorem q764 : (Jvm.Cond.sameMethod "AheadRows$Both" "AheadRows$Row" "near" "(J)J") ∈ lw_all := lw_g (lw_at lw_m3 188 rfl) rfl
theorem q825 : (Jvm.Cond.instanceMethod ({ cls := "AheadRows$Both", name := "turn", desc := "(LAheadRows;ILAheadRows$Wheel;)V" } : Jvm.MethodName)) ∈ lw_all := lw_g (lw_at lw_m4 9 rfl) rfl
theorem q826 : (Jvm.Cond.code ({ cls := "AheadRows$Both", name := "turn", desc := "(LAheadRows;ILAheadRows$Wheel;)V" } : Jvm.MethodName) prog_2_method_4_code (7 : Nat) (Option.none : Option Jvm.ClassFile.FieldType)) ∈ lw_all := lw_g (lw_at lw_m4 10 rfl) rfl
theorem q827 : (Jvm.Cond.methodLinkNest "AheadRows$Both" (42 : Nat) ({ cls := "AheadRows", name := "wheel", desc := "(II)LAheadRows$Wheel;" } : Jvm.MethodName) "AheadRows") ∈ lw_tbl := lw_at lw_m4 11 rfl
theorem q828 : (Jvm.Cond.methodLink "AheadRows$Both" (51 : Nat) ({ cls := "java/lang/Math", name := "max", desc := "(II)I" } : Jvm.MethodName)) ∈ lw_all := lw_g (lw_at lw_m4 12 rfl) rfl
theorem q829 : (Jvm.Cond.methodLinkNest "AheadRows$Both" (60 : Nat) ({ cls := "AheadRows", name := "gcd", desc := "(II)I" } : Jvm.MethodName) "AheadRows") ∈ lw_tbl := lw_at lw_m4 13 rfl
theorem q830 : (Jvm.Cond.methodLink "AheadRows$Both" (67 : Nat) ({ cls := "AheadRows$Wheel", name := "at", desc := "(J)I" } : Jvm.MethodName)) ∈ lw_all := lw_g (lw_at lw_m4 14 rfl) rfl
theorem q831 : (Jvm.Cond.methodLink "AheadRows$Both" (71 : Nat) ({ cls := "AheadRows$Wheel", name := "lessen", desc := "()V" } : Jvm.MethodName)) ∈ lw_all := lw_g (lw_at lw_m4 15 rfl) rfl
theorem q930 : (Jvm.Cond.instanceMethod ({ cls := "AheadRows$Both", name := "ruleBy", desc := "(LAheadRows;)[I" } : Jvm.MethodName)) ∈ lw_all := lw_g (lw_at lw_m4 114 rfl) rfl
theorem q931 : (Jvm.Cond.code ({ cls := "AheadRows$Both", name := "ruleBy", desc := "(LAheadRows;)[I" } : Jvm.MethodName) prog_2_method_6_code (5 : Nat) (Option.some (Jvm.ClassFile.FieldType.array Jvm.ClassFile.FieldType.int))) ∈ lw_all := lw_g (lw_at lw_m4 115 rfl) rfl
theorem q932 : (Jvm.Cond.classLink "AheadRows$Both" (74 : Nat) "AheadRows$Told") ∈ lw_all := lw_g (lw_at lw_m4 116 rfl) rfl
theorem q933 : (Jvm.Cond.methodLink "AheadRows$Both" (76 : Nat) ({ cls := "AheadRows$Mix", name := "ruleBy", desc := "(LAheadRows$Told;LAheadRows$Told;)[I" } : Jvm.MethodName)) ∈ lw_all := lw_g (lw_at lw_m4 117 rfl) rfl
theorem q1091 : (Jvm.Cond.instanceMethod ({ cls := "AheadRows$Both", name := "eased", desc := "(LAheadRows;)LAheadRows$Told;" } : Jvm.MethodName)) ∈ lw_all := lw_g (lw_at lw_m5 35 rfl) rfl
theorem q1092 : (Jvm.Cond.code ({ cls := "AheadRows$Both", name := "eased", desc := "(LAheadRows;)LAheadRows$Told;" } : Jvm.MethodName) prog_2_method_7_code (4 : Nat) (Option.some (Jvm.ClassFile.FieldType.object "AheadRows$Told"))) ∈ lw_all := lw_g (lw_at lw_m5 36 rfl) rfl
theorem q1093 : (Jvm.Cond.methodLink "AheadRows$Both" (80 : Nat) ({ cls := "AheadRows$Both", name := "isPlain", desc := "(LAheadRows;)Z" } : Jvm.MethodName)) ∈ lw_all := lw_g (lw_at lw_m5 37 rfl) rfl
theorem q1094 : (Jvm.Cond.instanceMethod ({ cls := "AheadRows$Both", name := "isPlain", desc := "(LAheadRows;)Z" } : Jvm.MethodName)) ∈ lw_all := lw_g (lw_at lw_m5 38 rfl) rfl
theorem q1095 : (Jvm.Cond.sameMethod "AheadRows$Both" "AheadRows$Both" "isPlain" "(LAheadRows;)Z") ∈ lw_all := lw_g (lw_at lw_m5 39 rfl) rfl
theorem q1098 : (Jvm.Cond.code ({ cls := "AheadRows$Both", name := "isPlain", desc := "(LAheadRows;)Z" } : Jvm.MethodName) prog_2_method_5_code (2 : Nat) (Option.some Jvm.ClassFile.FieldType.boolean)) ∈ lw_all := lw_g (lw_at lw_m5 42 rfl) rfl
theorem q1099 : (Jvm.Cond.methodLink "AheadRows$Both" (84 : Nat) ({ cls := "AheadRows$Mix", name := "isEasy", desc := "(LAheadRows$Told;LAheadRows$Told;)Z" } : Jvm.MethodName)) ∈ lw_all := lw_g (lw_at lw_m5 43 rfl) rfl
theorem q1112 : (Jvm.Cond.methodLink "AheadRows$Both" (88 : Nat) ({ cls := "AheadRows$Mix", name := "eased", desc := "(LAheadRows$Told;LAheadRows$Told;)LAheadRows$Told;" } : Jvm.MethodName)) ∈ lw_all := lw_g (lw_at lw_m5 56 rfl) rfl
theorem q1125 : (Jvm.Cond.methodLink "AheadRows$Both" (92 : Nat) ({ cls := "AheadRows$Both", name := "exact", desc := "(LAheadRows;I)J" } : Jvm.MethodName)) ∈ lw_all := lw_g (lw_at lw_m5 69 rfl) rfl
theorem q1126 : (Jvm.Cond.methodLinkNest "AheadRows$Both" (93 : Nat) ({ cls := "AheadRows", name := "withTerms", desc := "(LAheadRows$Told;JJ)LAheadRows$Told;" } : Jvm.MethodName) "AheadRows") ∈ lw_tbl := lw_at lw_m5 70 rfl
theorem q1788 : (Jvm.Cond.sameMethod "AheadRows$Both" "AheadRows$Both" "exact" "(LAheadRows;I)J") ∈ lw_all := lw_g (lw_at lw_m8 12 rfl) rfl
/-! AheadRows$Sum -/
set_option maxRecDepth 100000
def RX7 : String := "AheadRows$Sum"
def TX7 : u_T := fun k => match k with
  | 0 => ("AheadRows$Both", "one", "I", true)
  | _ => ("AheadRows$Both", "other", "I", true)
def tyX7 : Nat → FieldType := fun k => match k with
  | 0 => .int
  | _ => .int
abbrev wsX70 : List Cond := u_ws RX7 TX7 2
theorem nmX7 : ∀ a, a < 2 → ∀ b, b < 2 → a ≠ b → (TX7 a).2.1 ≠ (TX7 b).2.1 := by decide +kernel
theorem tyX7_ok : ∀ k, k < 2 → parseFieldDescriptor (TX7 k).2.2.1 = some (tyX7 k) := by decide +kernel
abbrev cX7_init : ByteArray := prog_13_method_1_code
def yX7_init : MethodName := ⟨RX7, "<init>", "(II)V"⟩
def dkwX7_init_0 : List UInt8 := [42, 27, 28, 183, 0, 1, 177]
abbrev dktX7_init_0 : List UInt8 := dkwX7_init_0 ++ []
theorem dksX7_init_0 : cX7_init.data.toList.drop 0 = dktX7_init_0 := by decide +kernel
theorem dX7_init_0 : decode cX7_init 0 = .ok (.aload_n 0, 1) := dk_42 (dk_at dksX7_init_0 0 rfl rfl)
theorem dX7_init_1 : decode cX7_init 1 = .ok (.iload_n 1, 1) := dk_27 (dk_at dksX7_init_0 1 rfl rfl)
theorem dX7_init_2 : decode cX7_init 2 = .ok (.iload_n 2, 1) := dk_28 (dk_at dksX7_init_0 2 rfl rfl)
theorem dX7_init_3 : decode cX7_init 3 = .ok (.invokespecial 1, 3) := dk_183 0 1 (dk_at dksX7_init_0 3 rfl rfl)
theorem dX7_init_6 : decode cX7_init 6 = .ok (.return_, 1) := dk_177 (dk_at dksX7_init_0 6 rfl rfl)
abbrev cX7_copy : ByteArray := prog_13_method_5_code
def yX7_copy : MethodName := ⟨RX7, "copy", "()LAheadRows$Row;"⟩
def dkwX7_copy_0 : List UInt8 := [187, 0, 8, 89, 42, 180, 0, 7, 42, 180, 0, 13, 183, 0, 26, 176]
abbrev dktX7_copy_0 : List UInt8 := dkwX7_copy_0 ++ []
theorem dksX7_copy_0 : cX7_copy.data.toList.drop 0 = dktX7_copy_0 := by decide +kernel
theorem dX7_copy_0 : decode cX7_copy 0 = .ok (.new 8, 3) := dk_187 0 8 (dk_at dksX7_copy_0 0 rfl rfl)
theorem dX7_copy_3 : decode cX7_copy 3 = .ok (.dup, 1) := dk_89 (dk_at dksX7_copy_0 3 rfl rfl)
theorem dX7_copy_4 : decode cX7_copy 4 = .ok (.aload_n 0, 1) := dk_42 (dk_at dksX7_copy_0 4 rfl rfl)
theorem dX7_copy_5 : decode cX7_copy 5 = .ok (.getfield 7, 3) := dk_180 0 7 (dk_at dksX7_copy_0 5 rfl rfl)
theorem dX7_copy_8 : decode cX7_copy 8 = .ok (.aload_n 0, 1) := dk_42 (dk_at dksX7_copy_0 8 rfl rfl)
theorem dX7_copy_9 : decode cX7_copy 9 = .ok (.getfield 13, 3) := dk_180 0 13 (dk_at dksX7_copy_0 9 rfl rfl)
theorem dX7_copy_12 : decode cX7_copy 12 = .ok (.invokespecial 26, 3) := dk_183 0 26 (dk_at dksX7_copy_0 12 rfl rfl)
theorem dX7_copy_15 : decode cX7_copy 15 = .ok (.areturn, 1) := dk_176 (dk_at dksX7_copy_0 15 rfl rfl)
abbrev cX7_number : ByteArray := prog_13_method_3_code
def yX7_number : MethodName := ⟨RX7, "number", "(I)I"⟩
def dkwX7_number_1 : List UInt8 := [42, 27, 183, 0, 16, 172]
abbrev dktX7_number_1 : List UInt8 := dkwX7_number_1 ++ []
def dkwX7_number_0 : List UInt8 := [27, 4, 160, 0, 10, 42, 180, 0, 7, 167, 0, 20, 27, 5, 160, 0, 10, 42, 180, 0, 13, 167, 0, 8]
abbrev dktX7_number_0 : List UInt8 := dkwX7_number_0 ++ dktX7_number_1
theorem dksX7_number_0 : cX7_number.data.toList.drop 0 = dktX7_number_0 := by decide +kernel
theorem dksX7_number_1 : cX7_number.data.toList.drop 24 = dktX7_number_1 := dk_seg dksX7_number_0 24 rfl rfl
theorem dX7_number_0 : decode cX7_number 0 = .ok (.iload_n 1, 1) := dk_27 (dk_at dksX7_number_0 0 rfl rfl)
theorem dX7_number_1 : decode cX7_number 1 = .ok (.iconst 1, 1) := dk_4 (dk_at dksX7_number_0 1 rfl rfl)
theorem dX7_number_2 : decode cX7_number 2 = .ok (.if_icmp .ne 10, 3) := dk_160 0 10 (dk_at dksX7_number_0 2 rfl rfl)
theorem dX7_number_5 : decode cX7_number 5 = .ok (.aload_n 0, 1) := dk_42 (dk_at dksX7_number_0 5 rfl rfl)
theorem dX7_number_6 : decode cX7_number 6 = .ok (.getfield 7, 3) := dk_180 0 7 (dk_at dksX7_number_0 6 rfl rfl)
theorem dX7_number_9 : decode cX7_number 9 = .ok (.goto 20, 3) := dk_167 0 20 (dk_at dksX7_number_0 9 rfl rfl)
theorem dX7_number_12 : decode cX7_number 12 = .ok (.iload_n 1, 1) := dk_27 (dk_at dksX7_number_0 12 rfl rfl)
theorem dX7_number_13 : decode cX7_number 13 = .ok (.iconst 2, 1) := dk_5 (dk_at dksX7_number_0 13 rfl rfl)
theorem dX7_number_14 : decode cX7_number 14 = .ok (.if_icmp .ne 10, 3) := dk_160 0 10 (dk_at dksX7_number_0 14 rfl rfl)
theorem dX7_number_17 : decode cX7_number 17 = .ok (.aload_n 0, 1) := dk_42 (dk_at dksX7_number_0 17 rfl rfl)
theorem dX7_number_18 : decode cX7_number 18 = .ok (.getfield 13, 3) := dk_180 0 13 (dk_at dksX7_number_0 18 rfl rfl)
theorem dX7_number_21 : decode cX7_number 21 = .ok (.goto 8, 3) := dk_167 0 8 (dk_at dksX7_number_0 21 rfl rfl)
theorem dX7_number_24 : decode cX7_number 24 = .ok (.aload_n 0, 1) := dk_42 (dk_at dksX7_number_1 0 rfl rfl)
theorem dX7_number_25 : decode cX7_number 25 = .ok (.iload_n 1, 1) := dk_27 (dk_at dksX7_number_1 1 rfl rfl)
theorem dX7_number_26 : decode cX7_number 26 = .ok (.invokespecial 16, 3) := dk_183 0 16 (dk_at dksX7_number_1 2 rfl rfl)
theorem dX7_number_29 : decode cX7_number 29 = .ok (.ireturn, 1) := dk_172 (dk_at dksX7_number_1 5 rfl rfl)
abbrev cX7_kind : ByteArray := prog_13_method_2_code
def yX7_kind : MethodName := ⟨RX7, "kind", "()I"⟩
theorem dX7_kind_0 : decode cX7_kind 0 = .ok (.iconst 1, 1) := by decide +kernel
theorem dX7_kind_1 : decode cX7_kind 1 = .ok (.ireturn, 1) := by decide +kernel
abbrev cX7_mix : ByteArray := prog_13_method_4_code
def yX7_mix : MethodName := ⟨RX7, "mix", "()LAheadRows$Mix;"⟩
theorem dX7_mix_0 : decode cX7_mix 0 = .ok (.getstatic 20, 3) := by decide +kernel
theorem dX7_mix_3 : decode cX7_mix 3 = .ok (.areturn, 1) := by decide +kernel
theorem q107 : (Jvm.Cond.initialized "AheadRows$Sum") ∈ lw_all := lw_g (lw_at lw_m1 11 rfl) rfl
theorem q365 : (Jvm.Cond.instantiable "AheadRows$Sum" (2 : Nat)) ∈ lw_all := lw_g (lw_at lw_m2 29 rfl) rfl
theorem q367 : (Jvm.Cond.instanceMethod ({ cls := "AheadRows$Sum", name := "<init>", desc := "(II)V" } : Jvm.MethodName)) ∈ lw_all := lw_g (lw_at lw_m2 31 rfl) rfl
theorem q368 : (Jvm.Cond.code ({ cls := "AheadRows$Sum", name := "<init>", desc := "(II)V" } : Jvm.MethodName) prog_13_method_1_code (3 : Nat) (Option.none : Option Jvm.ClassFile.FieldType)) ∈ lw_all := lw_g (lw_at lw_m2 32 rfl) rfl
theorem q369 : (Jvm.Cond.methodLink "AheadRows$Sum" (1 : Nat) ({ cls := "AheadRows$Both", name := "<init>", desc := "(II)V" } : Jvm.MethodName)) ∈ lw_all := lw_g (lw_at lw_m2 33 rfl) rfl
theorem q376 : (Jvm.Cond.fieldLink "AheadRows$Sum" (7 : Nat) "AheadRows$Sum" "one" "I") ∈ lw_all := lw_g (lw_at lw_m2 40 rfl) rfl
theorem q377 : (Jvm.Cond.sameField "AheadRows$Sum" "AheadRows$Both" "one" "I") ∈ lw_all := lw_g (lw_at lw_m2 41 rfl) rfl
theorem q381 : (Jvm.Cond.fieldLink "AheadRows$Sum" (13 : Nat) "AheadRows$Sum" "other" "I") ∈ lw_all := lw_g (lw_at lw_m2 45 rfl) rfl
theorem q382 : (Jvm.Cond.sameField "AheadRows$Sum" "AheadRows$Both" "other" "I") ∈ lw_all := lw_g (lw_at lw_m2 46 rfl) rfl
theorem q383 : (Jvm.Cond.laysFinal "AheadRows$Sum" "AheadRows$Both" "one" "I") ∈ lw_all := lw_g (lw_at lw_m2 47 rfl) rfl
theorem q385 : (Jvm.Cond.laysFinal "AheadRows$Sum" "AheadRows$Both" "other" "I") ∈ lw_all := lw_g (lw_at lw_m2 49 rfl) rfl
theorem q387 : (Jvm.Cond.superclass "AheadRows$Sum" "AheadRows$Both") ∈ lw_all := lw_g (lw_at lw_m2 51 rfl) rfl
theorem q468 : (Jvm.Cond.selects "AheadRows$Sum" ({ cls := "java/lang/Object", name := "getClass", desc := "()Ljava/lang/Class;" } : Jvm.MethodName) ({ cls := "java/lang/Object", name := "getClass", desc := "()Ljava/lang/Class;" } : Jvm.MethodName)) ∈ lw_all := lw_g (lw_at lw_m2 132 rfl) rfl
theorem q535 : (Jvm.Cond.selects "AheadRows$Sum" ({ cls := "AheadRows$Row", name := "copy", desc := "()LAheadRows$Row;" } : Jvm.MethodName) ({ cls := "AheadRows$Sum", name := "copy", desc := "()LAheadRows$Row;" } : Jvm.MethodName)) ∈ lw_all := lw_g (lw_at lw_m2 199 rfl) rfl
theorem q536 : (Jvm.Cond.instanceMethod ({ cls := "AheadRows$Sum", name := "copy", desc := "()LAheadRows$Row;" } : Jvm.MethodName)) ∈ lw_all := lw_g (lw_at lw_m2 200 rfl) rfl
theorem q537 : (Jvm.Cond.code ({ cls := "AheadRows$Sum", name := "copy", desc := "()LAheadRows$Row;" } : Jvm.MethodName) prog_13_method_5_code (1 : Nat) (Option.some (Jvm.ClassFile.FieldType.object "AheadRows$Row"))) ∈ lw_all := lw_g (lw_at lw_m2 201 rfl) rfl
theorem q538 : (Jvm.Cond.classLink "AheadRows$Sum" (8 : Nat) "AheadRows$Sum") ∈ lw_all := lw_g (lw_at lw_m2 202 rfl) rfl
theorem q539 : (Jvm.Cond.methodLink "AheadRows$Sum" (26 : Nat) ({ cls := "AheadRows$Sum", name := "<init>", desc := "(II)V" } : Jvm.MethodName)) ∈ lw_all := lw_g (lw_at lw_m2 203 rfl) rfl
theorem q583 : (Jvm.Cond.selects "AheadRows$Sum" ({ cls := "AheadRows$Row", name := "number", desc := "(I)I" } : Jvm.MethodName) ({ cls := "AheadRows$Sum", name := "number", desc := "(I)I" } : Jvm.MethodName)) ∈ lw_all := lw_g (lw_at lw_m3 7 rfl) rfl
theorem q584 : (Jvm.Cond.instanceMethod ({ cls := "AheadRows$Sum", name := "number", desc := "(I)I" } : Jvm.MethodName)) ∈ lw_all := lw_g (lw_at lw_m3 8 rfl) rfl
theorem q585 : (Jvm.Cond.code ({ cls := "AheadRows$Sum", name := "number", desc := "(I)I" } : Jvm.MethodName) prog_13_method_3_code (2 : Nat) (Option.some Jvm.ClassFile.FieldType.int)) ∈ lw_all := lw_g (lw_at lw_m3 9 rfl) rfl
theorem q586 : (Jvm.Cond.methodLink "AheadRows$Sum" (16 : Nat) ({ cls := "AheadRows$Both", name := "number", desc := "(I)I" } : Jvm.MethodName)) ∈ lw_all := lw_g (lw_at lw_m3 10 rfl) rfl
theorem q604 : (Jvm.Cond.selects "AheadRows$Sum" ({ cls := "AheadRows$Row", name := "kind", desc := "()I" } : Jvm.MethodName) ({ cls := "AheadRows$Sum", name := "kind", desc := "()I" } : Jvm.MethodName)) ∈ lw_all := lw_g (lw_at lw_m3 28 rfl) rfl
theorem q605 : (Jvm.Cond.instanceMethod ({ cls := "AheadRows$Sum", name := "kind", desc := "()I" } : Jvm.MethodName)) ∈ lw_all := lw_g (lw_at lw_m3 29 rfl) rfl
theorem q606 : (Jvm.Cond.code ({ cls := "AheadRows$Sum", name := "kind", desc := "()I" } : Jvm.MethodName) prog_13_method_2_code (1 : Nat) (Option.some Jvm.ClassFile.FieldType.int)) ∈ lw_all := lw_g (lw_at lw_m3 30 rfl) rfl
theorem q700 : (Jvm.Cond.selects "AheadRows$Sum" ({ cls := "AheadRows$Both", name := "kind", desc := "()I" } : Jvm.MethodName) ({ cls := "AheadRows$Sum", name := "kind", desc := "()I" } : Jvm.MethodName)) ∈ lw_all := lw_g (lw_at lw_m3 124 rfl) rfl
theorem q749 : (Jvm.Cond.selects "AheadRows$Sum" ({ cls := "AheadRows$Both", name := "mix", desc := "()LAheadRows$Mix;" } : Jvm.MethodName) ({ cls := "AheadRows$Sum", name := "mix", desc := "()LAheadRows$Mix;" } : Jvm.MethodName)) ∈ lw_all := lw_g (lw_at lw_m3 173 rfl) rfl
theorem q750 : (Jvm.Cond.instanceMethod ({ cls := "AheadRows$Sum", name := "mix", desc := "()LAheadRows$Mix;" } : Jvm.MethodName)) ∈ lw_all := lw_g (lw_at lw_m3 174 rfl) rfl
theorem q751 : (Jvm.Cond.code ({ cls := "AheadRows$Sum", name := "mix", desc := "()LAheadRows$Mix;" } : Jvm.MethodName) prog_13_method_4_code (1 : Nat) (Option.some (Jvm.ClassFile.FieldType.object "AheadRows$Mix"))) ∈ lw_all := lw_g (lw_at lw_m3 175 rfl) rfl
theorem q752 : (Jvm.Cond.fieldLink "AheadRows$Sum" (20 : Nat) "AheadRows$Mix" "SUM" "LAheadRows$Mix;") ∈ lw_all := lw_g (lw_at lw_m3 176 rfl) rfl
theorem q767 : (Jvm.Cond.selects "AheadRows$Sum" ({ cls := "AheadRows$Row", name := "exact", desc := "(LAheadRows;I)J" } : Jvm.MethodName) ({ cls := "AheadRows$Both", name := "exact", desc := "(LAheadRows;I)J" } : Jvm.MethodName)) ∈ lw_all := lw_g (lw_at lw_m3 191 rfl) rfl
theorem q833 : (Jvm.Cond.selects "AheadRows$Sum" ({ cls := "AheadRows$Row", name := "turn", desc := "(LAheadRows;ILAheadRows$Wheel;)V" } : Jvm.MethodName) ({ cls := "AheadRows$Both", name := "turn", desc := "(LAheadRows;ILAheadRows$Wheel;)V" } : Jvm.MethodName)) ∈ lw_all := lw_g (lw_at lw_m4 17 rfl) rfl
theorem q950 : (Jvm.Cond.selects "AheadRows$Sum" ({ cls := "AheadRows$Row", name := "ruleBy", desc := "(LAheadRows;)[I" } : Jvm.MethodName) ({ cls := "AheadRows$Both", name := "ruleBy", desc := "(LAheadRows;)[I" } : Jvm.MethodName)) ∈ lw_all := lw_g (lw_at lw_m4 134 rfl) rfl
theorem q1097 : (Jvm.Cond.selects "AheadRows$Sum" ({ cls := "AheadRows$Both", name := "isPlain", desc := "(LAheadRows;)Z" } : Jvm.MethodName) ({ cls := "AheadRows$Both", name := "isPlain", desc := "(LAheadRows;)Z" } : Jvm.MethodName)) ∈ lw_all := lw_g (lw_at lw_m5 41 rfl) rfl
theorem q1133 : (Jvm.Cond.selects "AheadRows$Sum" ({ cls := "AheadRows$Row", name := "eased", desc := "(LAheadRows;)LAheadRows$Told;" } : Jvm.MethodName) ({ cls := "AheadRows$Both", name := "eased", desc := "(LAheadRows;)LAheadRows$Told;" } : Jvm.MethodName)) ∈ lw_all := lw_g (lw_at lw_m5 77 rfl) rfl
theorem q1781 : (Jvm.Cond.selects "AheadRows$Sum" ({ cls := "AheadRows$Sum", name := "kind", desc := "()I" } : Jvm.MethodName) ({ cls := "AheadRows$Sum", name := "kind", desc := "()I" } : Jvm.MethodName)) ∈ lw_all := lw_g (lw_at lw_m8 5 rfl) rfl
theorem q1790 : (Jvm.Cond.selects "AheadRows$Sum" ({ cls := "AheadRows$Both", name := "exact", desc := "(LAheadRows;I)J" } : Jvm.MethodName) ({ cls := "AheadRows$Both", name := "exact", desc := "(LAheadRows;I)J" } : Jvm.MethodName)) ∈ lw_all := lw_g (lw_at lw_m8 14 rfl) rfl
theorem q1797 : (Jvm.Cond.castable "AheadRows$Sum" "AheadRows$Row") ∈ lw_tbl := lw_at lw_m8 21 rfl
theorem q1800 : (Jvm.Cond.castable "AheadRows$Sum" "AheadRows$Both") ∈ lw_tbl := lw_at lw_m8 24 rfl
theorem q1809 : (Jvm.Cond.castable "AheadRows$Sum" "java/lang/Object") ∈ lw_tbl := lw_at lw_m8 33 rfl
theorem in_X7 : ∀ w ∈ wsX70, w ∈ lw_all := lw_in wsX70 [383, 385] (by decide +kernel) (by decide +kernel)
/-! AheadRows$Product -/
set_option maxRecDepth 100000
def RX8 : String := "AheadRows$Product"
def TX8 : u_T := fun k => match k with
  | 0 => ("AheadRows$Both", "one", "I", true)
  | _ => ("AheadRows$Both", "other", "I", true)
def tyX8 : Nat → FieldType := fun k => match k with
  | 0 => .int
  | _ => .int
abbrev wsX80 : List Cond := u_ws RX8 TX8 2
theorem nmX8 : ∀ a, a < 2 → ∀ b, b < 2 → a ≠ b → (TX8 a).2.1 ≠ (TX8 b).2.1 := by decide +kernel
theorem tyX8_ok : ∀ k, k < 2 → parseFieldDescriptor (TX8 k).2.2.1 = some (tyX8 k) := by decide +kernel
abbrev cX8_init : ByteArray := prog_8_method_1_code
def yX8_init : MethodName := ⟨RX8, "<init>", "(II)V"⟩
def dkwX8_init_0 : List UInt8 := [42, 27, 28, 183, 0, 1, 177]
abbrev dktX8_init_0 : List UInt8 := dkwX8_init_0 ++ []
theorem dksX8_init_0 : cX8_init.data.toList.drop 0 = dktX8_init_0 := by decide +kernel
theorem dX8_init_0 : decode cX8_init 0 = .ok (.aload_n 0, 1) := dk_42 (dk_at dksX8_init_0 0 rfl rfl)
theorem dX8_init_1 : decode cX8_init 1 = .ok (.iload_n 1, 1) := dk_27 (dk_at dksX8_init_0 1 rfl rfl)
theorem dX8_init_2 : decode cX8_init 2 = .ok (.iload_n 2, 1) := dk_28 (dk_at dksX8_init_0 2 rfl rfl)
theorem dX8_init_3 : decode cX8_init 3 = .ok (.invokespecial 1, 3) := dk_183 0 1 (dk_at dksX8_init_0 3 rfl rfl)
theorem dX8_init_6 : decode cX8_init 6 = .ok (.return_, 1) := dk_177 (dk_at dksX8_init_0 6 rfl rfl)
abbrev cX8_copy : ByteArray := prog_8_method_5_code
def yX8_copy : MethodName := ⟨RX8, "copy", "()LAheadRows$Row;"⟩
def dkwX8_copy_0 : List UInt8 := [187, 0, 8, 89, 42, 180, 0, 7, 42, 180, 0, 13, 183, 0, 26, 176]
abbrev dktX8_copy_0 : List UInt8 := dkwX8_copy_0 ++ []
theorem dksX8_copy_0 : cX8_copy.data.toList.drop 0 = dktX8_copy_0 := by decide +kernel
theorem dX8_copy_0 : decode cX8_copy 0 = .ok (.new 8, 3) := dk_187 0 8 (dk_at dksX8_copy_0 0 rfl rfl)
theorem dX8_copy_3 : decode cX8_copy 3 = .ok (.dup, 1) := dk_89 (dk_at dksX8_copy_0 3 rfl rfl)
theorem dX8_copy_4 : decode cX8_copy 4 = .ok (.aload_n 0, 1) := dk_42 (dk_at dksX8_copy_0 4 rfl rfl)
theorem dX8_copy_5 : decode cX8_copy 5 = .ok (.getfield 7, 3) := dk_180 0 7 (dk_at dksX8_copy_0 5 rfl rfl)
theorem dX8_copy_8 : decode cX8_copy 8 = .ok (.aload_n 0, 1) := dk_42 (dk_at dksX8_copy_0 8 rfl rfl)
theorem dX8_copy_9 : decode cX8_copy 9 = .ok (.getfield 13, 3) := dk_180 0 13 (dk_at dksX8_copy_0 9 rfl rfl)
theorem dX8_copy_12 : decode cX8_copy 12 = .ok (.invokespecial 26, 3) := dk_183 0 26 (dk_at dksX8_copy_0 12 rfl rfl)
theorem dX8_copy_15 : decode cX8_copy 15 = .ok (.areturn, 1) := dk_176 (dk_at dksX8_copy_0 15 rfl rfl)
abbrev cX8_number : ByteArray := prog_8_method_3_code
def yX8_number : MethodName := ⟨RX8, "number", "(I)I"⟩
def dkwX8_number_1 : List UInt8 := [42, 27, 183, 0, 16, 172]
abbrev dktX8_number_1 : List UInt8 := dkwX8_number_1 ++ []
def dkwX8_number_0 : List UInt8 := [27, 4, 160, 0, 10, 42, 180, 0, 7, 167, 0, 20, 27, 5, 160, 0, 10, 42, 180, 0, 13, 167, 0, 8]
abbrev dktX8_number_0 : List UInt8 := dkwX8_number_0 ++ dktX8_number_1
theorem dksX8_number_0 : cX8_number.data.toList.drop 0 = dktX8_number_0 := by decide +kernel
theorem dksX8_number_1 : cX8_number.data.toList.drop 24 = dktX8_number_1 := dk_seg dksX8_number_0 24 rfl rfl
theorem dX8_number_0 : decode cX8_number 0 = .ok (.iload_n 1, 1) := dk_27 (dk_at dksX8_number_0 0 rfl rfl)
theorem dX8_number_1 : decode cX8_number 1 = .ok (.iconst 1, 1) := dk_4 (dk_at dksX8_number_0 1 rfl rfl)
theorem dX8_number_2 : decode cX8_number 2 = .ok (.if_icmp .ne 10, 3) := dk_160 0 10 (dk_at dksX8_number_0 2 rfl rfl)
theorem dX8_number_5 : decode cX8_number 5 = .ok (.aload_n 0, 1) := dk_42 (dk_at dksX8_number_0 5 rfl rfl)
theorem dX8_number_6 : decode cX8_number 6 = .ok (.getfield 7, 3) := dk_180 0 7 (dk_at dksX8_number_0 6 rfl rfl)
theorem dX8_number_9 : decode cX8_number 9 = .ok (.goto 20, 3) := dk_167 0 20 (dk_at dksX8_number_0 9 rfl rfl)
theorem dX8_number_12 : decode cX8_number 12 = .ok (.iload_n 1, 1) := dk_27 (dk_at dksX8_number_0 12 rfl rfl)
theorem dX8_number_13 : decode cX8_number 13 = .ok (.iconst 2, 1) := dk_5 (dk_at dksX8_number_0 13 rfl rfl)
theorem dX8_number_14 : decode cX8_number 14 = .ok (.if_icmp .ne 10, 3) := dk_160 0 10 (dk_at dksX8_number_0 14 rfl rfl)
theorem dX8_number_17 : decode cX8_number 17 = .ok (.aload_n 0, 1) := dk_42 (dk_at dksX8_number_0 17 rfl rfl)
theorem dX8_number_18 : decode cX8_number 18 = .ok (.getfield 13, 3) := dk_180 0 13 (dk_at dksX8_number_0 18 rfl rfl)
theorem dX8_number_21 : decode cX8_number 21 = .ok (.goto 8, 3) := dk_167 0 8 (dk_at dksX8_number_0 21 rfl rfl)
theorem dX8_number_24 : decode cX8_number 24 = .ok (.aload_n 0, 1) := dk_42 (dk_at dksX8_number_1 0 rfl rfl)
theorem dX8_number_25 : decode cX8_number 25 = .ok (.iload_n 1, 1) := dk_27 (dk_at dksX8_number_1 1 rfl rfl)
theorem dX8_number_26 : decode cX8_number 26 = .ok (.invokespecial 16, 3) := dk_183 0 16 (dk_at dksX8_number_1 2 rfl rfl)
theorem dX8_number_29 : decode cX8_number 29 = .ok (.ireturn, 1) := dk_172 (dk_at dksX8_number_1 5 rfl rfl)
abbrev cX8_kind : ByteArray := prog_8_method_2_code
def yX8_kind : MethodName := ⟨RX8, "kind", "()I"⟩
theorem dX8_kind_0 : decode cX8_kind 0 = .ok (.iconst 2, 1) := by decide +kernel
theorem dX8_kind_1 : decode cX8_kind 1 = .ok (.ireturn, 1) := by decide +kernel
abbrev cX8_mix : ByteArray := prog_8_method_4_code
def yX8_mix : MethodName := ⟨RX8, "mix", "()LAheadRows$Mix;"⟩
theorem dX8_mix_0 : decode cX8_mix 0 = .ok (.getstatic 20, 3) := by decide +kernel
theorem dX8_mix_3 : decode cX8_mix 3 = .ok (.areturn, 1) := by decide +kernel
theorem q108 : (Jvm.Cond.initialized "AheadRows$Product") ∈ lw_all := lw_g (lw_at lw_m1 12 rfl) rfl
theorem q374 : (Jvm.Cond.fieldLink "AheadRows$Product" (7 : Nat) "AheadRows$Product" "one" "I") ∈ lw_all := lw_g (lw_at lw_m2 38 rfl) rfl
theorem q375 : (Jvm.Cond.sameField "AheadRows$Product" "AheadRows$Both" "one" "I") ∈ lw_all := lw_g (lw_at lw_m2 39 rfl) rfl
theorem q379 : (Jvm.Cond.fieldLink "AheadRows$Product" (13 : Nat) "AheadRows$Product" "other" "I") ∈ lw_all := lw_g (lw_at lw_m2 43 rfl) rfl
theorem q380 : (Jvm.Cond.sameField "AheadRows$Product" "AheadRows$Both" "other" "I") ∈ lw_all := lw_g (lw_at lw_m2 44 rfl) rfl
theorem q389 : (Jvm.Cond.instantiable "AheadRows$Product" (2 : Nat)) ∈ lw_all := lw_g (lw_at lw_m2 53 rfl) rfl
theorem q391 : (Jvm.Cond.instanceMethod ({ cls := "AheadRows$Product", name := "<init>", desc := "(II)V" } : Jvm.MethodName)) ∈ lw_all := lw_g (lw_at lw_m2 55 rfl) rfl
theorem q392 : (Jvm.Cond.code ({ cls := "AheadRows$Product", name := "<init>", desc := "(II)V" } : Jvm.MethodName) prog_8_method_1_code (3 : Nat) (Option.none : Option Jvm.ClassFile.FieldType)) ∈ lw_all := lw_g (lw_at lw_m2 56 rfl) rfl
theorem q393 : (Jvm.Cond.methodLink "AheadRows$Product" (1 : Nat) ({ cls := "AheadRows$Both", name := "<init>", desc := "(II)V" } : Jvm.MethodName)) ∈ lw_all := lw_g (lw_at lw_m2 57 rfl) rfl
theorem q394 : (Jvm.Cond.laysFinal "AheadRows$Product" "AheadRows$Both" "one" "I") ∈ lw_all := lw_g (lw_at lw_m2 58 rfl) rfl
theorem q395 : (Jvm.Cond.laysFinal "AheadRows$Product" "AheadRows$Both" "other" "I") ∈ lw_all := lw_g (lw_at lw_m2 59 rfl) rfl
theorem q396 : (Jvm.Cond.superclass "AheadRows$Product" "AheadRows$Both") ∈ lw_all := lw_g (lw_at lw_m2 60 rfl) rfl
theorem q464 : (Jvm.Cond.selects "AheadRows$Product" ({ cls := "java/lang/Object", name := "getClass", desc := "()Ljava/lang/Class;" } : Jvm.MethodName) ({ cls := "java/lang/Object", name := "getClass", desc := "()Ljava/lang/Class;" } : Jvm.MethodName)) ∈ lw_all := lw_g (lw_at lw_m2 128 rfl) rfl
theorem q525 : (Jvm.Cond.selects "AheadRows$Product" ({ cls := "AheadRows$Row", name := "copy", desc := "()LAheadRows$Row;" } : Jvm.MethodName) ({ cls := "AheadRows$Product", name := "copy", desc := "()LAheadRows$Row;" } : Jvm.MethodName)) ∈ lw_all := lw_g (lw_at lw_m2 189 rfl) rfl
theorem q526 : (Jvm.Cond.instanceMethod ({ cls := "AheadRows$Product", name := "copy", desc := "()LAheadRows$Row;" } : Jvm.MethodName)) ∈ lw_all := lw_g (lw_at lw_m2 190 rfl) rfl
theorem q527 : (Jvm.Cond.code ({ cls := "AheadRows$Product", name := "copy", desc := "()LAheadRows$Row;" } : Jvm.MethodName) prog_8_method_5_code (1 : Nat) (Option.some (Jvm.ClassFile.FieldType.object "AheadRows$Row"))) ∈ lw_all := lw_g (lw_at lw_m2 191 rfl) rfl
theorem q528 : (Jvm.Cond.classLink "AheadRows$Product" (8 : Nat) "AheadRows$Product") ∈ lw_all := lw_g (lw_at lw_m2 192 rfl) rfl
theorem q529 : (Jvm.Cond.methodLink "AheadRows$Product" (26 : Nat) ({ cls := "AheadRows$Product", name := "<init>", desc := "(II)V" } : Jvm.MethodName)) ∈ lw_all := lw_g (lw_at lw_m2 193 rfl) rfl
theorem q573 : (Jvm.Cond.selects "AheadRows$Product" ({ cls := "AheadRows$Row", name := "number", desc := "(I)I" } : Jvm.MethodName) ({ cls := "AheadRows$Product", name := "number", desc := "(I)I" } : Jvm.MethodName)) ∈ lw_all := lw_g (lw_at lw_m2 237 rfl) rfl
theorem q574 : (Jvm.Cond.instanceMethod ({ cls := "AheadRows$Product", name := "number", desc := "(I)I" } : Jvm.MethodName)) ∈ lw_all := lw_g (lw_at lw_m2 238 rfl) rfl
theorem q575 : (Jvm.Cond.code ({ cls := "AheadRows$Product", name := "number", desc := "(I)I" } : Jvm.MethodName) prog_8_method_3_code (2 : Nat) (Option.some Jvm.ClassFile.FieldType.int)) ∈ lw_all := lw_g (lw_at lw_m2 239 rfl) rfl
theorem q576 : (Jvm.Cond.methodLink "AheadRows$Product" (16 : Nat) ({ cls := "AheadRows$Both", name := "number", desc := "(I)I" } : Jvm.MethodName)) ∈ lw_all := lw_g (lw_at lw_m3 0 rfl) rfl
theorem q598 : (Jvm.Cond.selects "AheadRows$Product" ({ cls := "AheadRows$Row", name := "kind", desc := "()I" } : Jvm.MethodName) ({ cls := "AheadRows$Product", name := "kind", desc := "()I" } : Jvm.MethodName)) ∈ lw_all := lw_g (lw_at lw_m3 22 rfl) rfl
theorem q599 : (Jvm.Cond.instanceMethod ({ cls := "AheadRows$Product", name := "kind", desc := "()I" } : Jvm.MethodName)) ∈ lw_all := lw_g (lw_at lw_m3 23 rfl) rfl
theorem q600 : (Jvm.Cond.code ({ cls := "AheadRows$Product", name := "kind", desc := "()I" } : Jvm.MethodName) prog_8_method_2_code (1 : Nat) (Option.some Jvm.ClassFile.FieldType.int)) ∈ lw_all := lw_g (lw_at lw_m3 24 rfl) rfl
theorem q699 : (Jvm.Cond.selects "AheadRows$Product" ({ cls := "AheadRows$Both", name := "kind", desc := "()I" } : Jvm.MethodName) ({ cls := "AheadRows$Product", name := "kind", desc := "()I" } : Jvm.MethodName)) ∈ lw_all := lw_g (lw_at lw_m3 123 rfl) rfl
theorem q744 : (Jvm.Cond.selects "AheadRows$Product" ({ cls := "AheadRows$Both", name := "mix", desc := "()LAheadRows$Mix;" } : Jvm.MethodName) ({ cls := "AheadRows$Product", name := "mix", desc := "()LAheadRows$Mix;" } : Jvm.MethodName)) ∈ lw_all := lw_g (lw_at lw_m3 168 rfl) rfl
theorem q745 : (Jvm.Cond.instanceMethod ({ cls := "AheadRows$Product", name := "mix", desc := "()LAheadRows$Mix;" } : Jvm.MethodName)) ∈ lw_all := lw_g (lw_at lw_m3 169 rfl) rfl
theorem q746 : (Jvm.Cond.code ({ cls := "AheadRows$Product", name := "mix", desc := "()LAheadRows$Mix;" } : Jvm.MethodName) prog_8_method_4_code (1 : Nat) (Option.some (Jvm.ClassFile.FieldType.object "AheadRows$Mix"))) ∈ lw_all := lw_g (lw_at lw_m3 170 rfl) rfl
theorem q747 : (Jvm.Cond.fieldLink "AheadRows$Product" (20 : Nat) "AheadRows$Mix" "PRODUCT" "LAheadRows$Mix;") ∈ lw_all := lw_g (lw_at lw_m3 171 rfl) rfl
theorem q765 : (Jvm.Cond.selects "AheadRows$Product" ({ cls := "AheadRows$Row", name := "exact", desc := "(LAheadRows;I)J" } : Jvm.MethodName) ({ cls := "AheadRows$Both", name := "exact", desc := "(LAheadRows;I)J" } : Jvm.MethodName)) ∈ lw_all := lw_g (lw_at lw_m3 189 rfl) rfl
theorem q824 : (Jvm.Cond.selects "AheadRows$Product" ({ cls := "AheadRows$Row", name := "turn", desc := "(LAheadRows;ILAheadRows$Wheel;)V" } : Jvm.MethodName) ({ cls := "AheadRows$Both", name := "turn", desc := "(LAheadRows;ILAheadRows$Wheel;)V" } : Jvm.MethodName)) ∈ lw_all := lw_g (lw_at lw_m4 8 rfl) rfl
theorem q929 : (Jvm.Cond.selects "AheadRows$Product" ({ cls := "AheadRows$Row", name := "ruleBy", desc := "(LAheadRows;)[I" } : Jvm.MethodName) ({ cls := "AheadRows$Both", name := "ruleBy", desc := "(LAheadRows;)[I" } : Jvm.MethodName)) ∈ lw_all := lw_g (lw_at lw_m4 113 rfl) rfl
theorem q1090 : (Jvm.Cond.selects "AheadRows$Product" ({ cls := "AheadRows$Row", name := "eased", desc := "(LAheadRows;)LAheadRows$Told;" } : Jvm.MethodName) ({ cls := "AheadRows$Both", name := "eased", desc := "(LAheadRows;)LAheadRows$Told;" } : Jvm.MethodName)) ∈ lw_all := lw_g (lw_at lw_m5 34 rfl) rfl
theorem q1096 : (Jvm.Cond.selects "AheadRows$Product" ({ cls := "AheadRows$Both", name := "isPlain", desc := "(LAheadRows;)Z" } : Jvm.MethodName) ({ cls := "AheadRows$Both", name := "isPlain", desc := "(LAheadRows;)Z" } : Jvm.MethodName)) ∈ lw_all := lw_g (lw_at lw_m5 40 rfl) rfl
theorem q1782 : (Jvm.Cond.selects "AheadRows$Product" ({ cls := "AheadRows$Product", name := "kind", desc := "()I" } : Jvm.MethodName) ({ cls := "AheadRows$Product", name := "kind", desc := "()I" } : Jvm.MethodName)) ∈ lw_all := lw_g (lw_at lw_m8 6 rfl) rfl
theorem q1789 : (Jvm.Cond.selects "AheadRows$Product" ({ cls := "AheadRows$Both", name := "exact", desc := "(LAheadRows;I)J" } : Jvm.MethodName) ({ cls := "AheadRows$Both", name := "exact", desc := "(LAheadRows;I)J" } : Jvm.MethodName)) ∈ lw_all := lw_g (lw_at lw_m8 13 rfl) rfl
theorem q1795 : (Jvm.Cond.castable "AheadRows$Product" "AheadRows$Row") ∈ lw_tbl := lw_at lw_m8 19 rfl
theorem q1799 : (Jvm.Cond.castable "AheadRows$Product" "AheadRows$Both") ∈ lw_tbl := lw_at lw_m8 23 rfl
theorem q1810 : (Jvm.Cond.castable "AheadRows$Product" "java/lang/Object") ∈ lw_tbl := lw_at lw_m8 34 rfl
theorem in_X8 : ∀ w ∈ wsX80, w ∈ lw_all := lw_in wsX80 [394, 395] (by decide +kernel) (by decide +kernel)
/-! AheadRows$Over -/
set_option maxRecDepth 100000
def RX9 : String := "AheadRows$Over"
abbrev cX9_init : ByteArray := prog_7_method_1_code
def yX9_init : MethodName := ⟨RX9, "<init>", "(I)V"⟩
def dkwX9_init_0 : List UInt8 := [42, 183, 0, 1, 42, 27, 181, 0, 7, 177]
abbrev dktX9_init_0 : List UInt8 := dkwX9_init_0 ++ []
theorem dksX9_init_0 : cX9_init.data.toList.drop 0 = dktX9_init_0 := by decide +kernel
theorem dX9_init_0 : decode cX9_init 0 = .ok (.aload_n 0, 1) := dk_42 (dk_at dksX9_init_0 0 rfl rfl)
theorem dX9_init_1 : decode cX9_init 1 = .ok (.invokespecial 1, 3) := dk_183 0 1 (dk_at dksX9_init_0 1 rfl rfl)
theorem dX9_init_4 : decode cX9_init 4 = .ok (.aload_n 0, 1) := dk_42 (dk_at dksX9_init_0 4 rfl rfl)
theorem dX9_init_5 : decode cX9_init 5 = .ok (.iload_n 1, 1) := dk_27 (dk_at dksX9_init_0 5 rfl rfl)
theorem dX9_init_6 : decode cX9_init 6 = .ok (.putfield 7, 3) := dk_181 0 7 (dk_at dksX9_init_0 6 rfl rfl)
theorem dX9_init_9 : decode cX9_init 9 = .ok (.return_, 1) := dk_177 (dk_at dksX9_init_0 9 rfl rfl)
abbrev cX9_turn : ByteArray := prog_7_method_4_code
def yX9_turn : MethodName := ⟨RX9, "turn", "(LAheadRows;ILAheadRows$Wheel;)V"⟩
def dkwX9_turn_3 : List UInt8 := [182, 0, 39, 177]
abbrev dktX9_turn_3 : List UInt8 := dkwX9_turn_3 ++ []
def dkwX9_turn_2 : List UInt8 := [180, 0, 31, 21, 5, 42, 25, 4, 21, 5, 28, 182, 0, 35, 79, 132, 5, 1, 167, 255, 223, 45]
abbrev dktX9_turn_2 : List UInt8 := dkwX9_turn_2 ++ dktX9_turn_3
def dkwX9_turn_1 : List UInt8 := [182, 0, 24, 181, 0, 28, 3, 54, 5, 21, 5, 45, 180, 0, 19, 45, 180, 0, 28, 96, 162, 0, 25, 45]
abbrev dktX9_turn_1 : List UInt8 := dkwX9_turn_1 ++ dktX9_turn_2
def dkwX9_turn_0 : List UInt8 := [43, 42, 180, 0, 7, 28, 182, 0, 13, 58, 4, 45, 25, 4, 180, 0, 19, 181, 0, 19, 45, 42, 25, 4]
abbrev dktX9_turn_0 : List UInt8 := dkwX9_turn_0 ++ dktX9_turn_1
theorem dksX9_turn_0 : cX9_turn.data.toList.drop 0 = dktX9_turn_0 := by decide +kernel
theorem dksX9_turn_1 : cX9_turn.data.toList.drop 24 = dktX9_turn_1 := dk_seg dksX9_turn_0 24 rfl rfl
theorem dksX9_turn_2 : cX9_turn.data.toList.drop 48 = dktX9_turn_2 := dk_seg dksX9_turn_1 24 rfl rfl
theorem dksX9_turn_3 : cX9_turn.data.toList.drop 70 = dktX9_turn_3 := dk_seg dksX9_turn_2 22 rfl rfl
theorem dX9_turn_0 : decode cX9_turn 0 = .ok (.aload_n 1, 1) := dk_43 (dk_at dksX9_turn_0 0 rfl rfl)
theorem dX9_turn_1 : decode cX9_turn 1 = .ok (.aload_n 0, 1) := dk_42 (dk_at dksX9_turn_0 1 rfl rfl)
theorem dX9_turn_2 : decode cX9_turn 2 = .ok (.getfield 7, 3) := dk_180 0 7 (dk_at dksX9_turn_0 2 rfl rfl)
theorem dX9_turn_5 : decode cX9_turn 5 = .ok (.iload_n 2, 1) := dk_28 (dk_at dksX9_turn_0 5 rfl rfl)
theorem dX9_turn_6 : decode cX9_turn 6 = .ok (.invokevirtual 13, 3) := dk_182 0 13 (dk_at dksX9_turn_0 6 rfl rfl)
theorem dX9_turn_9 : decode cX9_turn 9 = .ok (.astore 4, 2) := dk_58 4 (dk_at dksX9_turn_0 9 rfl rfl)
theorem dX9_turn_11 : decode cX9_turn 11 = .ok (.aload_n 3, 1) := dk_45 (dk_at dksX9_turn_0 11 rfl rfl)
theorem dX9_turn_12 : decode cX9_turn 12 = .ok (.aload 4, 2) := dk_25 4 (dk_at dksX9_turn_0 12 rfl rfl)
theorem dX9_turn_14 : decode cX9_turn 14 = .ok (.getfield 19, 3) := dk_180 0 19 (dk_at dksX9_turn_0 14 rfl rfl)
theorem dX9_turn_17 : decode cX9_turn 17 = .ok (.putfield 19, 3) := dk_181 0 19 (dk_at dksX9_turn_0 17 rfl rfl)
theorem dX9_turn_20 : decode cX9_turn 20 = .ok (.aload_n 3, 1) := dk_45 (dk_at dksX9_turn_0 20 rfl rfl)
theorem dX9_turn_21 : decode cX9_turn 21 = .ok (.aload_n 0, 1) := dk_42 (dk_at dksX9_turn_0 21 rfl rfl)
theorem dX9_turn_22 : decode cX9_turn 22 = .ok (.aload 4, 2) := dk_25 4 (dk_at dksX9_turn_0 22 rfl rfl)
theorem dX9_turn_24 : decode cX9_turn 24 = .ok (.invokevirtual 24, 3) := dk_182 0 24 (dk_at dksX9_turn_1 0 rfl rfl)
theorem dX9_turn_27 : decode cX9_turn 27 = .ok (.putfield 28, 3) := dk_181 0 28 (dk_at dksX9_turn_1 3 rfl rfl)
theorem dX9_turn_30 : decode cX9_turn 30 = .ok (.iconst 0, 1) := dk_3 (dk_at dksX9_turn_1 6 rfl rfl)
theorem dX9_turn_31 : decode cX9_turn 31 = .ok (.istore 5, 2) := dk_54 5 (dk_at dksX9_turn_1 7 rfl rfl)
theorem dX9_turn_33 : decode cX9_turn 33 = .ok (.iload 5, 2) := dk_21 5 (dk_at dksX9_turn_1 9 rfl rfl)
theorem dX9_turn_35 : decode cX9_turn 35 = .ok (.aload_n 3, 1) := dk_45 (dk_at dksX9_turn_1 11 rfl rfl)
theorem dX9_turn_36 : decode cX9_turn 36 = .ok (.getfield 19, 3) := dk_180 0 19 (dk_at dksX9_turn_1 12 rfl rfl)
theorem dX9_turn_39 : decode cX9_turn 39 = .ok (.aload_n 3, 1) := dk_45 (dk_at dksX9_turn_1 15 rfl rfl)
theorem dX9_turn_40 : decode cX9_turn 40 = .ok (.getfield 28, 3) := dk_180 0 28 (dk_at dksX9_turn_1 16 rfl rfl)
theorem dX9_turn_43 : decode cX9_turn 43 = .ok (.iadd, 1) := dk_96 (dk_at dksX9_turn_1 19 rfl rfl)
theorem dX9_turn_44 : decode cX9_turn 44 = .ok (.if_icmp .ge 25, 3) := dk_162 0 25 (dk_at dksX9_turn_1 20 rfl rfl)
theorem dX9_turn_47 : decode cX9_turn 47 = .ok (.aload_n 3, 1) := dk_45 (dk_at dksX9_turn_1 23 rfl rfl)
theorem dX9_turn_48 : decode cX9_turn 48 = .ok (.getfield 31, 3) := dk_180 0 31 (dk_at dksX9_turn_2 0 rfl rfl)
theorem dX9_turn_51 : decode cX9_turn 51 = .ok (.iload 5, 2) := dk_21 5 (dk_at dksX9_turn_2 3 rfl rfl)
theorem dX9_turn_53 : decode cX9_turn 53 = .ok (.aload_n 0, 1) := dk_42 (dk_at dksX9_turn_2 5 rfl rfl)
theorem dX9_turn_54 : decode cX9_turn 54 = .ok (.aload 4, 2) := dk_25 4 (dk_at dksX9_turn_2 6 rfl rfl)
theorem dX9_turn_56 : decode cX9_turn 56 = .ok (.iload 5, 2) := dk_21 5 (dk_at dksX9_turn_2 8 rfl rfl)
theorem dX9_turn_58 : decode cX9_turn 58 = .ok (.iload_n 2, 1) := dk_28 (dk_at dksX9_turn_2 10 rfl rfl)
theorem dX9_turn_59 : decode cX9_turn 59 = .ok (.invokevirtual 35, 3) := dk_182 0 35 (dk_at dksX9_turn_2 11 rfl rfl)
theorem dX9_turn_62 : decode cX9_turn 62 = .ok (.iastore, 1) := dk_79 (dk_at dksX9_turn_2 14 rfl rfl)
theorem dX9_turn_63 : decode cX9_turn 63 = .ok (.iinc 5 1, 3) := dk_132 5 1 (dk_at dksX9_turn_2 15 rfl rfl)
theorem dX9_turn_66 : decode cX9_turn 66 = .ok (.goto (-33), 3) := dk_167 255 223 (dk_at dksX9_turn_2 18 rfl rfl)
theorem dX9_turn_69 : decode cX9_turn 69 = .ok (.aload_n 3, 1) := dk_45 (dk_at dksX9_turn_2 21 rfl rfl)
theorem dX9_turn_70 : decode cX9_turn 70 = .ok (.invokevirtual 39, 3) := dk_182 0 39 (dk_at dksX9_turn_3 0 rfl rfl)
theorem dX9_turn_73 : decode cX9_turn 73 = .ok (.return_, 1) := dk_177 (dk_at dksX9_turn_3 3 rfl rfl)
theorem q109 : (Jvm.Cond.initialized "AheadRows$Over") ∈ lw_all := lw_g (lw_at lw_m1 13 rfl) rfl
theorem q169 : (Jvm.Cond.fieldLink "AheadRows$Over" (31 : Nat) "AheadRows$Wheel" "spokes" "[I") ∈ lw_all := lw_g (lw_at lw_m1 73 rfl) rfl
theorem q173 : (Jvm.Cond.fieldLink "AheadRows$Over" (19 : Nat) "AheadRows$Wheel" "head" "I") ∈ lw_all := lw_g (lw_at lw_m1 77 rfl) rfl
theorem q178 : (Jvm.Cond.fieldLink "AheadRows$Over" (28 : Nat) "AheadRows$Wheel" "lap" "I") ∈ lw_all := lw_g (lw_at lw_m1 82 rfl) rfl
theorem q403 : (Jvm.Cond.instanceMethod ({ cls := "AheadRows$Over", name := "<init>", desc := "(I)V" } : Jvm.MethodName)) ∈ lw_all := lw_g (lw_at lw_m2 67 rfl) rfl
theorem q404 : (Jvm.Cond.code ({ cls := "AheadRows$Over", name := "<init>", desc := "(I)V" } : Jvm.MethodName) prog_7_method_1_code (2 : Nat) (Option.none : Option Jvm.ClassFile.FieldType)) ∈ lw_all := lw_g (lw_at lw_m2 68 rfl) rfl
theorem q405 : (Jvm.Cond.methodLinkNest "AheadRows$Over" (1 : Nat) ({ cls := "AheadRows$Row", name := "<init>", desc := "()V" } : Jvm.MethodName) "AheadRows") ∈ lw_tbl := lw_at lw_m2 69 rfl
theorem q408 : (Jvm.Cond.fieldLink "AheadRows$Over" (7 : Nat) "AheadRows$Over" "part" "I") ∈ lw_all := lw_g (lw_at lw_m2 72 rfl) rfl
theorem q418 : (Jvm.Cond.soleField "AheadRows$Over" "part") ∈ lw_all := lw_g (lw_at lw_m2 82 rfl) rfl
theorem q570 : (Jvm.Cond.sameMethod "AheadRows$Over" "AheadRows$Row" "number" "(I)I") ∈ lw_all := lw_g (lw_at lw_m2 234 rfl) rfl
theorem q572 : (Jvm.Cond.superclass "AheadRows$Over" "AheadRows$Row") ∈ lw_all := lw_g (lw_at lw_m2 236 rfl) rfl
theorem q703 : (Jvm.Cond.sameMethod "AheadRows$Over" "AheadRows$Row" "kind" "()I") ∈ lw_all := lw_g (lw_at lw_m3 127 rfl) rfl
theorem q784 : (Jvm.Cond.instanceMethod ({ cls := "AheadRows$Over", name := "turn", desc := "(LAheadRows;ILAheadRows$Wheel;)V" } : Jvm.MethodName)) ∈ lw_all := lw_g (lw_at lw_m3 208 rfl) rfl
theorem q785 : (Jvm.Cond.code ({ cls := "AheadRows$Over", name := "turn", desc := "(LAheadRows;ILAheadRows$Wheel;)V" } : Jvm.MethodName) prog_7_method_4_code (6 : Nat) (Option.none : Option Jvm.ClassFile.FieldType)) ∈ lw_all := lw_g (lw_at lw_m3 209 rfl) rfl
theorem q786 : (Jvm.Cond.methodLinkNest "AheadRows$Over" (13 : Nat) ({ cls := "AheadRows", name := "wheel", desc := "(II)LAheadRows$Wheel;" } : Jvm.MethodName) "AheadRows") ∈ lw_tbl := lw_at lw_m3 210 rfl
theorem q787 : (Jvm.Cond.methodLink "AheadRows$Over" (24 : Nat) ({ cls := "AheadRows$Over", name := "lapOf", desc := "(LAheadRows$Wheel;)I" } : Jvm.MethodName)) ∈ lw_all := lw_g (lw_at lw_m3 211 rfl) rfl
theorem q788 : (Jvm.Cond.declares ({ cls := "AheadRows$Over", name := "lapOf", desc := "(LAheadRows$Wheel;)I" } : Jvm.MethodName)) ∈ lw_tbl := lw_at lw_m3 212 rfl
theorem q789 : (Jvm.Cond.sameMethod "AheadRows$Over" "AheadRows$Over" "lapOf" "(LAheadRows$Wheel;)I") ∈ lw_all := lw_g (lw_at lw_m3 213 rfl) rfl
theorem q799 : (Jvm.Cond.methodLink "AheadRows$Over" (35 : Nat) ({ cls := "AheadRows$Over", name := "spoke", desc := "(LAheadRows$Wheel;II)I" } : Jvm.MethodName)) ∈ lw_all := lw_g (lw_at lw_m3 223 rfl) rfl
theorem q800 : (Jvm.Cond.declares ({ cls := "AheadRows$Over", name := "spoke", desc := "(LAheadRows$Wheel;II)I" } : Jvm.MethodName)) ∈ lw_tbl := lw_at lw_m3 224 rfl
theorem q801 : (Jvm.Cond.sameMethod "AheadRows$Over" "AheadRows$Over" "spoke" "(LAheadRows$Wheel;II)I") ∈ lw_all := lw_g (lw_at lw_m3 225 rfl) rfl
theorem q816 : (Jvm.Cond.methodLink "AheadRows$Over" (39 : Nat) ({ cls := "AheadRows$Wheel", name := "lessen", desc := "()V" } : Jvm.MethodName)) ∈ lw_all := lw_g (lw_at lw_m4 0 rfl) rfl
/-! AheadRows$Each -/
set_option maxRecDepth 100000
def RX10 : String := "AheadRows$Each"
def TX10 : u_T := fun k => match k with
  | 0 => ("AheadRows$Over", "part", "I", true)
  | 1 => ("AheadRows$Each", "n", "I", true)
  | _ => ("AheadRows$Each", "s", "I", true)
def tyX10 : Nat → FieldType := fun k => match k with
  | 0 => .int
  | 1 => .int
  | _ => .int
abbrev wsX100 : List Cond := u_ws RX10 TX10 3
theorem nmX10 : ∀ a, a < 3 → ∀ b, b < 3 → a ≠ b → (TX10 a).2.1 ≠ (TX10 b).2.1 := by decide +kernel
theorem tyX10_ok : ∀ k, k < 3 → parseFieldDescriptor (TX10 k).2.2.1 = some (tyX10 k) := by decide +kernel
abbrev cX10_init : ByteArray := prog_3_method_1_code
def yX10_init : MethodName := ⟨RX10, "<init>", "(III)V"⟩
def dkwX10_init_0 : List UInt8 := [42, 27, 183, 0, 3, 42, 28, 181, 0, 9, 42, 29, 181, 0, 15, 177]
abbrev dktX10_init_0 : List UInt8 := dkwX10_init_0 ++ []
theorem dksX10_init_0 : cX10_init.data.toList.drop 0 = dktX10_init_0 := by decide +kernel
theorem dX10_init_0 : decode cX10_init 0 = .ok (.aload_n 0, 1) := dk_42 (dk_at dksX10_init_0 0 rfl rfl)
theorem dX10_init_1 : decode cX10_init 1 = .ok (.iload_n 1, 1) := dk_27 (dk_at dksX10_init_0 1 rfl rfl)
theorem dX10_init_2 : decode cX10_init 2 = .ok (.invokespecial 3, 3) := dk_183 0 3 (dk_at dksX10_init_0 2 rfl rfl)
theorem dX10_init_5 : decode cX10_init 5 = .ok (.aload_n 0, 1) := dk_42 (dk_at dksX10_init_0 5 rfl rfl)
theorem dX10_init_6 : decode cX10_init 6 = .ok (.iload_n 2, 1) := dk_28 (dk_at dksX10_init_0 6 rfl rfl)
theorem dX10_init_7 : decode cX10_init 7 = .ok (.putfield 9, 3) := dk_181 0 9 (dk_at dksX10_init_0 7 rfl rfl)
theorem dX10_init_10 : decode cX10_init 10 = .ok (.aload_n 0, 1) := dk_42 (dk_at dksX10_init_0 10 rfl rfl)
theorem dX10_init_11 : decode cX10_init 11 = .ok (.iload_n 3, 1) := dk_29 (dk_at dksX10_init_0 11 rfl rfl)
theorem dX10_init_12 : decode cX10_init 12 = .ok (.putfield 15, 3) := dk_181 0 15 (dk_at dksX10_init_0 12 rfl rfl)
theorem dX10_init_15 : decode cX10_init 15 = .ok (.return_, 1) := dk_177 (dk_at dksX10_init_0 15 rfl rfl)
abbrev cX10_copy : ByteArray := prog_3_method_9_code
def yX10_copy : MethodName := ⟨RX10, "copy", "()LAheadRows$Row;"⟩
def dkwX10_copy_0 : List UInt8 := [187, 0, 10, 89, 42, 180, 0, 18, 42, 180, 0, 9, 42, 180, 0, 15, 183, 0, 72, 176]
abbrev dktX10_copy_0 : List UInt8 := dkwX10_copy_0 ++ []
theorem dksX10_copy_0 : cX10_copy.data.toList.drop 0 = dktX10_copy_0 := by decide +kernel
theorem dX10_copy_0 : decode cX10_copy 0 = .ok (.new 10, 3) := dk_187 0 10 (dk_at dksX10_copy_0 0 rfl rfl)
theorem dX10_copy_3 : decode cX10_copy 3 = .ok (.dup, 1) := dk_89 (dk_at dksX10_copy_0 3 rfl rfl)
theorem dX10_copy_4 : decode cX10_copy 4 = .ok (.aload_n 0, 1) := dk_42 (dk_at dksX10_copy_0 4 rfl rfl)
theorem dX10_copy_5 : decode cX10_copy 5 = .ok (.getfield 18, 3) := dk_180 0 18 (dk_at dksX10_copy_0 5 rfl rfl)
theorem dX10_copy_8 : decode cX10_copy 8 = .ok (.aload_n 0, 1) := dk_42 (dk_at dksX10_copy_0 8 rfl rfl)
theorem dX10_copy_9 : decode cX10_copy 9 = .ok (.getfield 9, 3) := dk_180 0 9 (dk_at dksX10_copy_0 9 rfl rfl)
theorem dX10_copy_12 : decode cX10_copy 12 = .ok (.aload_n 0, 1) := dk_42 (dk_at dksX10_copy_0 12 rfl rfl)
theorem dX10_copy_13 : decode cX10_copy 13 = .ok (.getfield 15, 3) := dk_180 0 15 (dk_at dksX10_copy_0 13 rfl rfl)
theorem dX10_copy_16 : decode cX10_copy 16 = .ok (.invokespecial 72, 3) := dk_183 0 72 (dk_at dksX10_copy_0 16 rfl rfl)
theorem dX10_copy_19 : decode cX10_copy 19 = .ok (.areturn, 1) := dk_176 (dk_at dksX10_copy_0 19 rfl rfl)
abbrev cX10_number : ByteArray := prog_3_method_3_code
def yX10_number : MethodName := ⟨RX10, "number", "(I)I"⟩
def dkwX10_number_1 : List UInt8 := [27, 6, 160, 0, 10, 42, 180, 0, 15, 167, 0, 8, 42, 27, 183, 0, 21, 172]
abbrev dktX10_number_1 : List UInt8 := dkwX10_number_1 ++ []
def dkwX10_number_0 : List UInt8 := [27, 4, 160, 0, 10, 42, 180, 0, 18, 167, 0, 32, 27, 5, 160, 0, 10, 42, 180, 0, 9, 167, 0, 20]
abbrev dktX10_number_0 : List UInt8 := dkwX10_number_0 ++ dktX10_number_1
theorem dksX10_number_0 : cX10_number.data.toList.drop 0 = dktX10_number_0 := by decide +kernel
theorem dksX10_number_1 : cX10_number.data.toList.drop 24 = dktX10_number_1 := dk_seg dksX10_number_0 24 rfl rfl
theorem dX10_number_0 : decode cX10_number 0 = .ok (.iload_n 1, 1) := dk_27 (dk_at dksX10_number_0 0 rfl rfl)
theorem dX10_number_1 : decode cX10_number 1 = .ok (.iconst 1, 1) := dk_4 (dk_at dksX10_number_0 1 rfl rfl)
theorem dX10_number_2 : decode cX10_number 2 = .ok (.if_icmp .ne 10, 3) := dk_160 0 10 (dk_at dksX10_number_0 2 rfl rfl)
theorem dX10_number_5 : decode cX10_number 5 = .ok (.aload_n 0, 1) := dk_42 (dk_at dksX10_number_0 5 rfl rfl)
theorem dX10_number_6 : decode cX10_number 6 = .ok (.getfield 18, 3) := dk_180 0 18 (dk_at dksX10_number_0 6 rfl rfl)
theorem dX10_number_9 : decode cX10_number 9 = .ok (.goto 32, 3) := dk_167 0 32 (dk_at dksX10_number_0 9 rfl rfl)
theorem dX10_number_12 : decode cX10_number 12 = .ok (.iload_n 1, 1) := dk_27 (dk_at dksX10_number_0 12 rfl rfl)
theorem dX10_number_13 : decode cX10_number 13 = .ok (.iconst 2, 1) := dk_5 (dk_at dksX10_number_0 13 rfl rfl)
theorem dX10_number_14 : decode cX10_number 14 = .ok (.if_icmp .ne 10, 3) := dk_160 0 10 (dk_at dksX10_number_0 14 rfl rfl)
theorem dX10_number_17 : decode cX10_number 17 = .ok (.aload_n 0, 1) := dk_42 (dk_at dksX10_number_0 17 rfl rfl)
theorem dX10_number_18 : decode cX10_number 18 = .ok (.getfield 9, 3) := dk_180 0 9 (dk_at dksX10_number_0 18 rfl rfl)
theorem dX10_number_21 : decode cX10_number 21 = .ok (.goto 20, 3) := dk_167 0 20 (dk_at dksX10_number_0 21 rfl rfl)
theorem dX10_number_24 : decode cX10_number 24 = .ok (.iload_n 1, 1) := dk_27 (dk_at dksX10_number_1 0 rfl rfl)
theorem dX10_number_25 : decode cX10_number 25 = .ok (.iconst 3, 1) := dk_6 (dk_at dksX10_number_1 1 rfl rfl)
theorem dX10_number_26 : decode cX10_number 26 = .ok (.if_icmp .ne 10, 3) := dk_160 0 10 (dk_at dksX10_number_1 2 rfl rfl)
theorem dX10_number_29 : decode cX10_number 29 = .ok (.aload_n 0, 1) := dk_42 (dk_at dksX10_number_1 5 rfl rfl)
theorem dX10_number_30 : decode cX10_number 30 = .ok (.getfield 15, 3) := dk_180 0 15 (dk_at dksX10_number_1 6 rfl rfl)
theorem dX10_number_33 : decode cX10_number 33 = .ok (.goto 8, 3) := dk_167 0 8 (dk_at dksX10_number_1 9 rfl rfl)
theorem dX10_number_36 : decode cX10_number 36 = .ok (.aload_n 0, 1) := dk_42 (dk_at dksX10_number_1 12 rfl rfl)
theorem dX10_number_37 : decode cX10_number 37 = .ok (.iload_n 1, 1) := dk_27 (dk_at dksX10_number_1 13 rfl rfl)
theorem dX10_number_38 : decode cX10_number 38 = .ok (.invokespecial 21, 3) := dk_183 0 21 (dk_at dksX10_number_1 14 rfl rfl)
theorem dX10_number_41 : decode cX10_number 41 = .ok (.ireturn, 1) := dk_172 (dk_at dksX10_number_1 17 rfl rfl)
abbrev cX10_kind : ByteArray := prog_3_method_2_code
def yX10_kind : MethodName := ⟨RX10, "kind", "()I"⟩
theorem dX10_kind_0 : decode cX10_kind 0 = .ok (.iconst 3, 1) := by decide +kernel
theorem dX10_kind_1 : decode cX10_kind 1 = .ok (.ireturn, 1) := by decide +kernel
abbrev cX10_exact : ByteArray := prog_3_method_4_code
def yX10_exact : MethodName := ⟨RX10, "exact", "(LAheadRows;I)J"⟩
def dkwX10_exact_2 : List UInt8 := [180, 0, 15, 96, 182, 0, 31, 173]
abbrev dktX10_exact_2 : List UInt8 := dkwX10_exact_2 ++ []
def dkwX10_exact_1 : List UInt8 := [20, 0, 25, 167, 0, 26, 43, 42, 180, 0, 18, 182, 0, 27, 43, 42, 180, 0, 9, 28, 104, 42]
abbrev dktX10_exact_1 : List UInt8 := dkwX10_exact_1 ++ dktX10_exact_2
def dkwX10_exact_0 : List UInt8 := [28, 17, 0, 200, 163, 0, 20, 42, 180, 0, 9, 28, 104, 42, 180, 0, 15, 96, 17, 0, 200, 164, 0, 9]
abbrev dktX10_exact_0 : List UInt8 := dkwX10_exact_0 ++ dktX10_exact_1
theorem dksX10_exact_0 : cX10_exact.data.toList.drop 0 = dktX10_exact_0 := by decide +kernel
theorem dksX10_exact_1 : cX10_exact.data.toList.drop 24 = dktX10_exact_1 := dk_seg dksX10_exact_0 24 rfl rfl
theorem dksX10_exact_2 : cX10_exact.data.toList.drop 46 = dktX10_exact_2 := dk_seg dksX10_exact_1 22 rfl rfl
theorem dX10_exact_0 : decode cX10_exact 0 = .ok (.iload_n 2, 1) := dk_28 (dk_at dksX10_exact_0 0 rfl rfl)
theorem dX10_exact_1 : decode cX10_exact 1 = .ok (.sipush 200, 3) := dk_17 0 200 (dk_at dksX10_exact_0 1 rfl rfl)
theorem dX10_exact_4 : decode cX10_exact 4 = .ok (.if_icmp .gt 20, 3) := dk_163 0 20 (dk_at dksX10_exact_0 4 rfl rfl)
theorem dX10_exact_7 : decode cX10_exact 7 = .ok (.aload_n 0, 1) := dk_42 (dk_at dksX10_exact_0 7 rfl rfl)
theorem dX10_exact_8 : decode cX10_exact 8 = .ok (.getfield 9, 3) := dk_180 0 9 (dk_at dksX10_exact_0 8 rfl rfl)
theorem dX10_exact_11 : decode cX10_exact 11 = .ok (.iload_n 2, 1) := dk_28 (dk_at dksX10_exact_0 11 rfl rfl)
theorem dX10_exact_12 : decode cX10_exact 12 = .ok (.imul, 1) := dk_104 (dk_at dksX10_exact_0 12 rfl rfl)
theorem dX10_exact_13 : decode cX10_exact 13 = .ok (.aload_n 0, 1) := dk_42 (dk_at dksX10_exact_0 13 rfl rfl)
theorem dX10_exact_14 : decode cX10_exact 14 = .ok (.getfield 15, 3) := dk_180 0 15 (dk_at dksX10_exact_0 14 rfl rfl)
theorem dX10_exact_17 : decode cX10_exact 17 = .ok (.iadd, 1) := dk_96 (dk_at dksX10_exact_0 17 rfl rfl)
theorem dX10_exact_18 : decode cX10_exact 18 = .ok (.sipush 200, 3) := dk_17 0 200 (dk_at dksX10_exact_0 18 rfl rfl)
theorem dX10_exact_21 : decode cX10_exact 21 = .ok (.if_icmp .le 9, 3) := dk_164 0 9 (dk_at dksX10_exact_0 21 rfl rfl)
theorem dX10_exact_24 : decode cX10_exact 24 = .ok (.ldc2_w 25, 3) := dk_20 0 25 (dk_at dksX10_exact_1 0 rfl rfl)
theorem dX10_exact_27 : decode cX10_exact 27 = .ok (.goto 26, 3) := dk_167 0 26 (dk_at dksX10_exact_1 3 rfl rfl)
theorem dX10_exact_30 : decode cX10_exact 30 = .ok (.aload_n 1, 1) := dk_43 (dk_at dksX10_exact_1 6 rfl rfl)
theorem dX10_exact_31 : decode cX10_exact 31 = .ok (.aload_n 0, 1) := dk_42 (dk_at dksX10_exact_1 7 rfl rfl)
theorem dX10_exact_32 : decode cX10_exact 32 = .ok (.getfield 18, 3) := dk_180 0 18 (dk_at dksX10_exact_1 8 rfl rfl)
theorem dX10_exact_35 : decode cX10_exact 35 = .ok (.invokevirtual 27, 3) := dk_182 0 27 (dk_at dksX10_exact_1 11 rfl rfl)
theorem dX10_exact_38 : decode cX10_exact 38 = .ok (.aload_n 1, 1) := dk_43 (dk_at dksX10_exact_1 14 rfl rfl)
theorem dX10_exact_39 : decode cX10_exact 39 = .ok (.aload_n 0, 1) := dk_42 (dk_at dksX10_exact_1 15 rfl rfl)
theorem dX10_exact_40 : decode cX10_exact 40 = .ok (.getfield 9, 3) := dk_180 0 9 (dk_at dksX10_exact_1 16 rfl rfl)
theorem dX10_exact_43 : decode cX10_exact 43 = .ok (.iload_n 2, 1) := dk_28 (dk_at dksX10_exact_1 19 rfl rfl)
theorem dX10_exact_44 : decode cX10_exact 44 = .ok (.imul, 1) := dk_104 (dk_at dksX10_exact_1 20 rfl rfl)
theorem dX10_exact_45 : decode cX10_exact 45 = .ok (.aload_n 0, 1) := dk_42 (dk_at dksX10_exact_1 21 rfl rfl)
theorem dX10_exact_46 : decode cX10_exact 46 = .ok (.getfield 15, 3) := dk_180 0 15 (dk_at dksX10_exact_2 0 rfl rfl)
theorem dX10_exact_49 : decode cX10_exact 49 = .ok (.iadd, 1) := dk_96 (dk_at dksX10_exact_2 3 rfl rfl)
theorem dX10_exact_50 : decode cX10_exact 50 = .ok (.invokevirtual 31, 3) := dk_182 0 31 (dk_at dksX10_exact_2 4 rfl rfl)
theorem dX10_exact_53 : decode cX10_exact 53 = .ok (.lreturn, 1) := dk_173 (dk_at dksX10_exact_2 7 rfl rfl)
abbrev cX10_lapOf : ByteArray := prog_3_method_6_code
def yX10_lapOf : MethodName := ⟨RX10, "lapOf", "(LAheadRows$Wheel;)I"⟩
def dkwX10_lapOf_0 : List UInt8 := [43, 180, 0, 43, 43, 180, 0, 43, 42, 180, 0, 9, 184, 0, 46, 108, 172]
abbrev dktX10_lapOf_0 : List UInt8 := dkwX10_lapOf_0 ++ []
theorem dksX10_lapOf_0 : cX10_lapOf.data.toList.drop 0 = dktX10_lapOf_0 := by decide +kernel
theorem dX10_lapOf_0 : decode cX10_lapOf 0 = .ok (.aload_n 1, 1) := dk_43 (dk_at dksX10_lapOf_0 0 rfl rfl)
theorem dX10_lapOf_1 : decode cX10_lapOf 1 = .ok (.getfield 43, 3) := dk_180 0 43 (dk_at dksX10_lapOf_0 1 rfl rfl)
theorem dX10_lapOf_4 : decode cX10_lapOf 4 = .ok (.aload_n 1, 1) := dk_43 (dk_at dksX10_lapOf_0 4 rfl rfl)
theorem dX10_lapOf_5 : decode cX10_lapOf 5 = .ok (.getfield 43, 3) := dk_180 0 43 (dk_at dksX10_lapOf_0 5 rfl rfl)
theorem dX10_lapOf_8 : decode cX10_lapOf 8 = .ok (.aload_n 0, 1) := dk_42 (dk_at dksX10_lapOf_0 8 rfl rfl)
theorem dX10_lapOf_9 : decode cX10_lapOf 9 = .ok (.getfield 9, 3) := dk_180 0 9 (dk_at dksX10_lapOf_0 9 rfl rfl)
theorem dX10_lapOf_12 : decode cX10_lapOf 12 = .ok (.invokestatic 46, 3) := dk_184 0 46 (dk_at dksX10_lapOf_0 12 rfl rfl)
theorem dX10_lapOf_15 : decode cX10_lapOf 15 = .ok (.idiv, 1) := dk_108 (dk_at dksX10_lapOf_0 15 rfl rfl)
theorem dX10_lapOf_16 : decode cX10_lapOf 16 = .ok (.ireturn, 1) := dk_172 (dk_at dksX10_lapOf_0 16 rfl rfl)
abbrev cX10_spoke : ByteArray := prog_3_method_5_code
def yX10_spoke : MethodName := ⟨RX10, "spoke", "(LAheadRows$Wheel;II)I"⟩
def dkwX10_spoke_0 : List UInt8 := [43, 42, 180, 0, 9, 133, 28, 133, 105, 42, 180, 0, 15, 133, 97, 182, 0, 37, 172]
abbrev dktX10_spoke_0 : List UInt8 := dkwX10_spoke_0 ++ []
theorem dksX10_spoke_0 : cX10_spoke.data.toList.drop 0 = dktX10_spoke_0 := by decide +kernel
theorem dX10_spoke_0 : decode cX10_spoke 0 = .ok (.aload_n 1, 1) := dk_43 (dk_at dksX10_spoke_0 0 rfl rfl)
theorem dX10_spoke_1 : decode cX10_spoke 1 = .ok (.aload_n 0, 1) := dk_42 (dk_at dksX10_spoke_0 1 rfl rfl)
theorem dX10_spoke_2 : decode cX10_spoke 2 = .ok (.getfield 9, 3) := dk_180 0 9 (dk_at dksX10_spoke_0 2 rfl rfl)
theorem dX10_spoke_5 : decode cX10_spoke 5 = .ok (.i2l, 1) := dk_133 (dk_at dksX10_spoke_0 5 rfl rfl)
theorem dX10_spoke_6 : decode cX10_spoke 6 = .ok (.iload_n 2, 1) := dk_28 (dk_at dksX10_spoke_0 6 rfl rfl)
theorem dX10_spoke_7 : decode cX10_spoke 7 = .ok (.i2l, 1) := dk_133 (dk_at dksX10_spoke_0 7 rfl rfl)
theorem dX10_spoke_8 : decode cX10_spoke 8 = .ok (.lmul, 1) := dk_105 (dk_at dksX10_spoke_0 8 rfl rfl)
theorem dX10_spoke_9 : decode cX10_spoke 9 = .ok (.aload_n 0, 1) := dk_42 (dk_at dksX10_spoke_0 9 rfl rfl)
theorem dX10_spoke_10 : decode cX10_spoke 10 = .ok (.getfield 15, 3) := dk_180 0 15 (dk_at dksX10_spoke_0 10 rfl rfl)
theorem dX10_spoke_13 : decode cX10_spoke 13 = .ok (.i2l, 1) := dk_133 (dk_at dksX10_spoke_0 13 rfl rfl)
theorem dX10_spoke_14 : decode cX10_spoke 14 = .ok (.ladd, 1) := dk_97 (dk_at dksX10_spoke_0 14 rfl rfl)
theorem dX10_spoke_15 : decode cX10_spoke 15 = .ok (.invokevirtual 37, 3) := dk_182 0 37 (dk_at dksX10_spoke_0 15 rfl rfl)
theorem dX10_spoke_18 : decode cX10_spoke 18 = .ok (.ireturn, 1) := dk_172 (dk_at dksX10_spoke_0 18 rfl rfl)
abbrev cX10_ruleBy : ByteArray := prog_3_method_7_code
def yX10_ruleBy : MethodName := ⟨RX10, "ruleBy", "(LAheadRows;)[I"⟩
def dkwX10_ruleBy_1 : List UInt8 := [180, 0, 9, 182, 0, 52, 167, 0, 4, 1, 176]
abbrev dktX10_ruleBy_1 : List UInt8 := dkwX10_ruleBy_1 ++ []
def dkwX10_ruleBy_0 : List UInt8 := [43, 42, 180, 0, 18, 182, 0, 27, 78, 45, 193, 0, 50, 153, 0, 19, 45, 192, 0, 50, 77, 44, 42]
abbrev dktX10_ruleBy_0 : List UInt8 := dkwX10_ruleBy_0 ++ dktX10_ruleBy_1
theorem dksX10_ruleBy_0 : cX10_ruleBy.data.toList.drop 0 = dktX10_ruleBy_0 := by decide +kernel
theorem dksX10_ruleBy_1 : cX10_ruleBy.data.toList.drop 23 = dktX10_ruleBy_1 := dk_seg dksX10_ruleBy_0 23 rfl rfl
theorem dX10_ruleBy_0 : decode cX10_ruleBy 0 = .ok (.aload_n 1, 1) := dk_43 (dk_at dksX10_ruleBy_0 0 rfl rfl)
theorem dX10_ruleBy_1 : decode cX10_ruleBy 1 = .ok (.aload_n 0, 1) := dk_42 (dk_at dksX10_ruleBy_0 1 rfl rfl)
theorem dX10_ruleBy_2 : decode cX10_ruleBy 2 = .ok (.getfield 18, 3) := dk_180 0 18 (dk_at dksX10_ruleBy_0 2 rfl rfl)
theorem dX10_ruleBy_5 : decode cX10_ruleBy 5 = .ok (.invokevirtual 27, 3) := dk_182 0 27 (dk_at dksX10_ruleBy_0 5 rfl rfl)
theorem dX10_ruleBy_8 : decode cX10_ruleBy 8 = .ok (.astore_n 3, 1) := dk_78 (dk_at dksX10_ruleBy_0 8 rfl rfl)
theorem dX10_ruleBy_9 : decode cX10_ruleBy 9 = .ok (.aload_n 3, 1) := dk_45 (dk_at dksX10_ruleBy_0 9 rfl rfl)
theorem dX10_ruleBy_10 : decode cX10_ruleBy 10 = .ok (.instanceof 50, 3) := dk_193 0 50 (dk_at dksX10_ruleBy_0 10 rfl rfl)
theorem dX10_ruleBy_13 : decode cX10_ruleBy 13 = .ok (.ifCond .eq 19, 3) := dk_153 0 19 (dk_at dksX10_ruleBy_0 13 rfl rfl)
theorem dX10_ruleBy_16 : decode cX10_ruleBy 16 = .ok (.aload_n 3, 1) := dk_45 (dk_at dksX10_ruleBy_0 16 rfl rfl)
theorem dX10_ruleBy_17 : decode cX10_ruleBy 17 = .ok (.checkcast 50, 3) := dk_192 0 50 (dk_at dksX10_ruleBy_0 17 rfl rfl)
theorem dX10_ruleBy_20 : decode cX10_ruleBy 20 = .ok (.astore_n 2, 1) := dk_77 (dk_at dksX10_ruleBy_0 20 rfl rfl)
theorem dX10_ruleBy_21 : decode cX10_ruleBy 21 = .ok (.aload_n 2, 1) := dk_44 (dk_at dksX10_ruleBy_0 21 rfl rfl)
theorem dX10_ruleBy_22 : decode cX10_ruleBy 22 = .ok (.aload_n 0, 1) := dk_42 (dk_at dksX10_ruleBy_0 22 rfl rfl)
theorem dX10_ruleBy_23 : decode cX10_ruleBy 23 = .ok (.getfield 9, 3) := dk_180 0 9 (dk_at dksX10_ruleBy_1 0 rfl rfl)
theorem dX10_ruleBy_26 : decode cX10_ruleBy 26 = .ok (.invokevirtual 52, 3) := dk_182 0 52 (dk_at dksX10_ruleBy_1 3 rfl rfl)
theorem dX10_ruleBy_29 : decode cX10_ruleBy 29 = .ok (.goto 4, 3) := dk_167 0 4 (dk_at dksX10_ruleBy_1 6 rfl rfl)
theorem dX10_ruleBy_32 : decode cX10_ruleBy 32 = .ok (.aconst_null, 1) := dk_1 (dk_at dksX10_ruleBy_1 9 rfl rfl)
theorem dX10_ruleBy_33 : decode cX10_ruleBy 33 = .ok (.areturn, 1) := dk_176 (dk_at dksX10_ruleBy_1 10 rfl rfl)
abbrev cX10_eased : ByteArray := prog_3_method_8_code
def yX10_eased : MethodName := ⟨RX10, "eased", "(LAheadRows;)LAheadRows$Told;"⟩
def dkwX10_eased_2 : List UInt8 := [42, 43, 3, 182, 0, 67, 42, 43, 4, 182, 0, 67, 182, 0, 68, 176]
abbrev dktX10_eased_2 : List UInt8 := dkwX10_eased_2 ++ []
def dkwX10_eased_1 : List UInt8 := [184, 0, 60, 154, 0, 5, 1, 176, 43, 187, 0, 50, 89, 44, 4, 46, 44, 5, 46, 3, 3, 183, 0, 64]
abbrev dktX10_eased_1 : List UInt8 := dkwX10_eased_1 ++ dktX10_eased_2
def dkwX10_eased_0 : List UInt8 := [42, 43, 182, 0, 56, 77, 44, 198, 0, 23, 44, 4, 46, 133, 184, 0, 60, 153, 0, 13, 44, 5, 46, 133]
abbrev dktX10_eased_0 : List UInt8 := dkwX10_eased_0 ++ dktX10_eased_1
theorem dksX10_eased_0 : cX10_eased.data.toList.drop 0 = dktX10_eased_0 := by decide +kernel
theorem dksX10_eased_1 : cX10_eased.data.toList.drop 24 = dktX10_eased_1 := dk_seg dksX10_eased_0 24 rfl rfl
theorem dksX10_eased_2 : cX10_eased.data.toList.drop 48 = dktX10_eased_2 := dk_seg dksX10_eased_1 24 rfl rfl
theorem dX10_eased_0 : decode cX10_eased 0 = .ok (.aload_n 0, 1) := dk_42 (dk_at dksX10_eased_0 0 rfl rfl)
theorem dX10_eased_1 : decode cX10_eased 1 = .ok (.aload_n 1, 1) := dk_43 (dk_at dksX10_eased_0 1 rfl rfl)
theorem dX10_eased_2 : decode cX10_eased 2 = .ok (.invokevirtual 56, 3) := dk_182 0 56 (dk_at dksX10_eased_0 2 rfl rfl)
theorem dX10_eased_5 : decode cX10_eased 5 = .ok (.astore_n 2, 1) := dk_77 (dk_at dksX10_eased_0 5 rfl rfl)
theorem dX10_eased_6 : decode cX10_eased 6 = .ok (.aload_n 2, 1) := dk_44 (dk_at dksX10_eased_0 6 rfl rfl)
theorem dX10_eased_7 : decode cX10_eased 7 = .ok (.ifnull 23, 3) := dk_198 0 23 (dk_at dksX10_eased_0 7 rfl rfl)
theorem dX10_eased_10 : decode cX10_eased 10 = .ok (.aload_n 2, 1) := dk_44 (dk_at dksX10_eased_0 10 rfl rfl)
theorem dX10_eased_11 : decode cX10_eased 11 = .ok (.iconst 1, 1) := dk_4 (dk_at dksX10_eased_0 11 rfl rfl)
theorem dX10_eased_12 : decode cX10_eased 12 = .ok (.iaload, 1) := dk_46 (dk_at dksX10_eased_0 12 rfl rfl)
theorem dX10_eased_13 : decode cX10_eased 13 = .ok (.i2l, 1) := dk_133 (dk_at dksX10_eased_0 13 rfl rfl)
theorem dX10_eased_14 : decode cX10_eased 14 = .ok (.invokestatic 60, 3) := dk_184 0 60 (dk_at dksX10_eased_0 14 rfl rfl)
theorem dX10_eased_17 : decode cX10_eased 17 = .ok (.ifCond .eq 13, 3) := dk_153 0 13 (dk_at dksX10_eased_0 17 rfl rfl)
theorem dX10_eased_20 : decode cX10_eased 20 = .ok (.aload_n 2, 1) := dk_44 (dk_at dksX10_eased_0 20 rfl rfl)
theorem dX10_eased_21 : decode cX10_eased 21 = .ok (.iconst 2, 1) := dk_5 (dk_at dksX10_eased_0 21 rfl rfl)
theorem dX10_eased_22 : decode cX10_eased 22 = .ok (.iaload, 1) := dk_46 (dk_at dksX10_eased_0 22 rfl rfl)
theorem dX10_eased_23 : decode cX10_eased 23 = .ok (.i2l, 1) := dk_133 (dk_at dksX10_eased_0 23 rfl rfl)
theorem dX10_eased_24 : decode cX10_eased 24 = .ok (.invokestatic 60, 3) := dk_184 0 60 (dk_at dksX10_eased_1 0 rfl rfl)
theorem dX10_eased_27 : decode cX10_eased 27 = .ok (.ifCond .ne 5, 3) := dk_154 0 5 (dk_at dksX10_eased_1 3 rfl rfl)
theorem dX10_eased_30 : decode cX10_eased 30 = .ok (.aconst_null, 1) := dk_1 (dk_at dksX10_eased_1 6 rfl rfl)
theorem dX10_eased_31 : decode cX10_eased 31 = .ok (.areturn, 1) := dk_176 (dk_at dksX10_eased_1 7 rfl rfl)
theorem dX10_eased_32 : decode cX10_eased 32 = .ok (.aload_n 1, 1) := dk_43 (dk_at dksX10_eased_1 8 rfl rfl)
theorem dX10_eased_33 : decode cX10_eased 33 = .ok (.new 50, 3) := dk_187 0 50 (dk_at dksX10_eased_1 9 rfl rfl)
theorem dX10_eased_36 : decode cX10_eased 36 = .ok (.dup, 1) := dk_89 (dk_at dksX10_eased_1 12 rfl rfl)
theorem dX10_eased_37 : decode cX10_eased 37 = .ok (.aload_n 2, 1) := dk_44 (dk_at dksX10_eased_1 13 rfl rfl)
theorem dX10_eased_38 : decode cX10_eased 38 = .ok (.iconst 1, 1) := dk_4 (dk_at dksX10_eased_1 14 rfl rfl)
theorem dX10_eased_39 : decode cX10_eased 39 = .ok (.iaload, 1) := dk_46 (dk_at dksX10_eased_1 15 rfl rfl)
theorem dX10_eased_40 : decode cX10_eased 40 = .ok (.aload_n 2, 1) := dk_44 (dk_at dksX10_eased_1 16 rfl rfl)
theorem dX10_eased_41 : decode cX10_eased 41 = .ok (.iconst 2, 1) := dk_5 (dk_at dksX10_eased_1 17 rfl rfl)
theorem dX10_eased_42 : decode cX10_eased 42 = .ok (.iaload, 1) := dk_46 (dk_at dksX10_eased_1 18 rfl rfl)
theorem dX10_eased_43 : decode cX10_eased 43 = .ok (.iconst 0, 1) := dk_3 (dk_at dksX10_eased_1 19 rfl rfl)
theorem dX10_eased_44 : decode cX10_eased 44 = .ok (.iconst 0, 1) := dk_3 (dk_at dksX10_eased_1 20 rfl rfl)
theorem dX10_eased_45 : decode cX10_eased 45 = .ok (.invokespecial 64, 3) := dk_183 0 64 (dk_at dksX10_eased_1 21 rfl rfl)
theorem dX10_eased_48 : decode cX10_eased 48 = .ok (.aload_n 0, 1) := dk_42 (dk_at dksX10_eased_2 0 rfl rfl)
theorem dX10_eased_49 : decode cX10_eased 49 = .ok (.aload_n 1, 1) := dk_43 (dk_at dksX10_eased_2 1 rfl rfl)
theorem dX10_eased_50 : decode cX10_eased 50 = .ok (.iconst 0, 1) := dk_3 (dk_at dksX10_eased_2 2 rfl rfl)
theorem dX10_eased_51 : decode cX10_eased 51 = .ok (.invokevirtual 67, 3) := dk_182 0 67 (dk_at dksX10_eased_2 3 rfl rfl)
theorem dX10_eased_54 : decode cX10_eased 54 = .ok (.aload_n 0, 1) := dk_42 (dk_at dksX10_eased_2 6 rfl rfl)
theorem dX10_eased_55 : decode cX10_eased 55 = .ok (.aload_n 1, 1) := dk_43 (dk_at dksX10_eased_2 7 rfl rfl)
theorem dX10_eased_56 : decode cX10_eased 56 = .ok (.iconst 1, 1) := dk_4 (dk_at dksX10_eased_2 8 rfl rfl)
theorem dX10_eased_57 : decode cX10_eased 57 = .ok (.invokevirtual 67, 3) := dk_182 0 67 (dk_at dksX10_eased_2 9 rfl rfl)
theorem dX10_eased_60 : decode cX10_eased 60 = .ok (.invokevirtual 68, 3) := dk_182 0 68 (dk_at dksX10_eased_2 12 rfl rfl)
theorem dX10_eased_63 : decode cX10_eased 63 = .ok (.areturn, 1) := dk_176 (dk_at dksX10_eased_2 15 rfl rfl)
theorem q110 : (Jvm.Cond.initialized "AheadRows$Each") ∈ lw_all := lw_g (lw_at lw_m1 14 rfl) rfl
theorem q180 : (Jvm.Cond.fieldLink "AheadRows$Each" (43 : Nat) "AheadRows$Wheel" "lap" "I") ∈ lw_all := lw_g (lw_at lw_m1 84 rfl) rfl
theorem q398 : (Jvm.Cond.instantiable "AheadRows$Each" (3 : Nat)) ∈ lw_all := lw_g (lw_at lw_m2 62 rfl) rfl
theorem q400 : (Jvm.Cond.instanceMethod ({ cls := "AheadRows$Each", name := "<init>", desc := "(III)V" } : Jvm.MethodName)) ∈ lw_all := lw_g (lw_at lw_m2 64 rfl) rfl
theorem q401 : (Jvm.Cond.code ({ cls := "AheadRows$Each", name := "<init>", desc := "(III)V" } : Jvm.MethodName) prog_3_method_1_code (4 : Nat) (Option.none : Option Jvm.ClassFile.FieldType)) ∈ lw_all := lw_g (lw_at lw_m2 65 rfl) rfl
theorem q402 : (Jvm.Cond.methodLink "AheadRows$Each" (3 : Nat) ({ cls := "AheadRows$Over", name := "<init>", desc := "(I)V" } : Jvm.MethodName)) ∈ lw_all := lw_g (lw_at lw_m2 66 rfl) rfl
theorem q406 : (Jvm.Cond.fieldLink "AheadRows$Each" (9 : Nat) "AheadRows$Each" "n" "I") ∈ lw_all := lw_g (lw_at lw_m2 70 rfl) rfl
theorem q407 : (Jvm.Cond.fieldLink "AheadRows$Each" (15 : Nat) "AheadRows$Each" "s" "I") ∈ lw_all := lw_g (lw_at lw_m2 71 rfl) rfl
theorem q409 : (Jvm.Cond.fieldLink "AheadRows$Each" (18 : Nat) "AheadRows$Each" "part" "I") ∈ lw_all := lw_g (lw_at lw_m2 73 rfl) rfl
theorem q410 : (Jvm.Cond.sameField "AheadRows$Each" "AheadRows$Over" "part" "I") ∈ lw_all := lw_g (lw_at lw_m2 74 rfl) rfl
theorem q413 : (Jvm.Cond.laysFinal "AheadRows$Each" "AheadRows$Each" "n" "I") ∈ lw_all := lw_g (lw_at lw_m2 77 rfl) rfl
theorem q414 : (Jvm.Cond.soleField "AheadRows$Each" "n") ∈ lw_all := lw_g (lw_at lw_m2 78 rfl) rfl
theorem q415 : (Jvm.Cond.laysFinal "AheadRows$Each" "AheadRows$Each" "s" "I") ∈ lw_all := lw_g (lw_at lw_m2 79 rfl) rfl
theorem q416 : (Jvm.Cond.soleField "AheadRows$Each" "s") ∈ lw_all := lw_g (lw_at lw_m2 80 rfl) rfl
theorem q417 : (Jvm.Cond.laysFinal "AheadRows$Each" "AheadRows$Over" "part" "I") ∈ lw_all := lw_g (lw_at lw_m2 81 rfl) rfl
theorem q419 : (Jvm.Cond.superclass "AheadRows$Each" "AheadRows$Over") ∈ lw_all := lw_g (lw_at lw_m2 83 rfl) rfl
theorem q461 : (Jvm.Cond.selects "AheadRows$Each" ({ cls := "java/lang/Object", name := "getClass", desc := "()Ljava/lang/Class;" } : Jvm.MethodName) ({ cls := "java/lang/Object", name := "getClass", desc := "()Ljava/lang/Class;" } : Jvm.MethodName)) ∈ lw_all := lw_g (lw_at lw_m2 125 rfl) rfl
theorem q520 : (Jvm.Cond.selects "AheadRows$Each" ({ cls := "AheadRows$Row", name := "copy", desc := "()LAheadRows$Row;" } : Jvm.MethodName) ({ cls := "AheadRows$Each", name := "copy", desc := "()LAheadRows$Row;" } : Jvm.MethodName)) ∈ lw_all := lw_g (lw_at lw_m2 184 rfl) rfl
theorem q521 : (Jvm.Cond.instanceMethod ({ cls := "AheadRows$Each", name := "copy", desc := "()LAheadRows$Row;" } : Jvm.MethodName)) ∈ lw_all := lw_g (lw_at lw_m2 185 rfl) rfl
theorem q522 : (Jvm.Cond.code ({ cls := "AheadRows$Each", name := "copy", desc := "()LAheadRows$Row;" } : Jvm.MethodName) prog_3_method_9_code (1 : Nat) (Option.some (Jvm.ClassFile.FieldType.object "AheadRows$Row"))) ∈ lw_all := lw_g (lw_at lw_m2 186 rfl) rfl
theorem q523 : (Jvm.Cond.classLink "AheadRows$Each" (10 : Nat) "AheadRows$Each") ∈ lw_all := lw_g (lw_at lw_m2 187 rfl) rfl
theorem q524 : (Jvm.Cond.methodLink "AheadRows$Each" (72 : Nat) ({ cls := "AheadRows$Each", name := "<init>", desc := "(III)V" } : Jvm.MethodName)) ∈ lw_all := lw_g (lw_at lw_m2 188 rfl) rfl
theorem q566 : (Jvm.Cond.selects "AheadRows$Each" ({ cls := "AheadRows$Row", name := "number", desc := "(I)I" } : Jvm.MethodName) ({ cls := "AheadRows$Each", name := "number", desc := "(I)I" } : Jvm.MethodName)) ∈ lw_all := lw_g (lw_at lw_m2 230 rfl) rfl
theorem q567 : (Jvm.Cond.instanceMethod ({ cls := "AheadRows$Each", name := "number", desc := "(I)I" } : Jvm.MethodName)) ∈ lw_all := lw_g (lw_at lw_m2 231 rfl) rfl
theorem q568 : (Jvm.Cond.code ({ cls := "AheadRows$Each", name := "number", desc := "(I)I" } : Jvm.MethodName) prog_3_method_3_code (2 : Nat) (Option.some Jvm.ClassFile.FieldType.int)) ∈ lw_all := lw_g (lw_at lw_m2 232 rfl) rfl
theorem q569 : (Jvm.Cond.methodLink "AheadRows$Each" (21 : Nat) ({ cls := "AheadRows$Over", name := "number", desc := "(I)I" } : Jvm.MethodName)) ∈ lw_all := lw_g (lw_at lw_m2 233 rfl) rfl
theorem q595 : (Jvm.Cond.selects "AheadRows$Each" ({ cls := "AheadRows$Row", name := "kind", desc := "()I" } : Jvm.MethodName) ({ cls := "AheadRows$Each", name := "kind", desc := "()I" } : Jvm.MethodName)) ∈ lw_all := lw_g (lw_at lw_m3 19 rfl) rfl
theorem q596 : (Jvm.Cond.instanceMethod ({ cls := "AheadRows$Each", name := "kind", desc := "()I" } : Jvm.MethodName)) ∈ lw_all := lw_g (lw_at lw_m3 20 rfl) rfl
theorem q597 : (Jvm.Cond.code ({ cls := "AheadRows$Each", name := "kind", desc := "()I" } : Jvm.MethodName) prog_3_method_2_code (1 : Nat) (Option.some Jvm.ClassFile.FieldType.int)) ∈ lw_all := lw_g (lw_at lw_m3 21 rfl) rfl
theorem q704 : (Jvm.Cond.selects "AheadRows$Each" ({ cls := "AheadRows$Over", name := "kind", desc := "()I" } : Jvm.MethodName) ({ cls := "AheadRows$Each", name := "kind", desc := "()I" } : Jvm.MethodName)) ∈ lw_all := lw_g (lw_at lw_m3 128 rfl) rfl
theorem q713 : (Jvm.Cond.selects "AheadRows$Each" ({ cls := "AheadRows$Row", name := "exact", desc := "(LAheadRows;I)J" } : Jvm.MethodName) ({ cls := "AheadRows$Each", name := "exact", desc := "(LAheadRows;I)J" } : Jvm.MethodName)) ∈ lw_all := lw_g (lw_at lw_m3 137 rfl) rfl
theorem q714 : (Jvm.Cond.instanceMethod ({ cls := "AheadRows$Each", name := "exact", desc := "(LAheadRows;I)J" } : Jvm.MethodName)) ∈ lw_all := lw_g (lw_at lw_m3 138 rfl) rfl
theorem q715 : (Jvm.Cond.code ({ cls := "AheadRows$Each", name := "exact", desc := "(LAheadRows;I)J" } : Jvm.MethodName) prog_3_method_4_code (3 : Nat) (Option.some Jvm.ClassFile.FieldType.long)) ∈ lw_all := lw_g (lw_at lw_m3 139 rfl) rfl
theorem q716 : (Jvm.Cond.constantLong "AheadRows$Each" (25 : Nat) (2000000002 : Int64)) ∈ lw_all := lw_g (lw_at lw_m3 140 rfl) rfl
theorem q717 : (Jvm.Cond.methodLinkNest "AheadRows$Each" (27 : Nat) ({ cls := "AheadRows", name := "rowOf", desc := "(I)LAheadRows$Row;" } : Jvm.MethodName) "AheadRows") ∈ lw_tbl := lw_at lw_m3 141 rfl
theorem q718 : (Jvm.Cond.methodLink "AheadRows$Each" (31 : Nat) ({ cls := "AheadRows$Row", name := "exact", desc := "(LAheadRows;I)J" } : Jvm.MethodName)) ∈ lw_all := lw_g (lw_at lw_m3 142 rfl) rfl
theorem q783 : (Jvm.Cond.selects "AheadRows$Each" ({ cls := "AheadRows$Row", name := "turn", desc := "(LAheadRows;ILAheadRows$Wheel;)V" } : Jvm.MethodName) ({ cls := "AheadRows$Over", name := "turn", desc := "(LAheadRows;ILAheadRows$Wheel;)V" } : Jvm.MethodName)) ∈ lw_all := lw_g (lw_at lw_m3 207 rfl) rfl
theorem q790 : (Jvm.Cond.selects "AheadRows$Each" ({ cls := "AheadRows$Over", name := "lapOf", desc := "(LAheadRows$Wheel;)I" } : Jvm.MethodName) ({ cls := "AheadRows$Each", name := "lapOf", desc := "(LAheadRows$Wheel;)I" } : Jvm.MethodName)) ∈ lw_all := lw_g (lw_at lw_m3 214 rfl) rfl
theorem q791 : (Jvm.Cond.instanceMethod ({ cls := "AheadRows$Each", name := "lapOf", desc := "(LAheadRows$Wheel;)I" } : Jvm.MethodName)) ∈ lw_all := lw_g (lw_at lw_m3 215 rfl) rfl
theorem q792 : (Jvm.Cond.code ({ cls := "AheadRows$Each", name := "lapOf", desc := "(LAheadRows$Wheel;)I" } : Jvm.MethodName) prog_3_method_6_code (2 : Nat) (Option.some Jvm.ClassFile.FieldType.int)) ∈ lw_all := lw_g (lw_at lw_m3 216 rfl) rfl
theorem q793 : (Jvm.Cond.methodLinkNest "AheadRows$Each" (46 : Nat) ({ cls := "AheadRows", name := "gcd", desc := "(II)I" } : Jvm.MethodName) "AheadRows") ∈ lw_tbl := lw_at lw_m3 217 rfl
theorem q802 : (Jvm.Cond.selects "AheadRows$Each" ({ cls := "AheadRows$Over", name := "spoke", desc := "(LAheadRows$Wheel;II)I" } : Jvm.MethodName) ({ cls := "AheadRows$Each", name := "spoke", desc := "(LAheadRows$Wheel;II)I" } : Jvm.MethodName)) ∈ lw_all := lw_g (lw_at lw_m3 226 rfl) rfl
theorem q803 : (Jvm.Cond.instanceMethod ({ cls := "AheadRows$Each", name := "spoke", desc := "(LAheadRows$Wheel;II)I" } : Jvm.MethodName)) ∈ lw_all := lw_g (lw_at lw_m3 227 rfl) rfl
theorem q804 : (Jvm.Cond.code ({ cls := "AheadRows$Each", name := "spoke", desc := "(LAheadRows$Wheel;II)I" } : Jvm.MethodName) prog_3_method_5_code (4 : Nat) (Option.some Jvm.ClassFile.FieldType.int)) ∈ lw_all := lw_g (lw_at lw_m3 228 rfl) rfl
theorem q805 : (Jvm.Cond.methodLink "AheadRows$Each" (37 : Nat) ({ cls := "AheadRows$Wheel", name := "at", desc := "(J)I" } : Jvm.MethodName)) ∈ lw_all := lw_g (lw_at lw_m3 229 rfl) rfl
theorem q921 : (Jvm.Cond.selects "AheadRows$Each" ({ cls := "AheadRows$Row", name := "ruleBy", desc := "(LAheadRows;)[I" } : Jvm.MethodName) ({ cls := "AheadRows$Each", name := "ruleBy", desc := "(LAheadRows;)[I" } : Jvm.MethodName)) ∈ lw_all := lw_g (lw_at lw_m4 105 rfl) rfl
theorem q922 : (Jvm.Cond.instanceMethod ({ cls := "AheadRows$Each", name := "ruleBy", desc := "(LAheadRows;)[I" } : Jvm.MethodName)) ∈ lw_all := lw_g (lw_at lw_m4 106 rfl) rfl
theorem q923 : (Jvm.Cond.code ({ cls := "AheadRows$Each", name := "ruleBy", desc := "(LAheadRows;)[I" } : Jvm.MethodName) prog_3_method_7_code (4 : Nat) (Option.some (Jvm.ClassFile.FieldType.array Jvm.ClassFile.FieldType.int))) ∈ lw_all := lw_g (lw_at lw_m4 107 rfl) rfl
theorem q924 : (Jvm.Cond.classLink "AheadRows$Each" (50 : Nat) "AheadRows$Told") ∈ lw_all := lw_g (lw_at lw_m4 108 rfl) rfl
theorem q925 : (Jvm.Cond.methodLink "AheadRows$Each" (52 : Nat) ({ cls := "AheadRows$Told", name := "power", desc := "(I)[I" } : Jvm.MethodName)) ∈ lw_all := lw_g (lw_at lw_m4 109 rfl) rfl
theorem q1079 : (Jvm.Cond.selects "AheadRows$Each" ({ cls := "AheadRows$Row", name := "eased", desc := "(LAheadRows;)LAheadRows$Told;" } : Jvm.MethodName) ({ cls := "AheadRows$Each", name := "eased", desc := "(LAheadRows;)LAheadRows$Told;" } : Jvm.MethodName)) ∈ lw_all := lw_g (lw_at lw_m5 23 rfl) rfl
theorem q1080 : (Jvm.Cond.instanceMethod ({ cls := "AheadRows$Each", name := "eased", desc := "(LAheadRows;)LAheadRows$Told;" } : Jvm.MethodName)) ∈ lw_all := lw_g (lw_at lw_m5 24 rfl) rfl
theorem q1081 : (Jvm.Cond.code ({ cls := "AheadRows$Each", name := "eased", desc := "(LAheadRows;)LAheadRows$Told;" } : Jvm.MethodName) prog_3_method_8_code (3 : Nat) (Option.some (Jvm.ClassFile.FieldType.object "AheadRows$Told"))) ∈ lw_all := lw_g (lw_at lw_m5 25 rfl) rfl
theorem q1082 : (Jvm.Cond.methodLink "AheadRows$Each" (56 : Nat) ({ cls := "AheadRows$Each", name := "ruleBy", desc := "(LAheadRows;)[I" } : Jvm.MethodName)) ∈ lw_all := lw_g (lw_at lw_m5 26 rfl) rfl
theorem q1083 : (Jvm.Cond.methodLinkNest "AheadRows$Each" (60 : Nat) ({ cls := "AheadRows", name := "isSmall", desc := "(J)Z" } : Jvm.MethodName) "AheadRows") ∈ lw_tbl := lw_at lw_m5 27 rfl
theorem q1084 : (Jvm.Cond.methodLink "AheadRows$Each" (64 : Nat) ({ cls := "AheadRows$Told", name := "<init>", desc := "(IIII)V" } : Jvm.MethodName)) ∈ lw_all := lw_g (lw_at lw_m5 28 rfl) rfl
theorem q1085 : (Jvm.Cond.methodLink "AheadRows$Each" (67 : Nat) ({ cls := "AheadRows$Each", name := "exact", desc := "(LAheadRows;I)J" } : Jvm.MethodName)) ∈ lw_all := lw_g (lw_at lw_m5 29 rfl) rfl
theorem q1086 : (Jvm.Cond.methodLinkNest "AheadRows$Each" (68 : Nat) ({ cls := "AheadRows", name := "withTerms", desc := "(LAheadRows$Told;JJ)LAheadRows$Told;" } : Jvm.MethodName) "AheadRows") ∈ lw_tbl := lw_at lw_m5 30 rfl
theorem q1783 : (Jvm.Cond.selects "AheadRows$Each" ({ cls := "AheadRows$Each", name := "kind", desc := "()I" } : Jvm.MethodName) ({ cls := "AheadRows$Each", name := "kind", desc := "()I" } : Jvm.MethodName)) ∈ lw_all := lw_g (lw_at lw_m8 7 rfl) rfl
theorem q1786 : (Jvm.Cond.selects "AheadRows$Each" ({ cls := "AheadRows$Each", name := "ruleBy", desc := "(LAheadRows;)[I" } : Jvm.MethodName) ({ cls := "AheadRows$Each", name := "ruleBy", desc := "(LAheadRows;)[I" } : Jvm.MethodName)) ∈ lw_all := lw_g (lw_at lw_m8 10 rfl) rfl
theorem q1787 : (Jvm.Cond.selects "AheadRows$Each" ({ cls := "AheadRows$Each", name := "exact", desc := "(LAheadRows;I)J" } : Jvm.MethodName) ({ cls := "AheadRows$Each", name := "exact", desc := "(LAheadRows;I)J" } : Jvm.MethodName)) ∈ lw_all := lw_g (lw_at lw_m8 11 rfl) rfl
theorem q1794 : (Jvm.Cond.castable "AheadRows$Each" "AheadRows$Row") ∈ lw_tbl := lw_at lw_m8 18 rfl
theorem q1801 : (Jvm.Cond.castable "AheadRows$Each" "AheadRows$Over") ∈ lw_tbl := lw_at lw_m8 25 rfl
theorem q1811 : (Jvm.Cond.castable "AheadRows$Each" "java/lang/Object") ∈ lw_tbl := lw_at lw_m8 35 rfl
theorem in_X10 : ∀ w ∈ wsX100, w ∈ lw_all := lw_in wsX100 [417, 413, 415] (by decide +kernel) (by decide +kernel)
/-! AheadRows$Step -/
set_option maxRecDepth 100000
def RX11 : String := "AheadRows$Step"
def TX11 : u_T := fun k => match k with
  | _ => ("AheadRows$Over", "part", "I", true)
def tyX11 : Nat → FieldType := fun k => match k with
  | _ => .int
abbrev wsX110 : List Cond := u_ws RX11 TX11 1
theorem nmX11 : ∀ a, a < 1 → ∀ b, b < 1 → a ≠ b → (TX11 a).2.1 ≠ (TX11 b).2.1 := by decide +kernel
theorem tyX11_ok : ∀ k, k < 1 → parseFieldDescriptor (TX11 k).2.2.1 = some (tyX11 k) := by decide +kernel
abbrev cX11_init : ByteArray := prog_12_method_1_code
def yX11_init : MethodName := ⟨RX11, "<init>", "(I)V"⟩
def dkwX11_init_0 : List UInt8 := [42, 27, 183, 0, 3, 177]
abbrev dktX11_init_0 : List UInt8 := dkwX11_init_0 ++ []
theorem dksX11_init_0 : cX11_init.data.toList.drop 0 = dktX11_init_0 := by decide +kernel
theorem dX11_init_0 : decode cX11_init 0 = .ok (.aload_n 0, 1) := dk_42 (dk_at dksX11_init_0 0 rfl rfl)
theorem dX11_init_1 : decode cX11_init 1 = .ok (.iload_n 1, 1) := dk_27 (dk_at dksX11_init_0 1 rfl rfl)
theorem dX11_init_2 : decode cX11_init 2 = .ok (.invokespecial 3, 3) := dk_183 0 3 (dk_at dksX11_init_0 2 rfl rfl)
theorem dX11_init_5 : decode cX11_init 5 = .ok (.return_, 1) := dk_177 (dk_at dksX11_init_0 5 rfl rfl)
abbrev cX11_copy : ByteArray := prog_12_method_9_code
def yX11_copy : MethodName := ⟨RX11, "copy", "()LAheadRows$Row;"⟩
def dkwX11_copy_0 : List UInt8 := [187, 0, 10, 89, 42, 180, 0, 9, 183, 0, 70, 176]
abbrev dktX11_copy_0 : List UInt8 := dkwX11_copy_0 ++ []
theorem dksX11_copy_0 : cX11_copy.data.toList.drop 0 = dktX11_copy_0 := by decide +kernel
theorem dX11_copy_0 : decode cX11_copy 0 = .ok (.new 10, 3) := dk_187 0 10 (dk_at dksX11_copy_0 0 rfl rfl)
theorem dX11_copy_3 : decode cX11_copy 3 = .ok (.dup, 1) := dk_89 (dk_at dksX11_copy_0 3 rfl rfl)
theorem dX11_copy_4 : decode cX11_copy 4 = .ok (.aload_n 0, 1) := dk_42 (dk_at dksX11_copy_0 4 rfl rfl)
theorem dX11_copy_5 : decode cX11_copy 5 = .ok (.getfield 9, 3) := dk_180 0 9 (dk_at dksX11_copy_0 5 rfl rfl)
theorem dX11_copy_8 : decode cX11_copy 8 = .ok (.invokespecial 70, 3) := dk_183 0 70 (dk_at dksX11_copy_0 8 rfl rfl)
theorem dX11_copy_11 : decode cX11_copy 11 = .ok (.areturn, 1) := dk_176 (dk_at dksX11_copy_0 11 rfl rfl)
abbrev cX11_number : ByteArray := prog_12_method_3_code
def yX11_number : MethodName := ⟨RX11, "number", "(I)I"⟩
def dkwX11_number_0 : List UInt8 := [27, 4, 160, 0, 10, 42, 180, 0, 9, 167, 0, 8, 42, 27, 183, 0, 15, 172]
abbrev dktX11_number_0 : List UInt8 := dkwX11_number_0 ++ []
theorem dksX11_number_0 : cX11_number.data.toList.drop 0 = dktX11_number_0 := by decide +kernel
theorem dX11_number_0 : decode cX11_number 0 = .ok (.iload_n 1, 1) := dk_27 (dk_at dksX11_number_0 0 rfl rfl)
theorem dX11_number_1 : decode cX11_number 1 = .ok (.iconst 1, 1) := dk_4 (dk_at dksX11_number_0 1 rfl rfl)
theorem dX11_number_2 : decode cX11_number 2 = .ok (.if_icmp .ne 10, 3) := dk_160 0 10 (dk_at dksX11_number_0 2 rfl rfl)
theorem dX11_number_5 : decode cX11_number 5 = .ok (.aload_n 0, 1) := dk_42 (dk_at dksX11_number_0 5 rfl rfl)
theorem dX11_number_6 : decode cX11_number 6 = .ok (.getfield 9, 3) := dk_180 0 9 (dk_at dksX11_number_0 6 rfl rfl)
theorem dX11_number_9 : decode cX11_number 9 = .ok (.goto 8, 3) := dk_167 0 8 (dk_at dksX11_number_0 9 rfl rfl)
theorem dX11_number_12 : decode cX11_number 12 = .ok (.aload_n 0, 1) := dk_42 (dk_at dksX11_number_0 12 rfl rfl)
theorem dX11_number_13 : decode cX11_number 13 = .ok (.iload_n 1, 1) := dk_27 (dk_at dksX11_number_0 13 rfl rfl)
theorem dX11_number_14 : decode cX11_number 14 = .ok (.invokespecial 15, 3) := dk_183 0 15 (dk_at dksX11_number_0 14 rfl rfl)
theorem dX11_number_17 : decode cX11_number 17 = .ok (.ireturn, 1) := dk_172 (dk_at dksX11_number_0 17 rfl rfl)
abbrev cX11_kind : ByteArray := prog_12_method_2_code
def yX11_kind : MethodName := ⟨RX11, "kind", "()I"⟩
theorem dX11_kind_0 : decode cX11_kind 0 = .ok (.iconst 4, 1) := by decide +kernel
theorem dX11_kind_1 : decode cX11_kind 1 = .ok (.ireturn, 1) := by decide +kernel
abbrev cX11_exact : ByteArray := prog_12_method_4_code
def yX11_exact : MethodName := ⟨RX11, "exact", "(LAheadRows;I)J"⟩
def dkwX11_exact_2 : List UInt8 := [20, 0, 29, 167, 0, 10, 22, 5, 33, 101, 184, 0, 31, 173]
abbrev dktX11_exact_2 : List UInt8 := dkwX11_exact_2 ++ []
def dkwX11_exact_1 : List UInt8 := [4, 96, 182, 0, 23, 55, 5, 33, 20, 0, 29, 148, 153, 0, 12, 22, 5, 20, 0, 29, 148, 154, 0, 9]
abbrev dktX11_exact_1 : List UInt8 := dkwX11_exact_1 ++ dktX11_exact_2
def dkwX11_exact_0 : List UInt8 := [43, 42, 180, 0, 9, 182, 0, 19, 43, 28, 182, 0, 23, 66, 43, 42, 180, 0, 9, 182, 0, 19, 43, 28]
abbrev dktX11_exact_0 : List UInt8 := dkwX11_exact_0 ++ dktX11_exact_1
theorem dksX11_exact_0 : cX11_exact.data.toList.drop 0 = dktX11_exact_0 := by decide +kernel
theorem dksX11_exact_1 : cX11_exact.data.toList.drop 24 = dktX11_exact_1 := dk_seg dksX11_exact_0 24 rfl rfl
theorem dksX11_exact_2 : cX11_exact.data.toList.drop 48 = dktX11_exact_2 := dk_seg dksX11_exact_1 24 rfl rfl
theorem dX11_exact_0 : decode cX11_exact 0 = .ok (.aload_n 1, 1) := dk_43 (dk_at dksX11_exact_0 0 rfl rfl)
theorem dX11_exact_1 : decode cX11_exact 1 = .ok (.aload_n 0, 1) := dk_42 (dk_at dksX11_exact_0 1 rfl rfl)
theorem dX11_exact_2 : decode cX11_exact 2 = .ok (.getfield 9, 3) := dk_180 0 9 (dk_at dksX11_exact_0 2 rfl rfl)
theorem dX11_exact_5 : decode cX11_exact 5 = .ok (.invokevirtual 19, 3) := dk_182 0 19 (dk_at dksX11_exact_0 5 rfl rfl)
theorem dX11_exact_8 : decode cX11_exact 8 = .ok (.aload_n 1, 1) := dk_43 (dk_at dksX11_exact_0 8 rfl rfl)
theorem dX11_exact_9 : decode cX11_exact 9 = .ok (.iload_n 2, 1) := dk_28 (dk_at dksX11_exact_0 9 rfl rfl)
theorem dX11_exact_10 : decode cX11_exact 10 = .ok (.invokevirtual 23, 3) := dk_182 0 23 (dk_at dksX11_exact_0 10 rfl rfl)
theorem dX11_exact_13 : decode cX11_exact 13 = .ok (.lstore_n 3, 1) := dk_66 (dk_at dksX11_exact_0 13 rfl rfl)
theorem dX11_exact_14 : decode cX11_exact 14 = .ok (.aload_n 1, 1) := dk_43 (dk_at dksX11_exact_0 14 rfl rfl)
theorem dX11_exact_15 : decode cX11_exact 15 = .ok (.aload_n 0, 1) := dk_42 (dk_at dksX11_exact_0 15 rfl rfl)
theorem dX11_exact_16 : decode cX11_exact 16 = .ok (.getfield 9, 3) := dk_180 0 9 (dk_at dksX11_exact_0 16 rfl rfl)
theorem dX11_exact_19 : decode cX11_exact 19 = .ok (.invokevirtual 19, 3) := dk_182 0 19 (dk_at dksX11_exact_0 19 rfl rfl)
theorem dX11_exact_22 : decode cX11_exact 22 = .ok (.aload_n 1, 1) := dk_43 (dk_at dksX11_exact_0 22 rfl rfl)
theorem dX11_exact_23 : decode cX11_exact 23 = .ok (.iload_n 2, 1) := dk_28 (dk_at dksX11_exact_0 23 rfl rfl)
theorem dX11_exact_24 : decode cX11_exact 24 = .ok (.iconst 1, 1) := dk_4 (dk_at dksX11_exact_1 0 rfl rfl)
theorem dX11_exact_25 : decode cX11_exact 25 = .ok (.iadd, 1) := dk_96 (dk_at dksX11_exact_1 1 rfl rfl)
theorem dX11_exact_26 : decode cX11_exact 26 = .ok (.invokevirtual 23, 3) := dk_182 0 23 (dk_at dksX11_exact_1 2 rfl rfl)
theorem dX11_exact_29 : decode cX11_exact 29 = .ok (.lstore 5, 2) := dk_55 5 (dk_at dksX11_exact_1 5 rfl rfl)
theorem dX11_exact_31 : decode cX11_exact 31 = .ok (.lload_n 3, 1) := dk_33 (dk_at dksX11_exact_1 7 rfl rfl)
theorem dX11_exact_32 : decode cX11_exact 32 = .ok (.ldc2_w 29, 3) := dk_20 0 29 (dk_at dksX11_exact_1 8 rfl rfl)
theorem dX11_exact_35 : decode cX11_exact 35 = .ok (.lcmp, 1) := dk_148 (dk_at dksX11_exact_1 11 rfl rfl)
theorem dX11_exact_36 : decode cX11_exact 36 = .ok (.ifCond .eq 12, 3) := dk_153 0 12 (dk_at dksX11_exact_1 12 rfl rfl)
theorem dX11_exact_39 : decode cX11_exact 39 = .ok (.lload 5, 2) := dk_22 5 (dk_at dksX11_exact_1 15 rfl rfl)
theorem dX11_exact_41 : decode cX11_exact 41 = .ok (.ldc2_w 29, 3) := dk_20 0 29 (dk_at dksX11_exact_1 17 rfl rfl)
theorem dX11_exact_44 : decode cX11_exact 44 = .ok (.lcmp, 1) := dk_148 (dk_at dksX11_exact_1 20 rfl rfl)
theorem dX11_exact_45 : decode cX11_exact 45 = .ok (.ifCond .ne 9, 3) := dk_154 0 9 (dk_at dksX11_exact_1 21 rfl rfl)
theorem dX11_exact_48 : decode cX11_exact 48 = .ok (.ldc2_w 29, 3) := dk_20 0 29 (dk_at dksX11_exact_2 0 rfl rfl)
theorem dX11_exact_51 : decode cX11_exact 51 = .ok (.goto 10, 3) := dk_167 0 10 (dk_at dksX11_exact_2 3 rfl rfl)
theorem dX11_exact_54 : decode cX11_exact 54 = .ok (.lload 5, 2) := dk_22 5 (dk_at dksX11_exact_2 6 rfl rfl)
theorem dX11_exact_56 : decode cX11_exact 56 = .ok (.lload_n 3, 1) := dk_33 (dk_at dksX11_exact_2 8 rfl rfl)
theorem dX11_exact_57 : decode cX11_exact 57 = .ok (.lsub, 1) := dk_101 (dk_at dksX11_exact_2 9 rfl rfl)
theorem dX11_exact_58 : decode cX11_exact 58 = .ok (.invokestatic 31, 3) := dk_184 0 31 (dk_at dksX11_exact_2 10 rfl rfl)
theorem dX11_exact_61 : decode cX11_exact 61 = .ok (.lreturn, 1) := dk_173 (dk_at dksX11_exact_2 13 rfl rfl)
abbrev cX11_lapOf : ByteArray := prog_12_method_6_code
def yX11_lapOf : MethodName := ⟨RX11, "lapOf", "(LAheadRows$Wheel;)I"⟩
theorem dX11_lapOf_0 : decode cX11_lapOf 0 = .ok (.aload_n 1, 1) := by decide +kernel
theorem dX11_lapOf_1 : decode cX11_lapOf 1 = .ok (.getfield 47, 3) := by decide +kernel
theorem dX11_lapOf_4 : decode cX11_lapOf 4 = .ok (.ireturn, 1) := by decide +kernel
abbrev cX11_spoke : ByteArray := prog_12_method_5_code
def yX11_spoke : MethodName := ⟨RX11, "spoke", "(LAheadRows$Wheel;II)I"⟩
def dkwX11_spoke_0 : List UInt8 := [43, 28, 4, 96, 133, 182, 0, 35, 43, 28, 133, 182, 0, 35, 100, 29, 184, 0, 41, 172]
abbrev dktX11_spoke_0 : List UInt8 := dkwX11_spoke_0 ++ []
theorem dksX11_spoke_0 : cX11_spoke.data.toList.drop 0 = dktX11_spoke_0 := by decide +kernel
theorem dX11_spoke_0 : decode cX11_spoke 0 = .ok (.aload_n 1, 1) := dk_43 (dk_at dksX11_spoke_0 0 rfl rfl)
theorem dX11_spoke_1 : decode cX11_spoke 1 = .ok (.iload_n 2, 1) := dk_28 (dk_at dksX11_spoke_0 1 rfl rfl)
theorem dX11_spoke_2 : decode cX11_spoke 2 = .ok (.iconst 1, 1) := dk_4 (dk_at dksX11_spoke_0 2 rfl rfl)
theorem dX11_spoke_3 : decode cX11_spoke 3 = .ok (.iadd, 1) := dk_96 (dk_at dksX11_spoke_0 3 rfl rfl)
theorem dX11_spoke_4 : decode cX11_spoke 4 = .ok (.i2l, 1) := dk_133 (dk_at dksX11_spoke_0 4 rfl rfl)
theorem dX11_spoke_5 : decode cX11_spoke 5 = .ok (.invokevirtual 35, 3) := dk_182 0 35 (dk_at dksX11_spoke_0 5 rfl rfl)
theorem dX11_spoke_8 : decode cX11_spoke 8 = .ok (.aload_n 1, 1) := dk_43 (dk_at dksX11_spoke_0 8 rfl rfl)
theorem dX11_spoke_9 : decode cX11_spoke 9 = .ok (.iload_n 2, 1) := dk_28 (dk_at dksX11_spoke_0 9 rfl rfl)
theorem dX11_spoke_10 : decode cX11_spoke 10 = .ok (.i2l, 1) := dk_133 (dk_at dksX11_spoke_0 10 rfl rfl)
theorem dX11_spoke_11 : decode cX11_spoke 11 = .ok (.invokevirtual 35, 3) := dk_182 0 35 (dk_at dksX11_spoke_0 11 rfl rfl)
theorem dX11_spoke_14 : decode cX11_spoke 14 = .ok (.isub, 1) := dk_100 (dk_at dksX11_spoke_0 14 rfl rfl)
theorem dX11_spoke_15 : decode cX11_spoke 15 = .ok (.iload_n 3, 1) := dk_29 (dk_at dksX11_spoke_0 15 rfl rfl)
theorem dX11_spoke_16 : decode cX11_spoke 16 = .ok (.invokestatic 41, 3) := dk_184 0 41 (dk_at dksX11_spoke_0 16 rfl rfl)
theorem dX11_spoke_19 : decode cX11_spoke 19 = .ok (.ireturn, 1) := dk_172 (dk_at dksX11_spoke_0 19 rfl rfl)
abbrev cX11_ruleBy : ByteArray := prog_12_method_7_code
def yX11_ruleBy : MethodName := ⟨RX11, "ruleBy", "(LAheadRows;)[I"⟩
def dkwX11_ruleBy_1 : List UInt8 := [182, 0, 52, 167, 0, 4, 1, 176]
abbrev dktX11_ruleBy_1 : List UInt8 := dkwX11_ruleBy_1 ++ []
def dkwX11_ruleBy_0 : List UInt8 := [43, 42, 180, 0, 9, 182, 0, 19, 78, 45, 193, 0, 50, 153, 0, 16, 45, 192, 0, 50, 77, 44, 43]
abbrev dktX11_ruleBy_0 : List UInt8 := dkwX11_ruleBy_0 ++ dktX11_ruleBy_1
theorem dksX11_ruleBy_0 : cX11_ruleBy.data.toList.drop 0 = dktX11_ruleBy_0 := by decide +kernel
theorem dksX11_ruleBy_1 : cX11_ruleBy.data.toList.drop 23 = dktX11_ruleBy_1 := dk_seg dksX11_ruleBy_0 23 rfl rfl
theorem dX11_ruleBy_0 : decode cX11_ruleBy 0 = .ok (.aload_n 1, 1) := dk_43 (dk_at dksX11_ruleBy_0 0 rfl rfl)
theorem dX11_ruleBy_1 : decode cX11_ruleBy 1 = .ok (.aload_n 0, 1) := dk_42 (dk_at dksX11_ruleBy_0 1 rfl rfl)
theorem dX11_ruleBy_2 : decode cX11_ruleBy 2 = .ok (.getfield 9, 3) := dk_180 0 9 (dk_at dksX11_ruleBy_0 2 rfl rfl)
theorem dX11_ruleBy_5 : decode cX11_ruleBy 5 = .ok (.invokevirtual 19, 3) := dk_182 0 19 (dk_at dksX11_ruleBy_0 5 rfl rfl)
theorem dX11_ruleBy_8 : decode cX11_ruleBy 8 = .ok (.astore_n 3, 1) := dk_78 (dk_at dksX11_ruleBy_0 8 rfl rfl)
theorem dX11_ruleBy_9 : decode cX11_ruleBy 9 = .ok (.aload_n 3, 1) := dk_45 (dk_at dksX11_ruleBy_0 9 rfl rfl)
theorem dX11_ruleBy_10 : decode cX11_ruleBy 10 = .ok (.instanceof 50, 3) := dk_193 0 50 (dk_at dksX11_ruleBy_0 10 rfl rfl)
theorem dX11_ruleBy_13 : decode cX11_ruleBy 13 = .ok (.ifCond .eq 16, 3) := dk_153 0 16 (dk_at dksX11_ruleBy_0 13 rfl rfl)
theorem dX11_ruleBy_16 : decode cX11_ruleBy 16 = .ok (.aload_n 3, 1) := dk_45 (dk_at dksX11_ruleBy_0 16 rfl rfl)
theorem dX11_ruleBy_17 : decode cX11_ruleBy 17 = .ok (.checkcast 50, 3) := dk_192 0 50 (dk_at dksX11_ruleBy_0 17 rfl rfl)
theorem dX11_ruleBy_20 : decode cX11_ruleBy 20 = .ok (.astore_n 2, 1) := dk_77 (dk_at dksX11_ruleBy_0 20 rfl rfl)
theorem dX11_ruleBy_21 : decode cX11_ruleBy 21 = .ok (.aload_n 2, 1) := dk_44 (dk_at dksX11_ruleBy_0 21 rfl rfl)
theorem dX11_ruleBy_22 : decode cX11_ruleBy 22 = .ok (.aload_n 1, 1) := dk_43 (dk_at dksX11_ruleBy_0 22 rfl rfl)
theorem dX11_ruleBy_23 : decode cX11_ruleBy 23 = .ok (.invokevirtual 52, 3) := dk_182 0 52 (dk_at dksX11_ruleBy_1 0 rfl rfl)
theorem dX11_ruleBy_26 : decode cX11_ruleBy 26 = .ok (.goto 4, 3) := dk_167 0 4 (dk_at dksX11_ruleBy_1 3 rfl rfl)
theorem dX11_ruleBy_29 : decode cX11_ruleBy 29 = .ok (.aconst_null, 1) := dk_1 (dk_at dksX11_ruleBy_1 6 rfl rfl)
theorem dX11_ruleBy_30 : decode cX11_ruleBy 30 = .ok (.areturn, 1) := dk_176 (dk_at dksX11_ruleBy_1 7 rfl rfl)
abbrev cX11_eased : ByteArray := prog_12_method_8_code
def yX11_eased : MethodName := ⟨RX11, "eased", "(LAheadRows;)LAheadRows$Told;"⟩
def dkwX11_eased_2 : List UInt8 := [43, 4, 182, 0, 65, 182, 0, 66, 167, 0, 4, 1, 176]
abbrev dktX11_eased_2 : List UInt8 := dkwX11_eased_2 ++ []
def dkwX11_eased_1 : List UInt8 := [187, 0, 50, 89, 44, 180, 0, 56, 44, 180, 0, 59, 3, 3, 183, 0, 62, 42, 43, 3, 182, 0, 65, 42]
abbrev dktX11_eased_1 : List UInt8 := dkwX11_eased_1 ++ dktX11_eased_2
def dkwX11_eased_0 : List UInt8 := [43, 42, 180, 0, 9, 182, 0, 19, 78, 45, 193, 0, 50, 153, 0, 44, 45, 192, 0, 50, 77, 43]
abbrev dktX11_eased_0 : List UInt8 := dkwX11_eased_0 ++ dktX11_eased_1
theorem dksX11_eased_0 : cX11_eased.data.toList.drop 0 = dktX11_eased_0 := by decide +kernel
theorem dksX11_eased_1 : cX11_eased.data.toList.drop 22 = dktX11_eased_1 := dk_seg dksX11_eased_0 22 rfl rfl
theorem dksX11_eased_2 : cX11_eased.data.toList.drop 46 = dktX11_eased_2 := dk_seg dksX11_eased_1 24 rfl rfl
theorem dX11_eased_0 : decode cX11_eased 0 = .ok (.aload_n 1, 1) := dk_43 (dk_at dksX11_eased_0 0 rfl rfl)
theorem dX11_eased_1 : decode cX11_eased 1 = .ok (.aload_n 0, 1) := dk_42 (dk_at dksX11_eased_0 1 rfl rfl)
theorem dX11_eased_2 : decode cX11_eased 2 = .ok (.getfield 9, 3) := dk_180 0 9 (dk_at dksX11_eased_0 2 rfl rfl)
theorem dX11_eased_5 : decode cX11_eased 5 = .ok (.invokevirtual 19, 3) := dk_182 0 19 (dk_at dksX11_eased_0 5 rfl rfl)
theorem dX11_eased_8 : decode cX11_eased 8 = .ok (.astore_n 3, 1) := dk_78 (dk_at dksX11_eased_0 8 rfl rfl)
theorem dX11_eased_9 : decode cX11_eased 9 = .ok (.aload_n 3, 1) := dk_45 (dk_at dksX11_eased_0 9 rfl rfl)
theorem dX11_eased_10 : decode cX11_eased 10 = .ok (.instanceof 50, 3) := dk_193 0 50 (dk_at dksX11_eased_0 10 rfl rfl)
theorem dX11_eased_13 : decode cX11_eased 13 = .ok (.ifCond .eq 44, 3) := dk_153 0 44 (dk_at dksX11_eased_0 13 rfl rfl)
theorem dX11_eased_16 : decode cX11_eased 16 = .ok (.aload_n 3, 1) := dk_45 (dk_at dksX11_eased_0 16 rfl rfl)
theorem dX11_eased_17 : decode cX11_eased 17 = .ok (.checkcast 50, 3) := dk_192 0 50 (dk_at dksX11_eased_0 17 rfl rfl)
theorem dX11_eased_20 : decode cX11_eased 20 = .ok (.astore_n 2, 1) := dk_77 (dk_at dksX11_eased_0 20 rfl rfl)
theorem dX11_eased_21 : decode cX11_eased 21 = .ok (.aload_n 1, 1) := dk_43 (dk_at dksX11_eased_0 21 rfl rfl)
theorem dX11_eased_22 : decode cX11_eased 22 = .ok (.new 50, 3) := dk_187 0 50 (dk_at dksX11_eased_1 0 rfl rfl)
theorem dX11_eased_25 : decode cX11_eased 25 = .ok (.dup, 1) := dk_89 (dk_at dksX11_eased_1 3 rfl rfl)
theorem dX11_eased_26 : decode cX11_eased 26 = .ok (.aload_n 2, 1) := dk_44 (dk_at dksX11_eased_1 4 rfl rfl)
theorem dX11_eased_27 : decode cX11_eased 27 = .ok (.getfield 56, 3) := dk_180 0 56 (dk_at dksX11_eased_1 5 rfl rfl)
theorem dX11_eased_30 : decode cX11_eased 30 = .ok (.aload_n 2, 1) := dk_44 (dk_at dksX11_eased_1 8 rfl rfl)
theorem dX11_eased_31 : decode cX11_eased 31 = .ok (.getfield 59, 3) := dk_180 0 59 (dk_at dksX11_eased_1 9 rfl rfl)
theorem dX11_eased_34 : decode cX11_eased 34 = .ok (.iconst 0, 1) := dk_3 (dk_at dksX11_eased_1 12 rfl rfl)
theorem dX11_eased_35 : decode cX11_eased 35 = .ok (.iconst 0, 1) := dk_3 (dk_at dksX11_eased_1 13 rfl rfl)
theorem dX11_eased_36 : decode cX11_eased 36 = .ok (.invokespecial 62, 3) := dk_183 0 62 (dk_at dksX11_eased_1 14 rfl rfl)
theorem dX11_eased_39 : decode cX11_eased 39 = .ok (.aload_n 0, 1) := dk_42 (dk_at dksX11_eased_1 17 rfl rfl)
theorem dX11_eased_40 : decode cX11_eased 40 = .ok (.aload_n 1, 1) := dk_43 (dk_at dksX11_eased_1 18 rfl rfl)
theorem dX11_eased_41 : decode cX11_eased 41 = .ok (.iconst 0, 1) := dk_3 (dk_at dksX11_eased_1 19 rfl rfl)
theorem dX11_eased_42 : decode cX11_eased 42 = .ok (.invokevirtual 65, 3) := dk_182 0 65 (dk_at dksX11_eased_1 20 rfl rfl)
theorem dX11_eased_45 : decode cX11_eased 45 = .ok (.aload_n 0, 1) := dk_42 (dk_at dksX11_eased_1 23 rfl rfl)
theorem dX11_eased_46 : decode cX11_eased 46 = .ok (.aload_n 1, 1) := dk_43 (dk_at dksX11_eased_2 0 rfl rfl)
theorem dX11_eased_47 : decode cX11_eased 47 = .ok (.iconst 1, 1) := dk_4 (dk_at dksX11_eased_2 1 rfl rfl)
theorem dX11_eased_48 : decode cX11_eased 48 = .ok (.invokevirtual 65, 3) := dk_182 0 65 (dk_at dksX11_eased_2 2 rfl rfl)
theorem dX11_eased_51 : decode cX11_eased 51 = .ok (.invokevirtual 66, 3) := dk_182 0 66 (dk_at dksX11_eased_2 5 rfl rfl)
theorem dX11_eased_54 : decode cX11_eased 54 = .ok (.goto 4, 3) := dk_167 0 4 (dk_at dksX11_eased_2 8 rfl rfl)
theorem dX11_eased_57 : decode cX11_eased 57 = .ok (.aconst_null, 1) := dk_1 (dk_at dksX11_eased_2 11 rfl rfl)
theorem dX11_eased_58 : decode cX11_eased 58 = .ok (.areturn, 1) := dk_176 (dk_at dksX11_eased_2 12 rfl rfl)
theorem q111 : (Jvm.Cond.initialized "AheadRows$Step") ∈ lw_all := lw_g (lw_at lw_m1 15 rfl) rfl
theorem q181 : (Jvm.Cond.fieldLink "AheadRows$Step" (47 : Nat) "AheadRows$Wheel" "lap" "I") ∈ lw_all := lw_g (lw_at lw_m1 85 rfl) rfl
theorem q329 : (Jvm.Cond.fieldLink "AheadRows$Step" (56 : Nat) "AheadRows$Told" "c" "I") ∈ lw_all := lw_g (lw_at lw_m1 233 rfl) rfl
theorem q334 : (Jvm.Cond.fieldLink "AheadRows$Step" (59 : Nat) "AheadRows$Told" "d" "I") ∈ lw_all := lw_g (lw_at lw_m1 238 rfl) rfl
theorem q411 : (Jvm.Cond.fieldLink "AheadRows$Step" (9 : Nat) "AheadRows$Step" "part" "I") ∈ lw_all := lw_g (lw_at lw_m2 75 rfl) rfl
theorem q412 : (Jvm.Cond.sameField "AheadRows$Step" "AheadRows$Over" "part" "I") ∈ lw_all := lw_g (lw_at lw_m2 76 rfl) rfl
theorem q421 : (Jvm.Cond.instantiable "AheadRows$Step" (1 : Nat)) ∈ lw_all := lw_g (lw_at lw_m2 85 rfl) rfl
theorem q423 : (Jvm.Cond.instanceMethod ({ cls := "AheadRows$Step", name := "<init>", desc := "(I)V" } : Jvm.MethodName)) ∈ lw_all := lw_g (lw_at lw_m2 87 rfl) rfl
theorem q424 : (Jvm.Cond.code ({ cls := "AheadRows$Step", name := "<init>", desc := "(I)V" } : Jvm.MethodName) prog_12_method_1_code (2 : Nat) (Option.none : Option Jvm.ClassFile.FieldType)) ∈ lw_all := lw_g (lw_at lw_m2 88 rfl) rfl
theorem q425 : (Jvm.Cond.methodLink "AheadRows$Step" (3 : Nat) ({ cls := "AheadRows$Over", name := "<init>", desc := "(I)V" } : Jvm.MethodName)) ∈ lw_all := lw_g (lw_at lw_m2 89 rfl) rfl
theorem q426 : (Jvm.Cond.laysFinal "AheadRows$Step" "AheadRows$Over" "part" "I") ∈ lw_all := lw_g (lw_at lw_m2 90 rfl) rfl
theorem q427 : (Jvm.Cond.superclass "AheadRows$Step" "AheadRows$Over") ∈ lw_all := lw_g (lw_at lw_m2 91 rfl) rfl
theorem q467 : (Jvm.Cond.selects "AheadRows$Step" ({ cls := "java/lang/Object", name := "getClass", desc := "()Ljava/lang/Class;" } : Jvm.MethodName) ({ cls := "java/lang/Object", name := "getClass", desc := "()Ljava/lang/Class;" } : Jvm.MethodName)) ∈ lw_all := lw_g (lw_at lw_m2 131 rfl) rfl
theorem q530 : (Jvm.Cond.selects "AheadRows$Step" ({ cls := "AheadRows$Row", name := "copy", desc := "()LAheadRows$Row;" } : Jvm.MethodName) ({ cls := "AheadRows$Step", name := "copy", desc := "()LAheadRows$Row;" } : Jvm.MethodName)) ∈ lw_all := lw_g (lw_at lw_m2 194 rfl) rfl
theorem q531 : (Jvm.Cond.instanceMethod ({ cls := "AheadRows$Step", name := "copy", desc := "()LAheadRows$Row;" } : Jvm.MethodName)) ∈ lw_all := lw_g (lw_at lw_m2 195 rfl) rfl
theorem q532 : (Jvm.Cond.code ({ cls := "AheadRows$Step", name := "copy", desc := "()LAheadRows$Row;" } : Jvm.MethodName) prog_12_method_9_code (1 : Nat) (Option.some (Jvm.ClassFile.FieldType.object "AheadRows$Row"))) ∈ lw_all := lw_g (lw_at lw_m2 196 rfl) rfl
theorem q533 : (Jvm.Cond.classLink "AheadRows$Step" (10 : Nat) "AheadRows$Step") ∈ lw_all := lw_g (lw_at lw_m2 197 rfl) rfl
theorem q534 : (Jvm.Cond.methodLink "AheadRows$Step" (70 : Nat) ({ cls := "AheadRows$Step", name := "<init>", desc := "(I)V" } : Jvm.MethodName)) ∈ lw_all := lw_g (lw_at lw_m2 198 rfl) rfl
theorem q579 : (Jvm.Cond.selects "AheadRows$Step" ({ cls := "AheadRows$Row", name := "number", desc := "(I)I" } : Jvm.MethodName) ({ cls := "AheadRows$Step", name := "number", desc := "(I)I" } : Jvm.MethodName)) ∈ lw_all := lw_g (lw_at lw_m3 3 rfl) rfl
theorem q580 : (Jvm.Cond.instanceMethod ({ cls := "AheadRows$Step", name := "number", desc := "(I)I" } : Jvm.MethodName)) ∈ lw_all := lw_g (lw_at lw_m3 4 rfl) rfl
theorem q581 : (Jvm.Cond.code ({ cls := "AheadRows$Step", name := "number", desc := "(I)I" } : Jvm.MethodName) prog_12_method_3_code (2 : Nat) (Option.some Jvm.ClassFile.FieldType.int)) ∈ lw_all := lw_g (lw_at lw_m3 5 rfl) rfl
theorem q582 : (Jvm.Cond.methodLink "AheadRows$Step" (15 : Nat) ({ cls := "AheadRows$Over", name := "number", desc := "(I)I" } : Jvm.MethodName)) ∈ lw_all := lw_g (lw_at lw_m3 6 rfl) rfl
theorem q601 : (Jvm.Cond.selects "AheadRows$Step" ({ cls := "AheadRows$Row", name := "kind", desc := "()I" } : Jvm.MethodName) ({ cls := "AheadRows$Step", name := "kind", desc := "()I" } : Jvm.MethodName)) ∈ lw_all := lw_g (lw_at lw_m3 25 rfl) rfl
theorem q602 : (Jvm.Cond.instanceMethod ({ cls := "AheadRows$Step", name := "kind", desc := "()I" } : Jvm.MethodName)) ∈ lw_all := lw_g (lw_at lw_m3 26 rfl) rfl
theorem q603 : (Jvm.Cond.code ({ cls := "AheadRows$Step", name := "kind", desc := "()I" } : Jvm.MethodName) prog_12_method_2_code (1 : Nat) (Option.some Jvm.ClassFile.FieldType.int)) ∈ lw_all := lw_g (lw_at lw_m3 27 rfl) rfl
theorem q705 : (Jvm.Cond.selects "AheadRows$Step" ({ cls := "AheadRows$Over", name := "kind", desc := "()I" } : Jvm.MethodName) ({ cls := "AheadRows$Step", name := "kind", desc := "()I" } : Jvm.MethodName)) ∈ lw_all := lw_g (lw_at lw_m3 129 rfl) rfl
theorem q723 : (Jvm.Cond.instanceMethod ({ cls := "AheadRows$Step", name := "exact", desc := "(LAheadRows;I)J" } : Jvm.MethodName)) ∈ lw_all := lw_g (lw_at lw_m3 147 rfl) rfl
theorem q724 : (Jvm.Cond.code ({ cls := "AheadRows$Step", name := "exact", desc := "(LAheadRows;I)J" } : Jvm.MethodName) prog_12_method_4_code (7 : Nat) (Option.some Jvm.ClassFile.FieldType.long)) ∈ lw_all := lw_g (lw_at lw_m3 148 rfl) rfl
theorem q725 : (Jvm.Cond.methodLinkNest "AheadRows$Step" (19 : Nat) ({ cls := "AheadRows", name := "rowOf", desc := "(I)LAheadRows$Row;" } : Jvm.MethodName) "AheadRows") ∈ lw_tbl := lw_at lw_m3 149 rfl
theorem q726 : (Jvm.Cond.methodLink "AheadRows$Step" (23 : Nat) ({ cls := "AheadRows$Row", name := "exact", desc := "(LAheadRows;I)J" } : Jvm.MethodName)) ∈ lw_all := lw_g (lw_at lw_m3 150 rfl) rfl
theorem q737 : (Jvm.Cond.constantLong "AheadRows$Step" (29 : Nat) (2000000002 : Int64)) ∈ lw_all := lw_g (lw_at lw_m3 161 rfl) rfl
theorem q738 : (Jvm.Cond.methodLink "AheadRows$Step" (31 : Nat) ({ cls := "AheadRows$Step", name := "near", desc := "(J)J" } : Jvm.MethodName)) ∈ lw_all := lw_g (lw_at lw_m3 162 rfl) rfl
theorem q739 : (Jvm.Cond.sameMethod "AheadRows$Step" "AheadRows$Row" "near" "(J)J") ∈ lw_all := lw_g (lw_at lw_m3 163 rfl) rfl
theorem q766 : (Jvm.Cond.selects "AheadRows$Step" ({ cls := "AheadRows$Row", name := "exact", desc := "(LAheadRows;I)J" } : Jvm.MethodName) ({ cls := "AheadRows$Step", name := "exact", desc := "(LAheadRows;I)J" } : Jvm.MethodName)) ∈ lw_all := lw_g (lw_at lw_m3 190 rfl) rfl
theorem q796 : (Jvm.Cond.selects "AheadRows$Step" ({ cls := "AheadRows$Over", name := "lapOf", desc := "(LAheadRows$Wheel;)I" } : Jvm.MethodName) ({ cls := "AheadRows$Step", name := "lapOf", desc := "(LAheadRows$Wheel;)I" } : Jvm.MethodName)) ∈ lw_all := lw_g (lw_at lw_m3 220 rfl) rfl
theorem q797 : (Jvm.Cond.instanceMethod ({ cls := "AheadRows$Step", name := "lapOf", desc := "(LAheadRows$Wheel;)I" } : Jvm.MethodName)) ∈ lw_all := lw_g (lw_at lw_m3 221 rfl) rfl
theorem q798 : (Jvm.Cond.code ({ cls := "AheadRows$Step", name := "lapOf", desc := "(LAheadRows$Wheel;)I" } : Jvm.MethodName) prog_12_method_6_code (2 : Nat) (Option.some Jvm.ClassFile.FieldType.int)) ∈ lw_all := lw_g (lw_at lw_m3 222 rfl) rfl
theorem q809 : (Jvm.Cond.selects "AheadRows$Step" ({ cls := "AheadRows$Over", name := "spoke", desc := "(LAheadRows$Wheel;II)I" } : Jvm.MethodName) ({ cls := "AheadRows$Step", name := "spoke", desc := "(LAheadRows$Wheel;II)I" } : Jvm.MethodName)) ∈ lw_all := lw_g (lw_at lw_m3 233 rfl) rfl
theorem q810 : (Jvm.Cond.instanceMethod ({ cls := "AheadRows$Step", name := "spoke", desc := "(LAheadRows$Wheel;II)I" } : Jvm.MethodName)) ∈ lw_all := lw_g (lw_at lw_m3 234 rfl) rfl
theorem q811 : (Jvm.Cond.code ({ cls := "AheadRows$Step", name := "spoke", desc := "(LAheadRows$Wheel;II)I" } : Jvm.MethodName) prog_12_method_5_code (4 : Nat) (Option.some Jvm.ClassFile.FieldType.int)) ∈ lw_all := lw_g (lw_at lw_m3 235 rfl) rfl
theorem q812 : (Jvm.Cond.methodLink "AheadRows$Step" (35 : Nat) ({ cls := "AheadRows$Wheel", name := "at", desc := "(J)I" } : Jvm.MethodName)) ∈ lw_all := lw_g (lw_at lw_m3 236 rfl) rfl
theorem q813 : (Jvm.Cond.methodLink "AheadRows$Step" (41 : Nat) ({ cls := "java/lang/Math", name := "floorMod", desc := "(II)I" } : Jvm.MethodName)) ∈ lw_all := lw_g (lw_at lw_m3 237 rfl) rfl
theorem q832 : (Jvm.Cond.selects "AheadRows$Step" ({ cls := "AheadRows$Row", name := "turn", desc := "(LAheadRows;ILAheadRows$Wheel;)V" } : Jvm.MethodName) ({ cls := "AheadRows$Over", name := "turn", desc := "(LAheadRows;ILAheadRows$Wheel;)V" } : Jvm.MethodName)) ∈ lw_all := lw_g (lw_at lw_m4 16 rfl) rfl
theorem q942 : (Jvm.Cond.selects "AheadRows$Step" ({ cls := "AheadRows$Row", name := "ruleBy", desc := "(LAheadRows;)[I" } : Jvm.MethodName) ({ cls := "AheadRows$Step", name := "ruleBy", desc := "(LAheadRows;)[I" } : Jvm.MethodName)) ∈ lw_all := lw_g (lw_at lw_m4 126 rfl) rfl
theorem q943 : (Jvm.Cond.instanceMethod ({ cls := "AheadRows$Step", name := "ruleBy", desc := "(LAheadRows;)[I" } : Jvm.MethodName)) ∈ lw_all := lw_g (lw_at lw_m4 127 rfl) rfl
theorem q944 : (Jvm.Cond.code ({ cls := "AheadRows$Step", name := "ruleBy", desc := "(LAheadRows;)[I" } : Jvm.MethodName) prog_12_method_7_code (4 : Nat) (Option.some (Jvm.ClassFile.FieldType.array Jvm.ClassFile.FieldType.int))) ∈ lw_all := lw_g (lw_at lw_m4 128 rfl) rfl
theorem q945 : (Jvm.Cond.classLink "AheadRows$Step" (50 : Nat) "AheadRows$Told") ∈ lw_all := lw_g (lw_at lw_m4 129 rfl) rfl
theorem q946 : (Jvm.Cond.methodLink "AheadRows$Step" (52 : Nat) ({ cls := "AheadRows$Told", name := "ruleBy", desc := "(LAheadRows;)[I" } : Jvm.MethodName)) ∈ lw_all := lw_g (lw_at lw_m4 130 rfl) rfl
theorem q1127 : (Jvm.Cond.selects "AheadRows$Step" ({ cls := "AheadRows$Row", name := "eased", desc := "(LAheadRows;)LAheadRows$Told;" } : Jvm.MethodName) ({ cls := "AheadRows$Step", name := "eased", desc := "(LAheadRows;)LAheadRows$Told;" } : Jvm.MethodName)) ∈ lw_all := lw_g (lw_at lw_m5 71 rfl) rfl
theorem q1128 : (Jvm.Cond.instanceMethod ({ cls := "AheadRows$Step", name := "eased", desc := "(LAheadRows;)LAheadRows$Told;" } : Jvm.MethodName)) ∈ lw_all := lw_g (lw_at lw_m5 72 rfl) rfl
theorem q1129 : (Jvm.Cond.code ({ cls := "AheadRows$Step", name := "eased", desc := "(LAheadRows;)LAheadRows$Told;" } : Jvm.MethodName) prog_12_method_8_code (4 : Nat) (Option.some (Jvm.ClassFile.FieldType.object "AheadRows$Told"))) ∈ lw_all := lw_g (lw_at lw_m5 73 rfl) rfl
theorem q1130 : (Jvm.Cond.methodLink "AheadRows$Step" (62 : Nat) ({ cls := "AheadRows$Told", name := "<init>", desc := "(IIII)V" } : Jvm.MethodName)) ∈ lw_all := lw_g (lw_at lw_m5 74 rfl) rfl
theorem q1131 : (Jvm.Cond.methodLink "AheadRows$Step" (65 : Nat) ({ cls := "AheadRows$Step", name := "exact", desc := "(LAheadRows;I)J" } : Jvm.MethodName)) ∈ lw_all := lw_g (lw_at lw_m5 75 rfl) rfl
theorem q1132 : (Jvm.Cond.methodLinkNest "AheadRows$Step" (66 : Nat) ({ cls := "AheadRows", name := "withTerms", desc := "(LAheadRows$Told;JJ)LAheadRows$Told;" } : Jvm.MethodName) "AheadRows") ∈ lw_tbl := lw_at lw_m5 76 rfl
theorem q1784 : (Jvm.Cond.selects "AheadRows$Step" ({ cls := "AheadRows$Step", name := "kind", desc := "()I" } : Jvm.MethodName) ({ cls := "AheadRows$Step", name := "kind", desc := "()I" } : Jvm.MethodName)) ∈ lw_all := lw_g (lw_at lw_m8 8 rfl) rfl
theorem q1791 : (Jvm.Cond.selects "AheadRows$Step" ({ cls := "AheadRows$Step", name := "exact", desc := "(LAheadRows;I)J" } : Jvm.MethodName) ({ cls := "AheadRows$Step", name := "exact", desc := "(LAheadRows;I)J" } : Jvm.MethodName)) ∈ lw_all := lw_g (lw_at lw_m8 15 rfl) rfl
theorem q1796 : (Jvm.Cond.castable "AheadRows$Step" "AheadRows$Row") ∈ lw_tbl := lw_at lw_m8 20 rfl
theorem q1802 : (Jvm.Cond.castable "AheadRows$Step" "AheadRows$Over") ∈ lw_tbl := lw_at lw_m8 26 rfl
theorem q1812 : (Jvm.Cond.castable "AheadRows$Step" "java/lang/Object") ∈ lw_tbl := lw_at lw_m8 36 rfl
theorem in_X11 : ∀ w ∈ wsX110, w ∈ lw_all := lw_in wsX110 [426] (by decide +kernel) (by decide +kernel)
/-! AheadRows$Register -/
set_option maxRecDepth 100000
def RX12 : String := "AheadRows$Register"
def TX12 : u_T := fun k => match k with
  | 0 => ("AheadRows$Register", "p", "I", true)
  | 1 => ("AheadRows$Register", "now", "[I", false)
  | 2 => ("AheadRows$Register", "was", "[I", false)
  | 3 => ("AheadRows$Register", "size", "I", false)
  | 4 => ("AheadRows$Register", "gap", "I", false)
  | _ => ("AheadRows$Register", "miss", "I", false)
def tyX12 : Nat → FieldType := fun k => match k with
  | 0 => .int
  | 1 => .array .int
  | 2 => .array .int
  | 3 => .int
  | 4 => .int
  | _ => .int
abbrev wsX120 : List Cond := u_ws RX12 TX12 6
theorem nmX12 : ∀ a, a < 6 → ∀ b, b < 6 → a ≠ b → (TX12 a).2.1 ≠ (TX12 b).2.1 := by decide +kernel
theorem tyX12_ok : ∀ k, k < 6 → parseFieldDescriptor (TX12 k).2.2.1 = some (tyX12 k) := by decide +kernel
abbrev cX12_init : ByteArray := prog_10_method_1_code
def yX12_init : MethodName := ⟨RX12, "<init>", "(I)V"⟩
def dkwX12_init_2 : List UInt8 := [3, 4, 79, 177]
abbrev dktX12_init_2 : List UInt8 := dkwX12_init_2 ++ []
def dkwX12_init_1 : List UInt8 := [181, 0, 18, 42, 4, 181, 0, 22, 42, 27, 181, 0, 25, 42, 180, 0, 9, 3, 4, 79, 42, 180, 0, 15]
abbrev dktX12_init_1 : List UInt8 := dkwX12_init_1 ++ dktX12_init_2
def dkwX12_init_0 : List UInt8 := [42, 183, 0, 3, 42, 16, 34, 188, 10, 181, 0, 9, 42, 16, 34, 188, 10, 181, 0, 15, 42, 4]
abbrev dktX12_init_0 : List UInt8 := dkwX12_init_0 ++ dktX12_init_1
theorem dksX12_init_0 : cX12_init.data.toList.drop 0 = dktX12_init_0 := by decide +kernel
theorem dksX12_init_1 : cX12_init.data.toList.drop 22 = dktX12_init_1 := dk_seg dksX12_init_0 22 rfl rfl
theorem dksX12_init_2 : cX12_init.data.toList.drop 46 = dktX12_init_2 := dk_seg dksX12_init_1 24 rfl rfl
theorem dX12_init_0 : decode cX12_init 0 = .ok (.aload_n 0, 1) := dk_42 (dk_at dksX12_init_0 0 rfl rfl)
theorem dX12_init_1 : decode cX12_init 1 = .ok (.invokespecial 3, 3) := dk_183 0 3 (dk_at dksX12_init_0 1 rfl rfl)
theorem dX12_init_4 : decode cX12_init 4 = .ok (.aload_n 0, 1) := dk_42 (dk_at dksX12_init_0 4 rfl rfl)
theorem dX12_init_5 : decode cX12_init 5 = .ok (.bipush 34, 2) := dk_16 34 (dk_at dksX12_init_0 5 rfl rfl)
theorem dX12_init_7 : decode cX12_init 7 = .ok (.newarray .int, 2) := dk_188_10 (dk_at dksX12_init_0 7 rfl rfl)
theorem dX12_init_9 : decode cX12_init 9 = .ok (.putfield 9, 3) := dk_181 0 9 (dk_at dksX12_init_0 9 rfl rfl)
theorem dX12_init_12 : decode cX12_init 12 = .ok (.aload_n 0, 1) := dk_42 (dk_at dksX12_init_0 12 rfl rfl)
theorem dX12_init_13 : decode cX12_init 13 = .ok (.bipush 34, 2) := dk_16 34 (dk_at dksX12_init_0 13 rfl rfl)
theorem dX12_init_15 : decode cX12_init 15 = .ok (.newarray .int, 2) := dk_188_10 (dk_at dksX12_init_0 15 rfl rfl)
theorem dX12_init_17 : decode cX12_init 17 = .ok (.putfield 15, 3) := dk_181 0 15 (dk_at dksX12_init_0 17 rfl rfl)
theorem dX12_init_20 : decode cX12_init 20 = .ok (.aload_n 0, 1) := dk_42 (dk_at dksX12_init_0 20 rfl rfl)
theorem dX12_init_21 : decode cX12_init 21 = .ok (.iconst 1, 1) := dk_4 (dk_at dksX12_init_0 21 rfl rfl)
theorem dX12_init_22 : decode cX12_init 22 = .ok (.putfield 18, 3) := dk_181 0 18 (dk_at dksX12_init_1 0 rfl rfl)
theorem dX12_init_25 : decode cX12_init 25 = .ok (.aload_n 0, 1) := dk_42 (dk_at dksX12_init_1 3 rfl rfl)
theorem dX12_init_26 : decode cX12_init 26 = .ok (.iconst 1, 1) := dk_4 (dk_at dksX12_init_1 4 rfl rfl)
theorem dX12_init_27 : decode cX12_init 27 = .ok (.putfield 22, 3) := dk_181 0 22 (dk_at dksX12_init_1 5 rfl rfl)
theorem dX12_init_30 : decode cX12_init 30 = .ok (.aload_n 0, 1) := dk_42 (dk_at dksX12_init_1 8 rfl rfl)
theorem dX12_init_31 : decode cX12_init 31 = .ok (.iload_n 1, 1) := dk_27 (dk_at dksX12_init_1 9 rfl rfl)
theorem dX12_init_32 : decode cX12_init 32 = .ok (.putfield 25, 3) := dk_181 0 25 (dk_at dksX12_init_1 10 rfl rfl)
theorem dX12_init_35 : decode cX12_init 35 = .ok (.aload_n 0, 1) := dk_42 (dk_at dksX12_init_1 13 rfl rfl)
theorem dX12_init_36 : decode cX12_init 36 = .ok (.getfield 9, 3) := dk_180 0 9 (dk_at dksX12_init_1 14 rfl rfl)
theorem dX12_init_39 : decode cX12_init 39 = .ok (.iconst 0, 1) := dk_3 (dk_at dksX12_init_1 17 rfl rfl)
theorem dX12_init_40 : decode cX12_init 40 = .ok (.iconst 1, 1) := dk_4 (dk_at dksX12_init_1 18 rfl rfl)
theorem dX12_init_41 : decode cX12_init 41 = .ok (.iastore, 1) := dk_79 (dk_at dksX12_init_1 19 rfl rfl)
theorem dX12_init_42 : decode cX12_init 42 = .ok (.aload_n 0, 1) := dk_42 (dk_at dksX12_init_1 20 rfl rfl)
theorem dX12_init_43 : decode cX12_init 43 = .ok (.getfield 15, 3) := dk_180 0 15 (dk_at dksX12_init_1 21 rfl rfl)
theorem dX12_init_46 : decode cX12_init 46 = .ok (.iconst 0, 1) := dk_3 (dk_at dksX12_init_2 0 rfl rfl)
theorem dX12_init_47 : decode cX12_init 47 = .ok (.iconst 1, 1) := dk_4 (dk_at dksX12_init_2 1 rfl rfl)
theorem dX12_init_48 : decode cX12_init 48 = .ok (.iastore, 1) := dk_79 (dk_at dksX12_init_2 2 rfl rfl)
theorem dX12_init_49 : decode cX12_init 49 = .ok (.return_, 1) := dk_177 (dk_at dksX12_init_2 3 rfl rfl)
abbrev cX12_learn : ByteArray := prog_10_method_5_code
def yX12_learn : MethodName := ⟨RX12, "learn", "(LAheadRows$Wheel;I)V"⟩
def dkwX12_learn_4 : List UInt8 := [180, 0, 28, 100, 181, 0, 28, 42, 25, 5, 181, 0, 15, 42, 29, 181, 0, 22, 42, 4, 181, 0, 18, 177]
abbrev dktX12_learn_4 : List UInt8 := dkwX12_learn_4 ++ []
def dkwX12_learn_3 : List UInt8 := [180, 0, 9, 182, 0, 55, 192, 0, 56, 58, 5, 42, 21, 4, 182, 0, 51, 42, 28, 4, 96, 42]
abbrev dktX12_learn_3 : List UInt8 := dkwX12_learn_3 ++ dktX12_learn_4
def dkwX12_learn_2 : List UInt8 := [164, 0, 22, 42, 21, 4, 182, 0, 51, 42, 89, 180, 0, 18, 4, 96, 181, 0, 18, 167, 0, 49, 42]
abbrev dktX12_learn_2 : List UInt8 := dkwX12_learn_2 ++ dktX12_learn_3
def dkwX12_learn_1 : List UInt8 := [29, 154, 0, 16, 42, 89, 180, 0, 18, 4, 96, 181, 0, 18, 167, 0, 78, 5, 42, 180, 0, 28, 104, 28]
abbrev dktX12_learn_1 : List UInt8 := dkwX12_learn_1 ++ dktX12_learn_2
def dkwX12_learn_0 : List UInt8 := [42, 43, 28, 182, 0, 43, 62, 29, 42, 42, 180, 0, 22, 182, 0, 47, 104, 42, 180, 0, 25, 112, 54, 4]
abbrev dktX12_learn_0 : List UInt8 := dkwX12_learn_0 ++ dktX12_learn_1
theorem dksX12_learn_0 : cX12_learn.data.toList.drop 0 = dktX12_learn_0 := by decide +kernel
theorem dksX12_learn_1 : cX12_learn.data.toList.drop 24 = dktX12_learn_1 := dk_seg dksX12_learn_0 24 rfl rfl
theorem dksX12_learn_2 : cX12_learn.data.toList.drop 48 = dktX12_learn_2 := dk_seg dksX12_learn_1 24 rfl rfl
theorem dksX12_learn_3 : cX12_learn.data.toList.drop 71 = dktX12_learn_3 := dk_seg dksX12_learn_2 23 rfl rfl
theorem dksX12_learn_4 : cX12_learn.data.toList.drop 93 = dktX12_learn_4 := dk_seg dksX12_learn_3 22 rfl rfl
theorem dX12_learn_0 : decode cX12_learn 0 = .ok (.aload_n 0, 1) := dk_42 (dk_at dksX12_learn_0 0 rfl rfl)
theorem dX12_learn_1 : decode cX12_learn 1 = .ok (.aload_n 1, 1) := dk_43 (dk_at dksX12_learn_0 1 rfl rfl)
theorem dX12_learn_2 : decode cX12_learn 2 = .ok (.iload_n 2, 1) := dk_28 (dk_at dksX12_learn_0 2 rfl rfl)
theorem dX12_learn_3 : decode cX12_learn 3 = .ok (.invokevirtual 43, 3) := dk_182 0 43 (dk_at dksX12_learn_0 3 rfl rfl)
theorem dX12_learn_6 : decode cX12_learn 6 = .ok (.istore_n 3, 1) := dk_62 (dk_at dksX12_learn_0 6 rfl rfl)
theorem dX12_learn_7 : decode cX12_learn 7 = .ok (.iload_n 3, 1) := dk_29 (dk_at dksX12_learn_0 7 rfl rfl)
theorem dX12_learn_8 : decode cX12_learn 8 = .ok (.aload_n 0, 1) := dk_42 (dk_at dksX12_learn_0 8 rfl rfl)
theorem dX12_learn_9 : decode cX12_learn 9 = .ok (.aload_n 0, 1) := dk_42 (dk_at dksX12_learn_0 9 rfl rfl)
theorem dX12_learn_10 : decode cX12_learn 10 = .ok (.getfield 22, 3) := dk_180 0 22 (dk_at dksX12_learn_0 10 rfl rfl)
theorem dX12_learn_13 : decode cX12_learn 13 = .ok (.invokevirtual 47, 3) := dk_182 0 47 (dk_at dksX12_learn_0 13 rfl rfl)
theorem dX12_learn_16 : decode cX12_learn 16 = .ok (.imul, 1) := dk_104 (dk_at dksX12_learn_0 16 rfl rfl)
theorem dX12_learn_17 : decode cX12_learn 17 = .ok (.aload_n 0, 1) := dk_42 (dk_at dksX12_learn_0 17 rfl rfl)
theorem dX12_learn_18 : decode cX12_learn 18 = .ok (.getfield 25, 3) := dk_180 0 25 (dk_at dksX12_learn_0 18 rfl rfl)
theorem dX12_learn_21 : decode cX12_learn 21 = .ok (.irem, 1) := dk_112 (dk_at dksX12_learn_0 21 rfl rfl)
theorem dX12_learn_22 : decode cX12_learn 22 = .ok (.istore 4, 2) := dk_54 4 (dk_at dksX12_learn_0 22 rfl rfl)
theorem dX12_learn_24 : decode cX12_learn 24 = .ok (.iload_n 3, 1) := dk_29 (dk_at dksX12_learn_1 0 rfl rfl)
theorem dX12_learn_25 : decode cX12_learn 25 = .ok (.ifCond .ne 16, 3) := dk_154 0 16 (dk_at dksX12_learn_1 1 rfl rfl)
theorem dX12_learn_28 : decode cX12_learn 28 = .ok (.aload_n 0, 1) := dk_42 (dk_at dksX12_learn_1 4 rfl rfl)
theorem dX12_learn_29 : decode cX12_learn 29 = .ok (.dup, 1) := dk_89 (dk_at dksX12_learn_1 5 rfl rfl)
theorem dX12_learn_30 : decode cX12_learn 30 = .ok (.getfield 18, 3) := dk_180 0 18 (dk_at dksX12_learn_1 6 rfl rfl)
theorem dX12_learn_33 : decode cX12_learn 33 = .ok (.iconst 1, 1) := dk_4 (dk_at dksX12_learn_1 9 rfl rfl)
theorem dX12_learn_34 : decode cX12_learn 34 = .ok (.iadd, 1) := dk_96 (dk_at dksX12_learn_1 10 rfl rfl)
theorem dX12_learn_35 : decode cX12_learn 35 = .ok (.putfield 18, 3) := dk_181 0 18 (dk_at dksX12_learn_1 11 rfl rfl)
theorem dX12_learn_38 : decode cX12_learn 38 = .ok (.goto 78, 3) := dk_167 0 78 (dk_at dksX12_learn_1 14 rfl rfl)
theorem dX12_learn_41 : decode cX12_learn 41 = .ok (.iconst 2, 1) := dk_5 (dk_at dksX12_learn_1 17 rfl rfl)
theorem dX12_learn_42 : decode cX12_learn 42 = .ok (.aload_n 0, 1) := dk_42 (dk_at dksX12_learn_1 18 rfl rfl)
theorem dX12_learn_43 : decode cX12_learn 43 = .ok (.getfield 28, 3) := dk_180 0 28 (dk_at dksX12_learn_1 19 rfl rfl)
theorem dX12_learn_46 : decode cX12_learn 46 = .ok (.imul, 1) := dk_104 (dk_at dksX12_learn_1 22 rfl rfl)
theorem dX12_learn_47 : decode cX12_learn 47 = .ok (.iload_n 2, 1) := dk_28 (dk_at dksX12_learn_1 23 rfl rfl)
theorem dX12_learn_48 : decode cX12_learn 48 = .ok (.if_icmp .le 22, 3) := dk_164 0 22 (dk_at dksX12_learn_2 0 rfl rfl)
theorem dX12_learn_51 : decode cX12_learn 51 = .ok (.aload_n 0, 1) := dk_42 (dk_at dksX12_learn_2 3 rfl rfl)
theorem dX12_learn_52 : decode cX12_learn 52 = .ok (.iload 4, 2) := dk_21 4 (dk_at dksX12_learn_2 4 rfl rfl)
theorem dX12_learn_54 : decode cX12_learn 54 = .ok (.invokevirtual 51, 3) := dk_182 0 51 (dk_at dksX12_learn_2 6 rfl rfl)
theorem dX12_learn_57 : decode cX12_learn 57 = .ok (.aload_n 0, 1) := dk_42 (dk_at dksX12_learn_2 9 rfl rfl)
theorem dX12_learn_58 : decode cX12_learn 58 = .ok (.dup, 1) := dk_89 (dk_at dksX12_learn_2 10 rfl rfl)
theorem dX12_learn_59 : decode cX12_learn 59 = .ok (.getfield 18, 3) := dk_180 0 18 (dk_at dksX12_learn_2 11 rfl rfl)
theorem dX12_learn_62 : decode cX12_learn 62 = .ok (.iconst 1, 1) := dk_4 (dk_at dksX12_learn_2 14 rfl rfl)
theorem dX12_learn_63 : decode cX12_learn 63 = .ok (.iadd, 1) := dk_96 (dk_at dksX12_learn_2 15 rfl rfl)
theorem dX12_learn_64 : decode cX12_learn 64 = .ok (.putfield 18, 3) := dk_181 0 18 (dk_at dksX12_learn_2 16 rfl rfl)
theorem dX12_learn_67 : decode cX12_learn 67 = .ok (.goto 49, 3) := dk_167 0 49 (dk_at dksX12_learn_2 19 rfl rfl)
theorem dX12_learn_70 : decode cX12_learn 70 = .ok (.aload_n 0, 1) := dk_42 (dk_at dksX12_learn_2 22 rfl rfl)
theorem dX12_learn_71 : decode cX12_learn 71 = .ok (.getfield 9, 3) := dk_180 0 9 (dk_at dksX12_learn_3 0 rfl rfl)
theorem dX12_learn_74 : decode cX12_learn 74 = .ok (.invokevirtual 55, 3) := dk_182 0 55 (dk_at dksX12_learn_3 3 rfl rfl)
theorem dX12_learn_77 : decode cX12_learn 77 = .ok (.checkcast 56, 3) := dk_192 0 56 (dk_at dksX12_learn_3 6 rfl rfl)
theorem dX12_learn_80 : decode cX12_learn 80 = .ok (.astore 5, 2) := dk_58 5 (dk_at dksX12_learn_3 9 rfl rfl)
theorem dX12_learn_82 : decode cX12_learn 82 = .ok (.aload_n 0, 1) := dk_42 (dk_at dksX12_learn_3 11 rfl rfl)
theorem dX12_learn_83 : decode cX12_learn 83 = .ok (.iload 4, 2) := dk_21 4 (dk_at dksX12_learn_3 12 rfl rfl)
theorem dX12_learn_85 : decode cX12_learn 85 = .ok (.invokevirtual 51, 3) := dk_182 0 51 (dk_at dksX12_learn_3 14 rfl rfl)
theorem dX12_learn_88 : decode cX12_learn 88 = .ok (.aload_n 0, 1) := dk_42 (dk_at dksX12_learn_3 17 rfl rfl)
theorem dX12_learn_89 : decode cX12_learn 89 = .ok (.iload_n 2, 1) := dk_28 (dk_at dksX12_learn_3 18 rfl rfl)
theorem dX12_learn_90 : decode cX12_learn 90 = .ok (.iconst 1, 1) := dk_4 (dk_at dksX12_learn_3 19 rfl rfl)
theorem dX12_learn_91 : decode cX12_learn 91 = .ok (.iadd, 1) := dk_96 (dk_at dksX12_learn_3 20 rfl rfl)
theorem dX12_learn_92 : decode cX12_learn 92 = .ok (.aload_n 0, 1) := dk_42 (dk_at dksX12_learn_3 21 rfl rfl)
theorem dX12_learn_93 : decode cX12_learn 93 = .ok (.getfield 28, 3) := dk_180 0 28 (dk_at dksX12_learn_4 0 rfl rfl)
theorem dX12_learn_96 : decode cX12_learn 96 = .ok (.isub, 1) := dk_100 (dk_at dksX12_learn_4 3 rfl rfl)
theorem dX12_learn_97 : decode cX12_learn 97 = .ok (.putfield 28, 3) := dk_181 0 28 (dk_at dksX12_learn_4 4 rfl rfl)
theorem dX12_learn_100 : decode cX12_learn 100 = .ok (.aload_n 0, 1) := dk_42 (dk_at dksX12_learn_4 7 rfl rfl)
theorem dX12_learn_101 : decode cX12_learn 101 = .ok (.aload 5, 2) := dk_25 5 (dk_at dksX12_learn_4 8 rfl rfl)
theorem dX12_learn_103 : decode cX12_learn 103 = .ok (.putfield 15, 3) := dk_181 0 15 (dk_at dksX12_learn_4 10 rfl rfl)
theorem dX12_learn_106 : decode cX12_learn 106 = .ok (.aload_n 0, 1) := dk_42 (dk_at dksX12_learn_4 13 rfl rfl)
theorem dX12_learn_107 : decode cX12_learn 107 = .ok (.iload_n 3, 1) := dk_29 (dk_at dksX12_learn_4 14 rfl rfl)
theorem dX12_learn_108 : decode cX12_learn 108 = .ok (.putfield 22, 3) := dk_181 0 22 (dk_at dksX12_learn_4 15 rfl rfl)
theorem dX12_learn_111 : decode cX12_learn 111 = .ok (.aload_n 0, 1) := dk_42 (dk_at dksX12_learn_4 18 rfl rfl)
theorem dX12_learn_112 : decode cX12_learn 112 = .ok (.iconst 1, 1) := dk_4 (dk_at dksX12_learn_4 19 rfl rfl)
theorem dX12_learn_113 : decode cX12_learn 113 = .ok (.putfield 18, 3) := dk_181 0 18 (dk_at dksX12_learn_4 20 rfl rfl)
theorem dX12_learn_116 : decode cX12_learn 116 = .ok (.return_, 1) := dk_177 (dk_at dksX12_learn_4 23 rfl rfl)
abbrev cX12_missBy : ByteArray := prog_10_method_3_code
def yX12_missBy : MethodName := ⟨RX12, "missBy", "(LAheadRows$Wheel;I)I"⟩
def dkwX12_missBy_1 : List UInt8 := [21, 4, 100, 133, 182, 0, 31, 104, 96, 62, 132, 4, 1, 167, 255, 224, 29, 42, 180, 0, 25, 112, 172]
abbrev dktX12_missBy_1 : List UInt8 := dkwX12_missBy_1 ++ []
def dkwX12_missBy_0 : List UInt8 := [3, 62, 3, 54, 4, 21, 4, 42, 180, 0, 28, 163, 0, 29, 29, 42, 180, 0, 9, 21, 4, 46, 43, 28]
abbrev dktX12_missBy_0 : List UInt8 := dkwX12_missBy_0 ++ dktX12_missBy_1
theorem dksX12_missBy_0 : cX12_missBy.data.toList.drop 0 = dktX12_missBy_0 := by decide +kernel
theorem dksX12_missBy_1 : cX12_missBy.data.toList.drop 24 = dktX12_missBy_1 := dk_seg dksX12_missBy_0 24 rfl rfl
theorem dX12_missBy_0 : decode cX12_missBy 0 = .ok (.iconst 0, 1) := dk_3 (dk_at dksX12_missBy_0 0 rfl rfl)
theorem dX12_missBy_1 : decode cX12_missBy 1 = .ok (.istore_n 3, 1) := dk_62 (dk_at dksX12_missBy_0 1 rfl rfl)
theorem dX12_missBy_2 : decode cX12_missBy 2 = .ok (.iconst 0, 1) := dk_3 (dk_at dksX12_missBy_0 2 rfl rfl)
theorem dX12_missBy_3 : decode cX12_missBy 3 = .ok (.istore 4, 2) := dk_54 4 (dk_at dksX12_missBy_0 3 rfl rfl)
theorem dX12_missBy_5 : decode cX12_missBy 5 = .ok (.iload 4, 2) := dk_21 4 (dk_at dksX12_missBy_0 5 rfl rfl)
theorem dX12_missBy_7 : decode cX12_missBy 7 = .ok (.aload_n 0, 1) := dk_42 (dk_at dksX12_missBy_0 7 rfl rfl)
theorem dX12_missBy_8 : decode cX12_missBy 8 = .ok (.getfield 28, 3) := dk_180 0 28 (dk_at dksX12_missBy_0 8 rfl rfl)
theorem dX12_missBy_11 : decode cX12_missBy 11 = .ok (.if_icmp .gt 29, 3) := dk_163 0 29 (dk_at dksX12_missBy_0 11 rfl rfl)
theorem dX12_missBy_14 : decode cX12_missBy 14 = .ok (.iload_n 3, 1) := dk_29 (dk_at dksX12_missBy_0 14 rfl rfl)
theorem dX12_missBy_15 : decode cX12_missBy 15 = .ok (.aload_n 0, 1) := dk_42 (dk_at dksX12_missBy_0 15 rfl rfl)
theorem dX12_missBy_16 : decode cX12_missBy 16 = .ok (.getfield 9, 3) := dk_180 0 9 (dk_at dksX12_missBy_0 16 rfl rfl)
theorem dX12_missBy_19 : decode cX12_missBy 19 = .ok (.iload 4, 2) := dk_21 4 (dk_at dksX12_missBy_0 19 rfl rfl)
theorem dX12_missBy_21 : decode cX12_missBy 21 = .ok (.iaload, 1) := dk_46 (dk_at dksX12_missBy_0 21 rfl rfl)
theorem dX12_missBy_22 : decode cX12_missBy 22 = .ok (.aload_n 1, 1) := dk_43 (dk_at dksX12_missBy_0 22 rfl rfl)
theorem dX12_missBy_23 : decode cX12_missBy 23 = .ok (.iload_n 2, 1) := dk_28 (dk_at dksX12_missBy_0 23 rfl rfl)
theorem dX12_missBy_24 : decode cX12_missBy 24 = .ok (.iload 4, 2) := dk_21 4 (dk_at dksX12_missBy_1 0 rfl rfl)
theorem dX12_missBy_26 : decode cX12_missBy 26 = .ok (.isub, 1) := dk_100 (dk_at dksX12_missBy_1 2 rfl rfl)
theorem dX12_missBy_27 : decode cX12_missBy 27 = .ok (.i2l, 1) := dk_133 (dk_at dksX12_missBy_1 3 rfl rfl)
theorem dX12_missBy_28 : decode cX12_missBy 28 = .ok (.invokevirtual 31, 3) := dk_182 0 31 (dk_at dksX12_missBy_1 4 rfl rfl)
theorem dX12_missBy_31 : decode cX12_missBy 31 = .ok (.imul, 1) := dk_104 (dk_at dksX12_missBy_1 7 rfl rfl)
theorem dX12_missBy_32 : decode cX12_missBy 32 = .ok (.iadd, 1) := dk_96 (dk_at dksX12_missBy_1 8 rfl rfl)
theorem dX12_missBy_33 : decode cX12_missBy 33 = .ok (.istore_n 3, 1) := dk_62 (dk_at dksX12_missBy_1 9 rfl rfl)
theorem dX12_missBy_34 : decode cX12_missBy 34 = .ok (.iinc 4 1, 3) := dk_132 4 1 (dk_at dksX12_missBy_1 10 rfl rfl)
theorem dX12_missBy_37 : decode cX12_missBy 37 = .ok (.goto (-32), 3) := dk_167 255 224 (dk_at dksX12_missBy_1 13 rfl rfl)
theorem dX12_missBy_40 : decode cX12_missBy 40 = .ok (.iload_n 3, 1) := dk_29 (dk_at dksX12_missBy_1 16 rfl rfl)
theorem dX12_missBy_41 : decode cX12_missBy 41 = .ok (.aload_n 0, 1) := dk_42 (dk_at dksX12_missBy_1 17 rfl rfl)
theorem dX12_missBy_42 : decode cX12_missBy 42 = .ok (.getfield 25, 3) := dk_180 0 25 (dk_at dksX12_missBy_1 18 rfl rfl)
theorem dX12_missBy_45 : decode cX12_missBy 45 = .ok (.irem, 1) := dk_112 (dk_at dksX12_missBy_1 21 rfl rfl)
theorem dX12_missBy_46 : decode cX12_missBy 46 = .ok (.ireturn, 1) := dk_172 (dk_at dksX12_missBy_1 22 rfl rfl)
abbrev cX12_inverse : ByteArray := prog_10_method_2_code
def yX12_inverse : MethodName := ⟨RX12, "inverse", "(I)I"⟩
def dkwX12_inverse_0 : List UInt8 := [4, 61, 28, 27, 104, 42, 180, 0, 25, 112, 4, 159, 0, 9, 132, 2, 1, 167, 255, 241, 28, 172]
abbrev dktX12_inverse_0 : List UInt8 := dkwX12_inverse_0 ++ []
theorem dksX12_inverse_0 : cX12_inverse.data.toList.drop 0 = dktX12_inverse_0 := by decide +kernel
theorem dX12_inverse_0 : decode cX12_inverse 0 = .ok (.iconst 1, 1) := dk_4 (dk_at dksX12_inverse_0 0 rfl rfl)
theorem dX12_inverse_1 : decode cX12_inverse 1 = .ok (.istore_n 2, 1) := dk_61 (dk_at dksX12_inverse_0 1 rfl rfl)
theorem dX12_inverse_2 : decode cX12_inverse 2 = .ok (.iload_n 2, 1) := dk_28 (dk_at dksX12_inverse_0 2 rfl rfl)
theorem dX12_inverse_3 : decode cX12_inverse 3 = .ok (.iload_n 1, 1) := dk_27 (dk_at dksX12_inverse_0 3 rfl rfl)
theorem dX12_inverse_4 : decode cX12_inverse 4 = .ok (.imul, 1) := dk_104 (dk_at dksX12_inverse_0 4 rfl rfl)
theorem dX12_inverse_5 : decode cX12_inverse 5 = .ok (.aload_n 0, 1) := dk_42 (dk_at dksX12_inverse_0 5 rfl rfl)
theorem dX12_inverse_6 : decode cX12_inverse 6 = .ok (.getfield 25, 3) := dk_180 0 25 (dk_at dksX12_inverse_0 6 rfl rfl)
theorem dX12_inverse_9 : decode cX12_inverse 9 = .ok (.irem, 1) := dk_112 (dk_at dksX12_inverse_0 9 rfl rfl)
theorem dX12_inverse_10 : decode cX12_inverse 10 = .ok (.iconst 1, 1) := dk_4 (dk_at dksX12_inverse_0 10 rfl rfl)
theorem dX12_inverse_11 : decode cX12_inverse 11 = .ok (.if_icmp .eq 9, 3) := dk_159 0 9 (dk_at dksX12_inverse_0 11 rfl rfl)
theorem dX12_inverse_14 : decode cX12_inverse 14 = .ok (.iinc 2 1, 3) := dk_132 2 1 (dk_at dksX12_inverse_0 14 rfl rfl)
theorem dX12_inverse_17 : decode cX12_inverse 17 = .ok (.goto (-15), 3) := dk_167 255 241 (dk_at dksX12_inverse_0 17 rfl rfl)
theorem dX12_inverse_20 : decode cX12_inverse 20 = .ok (.iload_n 2, 1) := dk_28 (dk_at dksX12_inverse_0 20 rfl rfl)
theorem dX12_inverse_21 : decode cX12_inverse 21 = .ok (.ireturn, 1) := dk_172 (dk_at dksX12_inverse_0 21 rfl rfl)
abbrev cX12_mend : ByteArray := prog_10_method_4_code
def yX12_mend : MethodName := ⟨RX12, "mend", "(I)V"⟩
def dkwX12_mend_2 : List UInt8 := [42, 180, 0, 25, 184, 0, 37, 79, 132, 2, 1, 167, 255, 201, 177]
abbrev dktX12_mend_2 : List UInt8 := dkwX12_mend_2 ++ []
def dkwX12_mend_1 : List UInt8 := [180, 0, 18, 96, 42, 180, 0, 9, 28, 42, 180, 0, 18, 96, 46, 27, 42, 180, 0, 15, 28, 46, 104, 100]
abbrev dktX12_mend_1 : List UInt8 := dkwX12_mend_1 ++ dktX12_mend_2
def dkwX12_mend_0 : List UInt8 := [3, 61, 28, 42, 180, 0, 18, 96, 42, 180, 0, 9, 190, 162, 0, 47, 42, 180, 0, 9, 28, 42]
abbrev dktX12_mend_0 : List UInt8 := dkwX12_mend_0 ++ dktX12_mend_1
theorem dksX12_mend_0 : cX12_mend.data.toList.drop 0 = dktX12_mend_0 := by decide +kernel
theorem dksX12_mend_1 : cX12_mend.data.toList.drop 22 = dktX12_mend_1 := dk_seg dksX12_mend_0 22 rfl rfl
theorem dksX12_mend_2 : cX12_mend.data.toList.drop 46 = dktX12_mend_2 := dk_seg dksX12_mend_1 24 rfl rfl
theorem dX12_mend_0 : decode cX12_mend 0 = .ok (.iconst 0, 1) := dk_3 (dk_at dksX12_mend_0 0 rfl rfl)
theorem dX12_mend_1 : decode cX12_mend 1 = .ok (.istore_n 2, 1) := dk_61 (dk_at dksX12_mend_0 1 rfl rfl)
theorem dX12_mend_2 : decode cX12_mend 2 = .ok (.iload_n 2, 1) := dk_28 (dk_at dksX12_mend_0 2 rfl rfl)
theorem dX12_mend_3 : decode cX12_mend 3 = .ok (.aload_n 0, 1) := dk_42 (dk_at dksX12_mend_0 3 rfl rfl)
theorem dX12_mend_4 : decode cX12_mend 4 = .ok (.getfield 18, 3) := dk_180 0 18 (dk_at dksX12_mend_0 4 rfl rfl)
theorem dX12_mend_7 : decode cX12_mend 7 = .ok (.iadd, 1) := dk_96 (dk_at dksX12_mend_0 7 rfl rfl)
theorem dX12_mend_8 : decode cX12_mend 8 = .ok (.aload_n 0, 1) := dk_42 (dk_at dksX12_mend_0 8 rfl rfl)
theorem dX12_mend_9 : decode cX12_mend 9 = .ok (.getfield 9, 3) := dk_180 0 9 (dk_at dksX12_mend_0 9 rfl rfl)
theorem dX12_mend_12 : decode cX12_mend 12 = .ok (.arraylength, 1) := dk_190 (dk_at dksX12_mend_0 12 rfl rfl)
theorem dX12_mend_13 : decode cX12_mend 13 = .ok (.if_icmp .ge 47, 3) := dk_162 0 47 (dk_at dksX12_mend_0 13 rfl rfl)
theorem dX12_mend_16 : decode cX12_mend 16 = .ok (.aload_n 0, 1) := dk_42 (dk_at dksX12_mend_0 16 rfl rfl)
theorem dX12_mend_17 : decode cX12_mend 17 = .ok (.getfield 9, 3) := dk_180 0 9 (dk_at dksX12_mend_0 17 rfl rfl)
theorem dX12_mend_20 : decode cX12_mend 20 = .ok (.iload_n 2, 1) := dk_28 (dk_at dksX12_mend_0 20 rfl rfl)
theorem dX12_mend_21 : decode cX12_mend 21 = .ok (.aload_n 0, 1) := dk_42 (dk_at dksX12_mend_0 21 rfl rfl)
theorem dX12_mend_22 : decode cX12_mend 22 = .ok (.getfield 18, 3) := dk_180 0 18 (dk_at dksX12_mend_1 0 rfl rfl)
theorem dX12_mend_25 : decode cX12_mend 25 = .ok (.iadd, 1) := dk_96 (dk_at dksX12_mend_1 3 rfl rfl)
theorem dX12_mend_26 : decode cX12_mend 26 = .ok (.aload_n 0, 1) := dk_42 (dk_at dksX12_mend_1 4 rfl rfl)
theorem dX12_mend_27 : decode cX12_mend 27 = .ok (.getfield 9, 3) := dk_180 0 9 (dk_at dksX12_mend_1 5 rfl rfl)
theorem dX12_mend_30 : decode cX12_mend 30 = .ok (.iload_n 2, 1) := dk_28 (dk_at dksX12_mend_1 8 rfl rfl)
theorem dX12_mend_31 : decode cX12_mend 31 = .ok (.aload_n 0, 1) := dk_42 (dk_at dksX12_mend_1 9 rfl rfl)
theorem dX12_mend_32 : decode cX12_mend 32 = .ok (.getfield 18, 3) := dk_180 0 18 (dk_at dksX12_mend_1 10 rfl rfl)
theorem dX12_mend_35 : decode cX12_mend 35 = .ok (.iadd, 1) := dk_96 (dk_at dksX12_mend_1 13 rfl rfl)
theorem dX12_mend_36 : decode cX12_mend 36 = .ok (.iaload, 1) := dk_46 (dk_at dksX12_mend_1 14 rfl rfl)
theorem dX12_mend_37 : decode cX12_mend 37 = .ok (.iload_n 1, 1) := dk_27 (dk_at dksX12_mend_1 15 rfl rfl)
theorem dX12_mend_38 : decode cX12_mend 38 = .ok (.aload_n 0, 1) := dk_42 (dk_at dksX12_mend_1 16 rfl rfl)
theorem dX12_mend_39 : decode cX12_mend 39 = .ok (.getfield 15, 3) := dk_180 0 15 (dk_at dksX12_mend_1 17 rfl rfl)
theorem dX12_mend_42 : decode cX12_mend 42 = .ok (.iload_n 2, 1) := dk_28 (dk_at dksX12_mend_1 20 rfl rfl)
theorem dX12_mend_43 : decode cX12_mend 43 = .ok (.iaload, 1) := dk_46 (dk_at dksX12_mend_1 21 rfl rfl)
theorem dX12_mend_44 : decode cX12_mend 44 = .ok (.imul, 1) := dk_104 (dk_at dksX12_mend_1 22 rfl rfl)
theorem dX12_mend_45 : decode cX12_mend 45 = .ok (.isub, 1) := dk_100 (dk_at dksX12_mend_1 23 rfl rfl)
theorem dX12_mend_46 : decode cX12_mend 46 = .ok (.aload_n 0, 1) := dk_42 (dk_at dksX12_mend_2 0 rfl rfl)
theorem dX12_mend_47 : decode cX12_mend 47 = .ok (.getfield 25, 3) := dk_180 0 25 (dk_at dksX12_mend_2 1 rfl rfl)
theorem dX12_mend_50 : decode cX12_mend 50 = .ok (.invokestatic 37, 3) := dk_184 0 37 (dk_at dksX12_mend_2 4 rfl rfl)
theorem dX12_mend_53 : decode cX12_mend 53 = .ok (.iastore, 1) := dk_79 (dk_at dksX12_mend_2 7 rfl rfl)
theorem dX12_mend_54 : decode cX12_mend 54 = .ok (.iinc 2 1, 3) := dk_132 2 1 (dk_at dksX12_mend_2 8 rfl rfl)
theorem dX12_mend_57 : decode cX12_mend 57 = .ok (.goto (-55), 3) := dk_167 255 201 (dk_at dksX12_mend_2 11 rfl rfl)
theorem dX12_mend_60 : decode cX12_mend 60 = .ok (.return_, 1) := dk_177 (dk_at dksX12_mend_2 14 rfl rfl)
abbrev cX12_tells : ByteArray := prog_10_method_6_code
def yX12_tells : MethodName := ⟨RX12, "tells", "(I)I"⟩
def dkwX12_tells_2 : List UInt8 := [184, 0, 37, 172]
abbrev dktX12_tells_2 : List UInt8 := dkwX12_tells_2 ++ []
def dkwX12_tells_1 : List UInt8 := [42, 180, 0, 28, 164, 0, 7, 3, 167, 0, 17, 42, 180, 0, 9, 27, 46, 116, 42, 180, 0, 25]
abbrev dktX12_tells_1 : List UInt8 := dkwX12_tells_1 ++ dktX12_tells_2
def dkwX12_tells_0 : List UInt8 := [27, 154, 0, 8, 42, 180, 0, 28, 172, 42, 180, 0, 28, 16, 8, 164, 0, 8, 18, 60, 167, 0, 29, 27]
abbrev dktX12_tells_0 : List UInt8 := dkwX12_tells_0 ++ dktX12_tells_1
theorem dksX12_tells_0 : cX12_tells.data.toList.drop 0 = dktX12_tells_0 := by decide +kernel
theorem dksX12_tells_1 : cX12_tells.data.toList.drop 24 = dktX12_tells_1 := dk_seg dksX12_tells_0 24 rfl rfl
theorem dksX12_tells_2 : cX12_tells.data.toList.drop 46 = dktX12_tells_2 := dk_seg dksX12_tells_1 22 rfl rfl
theorem dX12_tells_0 : decode cX12_tells 0 = .ok (.iload_n 1, 1) := dk_27 (dk_at dksX12_tells_0 0 rfl rfl)
theorem dX12_tells_1 : decode cX12_tells 1 = .ok (.ifCond .ne 8, 3) := dk_154 0 8 (dk_at dksX12_tells_0 1 rfl rfl)
theorem dX12_tells_4 : decode cX12_tells 4 = .ok (.aload_n 0, 1) := dk_42 (dk_at dksX12_tells_0 4 rfl rfl)
theorem dX12_tells_5 : decode cX12_tells 5 = .ok (.getfield 28, 3) := dk_180 0 28 (dk_at dksX12_tells_0 5 rfl rfl)
theorem dX12_tells_8 : decode cX12_tells 8 = .ok (.ireturn, 1) := dk_172 (dk_at dksX12_tells_0 8 rfl rfl)
theorem dX12_tells_9 : decode cX12_tells 9 = .ok (.aload_n 0, 1) := dk_42 (dk_at dksX12_tells_0 9 rfl rfl)
theorem dX12_tells_10 : decode cX12_tells 10 = .ok (.getfield 28, 3) := dk_180 0 28 (dk_at dksX12_tells_0 10 rfl rfl)
theorem dX12_tells_13 : decode cX12_tells 13 = .ok (.bipush 8, 2) := dk_16 8 (dk_at dksX12_tells_0 13 rfl rfl)
theorem dX12_tells_15 : decode cX12_tells 15 = .ok (.if_icmp .le 8, 3) := dk_164 0 8 (dk_at dksX12_tells_0 15 rfl rfl)
theorem dX12_tells_18 : decode cX12_tells 18 = .ok (.ldc 60, 2) := dk_18 60 (dk_at dksX12_tells_0 18 rfl rfl)
theorem dX12_tells_20 : decode cX12_tells 20 = .ok (.goto 29, 3) := dk_167 0 29 (dk_at dksX12_tells_0 20 rfl rfl)
theorem dX12_tells_23 : decode cX12_tells 23 = .ok (.iload_n 1, 1) := dk_27 (dk_at dksX12_tells_0 23 rfl rfl)
theorem dX12_tells_24 : decode cX12_tells 24 = .ok (.aload_n 0, 1) := dk_42 (dk_at dksX12_tells_1 0 rfl rfl)
theorem dX12_tells_25 : decode cX12_tells 25 = .ok (.getfield 28, 3) := dk_180 0 28 (dk_at dksX12_tells_1 1 rfl rfl)
theorem dX12_tells_28 : decode cX12_tells 28 = .ok (.if_icmp .le 7, 3) := dk_164 0 7 (dk_at dksX12_tells_1 4 rfl rfl)
theorem dX12_tells_31 : decode cX12_tells 31 = .ok (.iconst 0, 1) := dk_3 (dk_at dksX12_tells_1 7 rfl rfl)
theorem dX12_tells_32 : decode cX12_tells 32 = .ok (.goto 17, 3) := dk_167 0 17 (dk_at dksX12_tells_1 8 rfl rfl)
theorem dX12_tells_35 : decode cX12_tells 35 = .ok (.aload_n 0, 1) := dk_42 (dk_at dksX12_tells_1 11 rfl rfl)
theorem dX12_tells_36 : decode cX12_tells 36 = .ok (.getfield 9, 3) := dk_180 0 9 (dk_at dksX12_tells_1 12 rfl rfl)
theorem dX12_tells_39 : decode cX12_tells 39 = .ok (.iload_n 1, 1) := dk_27 (dk_at dksX12_tells_1 15 rfl rfl)
theorem dX12_tells_40 : decode cX12_tells 40 = .ok (.iaload, 1) := dk_46 (dk_at dksX12_tells_1 16 rfl rfl)
theorem dX12_tells_41 : decode cX12_tells 41 = .ok (.ineg, 1) := dk_116 (dk_at dksX12_tells_1 17 rfl rfl)
theorem dX12_tells_42 : decode cX12_tells 42 = .ok (.aload_n 0, 1) := dk_42 (dk_at dksX12_tells_1 18 rfl rfl)
theorem dX12_tells_43 : decode cX12_tells 43 = .ok (.getfield 25, 3) := dk_180 0 25 (dk_at dksX12_tells_1 19 rfl rfl)
theorem dX12_tells_46 : decode cX12_tells 46 = .ok (.invokestatic 37, 3) := dk_184 0 37 (dk_at dksX12_tells_2 0 rfl rfl)
theorem dX12_tells_49 : decode cX12_tells 49 = .ok (.ireturn, 1) := dk_172 (dk_at dksX12_tells_2 3 rfl rfl)
theorem q125 : (Jvm.Cond.initialized "AheadRows$Register") ∈ lw_all := lw_g (lw_at lw_m1 29 rfl) rfl
theorem q466 : (Jvm.Cond.selects "AheadRows$Register" ({ cls := "java/lang/Object", name := "getClass", desc := "()Ljava/lang/Class;" } : Jvm.MethodName) ({ cls := "java/lang/Object", name := "getClass", desc := "()Ljava/lang/Class;" } : Jvm.MethodName)) ∈ lw_all := lw_g (lw_at lw_m2 130 rfl) rfl
theorem q860 : (Jvm.Cond.instantiable "AheadRows$Register" (6 : Nat)) ∈ lw_all := lw_g (lw_at lw_m4 44 rfl) rfl
theorem q862 : (Jvm.Cond.instanceMethod ({ cls := "AheadRows$Register", name := "<init>", desc := "(I)V" } : Jvm.MethodName)) ∈ lw_all := lw_g (lw_at lw_m4 46 rfl) rfl
theorem q863 : (Jvm.Cond.code ({ cls := "AheadRows$Register", name := "<init>", desc := "(I)V" } : Jvm.MethodName) prog_10_method_1_code (2 : Nat) (Option.none : Option Jvm.ClassFile.FieldType)) ∈ lw_all := lw_g (lw_at lw_m4 47 rfl) rfl
theorem q864 : (Jvm.Cond.methodLink "AheadRows$Register" (3 : Nat) ({ cls := "java/lang/Object", name := "<init>", desc := "()V" } : Jvm.MethodName)) ∈ lw_all := lw_g (lw_at lw_m4 48 rfl) rfl
theorem q865 : (Jvm.Cond.fieldLink "AheadRows$Register" (25 : Nat) "AheadRows$Register" "p" "I") ∈ lw_all := lw_g (lw_at lw_m4 49 rfl) rfl
theorem q866 : (Jvm.Cond.fieldLink "AheadRows$Register" (9 : Nat) "AheadRows$Register" "now" "[I") ∈ lw_all := lw_g (lw_at lw_m4 50 rfl) rfl
theorem q867 : (Jvm.Cond.fieldLink "AheadRows$Register" (15 : Nat) "AheadRows$Register" "was" "[I") ∈ lw_all := lw_g (lw_at lw_m4 51 rfl) rfl
theorem q868 : (Jvm.Cond.fieldLink "AheadRows$Register" (28 : Nat) "AheadRows$Register" "size" "I") ∈ lw_all := lw_g (lw_at lw_m4 52 rfl) rfl
theorem q869 : (Jvm.Cond.fieldLink "AheadRows$Register" (18 : Nat) "AheadRows$Register" "gap" "I") ∈ lw_all := lw_g (lw_at lw_m4 53 rfl) rfl
theorem q870 : (Jvm.Cond.fieldLink "AheadRows$Register" (22 : Nat) "AheadRows$Register" "miss" "I") ∈ lw_all := lw_g (lw_at lw_m4 54 rfl) rfl
theorem q871 : (Jvm.Cond.laysFinal "AheadRows$Register" "AheadRows$Register" "p" "I") ∈ lw_all := lw_g (lw_at lw_m4 55 rfl) rfl
theorem q872 : (Jvm.Cond.soleField "AheadRows$Register" "p") ∈ lw_all := lw_g (lw_at lw_m4 56 rfl) rfl
theorem q873 : (Jvm.Cond.lays "AheadRows$Register" "AheadRows$Register" "now" "[I") ∈ lw_all := lw_g (lw_at lw_m4 57 rfl) rfl
theorem q874 : (Jvm.Cond.soleField "AheadRows$Register" "now") ∈ lw_all := lw_g (lw_at lw_m4 58 rfl) rfl
theorem q875 : (Jvm.Cond.lays "AheadRows$Register" "AheadRows$Register" "was" "[I") ∈ lw_all := lw_g (lw_at lw_m4 59 rfl) rfl
theorem q876 : (Jvm.Cond.soleField "AheadRows$Register" "was") ∈ lw_all := lw_g (lw_at lw_m4 60 rfl) rfl
theorem q877 : (Jvm.Cond.lays "AheadRows$Register" "AheadRows$Register" "size" "I") ∈ lw_all := lw_g (lw_at lw_m4 61 rfl) rfl
theorem q878 : (Jvm.Cond.soleField "AheadRows$Register" "size") ∈ lw_all := lw_g (lw_at lw_m4 62 rfl) rfl
theorem q879 : (Jvm.Cond.lays "AheadRows$Register" "AheadRows$Register" "gap" "I") ∈ lw_all := lw_g (lw_at lw_m4 63 rfl) rfl
theorem q880 : (Jvm.Cond.soleField "AheadRows$Register" "gap") ∈ lw_all := lw_g (lw_at lw_m4 64 rfl) rfl
theorem q881 : (Jvm.Cond.lays "AheadRows$Register" "AheadRows$Register" "miss" "I") ∈ lw_all := lw_g (lw_at lw_m4 65 rfl) rfl
theorem q882 : (Jvm.Cond.soleField "AheadRows$Register" "miss") ∈ lw_all := lw_g (lw_at lw_m4 66 rfl) rfl
theorem q883 : (Jvm.Cond.superclass "AheadRows$Register" "java/lang/Object") ∈ lw_all := lw_g (lw_at lw_m4 67 rfl) rfl
theorem q885 : (Jvm.Cond.instanceMethod ({ cls := "AheadRows$Register", name := "learn", desc := "(LAheadRows$Wheel;I)V" } : Jvm.MethodName)) ∈ lw_all := lw_g (lw_at lw_m4 69 rfl) rfl
theorem q886 : (Jvm.Cond.selects "AheadRows$Register" ({ cls := "AheadRows$Register", name := "learn", desc := "(LAheadRows$Wheel;I)V" } : Jvm.MethodName) ({ cls := "AheadRows$Register", name := "learn", desc := "(LAheadRows$Wheel;I)V" } : Jvm.MethodName)) ∈ lw_all := lw_g (lw_at lw_m4 70 rfl) rfl
theorem q887 : (Jvm.Cond.code ({ cls := "AheadRows$Register", name := "learn", desc := "(LAheadRows$Wheel;I)V" } : Jvm.MethodName) prog_10_method_5_code (6 : Nat) (Option.none : Option Jvm.ClassFile.FieldType)) ∈ lw_all := lw_g (lw_at lw_m4 71 rfl) rfl
theorem q888 : (Jvm.Cond.methodLink "AheadRows$Register" (43 : Nat) ({ cls := "AheadRows$Register", name := "missBy", desc := "(LAheadRows$Wheel;I)I" } : Jvm.MethodName)) ∈ lw_all := lw_g (lw_at lw_m4 72 rfl) rfl
theorem q889 : (Jvm.Cond.privateMethod ({ cls := "AheadRows$Register", name := "missBy", desc := "(LAheadRows$Wheel;I)I" } : Jvm.MethodName)) ∈ lw_tbl := lw_at lw_m4 73 rfl
theorem q890 : (Jvm.Cond.instanceMethod ({ cls := "AheadRows$Register", name := "missBy", desc := "(LAheadRows$Wheel;I)I" } : Jvm.MethodName)) ∈ lw_all := lw_g (lw_at lw_m4 74 rfl) rfl
theorem q891 : (Jvm.Cond.code ({ cls := "AheadRows$Register", name := "missBy", desc := "(LAheadRows$Wheel;I)I" } : Jvm.MethodName) prog_10_method_3_code (5 : Nat) (Option.some Jvm.ClassFile.FieldType.int)) ∈ lw_all := lw_g (lw_at lw_m4 75 rfl) rfl
theorem q892 : (Jvm.Cond.methodLink "AheadRows$Register" (31 : Nat) ({ cls := "AheadRows$Wheel", name := "at", desc := "(J)I" } : Jvm.MethodName)) ∈ lw_all := lw_g (lw_at lw_m4 76 rfl) rfl
theorem q893 : (Jvm.Cond.methodLink "AheadRows$Register" (47 : Nat) ({ cls := "AheadRows$Register", name := "inverse", desc := "(I)I" } : Jvm.MethodName)) ∈ lw_all := lw_g (lw_at lw_m4 77 rfl) rfl
theorem q894 : (Jvm.Cond.privateMethod ({ cls := "AheadRows$Register", name := "inverse", desc := "(I)I" } : Jvm.MethodName)) ∈ lw_tbl := lw_at lw_m4 78 rfl
theorem q895 : (Jvm.Cond.instanceMethod ({ cls := "AheadRows$Register", name := "inverse", desc := "(I)I" } : Jvm.MethodName)) ∈ lw_all := lw_g (lw_at lw_m4 79 rfl) rfl
theorem q896 : (Jvm.Cond.code ({ cls := "AheadRows$Register", name := "inverse", desc := "(I)I" } : Jvm.MethodName) prog_10_method_2_code (3 : Nat) (Option.some Jvm.ClassFile.FieldType.int)) ∈ lw_all := lw_g (lw_at lw_m4 80 rfl) rfl
theorem q897 : (Jvm.Cond.methodLink "AheadRows$Register" (51 : Nat) ({ cls := "AheadRows$Register", name := "mend", desc := "(I)V" } : Jvm.MethodName)) ∈ lw_all := lw_g (lw_at lw_m4 81 rfl) rfl
theorem q898 : (Jvm.Cond.privateMethod ({ cls := "AheadRows$Register", name := "mend", desc := "(I)V" } : Jvm.MethodName)) ∈ lw_tbl := lw_at lw_m4 82 rfl
theorem q899 : (Jvm.Cond.instanceMethod ({ cls := "AheadRows$Register", name := "mend", desc := "(I)V" } : Jvm.MethodName)) ∈ lw_all := lw_g (lw_at lw_m4 83 rfl) rfl
theorem q900 : (Jvm.Cond.code ({ cls := "AheadRows$Register", name := "mend", desc := "(I)V" } : Jvm.MethodName) prog_10_method_4_code (3 : Nat) (Option.none : Option Jvm.ClassFile.FieldType)) ∈ lw_all := lw_g (lw_at lw_m4 84 rfl) rfl
theorem q901 : (Jvm.Cond.methodLink "AheadRows$Register" (37 : Nat) ({ cls := "java/lang/Math", name := "floorMod", desc := "(II)I" } : Jvm.MethodName)) ∈ lw_all := lw_g (lw_at lw_m4 85 rfl) rfl
theorem q902 : (Jvm.Cond.methodLink "AheadRows$Register" (55 : Nat) ({ cls := "[I", name := "clone", desc := "()Ljava/lang/Object;" } : Jvm.MethodName)) ∈ lw_all := lw_g (lw_at lw_m4 86 rfl) rfl
theorem q908 : (Jvm.Cond.classLink "AheadRows$Register" (56 : Nat) "[I") ∈ lw_all := lw_g (lw_at lw_m4 92 rfl) rfl
theorem q910 : (Jvm.Cond.instanceMethod ({ cls := "AheadRows$Register", name := "tells", desc := "(I)I" } : Jvm.MethodName)) ∈ lw_all := lw_g (lw_at lw_m4 94 rfl) rfl
theorem q911 : (Jvm.Cond.selects "AheadRows$Register" ({ cls := "AheadRows$Register", name := "tells", desc := "(I)I" } : Jvm.MethodName) ({ cls := "AheadRows$Register", name := "tells", desc := "(I)I" } : Jvm.MethodName)) ∈ lw_all := lw_g (lw_at lw_m4 95 rfl) rfl
theorem q912 : (Jvm.Cond.code ({ cls := "AheadRows$Register", name := "tells", desc := "(I)I" } : Jvm.MethodName) prog_10_method_6_code (2 : Nat) (Option.some Jvm.ClassFile.FieldType.int)) ∈ lw_all := lw_g (lw_at lw_m4 96 rfl) rfl
theorem q913 : (Jvm.Cond.constant "AheadRows$Register" (60 : Nat) (2000000001 : Int32)) ∈ lw_all := lw_g (lw_at lw_m4 97 rfl) rfl
theorem q1816 : (Jvm.Cond.castable "AheadRows$Register" "java/lang/Object") ∈ lw_tbl := lw_at lw_m8 40 rfl
theorem in_X12 : ∀ w ∈ wsX120, w ∈ lw_all := lw_in wsX120 [871, 873, 875, 877, 879, 881] (by decide +kernel) (by decide +kernel)
/-! AheadRows$Mix$1 -/
set_option maxRecDepth 100000
def RX13 : String := "AheadRows$Mix$1"
abbrev cX13_of : ByteArray := prog_5_method_2_code
def yX13_of : MethodName := ⟨RX13, "of", "(JJ)J"⟩
def dkwX13_of_0 : List UInt8 := [31, 33, 97, 173]
abbrev dktX13_of_0 : List UInt8 := dkwX13_of_0 ++ []
theorem dksX13_of_0 : cX13_of.data.toList.drop 0 = dktX13_of_0 := by decide +kernel
theorem dX13_of_0 : decode cX13_of 0 = .ok (.lload_n 1, 1) := dk_31 (dk_at dksX13_of_0 0 rfl rfl)
theorem dX13_of_1 : decode cX13_of 1 = .ok (.lload_n 3, 1) := dk_33 (dk_at dksX13_of_0 1 rfl rfl)
theorem dX13_of_2 : decode cX13_of 2 = .ok (.ladd, 1) := dk_97 (dk_at dksX13_of_0 2 rfl rfl)
theorem dX13_of_3 : decode cX13_of 3 = .ok (.lreturn, 1) := dk_173 (dk_at dksX13_of_0 3 rfl rfl)
abbrev cX13_ruleBy : ByteArray := prog_5_method_3_code
def yX13_ruleBy : MethodName := ⟨RX13, "ruleBy", "(LAheadRows$Told;LAheadRows$Told;)[I"⟩
def dkwX13_ruleBy_3 : List UInt8 := [180, 0, 13, 116, 44, 180, 0, 13, 104, 79, 176]
abbrev dktX13_ruleBy_3 : List UInt8 := dkwX13_ruleBy_3 ++ []
def dkwX13_ruleBy_2 : List UInt8 := [180, 0, 7, 116, 44, 180, 0, 13, 104, 43, 180, 0, 13, 44, 180, 0, 7, 104, 100, 79, 89, 7, 43]
abbrev dktX13_ruleBy_2 : List UInt8 := dkwX13_ruleBy_2 ++ dktX13_ruleBy_3
def dkwX13_ruleBy_1 : List UInt8 := [180, 0, 13, 44, 180, 0, 13, 96, 43, 180, 0, 7, 44, 180, 0, 7, 104, 100, 79, 89, 6, 43]
abbrev dktX13_ruleBy_1 : List UInt8 := dkwX13_ruleBy_1 ++ dktX13_ruleBy_2
def dkwX13_ruleBy_0 : List UInt8 := [8, 188, 10, 89, 3, 7, 79, 89, 4, 43, 180, 0, 7, 44, 180, 0, 7, 96, 79, 89, 5, 43]
abbrev dktX13_ruleBy_0 : List UInt8 := dkwX13_ruleBy_0 ++ dktX13_ruleBy_1
theorem dksX13_ruleBy_0 : cX13_ruleBy.data.toList.drop 0 = dktX13_ruleBy_0 := by decide +kernel
theorem dksX13_ruleBy_1 : cX13_ruleBy.data.toList.drop 22 = dktX13_ruleBy_1 := dk_seg dksX13_ruleBy_0 22 rfl rfl
theorem dksX13_ruleBy_2 : cX13_ruleBy.data.toList.drop 44 = dktX13_ruleBy_2 := dk_seg dksX13_ruleBy_1 22 rfl rfl
theorem dksX13_ruleBy_3 : cX13_ruleBy.data.toList.drop 67 = dktX13_ruleBy_3 := dk_seg dksX13_ruleBy_2 23 rfl rfl
theorem dX13_ruleBy_0 : decode cX13_ruleBy 0 = .ok (.iconst 5, 1) := dk_8 (dk_at dksX13_ruleBy_0 0 rfl rfl)
theorem dX13_ruleBy_1 : decode cX13_ruleBy 1 = .ok (.newarray .int, 2) := dk_188_10 (dk_at dksX13_ruleBy_0 1 rfl rfl)
theorem dX13_ruleBy_3 : decode cX13_ruleBy 3 = .ok (.dup, 1) := dk_89 (dk_at dksX13_ruleBy_0 3 rfl rfl)
theorem dX13_ruleBy_4 : decode cX13_ruleBy 4 = .ok (.iconst 0, 1) := dk_3 (dk_at dksX13_ruleBy_0 4 rfl rfl)
theorem dX13_ruleBy_5 : decode cX13_ruleBy 5 = .ok (.iconst 4, 1) := dk_7 (dk_at dksX13_ruleBy_0 5 rfl rfl)
theorem dX13_ruleBy_6 : decode cX13_ruleBy 6 = .ok (.iastore, 1) := dk_79 (dk_at dksX13_ruleBy_0 6 rfl rfl)
theorem dX13_ruleBy_7 : decode cX13_ruleBy 7 = .ok (.dup, 1) := dk_89 (dk_at dksX13_ruleBy_0 7 rfl rfl)
theorem dX13_ruleBy_8 : decode cX13_ruleBy 8 = .ok (.iconst 1, 1) := dk_4 (dk_at dksX13_ruleBy_0 8 rfl rfl)
theorem dX13_ruleBy_9 : decode cX13_ruleBy 9 = .ok (.aload_n 1, 1) := dk_43 (dk_at dksX13_ruleBy_0 9 rfl rfl)
theorem dX13_ruleBy_10 : decode cX13_ruleBy 10 = .ok (.getfield 7, 3) := dk_180 0 7 (dk_at dksX13_ruleBy_0 10 rfl rfl)
theorem dX13_ruleBy_13 : decode cX13_ruleBy 13 = .ok (.aload_n 2, 1) := dk_44 (dk_at dksX13_ruleBy_0 13 rfl rfl)
theorem dX13_ruleBy_14 : decode cX13_ruleBy 14 = .ok (.getfield 7, 3) := dk_180 0 7 (dk_at dksX13_ruleBy_0 14 rfl rfl)
theorem dX13_ruleBy_17 : decode cX13_ruleBy 17 = .ok (.iadd, 1) := dk_96 (dk_at dksX13_ruleBy_0 17 rfl rfl)
theorem dX13_ruleBy_18 : decode cX13_ruleBy 18 = .ok (.iastore, 1) := dk_79 (dk_at dksX13_ruleBy_0 18 rfl rfl)
theorem dX13_ruleBy_19 : decode cX13_ruleBy 19 = .ok (.dup, 1) := dk_89 (dk_at dksX13_ruleBy_0 19 rfl rfl)
theorem dX13_ruleBy_20 : decode cX13_ruleBy 20 = .ok (.iconst 2, 1) := dk_5 (dk_at dksX13_ruleBy_0 20 rfl rfl)
theorem dX13_ruleBy_21 : decode cX13_ruleBy 21 = .ok (.aload_n 1, 1) := dk_43 (dk_at dksX13_ruleBy_0 21 rfl rfl)
theorem dX13_ruleBy_22 : decode cX13_ruleBy 22 = .ok (.getfield 13, 3) := dk_180 0 13 (dk_at dksX13_ruleBy_1 0 rfl rfl)
theorem dX13_ruleBy_25 : decode cX13_ruleBy 25 = .ok (.aload_n 2, 1) := dk_44 (dk_at dksX13_ruleBy_1 3 rfl rfl)
theorem dX13_ruleBy_26 : decode cX13_ruleBy 26 = .ok (.getfield 13, 3) := dk_180 0 13 (dk_at dksX13_ruleBy_1 4 rfl rfl)
theorem dX13_ruleBy_29 : decode cX13_ruleBy 29 = .ok (.iadd, 1) := dk_96 (dk_at dksX13_ruleBy_1 7 rfl rfl)
theorem dX13_ruleBy_30 : decode cX13_ruleBy 30 = .ok (.aload_n 1, 1) := dk_43 (dk_at dksX13_ruleBy_1 8 rfl rfl)
theorem dX13_ruleBy_31 : decode cX13_ruleBy 31 = .ok (.getfield 7, 3) := dk_180 0 7 (dk_at dksX13_ruleBy_1 9 rfl rfl)
theorem dX13_ruleBy_34 : decode cX13_ruleBy 34 = .ok (.aload_n 2, 1) := dk_44 (dk_at dksX13_ruleBy_1 12 rfl rfl)
theorem dX13_ruleBy_35 : decode cX13_ruleBy 35 = .ok (.getfield 7, 3) := dk_180 0 7 (dk_at dksX13_ruleBy_1 13 rfl rfl)
theorem dX13_ruleBy_38 : decode cX13_ruleBy 38 = .ok (.imul, 1) := dk_104 (dk_at dksX13_ruleBy_1 16 rfl rfl)
theorem dX13_ruleBy_39 : decode cX13_ruleBy 39 = .ok (.isub, 1) := dk_100 (dk_at dksX13_ruleBy_1 17 rfl rfl)
theorem dX13_ruleBy_40 : decode cX13_ruleBy 40 = .ok (.iastore, 1) := dk_79 (dk_at dksX13_ruleBy_1 18 rfl rfl)
theorem dX13_ruleBy_41 : decode cX13_ruleBy 41 = .ok (.dup, 1) := dk_89 (dk_at dksX13_ruleBy_1 19 rfl rfl)
theorem dX13_ruleBy_42 : decode cX13_ruleBy 42 = .ok (.iconst 3, 1) := dk_6 (dk_at dksX13_ruleBy_1 20 rfl rfl)
theorem dX13_ruleBy_43 : decode cX13_ruleBy 43 = .ok (.aload_n 1, 1) := dk_43 (dk_at dksX13_ruleBy_1 21 rfl rfl)
theorem dX13_ruleBy_44 : decode cX13_ruleBy 44 = .ok (.getfield 7, 3) := dk_180 0 7 (dk_at dksX13_ruleBy_2 0 rfl rfl)
theorem dX13_ruleBy_47 : decode cX13_ruleBy 47 = .ok (.ineg, 1) := dk_116 (dk_at dksX13_ruleBy_2 3 rfl rfl)
theorem dX13_ruleBy_48 : decode cX13_ruleBy 48 = .ok (.aload_n 2, 1) := dk_44 (dk_at dksX13_ruleBy_2 4 rfl rfl)
theorem dX13_ruleBy_49 : decode cX13_ruleBy 49 = .ok (.getfield 13, 3) := dk_180 0 13 (dk_at dksX13_ruleBy_2 5 rfl rfl)
theorem dX13_ruleBy_52 : decode cX13_ruleBy 52 = .ok (.imul, 1) := dk_104 (dk_at dksX13_ruleBy_2 8 rfl rfl)
theorem dX13_ruleBy_53 : decode cX13_ruleBy 53 = .ok (.aload_n 1, 1) := dk_43 (dk_at dksX13_ruleBy_2 9 rfl rfl)
theorem dX13_ruleBy_54 : decode cX13_ruleBy 54 = .ok (.getfield 13, 3) := dk_180 0 13 (dk_at dksX13_ruleBy_2 10 rfl rfl)
theorem dX13_ruleBy_57 : decode cX13_ruleBy 57 = .ok (.aload_n 2, 1) := dk_44 (dk_at dksX13_ruleBy_2 13 rfl rfl)
theorem dX13_ruleBy_58 : decode cX13_ruleBy 58 = .ok (.getfield 7, 3) := dk_180 0 7 (dk_at dksX13_ruleBy_2 14 rfl rfl)
theorem dX13_ruleBy_61 : decode cX13_ruleBy 61 = .ok (.imul, 1) := dk_104 (dk_at dksX13_ruleBy_2 17 rfl rfl)
theorem dX13_ruleBy_62 : decode cX13_ruleBy 62 = .ok (.isub, 1) := dk_100 (dk_at dksX13_ruleBy_2 18 rfl rfl)
theorem dX13_ruleBy_63 : decode cX13_ruleBy 63 = .ok (.iastore, 1) := dk_79 (dk_at dksX13_ruleBy_2 19 rfl rfl)
theorem dX13_ruleBy_64 : decode cX13_ruleBy 64 = .ok (.dup, 1) := dk_89 (dk_at dksX13_ruleBy_2 20 rfl rfl)
theorem dX13_ruleBy_65 : decode cX13_ruleBy 65 = .ok (.iconst 4, 1) := dk_7 (dk_at dksX13_ruleBy_2 21 rfl rfl)
theorem dX13_ruleBy_66 : decode cX13_ruleBy 66 = .ok (.aload_n 1, 1) := dk_43 (dk_at dksX13_ruleBy_2 22 rfl rfl)
theorem dX13_ruleBy_67 : decode cX13_ruleBy 67 = .ok (.getfield 13, 3) := dk_180 0 13 (dk_at dksX13_ruleBy_3 0 rfl rfl)
theorem dX13_ruleBy_70 : decode cX13_ruleBy 70 = .ok (.ineg, 1) := dk_116 (dk_at dksX13_ruleBy_3 3 rfl rfl)
theorem dX13_ruleBy_71 : decode cX13_ruleBy 71 = .ok (.aload_n 2, 1) := dk_44 (dk_at dksX13_ruleBy_3 4 rfl rfl)
theorem dX13_ruleBy_72 : decode cX13_ruleBy 72 = .ok (.getfield 13, 3) := dk_180 0 13 (dk_at dksX13_ruleBy_3 5 rfl rfl)
theorem dX13_ruleBy_75 : decode cX13_ruleBy 75 = .ok (.imul, 1) := dk_104 (dk_at dksX13_ruleBy_3 8 rfl rfl)
theorem dX13_ruleBy_76 : decode cX13_ruleBy 76 = .ok (.iastore, 1) := dk_79 (dk_at dksX13_ruleBy_3 9 rfl rfl)
theorem dX13_ruleBy_77 : decode cX13_ruleBy 77 = .ok (.areturn, 1) := dk_176 (dk_at dksX13_ruleBy_3 10 rfl rfl)
abbrev cX13_isEasy : ByteArray := prog_5_method_4_code
def yX13_isEasy : MethodName := ⟨RX13, "isEasy", "(LAheadRows$Told;LAheadRows$Told;)Z"⟩
def dkwX13_isEasy_1 : List UInt8 := [167, 0, 4, 3, 172]
abbrev dktX13_isEasy_1 : List UInt8 := dkwX13_isEasy_1 ++ []
def dkwX13_isEasy_0 : List UInt8 := [43, 180, 0, 7, 44, 180, 0, 7, 160, 0, 18, 43, 180, 0, 13, 44, 180, 0, 13, 160, 0, 7, 4]
abbrev dktX13_isEasy_0 : List UInt8 := dkwX13_isEasy_0 ++ dktX13_isEasy_1
theorem dksX13_isEasy_0 : cX13_isEasy.data.toList.drop 0 = dktX13_isEasy_0 := by decide +kernel
theorem dksX13_isEasy_1 : cX13_isEasy.data.toList.drop 23 = dktX13_isEasy_1 := dk_seg dksX13_isEasy_0 23 rfl rfl
theorem dX13_isEasy_0 : decode cX13_isEasy 0 = .ok (.aload_n 1, 1) := dk_43 (dk_at dksX13_isEasy_0 0 rfl rfl)
theorem dX13_isEasy_1 : decode cX13_isEasy 1 = .ok (.getfield 7, 3) := dk_180 0 7 (dk_at dksX13_isEasy_0 1 rfl rfl)
theorem dX13_isEasy_4 : decode cX13_isEasy 4 = .ok (.aload_n 2, 1) := dk_44 (dk_at dksX13_isEasy_0 4 rfl rfl)
theorem dX13_isEasy_5 : decode cX13_isEasy 5 = .ok (.getfield 7, 3) := dk_180 0 7 (dk_at dksX13_isEasy_0 5 rfl rfl)
theorem dX13_isEasy_8 : decode cX13_isEasy 8 = .ok (.if_icmp .ne 18, 3) := dk_160 0 18 (dk_at dksX13_isEasy_0 8 rfl rfl)
theorem dX13_isEasy_11 : decode cX13_isEasy 11 = .ok (.aload_n 1, 1) := dk_43 (dk_at dksX13_isEasy_0 11 rfl rfl)
theorem dX13_isEasy_12 : decode cX13_isEasy 12 = .ok (.getfield 13, 3) := dk_180 0 13 (dk_at dksX13_isEasy_0 12 rfl rfl)
theorem dX13_isEasy_15 : decode cX13_isEasy 15 = .ok (.aload_n 2, 1) := dk_44 (dk_at dksX13_isEasy_0 15 rfl rfl)
theorem dX13_isEasy_16 : decode cX13_isEasy 16 = .ok (.getfield 13, 3) := dk_180 0 13 (dk_at dksX13_isEasy_0 16 rfl rfl)
theorem dX13_isEasy_19 : decode cX13_isEasy 19 = .ok (.if_icmp .ne 7, 3) := dk_160 0 7 (dk_at dksX13_isEasy_0 19 rfl rfl)
theorem dX13_isEasy_22 : decode cX13_isEasy 22 = .ok (.iconst 1, 1) := dk_4 (dk_at dksX13_isEasy_0 22 rfl rfl)
theorem dX13_isEasy_23 : decode cX13_isEasy 23 = .ok (.goto 4, 3) := dk_167 0 4 (dk_at dksX13_isEasy_1 0 rfl rfl)
theorem dX13_isEasy_26 : decode cX13_isEasy 26 = .ok (.iconst 0, 1) := dk_3 (dk_at dksX13_isEasy_1 3 rfl rfl)
theorem dX13_isEasy_27 : decode cX13_isEasy 27 = .ok (.ireturn, 1) := dk_172 (dk_at dksX13_isEasy_1 4 rfl rfl)
abbrev cX13_eased : ByteArray := prog_5_method_5_code
def yX13_eased : MethodName := ⟨RX13, "eased", "(LAheadRows$Told;LAheadRows$Told;)LAheadRows$Told;"⟩
def dkwX13_eased_0 : List UInt8 := [187, 0, 8, 89, 43, 180, 0, 7, 43, 180, 0, 13, 3, 3, 183, 0, 16, 176]
abbrev dktX13_eased_0 : List UInt8 := dkwX13_eased_0 ++ []
theorem dksX13_eased_0 : cX13_eased.data.toList.drop 0 = dktX13_eased_0 := by decide +kernel
theorem dX13_eased_0 : decode cX13_eased 0 = .ok (.new 8, 3) := dk_187 0 8 (dk_at dksX13_eased_0 0 rfl rfl)
theorem dX13_eased_3 : decode cX13_eased 3 = .ok (.dup, 1) := dk_89 (dk_at dksX13_eased_0 3 rfl rfl)
theorem dX13_eased_4 : decode cX13_eased 4 = .ok (.aload_n 1, 1) := dk_43 (dk_at dksX13_eased_0 4 rfl rfl)
theorem dX13_eased_5 : decode cX13_eased 5 = .ok (.getfield 7, 3) := dk_180 0 7 (dk_at dksX13_eased_0 5 rfl rfl)
theorem dX13_eased_8 : decode cX13_eased 8 = .ok (.aload_n 1, 1) := dk_43 (dk_at dksX13_eased_0 8 rfl rfl)
theorem dX13_eased_9 : decode cX13_eased 9 = .ok (.getfield 13, 3) := dk_180 0 13 (dk_at dksX13_eased_0 9 rfl rfl)
theorem dX13_eased_12 : decode cX13_eased 12 = .ok (.iconst 0, 1) := dk_3 (dk_at dksX13_eased_0 12 rfl rfl)
theorem dX13_eased_13 : decode cX13_eased 13 = .ok (.iconst 0, 1) := dk_3 (dk_at dksX13_eased_0 13 rfl rfl)
theorem dX13_eased_14 : decode cX13_eased 14 = .ok (.invokespecial 16, 3) := dk_183 0 16 (dk_at dksX13_eased_0 14 rfl rfl)
theorem dX13_eased_17 : decode cX13_eased 17 = .ok (.areturn, 1) := dk_176 (dk_at dksX13_eased_0 17 rfl rfl)
theorem q326 : (Jvm.Cond.fieldLink "AheadRows$Mix$1" (7 : Nat) "AheadRows$Told" "c" "I") ∈ lw_all := lw_g (lw_at lw_m1 230 rfl) rfl
theorem q331 : (Jvm.Cond.fieldLink "AheadRows$Mix$1" (13 : Nat) "AheadRows$Told" "d" "I") ∈ lw_all := lw_g (lw_at lw_m1 235 rfl) rfl
theorem q462 : (Jvm.Cond.selects "AheadRows$Mix$1" ({ cls := "java/lang/Object", name := "getClass", desc := "()Ljava/lang/Class;" } : Jvm.MethodName) ({ cls := "java/lang/Object", name := "getClass", desc := "()Ljava/lang/Class;" } : Jvm.MethodName)) ∈ lw_all := lw_g (lw_at lw_m2 126 rfl) rfl
theorem q757 : (Jvm.Cond.selects "AheadRows$Mix$1" ({ cls := "AheadRows$Mix", name := "of", desc := "(JJ)J" } : Jvm.MethodName) ({ cls := "AheadRows$Mix$1", name := "of", desc := "(JJ)J" } : Jvm.MethodName)) ∈ lw_all := lw_g (lw_at lw_m3 181 rfl) rfl
theorem q758 : (Jvm.Cond.instanceMethod ({ cls := "AheadRows$Mix$1", name := "of", desc := "(JJ)J" } : Jvm.MethodName)) ∈ lw_all := lw_g (lw_at lw_m3 182 rfl) rfl
theorem q759 : (Jvm.Cond.code ({ cls := "AheadRows$Mix$1", name := "of", desc := "(JJ)J" } : Jvm.MethodName) prog_5_method_2_code (5 : Nat) (Option.some Jvm.ClassFile.FieldType.long)) ∈ lw_all := lw_g (lw_at lw_m3 183 rfl) rfl
theorem q936 : (Jvm.Cond.selects "AheadRows$Mix$1" ({ cls := "AheadRows$Mix", name := "ruleBy", desc := "(LAheadRows$Told;LAheadRows$Told;)[I" } : Jvm.MethodName) ({ cls := "AheadRows$Mix$1", name := "ruleBy", desc := "(LAheadRows$Told;LAheadRows$Told;)[I" } : Jvm.MethodName)) ∈ lw_all := lw_g (lw_at lw_m4 120 rfl) rfl
theorem q937 : (Jvm.Cond.instanceMethod ({ cls := "AheadRows$Mix$1", name := "ruleBy", desc := "(LAheadRows$Told;LAheadRows$Told;)[I" } : Jvm.MethodName)) ∈ lw_all := lw_g (lw_at lw_m4 121 rfl) rfl
theorem q938 : (Jvm.Cond.code ({ cls := "AheadRows$Mix$1", name := "ruleBy", desc := "(LAheadRows$Told;LAheadRows$Told;)[I" } : Jvm.MethodName) prog_5_method_3_code (3 : Nat) (Option.some (Jvm.ClassFile.FieldType.array Jvm.ClassFile.FieldType.int))) ∈ lw_all := lw_g (lw_at lw_m4 122 rfl) rfl
theorem q1102 : (Jvm.Cond.selects "AheadRows$Mix$1" ({ cls := "AheadRows$Mix", name := "isEasy", desc := "(LAheadRows$Told;LAheadRows$Told;)Z" } : Jvm.MethodName) ({ cls := "AheadRows$Mix$1", name := "isEasy", desc := "(LAheadRows$Told;LAheadRows$Told;)Z" } : Jvm.MethodName)) ∈ lw_all := lw_g (lw_at lw_m5 46 rfl) rfl
theorem q1103 : (Jvm.Cond.instanceMethod ({ cls := "AheadRows$Mix$1", name := "isEasy", desc := "(LAheadRows$Told;LAheadRows$Told;)Z" } : Jvm.MethodName)) ∈ lw_all := lw_g (lw_at lw_m5 47 rfl) rfl
theorem q1104 : (Jvm.Cond.code ({ cls := "AheadRows$Mix$1", name := "isEasy", desc := "(LAheadRows$Told;LAheadRows$Told;)Z" } : Jvm.MethodName) prog_5_method_4_code (3 : Nat) (Option.some Jvm.ClassFile.FieldType.boolean)) ∈ lw_all := lw_g (lw_at lw_m5 48 rfl) rfl
theorem q1115 : (Jvm.Cond.selects "AheadRows$Mix$1" ({ cls := "AheadRows$Mix", name := "eased", desc := "(LAheadRows$Told;LAheadRows$Told;)LAheadRows$Told;" } : Jvm.MethodName) ({ cls := "AheadRows$Mix$1", name := "eased", desc := "(LAheadRows$Told;LAheadRows$Told;)LAheadRows$Told;" } : Jvm.MethodName)) ∈ lw_all := lw_g (lw_at lw_m5 59 rfl) rfl
theorem q1116 : (Jvm.Cond.instanceMethod ({ cls := "AheadRows$Mix$1", name := "eased", desc := "(LAheadRows$Told;LAheadRows$Told;)LAheadRows$Told;" } : Jvm.MethodName)) ∈ lw_all := lw_g (lw_at lw_m5 60 rfl) rfl
theorem q1117 : (Jvm.Cond.code ({ cls := "AheadRows$Mix$1", name := "eased", desc := "(LAheadRows$Told;LAheadRows$Told;)LAheadRows$Told;" } : Jvm.MethodName) prog_5_method_5_code (3 : Nat) (Option.some (Jvm.ClassFile.FieldType.object "AheadRows$Told"))) ∈ lw_all := lw_g (lw_at lw_m5 61 rfl) rfl
theorem q1118 : (Jvm.Cond.classLink "AheadRows$Mix$1" (8 : Nat) "AheadRows$Told") ∈ lw_all := lw_g (lw_at lw_m5 62 rfl) rfl
theorem q1119 : (Jvm.Cond.methodLink "AheadRows$Mix$1" (16 : Nat) ({ cls := "AheadRows$Told", name := "<init>", desc := "(IIII)V" } : Jvm.MethodName)) ∈ lw_all := lw_g (lw_at lw_m5 63 rfl) rfl
theorem q1815 : (Jvm.Cond.castable "AheadRows$Mix$1" "java/lang/Object") ∈ lw_tbl := lw_at lw_m8 39 rfl
/-! AheadRows$Mix$2 -/
set_option maxRecDepth 100000
def RX14 : String := "AheadRows$Mix$2"
abbrev cX14_of : ByteArray := prog_6_method_2_code
def yX14_of : MethodName := ⟨RX14, "of", "(JJ)J"⟩
def dkwX14_of_0 : List UInt8 := [31, 33, 105, 173]
abbrev dktX14_of_0 : List UInt8 := dkwX14_of_0 ++ []
theorem dksX14_of_0 : cX14_of.data.toList.drop 0 = dktX14_of_0 := by decide +kernel
theorem dX14_of_0 : decode cX14_of 0 = .ok (.lload_n 1, 1) := dk_31 (dk_at dksX14_of_0 0 rfl rfl)
theorem dX14_of_1 : decode cX14_of 1 = .ok (.lload_n 3, 1) := dk_33 (dk_at dksX14_of_0 1 rfl rfl)
theorem dX14_of_2 : decode cX14_of 2 = .ok (.lmul, 1) := dk_105 (dk_at dksX14_of_0 2 rfl rfl)
theorem dX14_of_3 : decode cX14_of 3 = .ok (.lreturn, 1) := dk_173 (dk_at dksX14_of_0 3 rfl rfl)
abbrev cX14_ruleBy : ByteArray := prog_6_method_3_code
def yX14_ruleBy : MethodName := ⟨RX14, "ruleBy", "(LAheadRows$Told;LAheadRows$Told;)[I"⟩
def dkwX14_ruleBy_4 : List UInt8 := [180, 0, 13, 104, 44, 180, 0, 13, 104, 44, 180, 0, 13, 104, 79, 176]
abbrev dktX14_ruleBy_4 : List UInt8 := dkwX14_ruleBy_4 ++ []
def dkwX14_ruleBy_3 : List UInt8 := [44, 180, 0, 7, 104, 43, 180, 0, 13, 104, 44, 180, 0, 13, 104, 79, 89, 7, 43, 180, 0, 13, 116, 43]
abbrev dktX14_ruleBy_3 : List UInt8 := dkwX14_ruleBy_3 ++ dktX14_ruleBy_4
def dkwX14_ruleBy_2 : List UInt8 := [180, 0, 13, 104, 96, 5, 43, 180, 0, 13, 104, 44, 180, 0, 13, 104, 96, 79, 89, 6, 43, 180, 0, 7]
abbrev dktX14_ruleBy_2 : List UInt8 := dkwX14_ruleBy_2 ++ dktX14_ruleBy_3
def dkwX14_ruleBy_1 : List UInt8 := [180, 0, 7, 43, 180, 0, 7, 104, 44, 180, 0, 13, 104, 44, 180, 0, 7, 44, 180, 0, 7, 104, 43]
abbrev dktX14_ruleBy_1 : List UInt8 := dkwX14_ruleBy_1 ++ dktX14_ruleBy_2
def dkwX14_ruleBy_0 : List UInt8 := [8, 188, 10, 89, 3, 7, 79, 89, 4, 43, 180, 0, 7, 44, 180, 0, 7, 104, 79, 89, 5, 43]
abbrev dktX14_ruleBy_0 : List UInt8 := dkwX14_ruleBy_0 ++ dktX14_ruleBy_1
theorem dksX14_ruleBy_0 : cX14_ruleBy.data.toList.drop 0 = dktX14_ruleBy_0 := by decide +kernel
theorem dksX14_ruleBy_1 : cX14_ruleBy.data.toList.drop 22 = dktX14_ruleBy_1 := dk_seg dksX14_ruleBy_0 22 rfl rfl
theorem dksX14_ruleBy_2 : cX14_ruleBy.data.toList.drop 45 = dktX14_ruleBy_2 := dk_seg dksX14_ruleBy_1 23 rfl rfl
theorem dksX14_ruleBy_3 : cX14_ruleBy.data.toList.drop 69 = dktX14_ruleBy_3 := dk_seg dksX14_ruleBy_2 24 rfl rfl
theorem dksX14_ruleBy_4 : cX14_ruleBy.data.toList.drop 93 = dktX14_ruleBy_4 := dk_seg dksX14_ruleBy_3 24 rfl rfl
theorem dX14_ruleBy_0 : decode cX14_ruleBy 0 = .ok (.iconst 5, 1) := dk_8 (dk_at dksX14_ruleBy_0 0 rfl rfl)
theorem dX14_ruleBy_1 : decode cX14_ruleBy 1 = .ok (.newarray .int, 2) := dk_188_10 (dk_at dksX14_ruleBy_0 1 rfl rfl)
theorem dX14_ruleBy_3 : decode cX14_ruleBy 3 = .ok (.dup, 1) := dk_89 (dk_at dksX14_ruleBy_0 3 rfl rfl)
theorem dX14_ruleBy_4 : decode cX14_ruleBy 4 = .ok (.iconst 0, 1) := dk_3 (dk_at dksX14_ruleBy_0 4 rfl rfl)
theorem dX14_ruleBy_5 : decode cX14_ruleBy 5 = .ok (.iconst 4, 1) := dk_7 (dk_at dksX14_ruleBy_0 5 rfl rfl)
theorem dX14_ruleBy_6 : decode cX14_ruleBy 6 = .ok (.iastore, 1) := dk_79 (dk_at dksX14_ruleBy_0 6 rfl rfl)
theorem dX14_ruleBy_7 : decode cX14_ruleBy 7 = .ok (.dup, 1) := dk_89 (dk_at dksX14_ruleBy_0 7 rfl rfl)
theorem dX14_ruleBy_8 : decode cX14_ruleBy 8 = .ok (.iconst 1, 1) := dk_4 (dk_at dksX14_ruleBy_0 8 rfl rfl)
theorem dX14_ruleBy_9 : decode cX14_ruleBy 9 = .ok (.aload_n 1, 1) := dk_43 (dk_at dksX14_ruleBy_0 9 rfl rfl)
theorem dX14_ruleBy_10 : decode cX14_ruleBy 10 = .ok (.getfield 7, 3) := dk_180 0 7 (dk_at dksX14_ruleBy_0 10 rfl rfl)
theorem dX14_ruleBy_13 : decode cX14_ruleBy 13 = .ok (.aload_n 2, 1) := dk_44 (dk_at dksX14_ruleBy_0 13 rfl rfl)
theorem dX14_ruleBy_14 : decode cX14_ruleBy 14 = .ok (.getfield 7, 3) := dk_180 0 7 (dk_at dksX14_ruleBy_0 14 rfl rfl)
theorem dX14_ruleBy_17 : decode cX14_ruleBy 17 = .ok (.imul, 1) := dk_104 (dk_at dksX14_ruleBy_0 17 rfl rfl)
theorem dX14_ruleBy_18 : decode cX14_ruleBy 18 = .ok (.iastore, 1) := dk_79 (dk_at dksX14_ruleBy_0 18 rfl rfl)
theorem dX14_ruleBy_19 : decode cX14_ruleBy 19 = .ok (.dup, 1) := dk_89 (dk_at dksX14_ruleBy_0 19 rfl rfl)
theorem dX14_ruleBy_20 : decode cX14_ruleBy 20 = .ok (.iconst 2, 1) := dk_5 (dk_at dksX14_ruleBy_0 20 rfl rfl)
theorem dX14_ruleBy_21 : decode cX14_ruleBy 21 = .ok (.aload_n 1, 1) := dk_43 (dk_at dksX14_ruleBy_0 21 rfl rfl)
theorem dX14_ruleBy_22 : decode cX14_ruleBy 22 = .ok (.getfield 7, 3) := dk_180 0 7 (dk_at dksX14_ruleBy_1 0 rfl rfl)
theorem dX14_ruleBy_25 : decode cX14_ruleBy 25 = .ok (.aload_n 1, 1) := dk_43 (dk_at dksX14_ruleBy_1 3 rfl rfl)
theorem dX14_ruleBy_26 : decode cX14_ruleBy 26 = .ok (.getfield 7, 3) := dk_180 0 7 (dk_at dksX14_ruleBy_1 4 rfl rfl)
theorem dX14_ruleBy_29 : decode cX14_ruleBy 29 = .ok (.imul, 1) := dk_104 (dk_at dksX14_ruleBy_1 7 rfl rfl)
theorem dX14_ruleBy_30 : decode cX14_ruleBy 30 = .ok (.aload_n 2, 1) := dk_44 (dk_at dksX14_ruleBy_1 8 rfl rfl)
theorem dX14_ruleBy_31 : decode cX14_ruleBy 31 = .ok (.getfield 13, 3) := dk_180 0 13 (dk_at dksX14_ruleBy_1 9 rfl rfl)
theorem dX14_ruleBy_34 : decode cX14_ruleBy 34 = .ok (.imul, 1) := dk_104 (dk_at dksX14_ruleBy_1 12 rfl rfl)
theorem dX14_ruleBy_35 : decode cX14_ruleBy 35 = .ok (.aload_n 2, 1) := dk_44 (dk_at dksX14_ruleBy_1 13 rfl rfl)
theorem dX14_ruleBy_36 : decode cX14_ruleBy 36 = .ok (.getfield 7, 3) := dk_180 0 7 (dk_at dksX14_ruleBy_1 14 rfl rfl)
theorem dX14_ruleBy_39 : decode cX14_ruleBy 39 = .ok (.aload_n 2, 1) := dk_44 (dk_at dksX14_ruleBy_1 17 rfl rfl)
theorem dX14_ruleBy_40 : decode cX14_ruleBy 40 = .ok (.getfield 7, 3) := dk_180 0 7 (dk_at dksX14_ruleBy_1 18 rfl rfl)
theorem dX14_ruleBy_43 : decode cX14_ruleBy 43 = .ok (.imul, 1) := dk_104 (dk_at dksX14_ruleBy_1 21 rfl rfl)
theorem dX14_ruleBy_44 : decode cX14_ruleBy 44 = .ok (.aload_n 1, 1) := dk_43 (dk_at dksX14_ruleBy_1 22 rfl rfl)
theorem dX14_ruleBy_45 : decode cX14_ruleBy 45 = .ok (.getfield 13, 3) := dk_180 0 13 (dk_at dksX14_ruleBy_2 0 rfl rfl)
theorem dX14_ruleBy_48 : decode cX14_ruleBy 48 = .ok (.imul, 1) := dk_104 (dk_at dksX14_ruleBy_2 3 rfl rfl)
theorem dX14_ruleBy_49 : decode cX14_ruleBy 49 = .ok (.iadd, 1) := dk_96 (dk_at dksX14_ruleBy_2 4 rfl rfl)
theorem dX14_ruleBy_50 : decode cX14_ruleBy 50 = .ok (.iconst 2, 1) := dk_5 (dk_at dksX14_ruleBy_2 5 rfl rfl)
theorem dX14_ruleBy_51 : decode cX14_ruleBy 51 = .ok (.aload_n 1, 1) := dk_43 (dk_at dksX14_ruleBy_2 6 rfl rfl)
theorem dX14_ruleBy_52 : decode cX14_ruleBy 52 = .ok (.getfield 13, 3) := dk_180 0 13 (dk_at dksX14_ruleBy_2 7 rfl rfl)
theorem dX14_ruleBy_55 : decode cX14_ruleBy 55 = .ok (.imul, 1) := dk_104 (dk_at dksX14_ruleBy_2 10 rfl rfl)
theorem dX14_ruleBy_56 : decode cX14_ruleBy 56 = .ok (.aload_n 2, 1) := dk_44 (dk_at dksX14_ruleBy_2 11 rfl rfl)
theorem dX14_ruleBy_57 : decode cX14_ruleBy 57 = .ok (.getfield 13, 3) := dk_180 0 13 (dk_at dksX14_ruleBy_2 12 rfl rfl)
theorem dX14_ruleBy_60 : decode cX14_ruleBy 60 = .ok (.imul, 1) := dk_104 (dk_at dksX14_ruleBy_2 15 rfl rfl)
theorem dX14_ruleBy_61 : decode cX14_ruleBy 61 = .ok (.iadd, 1) := dk_96 (dk_at dksX14_ruleBy_2 16 rfl rfl)
theorem dX14_ruleBy_62 : decode cX14_ruleBy 62 = .ok (.iastore, 1) := dk_79 (dk_at dksX14_ruleBy_2 17 rfl rfl)
theorem dX14_ruleBy_63 : decode cX14_ruleBy 63 = .ok (.dup, 1) := dk_89 (dk_at dksX14_ruleBy_2 18 rfl rfl)
theorem dX14_ruleBy_64 : decode cX14_ruleBy 64 = .ok (.iconst 3, 1) := dk_6 (dk_at dksX14_ruleBy_2 19 rfl rfl)
theorem dX14_ruleBy_65 : decode cX14_ruleBy 65 = .ok (.aload_n 1, 1) := dk_43 (dk_at dksX14_ruleBy_2 20 rfl rfl)
theorem dX14_ruleBy_66 : decode cX14_ruleBy 66 = .ok (.getfield 7, 3) := dk_180 0 7 (dk_at dksX14_ruleBy_2 21 rfl rfl)
theorem dX14_ruleBy_69 : decode cX14_ruleBy 69 = .ok (.aload_n 2, 1) := dk_44 (dk_at dksX14_ruleBy_3 0 rfl rfl)
theorem dX14_ruleBy_70 : decode cX14_ruleBy 70 = .ok (.getfield 7, 3) := dk_180 0 7 (dk_at dksX14_ruleBy_3 1 rfl rfl)
theorem dX14_ruleBy_73 : decode cX14_ruleBy 73 = .ok (.imul, 1) := dk_104 (dk_at dksX14_ruleBy_3 4 rfl rfl)
theorem dX14_ruleBy_74 : decode cX14_ruleBy 74 = .ok (.aload_n 1, 1) := dk_43 (dk_at dksX14_ruleBy_3 5 rfl rfl)
theorem dX14_ruleBy_75 : decode cX14_ruleBy 75 = .ok (.getfield 13, 3) := dk_180 0 13 (dk_at dksX14_ruleBy_3 6 rfl rfl)
theorem dX14_ruleBy_78 : decode cX14_ruleBy 78 = .ok (.imul, 1) := dk_104 (dk_at dksX14_ruleBy_3 9 rfl rfl)
theorem dX14_ruleBy_79 : decode cX14_ruleBy 79 = .ok (.aload_n 2, 1) := dk_44 (dk_at dksX14_ruleBy_3 10 rfl rfl)
theorem dX14_ruleBy_80 : decode cX14_ruleBy 80 = .ok (.getfield 13, 3) := dk_180 0 13 (dk_at dksX14_ruleBy_3 11 rfl rfl)
theorem dX14_ruleBy_83 : decode cX14_ruleBy 83 = .ok (.imul, 1) := dk_104 (dk_at dksX14_ruleBy_3 14 rfl rfl)
theorem dX14_ruleBy_84 : decode cX14_ruleBy 84 = .ok (.iastore, 1) := dk_79 (dk_at dksX14_ruleBy_3 15 rfl rfl)
theorem dX14_ruleBy_85 : decode cX14_ruleBy 85 = .ok (.dup, 1) := dk_89 (dk_at dksX14_ruleBy_3 16 rfl rfl)
theorem dX14_ruleBy_86 : decode cX14_ruleBy 86 = .ok (.iconst 4, 1) := dk_7 (dk_at dksX14_ruleBy_3 17 rfl rfl)
theorem dX14_ruleBy_87 : decode cX14_ruleBy 87 = .ok (.aload_n 1, 1) := dk_43 (dk_at dksX14_ruleBy_3 18 rfl rfl)
theorem dX14_ruleBy_88 : decode cX14_ruleBy 88 = .ok (.getfield 13, 3) := dk_180 0 13 (dk_at dksX14_ruleBy_3 19 rfl rfl)
theorem dX14_ruleBy_91 : decode cX14_ruleBy 91 = .ok (.ineg, 1) := dk_116 (dk_at dksX14_ruleBy_3 22 rfl rfl)
theorem dX14_ruleBy_92 : decode cX14_ruleBy 92 = .ok (.aload_n 1, 1) := dk_43 (dk_at dksX14_ruleBy_3 23 rfl rfl)
theorem dX14_ruleBy_93 : decode cX14_ruleBy 93 = .ok (.getfield 13, 3) := dk_180 0 13 (dk_at dksX14_ruleBy_4 0 rfl rfl)
theorem dX14_ruleBy_96 : decode cX14_ruleBy 96 = .ok (.imul, 1) := dk_104 (dk_at dksX14_ruleBy_4 3 rfl rfl)
theorem dX14_ruleBy_97 : decode cX14_ruleBy 97 = .ok (.aload_n 2, 1) := dk_44 (dk_at dksX14_ruleBy_4 4 rfl rfl)
theorem dX14_ruleBy_98 : decode cX14_ruleBy 98 = .ok (.getfield 13, 3) := dk_180 0 13 (dk_at dksX14_ruleBy_4 5 rfl rfl)
theorem dX14_ruleBy_101 : decode cX14_ruleBy 101 = .ok (.imul, 1) := dk_104 (dk_at dksX14_ruleBy_4 8 rfl rfl)
theorem dX14_ruleBy_102 : decode cX14_ruleBy 102 = .ok (.aload_n 2, 1) := dk_44 (dk_at dksX14_ruleBy_4 9 rfl rfl)
theorem dX14_ruleBy_103 : decode cX14_ruleBy 103 = .ok (.getfield 13, 3) := dk_180 0 13 (dk_at dksX14_ruleBy_4 10 rfl rfl)
theorem dX14_ruleBy_106 : decode cX14_ruleBy 106 = .ok (.imul, 1) := dk_104 (dk_at dksX14_ruleBy_4 13 rfl rfl)
theorem dX14_ruleBy_107 : decode cX14_ruleBy 107 = .ok (.iastore, 1) := dk_79 (dk_at dksX14_ruleBy_4 14 rfl rfl)
theorem dX14_ruleBy_108 : decode cX14_ruleBy 108 = .ok (.areturn, 1) := dk_176 (dk_at dksX14_ruleBy_4 15 rfl rfl)
abbrev cX14_isEasy : ByteArray := prog_6_method_4_code
def yX14_isEasy : MethodName := ⟨RX14, "isEasy", "(LAheadRows$Told;LAheadRows$Told;)Z"⟩
def dkwX14_isEasy_0 : List UInt8 := [43, 182, 0, 16, 154, 0, 10, 44, 182, 0, 16, 153, 0, 7, 4, 167, 0, 4, 3, 172]
abbrev dktX14_isEasy_0 : List UInt8 := dkwX14_isEasy_0 ++ []
theorem dksX14_isEasy_0 : cX14_isEasy.data.toList.drop 0 = dktX14_isEasy_0 := by decide +kernel
theorem dX14_isEasy_0 : decode cX14_isEasy 0 = .ok (.aload_n 1, 1) := dk_43 (dk_at dksX14_isEasy_0 0 rfl rfl)
theorem dX14_isEasy_1 : decode cX14_isEasy 1 = .ok (.invokevirtual 16, 3) := dk_182 0 16 (dk_at dksX14_isEasy_0 1 rfl rfl)
theorem dX14_isEasy_4 : decode cX14_isEasy 4 = .ok (.ifCond .ne 10, 3) := dk_154 0 10 (dk_at dksX14_isEasy_0 4 rfl rfl)
theorem dX14_isEasy_7 : decode cX14_isEasy 7 = .ok (.aload_n 2, 1) := dk_44 (dk_at dksX14_isEasy_0 7 rfl rfl)
theorem dX14_isEasy_8 : decode cX14_isEasy 8 = .ok (.invokevirtual 16, 3) := dk_182 0 16 (dk_at dksX14_isEasy_0 8 rfl rfl)
theorem dX14_isEasy_11 : decode cX14_isEasy 11 = .ok (.ifCond .eq 7, 3) := dk_153 0 7 (dk_at dksX14_isEasy_0 11 rfl rfl)
theorem dX14_isEasy_14 : decode cX14_isEasy 14 = .ok (.iconst 1, 1) := dk_4 (dk_at dksX14_isEasy_0 14 rfl rfl)
theorem dX14_isEasy_15 : decode cX14_isEasy 15 = .ok (.goto 4, 3) := dk_167 0 4 (dk_at dksX14_isEasy_0 15 rfl rfl)
theorem dX14_isEasy_18 : decode cX14_isEasy 18 = .ok (.iconst 0, 1) := dk_3 (dk_at dksX14_isEasy_0 18 rfl rfl)
theorem dX14_isEasy_19 : decode cX14_isEasy 19 = .ok (.ireturn, 1) := dk_172 (dk_at dksX14_isEasy_0 19 rfl rfl)
abbrev cX14_eased : ByteArray := prog_6_method_5_code
def yX14_eased : MethodName := ⟨RX14, "eased", "(LAheadRows$Told;LAheadRows$Told;)LAheadRows$Told;"⟩
def dkwX14_eased_2 : List UInt8 := [180, 0, 7, 104, 25, 4, 180, 0, 13, 104, 3, 3, 183, 0, 20, 176]
abbrev dktX14_eased_2 : List UInt8 := dkwX14_eased_2 ++ []
def dkwX14_eased_1 : List UInt8 := [43, 58, 4, 187, 0, 8, 89, 45, 180, 0, 7, 25, 4, 180, 0, 7, 104, 45, 180, 0, 7, 45]
abbrev dktX14_eased_1 : List UInt8 := dkwX14_eased_1 ++ dktX14_eased_2
def dkwX14_eased_0 : List UInt8 := [43, 182, 0, 16, 153, 0, 7, 43, 167, 0, 4, 44, 78, 43, 182, 0, 16, 153, 0, 7, 44, 167, 0, 4]
abbrev dktX14_eased_0 : List UInt8 := dkwX14_eased_0 ++ dktX14_eased_1
theorem dksX14_eased_0 : cX14_eased.data.toList.drop 0 = dktX14_eased_0 := by decide +kernel
theorem dksX14_eased_1 : cX14_eased.data.toList.drop 24 = dktX14_eased_1 := dk_seg dksX14_eased_0 24 rfl rfl
theorem dksX14_eased_2 : cX14_eased.data.toList.drop 46 = dktX14_eased_2 := dk_seg dksX14_eased_1 22 rfl rfl
theorem dX14_eased_0 : decode cX14_eased 0 = .ok (.aload_n 1, 1) := dk_43 (dk_at dksX14_eased_0 0 rfl rfl)
theorem dX14_eased_1 : decode cX14_eased 1 = .ok (.invokevirtual 16, 3) := dk_182 0 16 (dk_at dksX14_eased_0 1 rfl rfl)
theorem dX14_eased_4 : decode cX14_eased 4 = .ok (.ifCond .eq 7, 3) := dk_153 0 7 (dk_at dksX14_eased_0 4 rfl rfl)
theorem dX14_eased_7 : decode cX14_eased 7 = .ok (.aload_n 1, 1) := dk_43 (dk_at dksX14_eased_0 7 rfl rfl)
theorem dX14_eased_8 : decode cX14_eased 8 = .ok (.goto 4, 3) := dk_167 0 4 (dk_at dksX14_eased_0 8 rfl rfl)
theorem dX14_eased_11 : decode cX14_eased 11 = .ok (.aload_n 2, 1) := dk_44 (dk_at dksX14_eased_0 11 rfl rfl)
theorem dX14_eased_12 : decode cX14_eased 12 = .ok (.astore_n 3, 1) := dk_78 (dk_at dksX14_eased_0 12 rfl rfl)
theorem dX14_eased_13 : decode cX14_eased 13 = .ok (.aload_n 1, 1) := dk_43 (dk_at dksX14_eased_0 13 rfl rfl)
theorem dX14_eased_14 : decode cX14_eased 14 = .ok (.invokevirtual 16, 3) := dk_182 0 16 (dk_at dksX14_eased_0 14 rfl rfl)
theorem dX14_eased_17 : decode cX14_eased 17 = .ok (.ifCond .eq 7, 3) := dk_153 0 7 (dk_at dksX14_eased_0 17 rfl rfl)
theorem dX14_eased_20 : decode cX14_eased 20 = .ok (.aload_n 2, 1) := dk_44 (dk_at dksX14_eased_0 20 rfl rfl)
theorem dX14_eased_21 : decode cX14_eased 21 = .ok (.goto 4, 3) := dk_167 0 4 (dk_at dksX14_eased_0 21 rfl rfl)
theorem dX14_eased_24 : decode cX14_eased 24 = .ok (.aload_n 1, 1) := dk_43 (dk_at dksX14_eased_1 0 rfl rfl)
theorem dX14_eased_25 : decode cX14_eased 25 = .ok (.astore 4, 2) := dk_58 4 (dk_at dksX14_eased_1 1 rfl rfl)
theorem dX14_eased_27 : decode cX14_eased 27 = .ok (.new 8, 3) := dk_187 0 8 (dk_at dksX14_eased_1 3 rfl rfl)
theorem dX14_eased_30 : decode cX14_eased 30 = .ok (.dup, 1) := dk_89 (dk_at dksX14_eased_1 6 rfl rfl)
theorem dX14_eased_31 : decode cX14_eased 31 = .ok (.aload_n 3, 1) := dk_45 (dk_at dksX14_eased_1 7 rfl rfl)
theorem dX14_eased_32 : decode cX14_eased 32 = .ok (.getfield 7, 3) := dk_180 0 7 (dk_at dksX14_eased_1 8 rfl rfl)
theorem dX14_eased_35 : decode cX14_eased 35 = .ok (.aload 4, 2) := dk_25 4 (dk_at dksX14_eased_1 11 rfl rfl)
theorem dX14_eased_37 : decode cX14_eased 37 = .ok (.getfield 7, 3) := dk_180 0 7 (dk_at dksX14_eased_1 13 rfl rfl)
theorem dX14_eased_40 : decode cX14_eased 40 = .ok (.imul, 1) := dk_104 (dk_at dksX14_eased_1 16 rfl rfl)
theorem dX14_eased_41 : decode cX14_eased 41 = .ok (.aload_n 3, 1) := dk_45 (dk_at dksX14_eased_1 17 rfl rfl)
theorem dX14_eased_42 : decode cX14_eased 42 = .ok (.getfield 7, 3) := dk_180 0 7 (dk_at dksX14_eased_1 18 rfl rfl)
theorem dX14_eased_45 : decode cX14_eased 45 = .ok (.aload_n 3, 1) := dk_45 (dk_at dksX14_eased_1 21 rfl rfl)
theorem dX14_eased_46 : decode cX14_eased 46 = .ok (.getfield 7, 3) := dk_180 0 7 (dk_at dksX14_eased_2 0 rfl rfl)
theorem dX14_eased_49 : decode cX14_eased 49 = .ok (.imul, 1) := dk_104 (dk_at dksX14_eased_2 3 rfl rfl)
theorem dX14_eased_50 : decode cX14_eased 50 = .ok (.aload 4, 2) := dk_25 4 (dk_at dksX14_eased_2 4 rfl rfl)
theorem dX14_eased_52 : decode cX14_eased 52 = .ok (.getfield 13, 3) := dk_180 0 13 (dk_at dksX14_eased_2 6 rfl rfl)
theorem dX14_eased_55 : decode cX14_eased 55 = .ok (.imul, 1) := dk_104 (dk_at dksX14_eased_2 9 rfl rfl)
theorem dX14_eased_56 : decode cX14_eased 56 = .ok (.iconst 0, 1) := dk_3 (dk_at dksX14_eased_2 10 rfl rfl)
theorem dX14_eased_57 : decode cX14_eased 57 = .ok (.iconst 0, 1) := dk_3 (dk_at dksX14_eased_2 11 rfl rfl)
theorem dX14_eased_58 : decode cX14_eased 58 = .ok (.invokespecial 20, 3) := dk_183 0 20 (dk_at dksX14_eased_2 12 rfl rfl)
theorem dX14_eased_61 : decode cX14_eased 61 = .ok (.areturn, 1) := dk_176 (dk_at dksX14_eased_2 15 rfl rfl)
theorem q327 : (Jvm.Cond.fieldLink "AheadRows$Mix$2" (7 : Nat) "AheadRows$Told" "c" "I") ∈ lw_all := lw_g (lw_at lw_m1 231 rfl) rfl
theorem q332 : (Jvm.Cond.fieldLink "AheadRows$Mix$2" (13 : Nat) "AheadRows$Told" "d" "I") ∈ lw_all := lw_g (lw_at lw_m1 236 rfl) rfl
theorem q463 : (Jvm.Cond.selects "AheadRows$Mix$2" ({ cls := "java/lang/Object", name := "getClass", desc := "()Ljava/lang/Class;" } : Jvm.MethodName) ({ cls := "java/lang/Object", name := "getClass", desc := "()Ljava/lang/Class;" } : Jvm.MethodName)) ∈ lw_all := lw_g (lw_at lw_m2 127 rfl) rfl
theorem q760 : (Jvm.Cond.selects "AheadRows$Mix$2" ({ cls := "AheadRows$Mix", name := "of", desc := "(JJ)J" } : Jvm.MethodName) ({ cls := "AheadRows$Mix$2", name := "of", desc := "(JJ)J" } : Jvm.MethodName)) ∈ lw_all := lw_g (lw_at lw_m3 184 rfl) rfl
theorem q761 : (Jvm.Cond.instanceMethod ({ cls := "AheadRows$Mix$2", name := "of", desc := "(JJ)J" } : Jvm.MethodName)) ∈ lw_all := lw_g (lw_at lw_m3 185 rfl) rfl
theorem q762 : (Jvm.Cond.code ({ cls := "AheadRows$Mix$2", name := "of", desc := "(JJ)J" } : Jvm.MethodName) prog_6_method_2_code (5 : Nat) (Option.some Jvm.ClassFile.FieldType.long)) ∈ lw_all := lw_g (lw_at lw_m3 186 rfl) rfl
theorem q939 : (Jvm.Cond.selects "AheadRows$Mix$2" ({ cls := "AheadRows$Mix", name := "ruleBy", desc := "(LAheadRows$Told;LAheadRows$Told;)[I" } : Jvm.MethodName) ({ cls := "AheadRows$Mix$2", name := "ruleBy", desc := "(LAheadRows$Told;LAheadRows$Told;)[I" } : Jvm.MethodName)) ∈ lw_all := lw_g (lw_at lw_m4 123 rfl) rfl
theorem q940 : (Jvm.Cond.instanceMethod ({ cls := "AheadRows$Mix$2", name := "ruleBy", desc := "(LAheadRows$Told;LAheadRows$Told;)[I" } : Jvm.MethodName)) ∈ lw_all := lw_g (lw_at lw_m4 124 rfl) rfl
theorem q941 : (Jvm.Cond.code ({ cls := "AheadRows$Mix$2", name := "ruleBy", desc := "(LAheadRows$Told;LAheadRows$Told;)[I" } : Jvm.MethodName) prog_6_method_3_code (3 : Nat) (Option.some (Jvm.ClassFile.FieldType.array Jvm.ClassFile.FieldType.int))) ∈ lw_all := lw_g (lw_at lw_m4 125 rfl) rfl
theorem q1105 : (Jvm.Cond.selects "AheadRows$Mix$2" ({ cls := "AheadRows$Mix", name := "isEasy", desc := "(LAheadRows$Told;LAheadRows$Told;)Z" } : Jvm.MethodName) ({ cls := "AheadRows$Mix$2", name := "isEasy", desc := "(LAheadRows$Told;LAheadRows$Told;)Z" } : Jvm.MethodName)) ∈ lw_all := lw_g (lw_at lw_m5 49 rfl) rfl
theorem q1106 : (Jvm.Cond.instanceMethod ({ cls := "AheadRows$Mix$2", name := "isEasy", desc := "(LAheadRows$Told;LAheadRows$Told;)Z" } : Jvm.MethodName)) ∈ lw_all := lw_g (lw_at lw_m5 50 rfl) rfl
theorem q1107 : (Jvm.Cond.code ({ cls := "AheadRows$Mix$2", name := "isEasy", desc := "(LAheadRows$Told;LAheadRows$Told;)Z" } : Jvm.MethodName) prog_6_method_4_code (3 : Nat) (Option.some Jvm.ClassFile.FieldType.boolean)) ∈ lw_all := lw_g (lw_at lw_m5 51 rfl) rfl
theorem q1108 : (Jvm.Cond.methodLink "AheadRows$Mix$2" (16 : Nat) ({ cls := "AheadRows$Told", name := "isPower", desc := "()Z" } : Jvm.MethodName)) ∈ lw_all := lw_g (lw_at lw_m5 52 rfl) rfl
theorem q1120 : (Jvm.Cond.selects "AheadRows$Mix$2" ({ cls := "AheadRows$Mix", name := "eased", desc := "(LAheadRows$Told;LAheadRows$Told;)LAheadRows$Told;" } : Jvm.MethodName) ({ cls := "AheadRows$Mix$2", name := "eased", desc := "(LAheadRows$Told;LAheadRows$Told;)LAheadRows$Told;" } : Jvm.MethodName)) ∈ lw_all := lw_g (lw_at lw_m5 64 rfl) rfl
theorem q1121 : (Jvm.Cond.instanceMethod ({ cls := "AheadRows$Mix$2", name := "eased", desc := "(LAheadRows$Told;LAheadRows$Told;)LAheadRows$Told;" } : Jvm.MethodName)) ∈ lw_all := lw_g (lw_at lw_m5 65 rfl) rfl
theorem q1122 : (Jvm.Cond.code ({ cls := "AheadRows$Mix$2", name := "eased", desc := "(LAheadRows$Told;LAheadRows$Told;)LAheadRows$Told;" } : Jvm.MethodName) prog_6_method_5_code (5 : Nat) (Option.some (Jvm.ClassFile.FieldType.object "AheadRows$Told"))) ∈ lw_all := lw_g (lw_at lw_m5 66 rfl) rfl
theorem q1123 : (Jvm.Cond.classLink "AheadRows$Mix$2" (8 : Nat) "AheadRows$Told") ∈ lw_all := lw_g (lw_at lw_m5 67 rfl) rfl
theorem q1124 : (Jvm.Cond.methodLink "AheadRows$Mix$2" (20 : Nat) ({ cls := "AheadRows$Told", name := "<init>", desc := "(IIII)V" } : Jvm.MethodName)) ∈ lw_all := lw_g (lw_at lw_m5 68 rfl) rfl
theorem q1814 : (Jvm.Cond.castable "AheadRows$Mix$2" "java/lang/Object") ∈ lw_tbl := lw_at lw_m8 38 rfl
