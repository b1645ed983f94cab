/-! EnergyDiscsModel -/
set_option maxRecDepth 100000
def RX2 : String := "EnergyDiscsModel"
def TX2 : u_T := fun k => match k with
  | 0 => ("EnergyDiscsModel", "s", "[J", true)
  | 1 => ("EnergyDiscsModel", "past", "[J", true)
  | 2 => ("EnergyDiscsModel", "known", "I", false)
  | 3 => ("EnergyDiscsModel", "slots", "[J", true)
  | 4 => ("EnergyDiscsModel", "isSaved", "[Z", true)
  | 5 => ("EnergyDiscsModel", "pad", "[I", true)
  | _ => ("EnergyDiscsModel", "length", "I", false)
def tyX2 : Nat → FieldType := fun k => match k with
  | 0 => .array .long
  | 1 => .array .long
  | 2 => .int
  | 3 => .array .long
  | 4 => .array .boolean
  | 5 => .array .int
  | _ => .int
abbrev wsX20 : List Cond := u_ws RX2 TX2 7
theorem nmX2 : ∀ a, a < 7 → ∀ b, b < 7 → a ≠ b → (TX2 a).2.1 ≠ (TX2 b).2.1 := by decide +kernel
theorem tyX2_ok : ∀ k, k < 7 → parseFieldDescriptor (TX2 k).2.2.1 = some (tyX2 k) := by decide +kernel
abbrev cX2_init : ByteArray := prog_10_method_1_code
def yX2_init : MethodName := ⟨RX2, "<init>", "()V"⟩
def dkwX2_init_4 : List UInt8 := [20, 0, 35, 80, 177]
abbrev dktX2_init_4 : List UInt8 := dkwX2_init_4 ++ []
def dkwX2_init_3 : List UInt8 := [42, 180, 0, 7, 6, 20, 0, 31, 80, 42, 180, 0, 7, 7, 20, 0, 33, 80, 42, 180, 0, 7, 8]
abbrev dktX2_init_3 : List UInt8 := dkwX2_init_3 ++ dktX2_init_4
def dkwX2_init_2 : List UInt8 := [180, 0, 7, 3, 20, 0, 27, 80, 42, 180, 0, 7, 4, 20, 0, 29, 80, 42, 180, 0, 7, 5, 10, 80]
abbrev dktX2_init_2 : List UInt8 := dkwX2_init_2 ++ dktX2_init_3
def dkwX2_init_1 : List UInt8 := [17, 1, 20, 188, 11, 181, 0, 16, 42, 5, 188, 4, 181, 0, 19, 42, 16, 80, 188, 10, 181, 0, 23, 42]
abbrev dktX2_init_1 : List UInt8 := dkwX2_init_1 ++ dktX2_init_2
def dkwX2_init_0 : List UInt8 := [42, 183, 0, 1, 42, 17, 1, 20, 188, 11, 181, 0, 7, 42, 17, 3, 60, 188, 11, 181, 0, 13, 42]
abbrev dktX2_init_0 : List UInt8 := dkwX2_init_0 ++ dktX2_init_1
theorem dksX2_init_0 : cX2_init.data.toList.drop 0 = dktX2_init_0 := by decide +kernel
theorem dksX2_init_1 : cX2_init.data.toList.drop 23 = dktX2_init_1 := dk_seg dksX2_init_0 23 rfl rfl
theorem dksX2_init_2 : cX2_init.data.toList.drop 47 = dktX2_init_2 := dk_seg dksX2_init_1 24 rfl rfl
theorem dksX2_init_3 : cX2_init.data.toList.drop 71 = dktX2_init_3 := dk_seg dksX2_init_2 24 rfl rfl
theorem dksX2_init_4 : cX2_init.data.toList.drop 94 = dktX2_init_4 := dk_seg dksX2_init_3 23 rfl rfl
theorem dX2_init_0 : decode cX2_init 0 = .ok (.aload_n 0, 1) := dk_42 (dk_at dksX2_init_0 0 rfl rfl)
theorem dX2_init_1 : decode cX2_init 1 = .ok (.invokespecial 1, 3) := dk_183 0 1 (dk_at dksX2_init_0 1 rfl rfl)
theorem dX2_init_4 : decode cX2_init 4 = .ok (.aload_n 0, 1) := dk_42 (dk_at dksX2_init_0 4 rfl rfl)
theorem dX2_init_5 : decode cX2_init 5 = .ok (.sipush 276, 3) := dk_17 1 20 (dk_at dksX2_init_0 5 rfl rfl)
theorem dX2_init_8 : decode cX2_init 8 = .ok (.newarray .long, 2) := dk_188_11 (dk_at dksX2_init_0 8 rfl rfl)
theorem dX2_init_10 : decode cX2_init 10 = .ok (.putfield 7, 3) := dk_181 0 7 (dk_at dksX2_init_0 10 rfl rfl)
theorem dX2_init_13 : decode cX2_init 13 = .ok (.aload_n 0, 1) := dk_42 (dk_at dksX2_init_0 13 rfl rfl)
theorem dX2_init_14 : decode cX2_init 14 = .ok (.sipush 828, 3) := dk_17 3 60 (dk_at dksX2_init_0 14 rfl rfl)
theorem dX2_init_17 : decode cX2_init 17 = .ok (.newarray .long, 2) := dk_188_11 (dk_at dksX2_init_0 17 rfl rfl)
theorem dX2_init_19 : decode cX2_init 19 = .ok (.putfield 13, 3) := dk_181 0 13 (dk_at dksX2_init_0 19 rfl rfl)
theorem dX2_init_22 : decode cX2_init 22 = .ok (.aload_n 0, 1) := dk_42 (dk_at dksX2_init_0 22 rfl rfl)
theorem dX2_init_23 : decode cX2_init 23 = .ok (.sipush 276, 3) := dk_17 1 20 (dk_at dksX2_init_1 0 rfl rfl)
theorem dX2_init_26 : decode cX2_init 26 = .ok (.newarray .long, 2) := dk_188_11 (dk_at dksX2_init_1 3 rfl rfl)
theorem dX2_init_28 : decode cX2_init 28 = .ok (.putfield 16, 3) := dk_181 0 16 (dk_at dksX2_init_1 5 rfl rfl)
theorem dX2_init_31 : decode cX2_init 31 = .ok (.aload_n 0, 1) := dk_42 (dk_at dksX2_init_1 8 rfl rfl)
theorem dX2_init_32 : decode cX2_init 32 = .ok (.iconst 2, 1) := dk_5 (dk_at dksX2_init_1 9 rfl rfl)
theorem dX2_init_33 : decode cX2_init 33 = .ok (.newarray .boolean, 2) := dk_188_4 (dk_at dksX2_init_1 10 rfl rfl)
theorem dX2_init_35 : decode cX2_init 35 = .ok (.putfield 19, 3) := dk_181 0 19 (dk_at dksX2_init_1 12 rfl rfl)
theorem dX2_init_38 : decode cX2_init 38 = .ok (.aload_n 0, 1) := dk_42 (dk_at dksX2_init_1 15 rfl rfl)
theorem dX2_init_39 : decode cX2_init 39 = .ok (.bipush 80, 2) := dk_16 80 (dk_at dksX2_init_1 16 rfl rfl)
theorem dX2_init_41 : decode cX2_init 41 = .ok (.newarray .int, 2) := dk_188_10 (dk_at dksX2_init_1 18 rfl rfl)
theorem dX2_init_43 : decode cX2_init 43 = .ok (.putfield 23, 3) := dk_181 0 23 (dk_at dksX2_init_1 20 rfl rfl)
theorem dX2_init_46 : decode cX2_init 46 = .ok (.aload_n 0, 1) := dk_42 (dk_at dksX2_init_1 23 rfl rfl)
theorem dX2_init_47 : decode cX2_init 47 = .ok (.getfield 7, 3) := dk_180 0 7 (dk_at dksX2_init_2 0 rfl rfl)
theorem dX2_init_50 : decode cX2_init 50 = .ok (.iconst 0, 1) := dk_3 (dk_at dksX2_init_2 3 rfl rfl)
theorem dX2_init_51 : decode cX2_init 51 = .ok (.ldc2_w 27, 3) := dk_20 0 27 (dk_at dksX2_init_2 4 rfl rfl)
theorem dX2_init_54 : decode cX2_init 54 = .ok (.lastore, 1) := dk_80 (dk_at dksX2_init_2 7 rfl rfl)
theorem dX2_init_55 : decode cX2_init 55 = .ok (.aload_n 0, 1) := dk_42 (dk_at dksX2_init_2 8 rfl rfl)
theorem dX2_init_56 : decode cX2_init 56 = .ok (.getfield 7, 3) := dk_180 0 7 (dk_at dksX2_init_2 9 rfl rfl)
theorem dX2_init_59 : decode cX2_init 59 = .ok (.iconst 1, 1) := dk_4 (dk_at dksX2_init_2 12 rfl rfl)
theorem dX2_init_60 : decode cX2_init 60 = .ok (.ldc2_w 29, 3) := dk_20 0 29 (dk_at dksX2_init_2 13 rfl rfl)
theorem dX2_init_63 : decode cX2_init 63 = .ok (.lastore, 1) := dk_80 (dk_at dksX2_init_2 16 rfl rfl)
theorem dX2_init_64 : decode cX2_init 64 = .ok (.aload_n 0, 1) := dk_42 (dk_at dksX2_init_2 17 rfl rfl)
theorem dX2_init_65 : decode cX2_init 65 = .ok (.getfield 7, 3) := dk_180 0 7 (dk_at dksX2_init_2 18 rfl rfl)
theorem dX2_init_68 : decode cX2_init 68 = .ok (.iconst 2, 1) := dk_5 (dk_at dksX2_init_2 21 rfl rfl)
theorem dX2_init_69 : decode cX2_init 69 = .ok (.lconst 1, 1) := dk_10 (dk_at dksX2_init_2 22 rfl rfl)
theorem dX2_init_70 : decode cX2_init 70 = .ok (.lastore, 1) := dk_80 (dk_at dksX2_init_2 23 rfl rfl)
theorem dX2_init_71 : decode cX2_init 71 = .ok (.aload_n 0, 1) := dk_42 (dk_at dksX2_init_3 0 rfl rfl)
theorem dX2_init_72 : decode cX2_init 72 = .ok (.getfield 7, 3) := dk_180 0 7 (dk_at dksX2_init_3 1 rfl rfl)
theorem dX2_init_75 : decode cX2_init 75 = .ok (.iconst 3, 1) := dk_6 (dk_at dksX2_init_3 4 rfl rfl)
theorem dX2_init_76 : decode cX2_init 76 = .ok (.ldc2_w 31, 3) := dk_20 0 31 (dk_at dksX2_init_3 5 rfl rfl)
theorem dX2_init_79 : decode cX2_init 79 = .ok (.lastore, 1) := dk_80 (dk_at dksX2_init_3 8 rfl rfl)
theorem dX2_init_80 : decode cX2_init 80 = .ok (.aload_n 0, 1) := dk_42 (dk_at dksX2_init_3 9 rfl rfl)
theorem dX2_init_81 : decode cX2_init 81 = .ok (.getfield 7, 3) := dk_180 0 7 (dk_at dksX2_init_3 10 rfl rfl)
theorem dX2_init_84 : decode cX2_init 84 = .ok (.iconst 4, 1) := dk_7 (dk_at dksX2_init_3 13 rfl rfl)
theorem dX2_init_85 : decode cX2_init 85 = .ok (.ldc2_w 33, 3) := dk_20 0 33 (dk_at dksX2_init_3 14 rfl rfl)
theorem dX2_init_88 : decode cX2_init 88 = .ok (.lastore, 1) := dk_80 (dk_at dksX2_init_3 17 rfl rfl)
theorem dX2_init_89 : decode cX2_init 89 = .ok (.aload_n 0, 1) := dk_42 (dk_at dksX2_init_3 18 rfl rfl)
theorem dX2_init_90 : decode cX2_init 90 = .ok (.getfield 7, 3) := dk_180 0 7 (dk_at dksX2_init_3 19 rfl rfl)
theorem dX2_init_93 : decode cX2_init 93 = .ok (.iconst 5, 1) := dk_8 (dk_at dksX2_init_3 22 rfl rfl)
theorem dX2_init_94 : decode cX2_init 94 = .ok (.ldc2_w 35, 3) := dk_20 0 35 (dk_at dksX2_init_4 0 rfl rfl)
theorem dX2_init_97 : decode cX2_init 97 = .ok (.lastore, 1) := dk_80 (dk_at dksX2_init_4 3 rfl rfl)
theorem dX2_init_98 : decode cX2_init 98 = .ok (.return_, 1) := dk_177 (dk_at dksX2_init_4 4 rfl rfl)
abbrev cX2_set : ByteArray := prog_10_method_18_code
def yX2_set : MethodName := ⟨RX2, "set", "(II)I"⟩
def dkwX2_set_1 : List UInt8 := [16, 254, 172, 42, 182, 0, 92, 42, 27, 182, 0, 37, 62, 42, 180, 0, 7, 27, 28, 133, 80, 29, 172]
abbrev dktX2_set_1 : List UInt8 := dkwX2_set_1 ++ []
def dkwX2_set_0 : List UInt8 := [27, 3, 8, 184, 0, 41, 153, 0, 18, 28, 27, 184, 0, 86, 27, 184, 0, 89, 184, 0, 41, 154, 0, 6]
abbrev dktX2_set_0 : List UInt8 := dkwX2_set_0 ++ dktX2_set_1
theorem dksX2_set_0 : cX2_set.data.toList.drop 0 = dktX2_set_0 := by decide +kernel
theorem dksX2_set_1 : cX2_set.data.toList.drop 24 = dktX2_set_1 := dk_seg dksX2_set_0 24 rfl rfl
theorem dX2_set_0 : decode cX2_set 0 = .ok (.iload_n 1, 1) := dk_27 (dk_at dksX2_set_0 0 rfl rfl)
theorem dX2_set_1 : decode cX2_set 1 = .ok (.iconst 0, 1) := dk_3 (dk_at dksX2_set_0 1 rfl rfl)
theorem dX2_set_2 : decode cX2_set 2 = .ok (.iconst 5, 1) := dk_8 (dk_at dksX2_set_0 2 rfl rfl)
theorem dX2_set_3 : decode cX2_set 3 = .ok (.invokestatic 41, 3) := dk_184 0 41 (dk_at dksX2_set_0 3 rfl rfl)
theorem dX2_set_6 : decode cX2_set 6 = .ok (.ifCond .eq 18, 3) := dk_153 0 18 (dk_at dksX2_set_0 6 rfl rfl)
theorem dX2_set_9 : decode cX2_set 9 = .ok (.iload_n 2, 1) := dk_28 (dk_at dksX2_set_0 9 rfl rfl)
theorem dX2_set_10 : decode cX2_set 10 = .ok (.iload_n 1, 1) := dk_27 (dk_at dksX2_set_0 10 rfl rfl)
theorem dX2_set_11 : decode cX2_set 11 = .ok (.invokestatic 86, 3) := dk_184 0 86 (dk_at dksX2_set_0 11 rfl rfl)
theorem dX2_set_14 : decode cX2_set 14 = .ok (.iload_n 1, 1) := dk_27 (dk_at dksX2_set_0 14 rfl rfl)
theorem dX2_set_15 : decode cX2_set 15 = .ok (.invokestatic 89, 3) := dk_184 0 89 (dk_at dksX2_set_0 15 rfl rfl)
theorem dX2_set_18 : decode cX2_set 18 = .ok (.invokestatic 41, 3) := dk_184 0 41 (dk_at dksX2_set_0 18 rfl rfl)
theorem dX2_set_21 : decode cX2_set 21 = .ok (.ifCond .ne 6, 3) := dk_154 0 6 (dk_at dksX2_set_0 21 rfl rfl)
theorem dX2_set_24 : decode cX2_set 24 = .ok (.bipush (-2), 2) := dk_16 254 (dk_at dksX2_set_1 0 rfl rfl)
theorem dX2_set_26 : decode cX2_set 26 = .ok (.ireturn, 1) := dk_172 (dk_at dksX2_set_1 2 rfl rfl)
theorem dX2_set_27 : decode cX2_set 27 = .ok (.aload_n 0, 1) := dk_42 (dk_at dksX2_set_1 3 rfl rfl)
theorem dX2_set_28 : decode cX2_set 28 = .ok (.invokevirtual 92, 3) := dk_182 0 92 (dk_at dksX2_set_1 4 rfl rfl)
theorem dX2_set_31 : decode cX2_set 31 = .ok (.aload_n 0, 1) := dk_42 (dk_at dksX2_set_1 7 rfl rfl)
theorem dX2_set_32 : decode cX2_set 32 = .ok (.iload_n 1, 1) := dk_27 (dk_at dksX2_set_1 8 rfl rfl)
theorem dX2_set_33 : decode cX2_set 33 = .ok (.invokevirtual 37, 3) := dk_182 0 37 (dk_at dksX2_set_1 9 rfl rfl)
theorem dX2_set_36 : decode cX2_set 36 = .ok (.istore_n 3, 1) := dk_62 (dk_at dksX2_set_1 12 rfl rfl)
theorem dX2_set_37 : decode cX2_set 37 = .ok (.aload_n 0, 1) := dk_42 (dk_at dksX2_set_1 13 rfl rfl)
theorem dX2_set_38 : decode cX2_set 38 = .ok (.getfield 7, 3) := dk_180 0 7 (dk_at dksX2_set_1 14 rfl rfl)
theorem dX2_set_41 : decode cX2_set 41 = .ok (.iload_n 1, 1) := dk_27 (dk_at dksX2_set_1 17 rfl rfl)
theorem dX2_set_42 : decode cX2_set 42 = .ok (.iload_n 2, 1) := dk_28 (dk_at dksX2_set_1 18 rfl rfl)
theorem dX2_set_43 : decode cX2_set 43 = .ok (.i2l, 1) := dk_133 (dk_at dksX2_set_1 19 rfl rfl)
theorem dX2_set_44 : decode cX2_set 44 = .ok (.lastore, 1) := dk_80 (dk_at dksX2_set_1 20 rfl rfl)
theorem dX2_set_45 : decode cX2_set 45 = .ok (.iload_n 3, 1) := dk_29 (dk_at dksX2_set_1 21 rfl rfl)
theorem dX2_set_46 : decode cX2_set 46 = .ok (.ireturn, 1) := dk_172 (dk_at dksX2_set_1 22 rfl rfl)
abbrev cX2_in : ByteArray := prog_10_method_3_code
def yX2_in : MethodName := ⟨RX2, "in", "(III)Z"⟩
def dkwX2_in_0 : List UInt8 := [26, 27, 161, 0, 12, 26, 28, 163, 0, 7, 4, 167, 0, 4, 3, 172]
abbrev dktX2_in_0 : List UInt8 := dkwX2_in_0 ++ []
theorem dksX2_in_0 : cX2_in.data.toList.drop 0 = dktX2_in_0 := by decide +kernel
theorem dX2_in_0 : decode cX2_in 0 = .ok (.iload_n 0, 1) := dk_26 (dk_at dksX2_in_0 0 rfl rfl)
theorem dX2_in_1 : decode cX2_in 1 = .ok (.iload_n 1, 1) := dk_27 (dk_at dksX2_in_0 1 rfl rfl)
theorem dX2_in_2 : decode cX2_in 2 = .ok (.if_icmp .lt 12, 3) := dk_161 0 12 (dk_at dksX2_in_0 2 rfl rfl)
theorem dX2_in_5 : decode cX2_in 5 = .ok (.iload_n 0, 1) := dk_26 (dk_at dksX2_in_0 5 rfl rfl)
theorem dX2_in_6 : decode cX2_in 6 = .ok (.iload_n 2, 1) := dk_28 (dk_at dksX2_in_0 6 rfl rfl)
theorem dX2_in_7 : decode cX2_in 7 = .ok (.if_icmp .gt 7, 3) := dk_163 0 7 (dk_at dksX2_in_0 7 rfl rfl)
theorem dX2_in_10 : decode cX2_in 10 = .ok (.iconst 1, 1) := dk_4 (dk_at dksX2_in_0 10 rfl rfl)
theorem dX2_in_11 : decode cX2_in 11 = .ok (.goto 4, 3) := dk_167 0 4 (dk_at dksX2_in_0 11 rfl rfl)
theorem dX2_in_14 : decode cX2_in 14 = .ok (.iconst 0, 1) := dk_3 (dk_at dksX2_in_0 14 rfl rfl)
theorem dX2_in_15 : decode cX2_in 15 = .ok (.ireturn, 1) := dk_172 (dk_at dksX2_in_0 15 rfl rfl)
abbrev cX2_lowOf : ByteArray := prog_10_method_16_code
def yX2_lowOf : MethodName := ⟨RX2, "lowOf", "(I)I"⟩
def dkwX2_lowOf_0 : List UInt8 := [26, 6, 160, 0, 8, 16, 100, 167, 0, 4, 3, 172]
abbrev dktX2_lowOf_0 : List UInt8 := dkwX2_lowOf_0 ++ []
theorem dksX2_lowOf_0 : cX2_lowOf.data.toList.drop 0 = dktX2_lowOf_0 := by decide +kernel
theorem dX2_lowOf_0 : decode cX2_lowOf 0 = .ok (.iload_n 0, 1) := dk_26 (dk_at dksX2_lowOf_0 0 rfl rfl)
theorem dX2_lowOf_1 : decode cX2_lowOf 1 = .ok (.iconst 3, 1) := dk_6 (dk_at dksX2_lowOf_0 1 rfl rfl)
theorem dX2_lowOf_2 : decode cX2_lowOf 2 = .ok (.if_icmp .ne 8, 3) := dk_160 0 8 (dk_at dksX2_lowOf_0 2 rfl rfl)
theorem dX2_lowOf_5 : decode cX2_lowOf 5 = .ok (.bipush 100, 2) := dk_16 100 (dk_at dksX2_lowOf_0 5 rfl rfl)
theorem dX2_lowOf_7 : decode cX2_lowOf 7 = .ok (.goto 4, 3) := dk_167 0 4 (dk_at dksX2_lowOf_0 7 rfl rfl)
theorem dX2_lowOf_10 : decode cX2_lowOf 10 = .ok (.iconst 0, 1) := dk_3 (dk_at dksX2_lowOf_0 10 rfl rfl)
theorem dX2_lowOf_11 : decode cX2_lowOf 11 = .ok (.ireturn, 1) := dk_172 (dk_at dksX2_lowOf_0 11 rfl rfl)
abbrev cX2_highOf : ByteArray := prog_10_method_17_code
def yX2_highOf : MethodName := ⟨RX2, "highOf", "(I)I"⟩
def dkwX2_highOf_2 : List UInt8 := [16, 9, 172, 4, 172, 17, 19, 136, 172, 16, 99, 172]
abbrev dktX2_highOf_2 : List UInt8 := dkwX2_highOf_2 ++ []
def dkwX2_highOf_1 : List UInt8 := [170, 0, 0, 0, 0, 0, 36, 0, 0, 0, 1, 0, 0, 0, 3, 0, 0, 0, 27, 0, 0, 0, 30, 0, 0, 0, 32]
abbrev dktX2_highOf_1 : List UInt8 := dkwX2_highOf_1 ++ dktX2_highOf_2
def dkwX2_highOf_0 : List UInt8 := [26]
abbrev dktX2_highOf_0 : List UInt8 := dkwX2_highOf_0 ++ dktX2_highOf_1
theorem dksX2_highOf_0 : cX2_highOf.data.toList.drop 0 = dktX2_highOf_0 := by decide +kernel
theorem dksX2_highOf_1 : cX2_highOf.data.toList.drop 1 = dktX2_highOf_1 := dk_seg dksX2_highOf_0 1 rfl rfl
theorem dksX2_highOf_2 : cX2_highOf.data.toList.drop 28 = dktX2_highOf_2 := dk_seg dksX2_highOf_1 27 rfl rfl
theorem dX2_highOf_0 : decode cX2_highOf 0 = .ok (.iload_n 0, 1) := dk_26 (dk_at dksX2_highOf_0 0 rfl rfl)
theorem dX2_highOf_1 : decode cX2_highOf 1 = .ok (.tableswitch 36 1 3 #[27, 30, 32], 27) := by decide +kernel
theorem dX2_highOf_28 : decode cX2_highOf 28 = .ok (.bipush 9, 2) := dk_16 9 (dk_at dksX2_highOf_2 0 rfl rfl)
theorem dX2_highOf_30 : decode cX2_highOf 30 = .ok (.ireturn, 1) := dk_172 (dk_at dksX2_highOf_2 2 rfl rfl)
theorem dX2_highOf_31 : decode cX2_highOf 31 = .ok (.iconst 1, 1) := dk_4 (dk_at dksX2_highOf_2 3 rfl rfl)
theorem dX2_highOf_32 : decode cX2_highOf 32 = .ok (.ireturn, 1) := dk_172 (dk_at dksX2_highOf_2 4 rfl rfl)
theorem dX2_highOf_33 : decode cX2_highOf 33 = .ok (.sipush 5000, 3) := dk_17 19 136 (dk_at dksX2_highOf_2 5 rfl rfl)
theorem dX2_highOf_36 : decode cX2_highOf 36 = .ok (.ireturn, 1) := dk_172 (dk_at dksX2_highOf_2 8 rfl rfl)
theorem dX2_highOf_37 : decode cX2_highOf 37 = .ok (.bipush 99, 2) := dk_16 99 (dk_at dksX2_highOf_2 9 rfl rfl)
theorem dX2_highOf_39 : decode cX2_highOf 39 = .ok (.ireturn, 1) := dk_172 (dk_at dksX2_highOf_2 11 rfl rfl)
abbrev cX2_remembers : ByteArray := prog_10_method_8_code
def yX2_remembers : MethodName := ⟨RX2, "remembers", "()V"⟩
def dkwX2_remembers_4 : List UInt8 := [181, 0, 49, 177]
abbrev dktX2_remembers_4 : List UInt8 := dkwX2_remembers_4 ++ []
def dkwX2_remembers_3 : List UInt8 := [27, 96, 42, 180, 0, 7, 27, 47, 80, 132, 1, 1, 167, 255, 225, 42, 89, 180, 0, 49, 4, 96]
abbrev dktX2_remembers_3 : List UInt8 := dkwX2_remembers_3 ++ dktX2_remembers_4
def dkwX2_remembers_2 : List UInt8 := [181, 0, 49, 3, 60, 27, 17, 0, 138, 162, 0, 30, 42, 180, 0, 13, 17, 0, 138, 42, 180, 0, 49, 104]
abbrev dktX2_remembers_2 : List UInt8 := dkwX2_remembers_2 ++ dktX2_remembers_3
def dkwX2_remembers_1 : List UInt8 := [180, 0, 13, 17, 0, 138, 27, 96, 47, 80, 132, 1, 1, 167, 255, 230, 42, 89, 180, 0, 49, 4, 100]
abbrev dktX2_remembers_1 : List UInt8 := dkwX2_remembers_1 ++ dktX2_remembers_2
def dkwX2_remembers_0 : List UInt8 := [42, 180, 0, 49, 16, 6, 160, 0, 44, 3, 60, 27, 17, 2, 178, 162, 0, 25, 42, 180, 0, 13, 27, 42]
abbrev dktX2_remembers_0 : List UInt8 := dkwX2_remembers_0 ++ dktX2_remembers_1
theorem dksX2_remembers_0 : cX2_remembers.data.toList.drop 0 = dktX2_remembers_0 := by decide +kernel
theorem dksX2_remembers_1 : cX2_remembers.data.toList.drop 24 = dktX2_remembers_1 := dk_seg dksX2_remembers_0 24 rfl rfl
theorem dksX2_remembers_2 : cX2_remembers.data.toList.drop 47 = dktX2_remembers_2 := dk_seg dksX2_remembers_1 23 rfl rfl
theorem dksX2_remembers_3 : cX2_remembers.data.toList.drop 71 = dktX2_remembers_3 := dk_seg dksX2_remembers_2 24 rfl rfl
theorem dksX2_remembers_4 : cX2_remembers.data.toList.drop 93 = dktX2_remembers_4 := dk_seg dksX2_remembers_3 22 rfl rfl
theorem dX2_remembers_0 : decode cX2_remembers 0 = .ok (.aload_n 0, 1) := dk_42 (dk_at dksX2_remembers_0 0 rfl rfl)
theorem dX2_remembers_1 : decode cX2_remembers 1 = .ok (.getfield 49, 3) := dk_180 0 49 (dk_at dksX2_remembers_0 1 rfl rfl)
theorem dX2_remembers_4 : decode cX2_remembers 4 = .ok (.bipush 6, 2) := dk_16 6 (dk_at dksX2_remembers_0 4 rfl rfl)
theorem dX2_remembers_6 : decode cX2_remembers 6 = .ok (.if_icmp .ne 44, 3) := dk_160 0 44 (dk_at dksX2_remembers_0 6 rfl rfl)
theorem dX2_remembers_9 : decode cX2_remembers 9 = .ok (.iconst 0, 1) := dk_3 (dk_at dksX2_remembers_0 9 rfl rfl)
theorem dX2_remembers_10 : decode cX2_remembers 10 = .ok (.istore_n 1, 1) := dk_60 (dk_at dksX2_remembers_0 10 rfl rfl)
theorem dX2_remembers_11 : decode cX2_remembers 11 = .ok (.iload_n 1, 1) := dk_27 (dk_at dksX2_remembers_0 11 rfl rfl)
theorem dX2_remembers_12 : decode cX2_remembers 12 = .ok (.sipush 690, 3) := dk_17 2 178 (dk_at dksX2_remembers_0 12 rfl rfl)
theorem dX2_remembers_15 : decode cX2_remembers 15 = .ok (.if_icmp .ge 25, 3) := dk_162 0 25 (dk_at dksX2_remembers_0 15 rfl rfl)
theorem dX2_remembers_18 : decode cX2_remembers 18 = .ok (.aload_n 0, 1) := dk_42 (dk_at dksX2_remembers_0 18 rfl rfl)
theorem dX2_remembers_19 : decode cX2_remembers 19 = .ok (.getfield 13, 3) := dk_180 0 13 (dk_at dksX2_remembers_0 19 rfl rfl)
theorem dX2_remembers_22 : decode cX2_remembers 22 = .ok (.iload_n 1, 1) := dk_27 (dk_at dksX2_remembers_0 22 rfl rfl)
theorem dX2_remembers_23 : decode cX2_remembers 23 = .ok (.aload_n 0, 1) := dk_42 (dk_at dksX2_remembers_0 23 rfl rfl)
theorem dX2_remembers_24 : decode cX2_remembers 24 = .ok (.getfield 13, 3) := dk_180 0 13 (dk_at dksX2_remembers_1 0 rfl rfl)
theorem dX2_remembers_27 : decode cX2_remembers 27 = .ok (.sipush 138, 3) := dk_17 0 138 (dk_at dksX2_remembers_1 3 rfl rfl)
theorem dX2_remembers_30 : decode cX2_remembers 30 = .ok (.iload_n 1, 1) := dk_27 (dk_at dksX2_remembers_1 6 rfl rfl)
theorem dX2_remembers_31 : decode cX2_remembers 31 = .ok (.iadd, 1) := dk_96 (dk_at dksX2_remembers_1 7 rfl rfl)
theorem dX2_remembers_32 : decode cX2_remembers 32 = .ok (.laload, 1) := dk_47 (dk_at dksX2_remembers_1 8 rfl rfl)
theorem dX2_remembers_33 : decode cX2_remembers 33 = .ok (.lastore, 1) := dk_80 (dk_at dksX2_remembers_1 9 rfl rfl)
theorem dX2_remembers_34 : decode cX2_remembers 34 = .ok (.iinc 1 1, 3) := dk_132 1 1 (dk_at dksX2_remembers_1 10 rfl rfl)
theorem dX2_remembers_37 : decode cX2_remembers 37 = .ok (.goto (-26), 3) := dk_167 255 230 (dk_at dksX2_remembers_1 13 rfl rfl)
theorem dX2_remembers_40 : decode cX2_remembers 40 = .ok (.aload_n 0, 1) := dk_42 (dk_at dksX2_remembers_1 16 rfl rfl)
theorem dX2_remembers_41 : decode cX2_remembers 41 = .ok (.dup, 1) := dk_89 (dk_at dksX2_remembers_1 17 rfl rfl)
theorem dX2_remembers_42 : decode cX2_remembers 42 = .ok (.getfield 49, 3) := dk_180 0 49 (dk_at dksX2_remembers_1 18 rfl rfl)
theorem dX2_remembers_45 : decode cX2_remembers 45 = .ok (.iconst 1, 1) := dk_4 (dk_at dksX2_remembers_1 21 rfl rfl)
theorem dX2_remembers_46 : decode cX2_remembers 46 = .ok (.isub, 1) := dk_100 (dk_at dksX2_remembers_1 22 rfl rfl)
theorem dX2_remembers_47 : decode cX2_remembers 47 = .ok (.putfield 49, 3) := dk_181 0 49 (dk_at dksX2_remembers_2 0 rfl rfl)
theorem dX2_remembers_50 : decode cX2_remembers 50 = .ok (.iconst 0, 1) := dk_3 (dk_at dksX2_remembers_2 3 rfl rfl)
theorem dX2_remembers_51 : decode cX2_remembers 51 = .ok (.istore_n 1, 1) := dk_60 (dk_at dksX2_remembers_2 4 rfl rfl)
theorem dX2_remembers_52 : decode cX2_remembers 52 = .ok (.iload_n 1, 1) := dk_27 (dk_at dksX2_remembers_2 5 rfl rfl)
theorem dX2_remembers_53 : decode cX2_remembers 53 = .ok (.sipush 138, 3) := dk_17 0 138 (dk_at dksX2_remembers_2 6 rfl rfl)
theorem dX2_remembers_56 : decode cX2_remembers 56 = .ok (.if_icmp .ge 30, 3) := dk_162 0 30 (dk_at dksX2_remembers_2 9 rfl rfl)
theorem dX2_remembers_59 : decode cX2_remembers 59 = .ok (.aload_n 0, 1) := dk_42 (dk_at dksX2_remembers_2 12 rfl rfl)
theorem dX2_remembers_60 : decode cX2_remembers 60 = .ok (.getfield 13, 3) := dk_180 0 13 (dk_at dksX2_remembers_2 13 rfl rfl)
theorem dX2_remembers_63 : decode cX2_remembers 63 = .ok (.sipush 138, 3) := dk_17 0 138 (dk_at dksX2_remembers_2 16 rfl rfl)
theorem dX2_remembers_66 : decode cX2_remembers 66 = .ok (.aload_n 0, 1) := dk_42 (dk_at dksX2_remembers_2 19 rfl rfl)
theorem dX2_remembers_67 : decode cX2_remembers 67 = .ok (.getfield 49, 3) := dk_180 0 49 (dk_at dksX2_remembers_2 20 rfl rfl)
theorem dX2_remembers_70 : decode cX2_remembers 70 = .ok (.imul, 1) := dk_104 (dk_at dksX2_remembers_2 23 rfl rfl)
theorem dX2_remembers_71 : decode cX2_remembers 71 = .ok (.iload_n 1, 1) := dk_27 (dk_at dksX2_remembers_3 0 rfl rfl)
theorem dX2_remembers_72 : decode cX2_remembers 72 = .ok (.iadd, 1) := dk_96 (dk_at dksX2_remembers_3 1 rfl rfl)
theorem dX2_remembers_73 : decode cX2_remembers 73 = .ok (.aload_n 0, 1) := dk_42 (dk_at dksX2_remembers_3 2 rfl rfl)
theorem dX2_remembers_74 : decode cX2_remembers 74 = .ok (.getfield 7, 3) := dk_180 0 7 (dk_at dksX2_remembers_3 3 rfl rfl)
theorem dX2_remembers_77 : decode cX2_remembers 77 = .ok (.iload_n 1, 1) := dk_27 (dk_at dksX2_remembers_3 6 rfl rfl)
theorem dX2_remembers_78 : decode cX2_remembers 78 = .ok (.laload, 1) := dk_47 (dk_at dksX2_remembers_3 7 rfl rfl)
theorem dX2_remembers_79 : decode cX2_remembers 79 = .ok (.lastore, 1) := dk_80 (dk_at dksX2_remembers_3 8 rfl rfl)
theorem dX2_remembers_80 : decode cX2_remembers 80 = .ok (.iinc 1 1, 3) := dk_132 1 1 (dk_at dksX2_remembers_3 9 rfl rfl)
theorem dX2_remembers_83 : decode cX2_remembers 83 = .ok (.goto (-31), 3) := dk_167 255 225 (dk_at dksX2_remembers_3 12 rfl rfl)
theorem dX2_remembers_86 : decode cX2_remembers 86 = .ok (.aload_n 0, 1) := dk_42 (dk_at dksX2_remembers_3 15 rfl rfl)
theorem dX2_remembers_87 : decode cX2_remembers 87 = .ok (.dup, 1) := dk_89 (dk_at dksX2_remembers_3 16 rfl rfl)
theorem dX2_remembers_88 : decode cX2_remembers 88 = .ok (.getfield 49, 3) := dk_180 0 49 (dk_at dksX2_remembers_3 17 rfl rfl)
theorem dX2_remembers_91 : decode cX2_remembers 91 = .ok (.iconst 1, 1) := dk_4 (dk_at dksX2_remembers_3 20 rfl rfl)
theorem dX2_remembers_92 : decode cX2_remembers 92 = .ok (.iadd, 1) := dk_96 (dk_at dksX2_remembers_3 21 rfl rfl)
theorem dX2_remembers_93 : decode cX2_remembers 93 = .ok (.putfield 49, 3) := dk_181 0 49 (dk_at dksX2_remembers_4 0 rfl rfl)
theorem dX2_remembers_96 : decode cX2_remembers 96 = .ok (.return_, 1) := dk_177 (dk_at dksX2_remembers_4 3 rfl rfl)
abbrev cX2_num : ByteArray := prog_10_method_4_code
def yX2_num : MethodName := ⟨RX2, "num", "(I)I"⟩
def dkwX2_num_0 : List UInt8 := [42, 180, 0, 7, 27, 47, 136, 172]
abbrev dktX2_num_0 : List UInt8 := dkwX2_num_0 ++ []
theorem dksX2_num_0 : cX2_num.data.toList.drop 0 = dktX2_num_0 := by decide +kernel
theorem dX2_num_0 : decode cX2_num 0 = .ok (.aload_n 0, 1) := dk_42 (dk_at dksX2_num_0 0 rfl rfl)
theorem dX2_num_1 : decode cX2_num 1 = .ok (.getfield 7, 3) := dk_180 0 7 (dk_at dksX2_num_0 1 rfl rfl)
theorem dX2_num_4 : decode cX2_num 4 = .ok (.iload_n 1, 1) := dk_27 (dk_at dksX2_num_0 4 rfl rfl)
theorem dX2_num_5 : decode cX2_num 5 = .ok (.laload, 1) := dk_47 (dk_at dksX2_num_0 5 rfl rfl)
theorem dX2_num_6 : decode cX2_num 6 = .ok (.l2i, 1) := dk_136 (dk_at dksX2_num_0 6 rfl rfl)
theorem dX2_num_7 : decode cX2_num 7 = .ok (.ireturn, 1) := dk_172 (dk_at dksX2_num_0 7 rfl rfl)
abbrev cX2_meter : ByteArray := prog_10_method_21_code
def yX2_meter : MethodName := ⟨RX2, "meter", "(I)I"⟩
def dkwX2_meter_0 : List UInt8 := [42, 27, 182, 0, 101, 61, 28, 156, 0, 5, 28, 172, 42, 182, 0, 92, 42, 27, 182, 0, 104, 172]
abbrev dktX2_meter_0 : List UInt8 := dkwX2_meter_0 ++ []
theorem dksX2_meter_0 : cX2_meter.data.toList.drop 0 = dktX2_meter_0 := by decide +kernel
theorem dX2_meter_0 : decode cX2_meter 0 = .ok (.aload_n 0, 1) := dk_42 (dk_at dksX2_meter_0 0 rfl rfl)
theorem dX2_meter_1 : decode cX2_meter 1 = .ok (.iload_n 1, 1) := dk_27 (dk_at dksX2_meter_0 1 rfl rfl)
theorem dX2_meter_2 : decode cX2_meter 2 = .ok (.invokevirtual 101, 3) := dk_182 0 101 (dk_at dksX2_meter_0 2 rfl rfl)
theorem dX2_meter_5 : decode cX2_meter 5 = .ok (.istore_n 2, 1) := dk_61 (dk_at dksX2_meter_0 5 rfl rfl)
theorem dX2_meter_6 : decode cX2_meter 6 = .ok (.iload_n 2, 1) := dk_28 (dk_at dksX2_meter_0 6 rfl rfl)
theorem dX2_meter_7 : decode cX2_meter 7 = .ok (.ifCond .ge 5, 3) := dk_156 0 5 (dk_at dksX2_meter_0 7 rfl rfl)
theorem dX2_meter_10 : decode cX2_meter 10 = .ok (.iload_n 2, 1) := dk_28 (dk_at dksX2_meter_0 10 rfl rfl)
theorem dX2_meter_11 : decode cX2_meter 11 = .ok (.ireturn, 1) := dk_172 (dk_at dksX2_meter_0 11 rfl rfl)
theorem dX2_meter_12 : decode cX2_meter 12 = .ok (.aload_n 0, 1) := dk_42 (dk_at dksX2_meter_0 12 rfl rfl)
theorem dX2_meter_13 : decode cX2_meter 13 = .ok (.invokevirtual 92, 3) := dk_182 0 92 (dk_at dksX2_meter_0 13 rfl rfl)
theorem dX2_meter_16 : decode cX2_meter 16 = .ok (.aload_n 0, 1) := dk_42 (dk_at dksX2_meter_0 16 rfl rfl)
theorem dX2_meter_17 : decode cX2_meter 17 = .ok (.iload_n 1, 1) := dk_27 (dk_at dksX2_meter_0 17 rfl rfl)
theorem dX2_meter_18 : decode cX2_meter 18 = .ok (.invokevirtual 104, 3) := dk_182 0 104 (dk_at dksX2_meter_0 18 rfl rfl)
theorem dX2_meter_21 : decode cX2_meter 21 = .ok (.ireturn, 1) := dk_172 (dk_at dksX2_meter_0 21 rfl rfl)
abbrev cX2_whyNotMeter : ByteArray := prog_10_method_19_code
def yX2_whyNotMeter : MethodName := ⟨RX2, "whyNotMeter", "(I)I"⟩
def dkwX2_whyNotMeter_1 : List UInt8 := [182, 0, 37, 16, 7, 160, 0, 8, 16, 252, 167, 0, 4, 3, 172]
abbrev dktX2_whyNotMeter_1 : List UInt8 := dkwX2_whyNotMeter_1 ++ []
def dkwX2_whyNotMeter_0 : List UInt8 := [42, 16, 7, 182, 0, 37, 158, 0, 15, 42, 27, 182, 0, 95, 154, 0, 7, 2, 167, 0, 20, 42, 16, 7]
abbrev dktX2_whyNotMeter_0 : List UInt8 := dkwX2_whyNotMeter_0 ++ dktX2_whyNotMeter_1
theorem dksX2_whyNotMeter_0 : cX2_whyNotMeter.data.toList.drop 0 = dktX2_whyNotMeter_0 := by decide +kernel
theorem dksX2_whyNotMeter_1 : cX2_whyNotMeter.data.toList.drop 24 = dktX2_whyNotMeter_1 := dk_seg dksX2_whyNotMeter_0 24 rfl rfl
theorem dX2_whyNotMeter_0 : decode cX2_whyNotMeter 0 = .ok (.aload_n 0, 1) := dk_42 (dk_at dksX2_whyNotMeter_0 0 rfl rfl)
theorem dX2_whyNotMeter_1 : decode cX2_whyNotMeter 1 = .ok (.bipush 7, 2) := dk_16 7 (dk_at dksX2_whyNotMeter_0 1 rfl rfl)
theorem dX2_whyNotMeter_3 : decode cX2_whyNotMeter 3 = .ok (.invokevirtual 37, 3) := dk_182 0 37 (dk_at dksX2_whyNotMeter_0 3 rfl rfl)
theorem dX2_whyNotMeter_6 : decode cX2_whyNotMeter 6 = .ok (.ifCond .le 15, 3) := dk_158 0 15 (dk_at dksX2_whyNotMeter_0 6 rfl rfl)
theorem dX2_whyNotMeter_9 : decode cX2_whyNotMeter 9 = .ok (.aload_n 0, 1) := dk_42 (dk_at dksX2_whyNotMeter_0 9 rfl rfl)
theorem dX2_whyNotMeter_10 : decode cX2_whyNotMeter 10 = .ok (.iload_n 1, 1) := dk_27 (dk_at dksX2_whyNotMeter_0 10 rfl rfl)
theorem dX2_whyNotMeter_11 : decode cX2_whyNotMeter 11 = .ok (.invokevirtual 95, 3) := dk_182 0 95 (dk_at dksX2_whyNotMeter_0 11 rfl rfl)
theorem dX2_whyNotMeter_14 : decode cX2_whyNotMeter 14 = .ok (.ifCond .ne 7, 3) := dk_154 0 7 (dk_at dksX2_whyNotMeter_0 14 rfl rfl)
theorem dX2_whyNotMeter_17 : decode cX2_whyNotMeter 17 = .ok (.iconst (-1), 1) := dk_2 (dk_at dksX2_whyNotMeter_0 17 rfl rfl)
theorem dX2_whyNotMeter_18 : decode cX2_whyNotMeter 18 = .ok (.goto 20, 3) := dk_167 0 20 (dk_at dksX2_whyNotMeter_0 18 rfl rfl)
theorem dX2_whyNotMeter_21 : decode cX2_whyNotMeter 21 = .ok (.aload_n 0, 1) := dk_42 (dk_at dksX2_whyNotMeter_0 21 rfl rfl)
theorem dX2_whyNotMeter_22 : decode cX2_whyNotMeter 22 = .ok (.bipush 7, 2) := dk_16 7 (dk_at dksX2_whyNotMeter_0 22 rfl rfl)
theorem dX2_whyNotMeter_24 : decode cX2_whyNotMeter 24 = .ok (.invokevirtual 37, 3) := dk_182 0 37 (dk_at dksX2_whyNotMeter_1 0 rfl rfl)
theorem dX2_whyNotMeter_27 : decode cX2_whyNotMeter 27 = .ok (.bipush 7, 2) := dk_16 7 (dk_at dksX2_whyNotMeter_1 3 rfl rfl)
theorem dX2_whyNotMeter_29 : decode cX2_whyNotMeter 29 = .ok (.if_icmp .ne 8, 3) := dk_160 0 8 (dk_at dksX2_whyNotMeter_1 5 rfl rfl)
theorem dX2_whyNotMeter_32 : decode cX2_whyNotMeter 32 = .ok (.bipush (-4), 2) := dk_16 252 (dk_at dksX2_whyNotMeter_1 8 rfl rfl)
theorem dX2_whyNotMeter_34 : decode cX2_whyNotMeter 34 = .ok (.goto 4, 3) := dk_167 0 4 (dk_at dksX2_whyNotMeter_1 10 rfl rfl)
theorem dX2_whyNotMeter_37 : decode cX2_whyNotMeter 37 = .ok (.iconst 0, 1) := dk_3 (dk_at dksX2_whyNotMeter_1 13 rfl rfl)
theorem dX2_whyNotMeter_38 : decode cX2_whyNotMeter 38 = .ok (.ireturn, 1) := dk_172 (dk_at dksX2_whyNotMeter_1 14 rfl rfl)
abbrev cX2_isMeter : ByteArray := prog_10_method_5_code
def yX2_isMeter : MethodName := ⟨RX2, "isMeter", "(I)Z"⟩
def dkwX2_isMeter_0 : List UInt8 := [27, 3, 42, 16, 7, 182, 0, 37, 4, 100, 184, 0, 41, 172]
abbrev dktX2_isMeter_0 : List UInt8 := dkwX2_isMeter_0 ++ []
theorem dksX2_isMeter_0 : cX2_isMeter.data.toList.drop 0 = dktX2_isMeter_0 := by decide +kernel
theorem dX2_isMeter_0 : decode cX2_isMeter 0 = .ok (.iload_n 1, 1) := dk_27 (dk_at dksX2_isMeter_0 0 rfl rfl)
theorem dX2_isMeter_1 : decode cX2_isMeter 1 = .ok (.iconst 0, 1) := dk_3 (dk_at dksX2_isMeter_0 1 rfl rfl)
theorem dX2_isMeter_2 : decode cX2_isMeter 2 = .ok (.aload_n 0, 1) := dk_42 (dk_at dksX2_isMeter_0 2 rfl rfl)
theorem dX2_isMeter_3 : decode cX2_isMeter 3 = .ok (.bipush 7, 2) := dk_16 7 (dk_at dksX2_isMeter_0 3 rfl rfl)
theorem dX2_isMeter_5 : decode cX2_isMeter 5 = .ok (.invokevirtual 37, 3) := dk_182 0 37 (dk_at dksX2_isMeter_0 5 rfl rfl)
theorem dX2_isMeter_8 : decode cX2_isMeter 8 = .ok (.iconst 1, 1) := dk_4 (dk_at dksX2_isMeter_0 8 rfl rfl)
theorem dX2_isMeter_9 : decode cX2_isMeter 9 = .ok (.isub, 1) := dk_100 (dk_at dksX2_isMeter_0 9 rfl rfl)
theorem dX2_isMeter_10 : decode cX2_isMeter 10 = .ok (.invokestatic 41, 3) := dk_184 0 41 (dk_at dksX2_isMeter_0 10 rfl rfl)
theorem dX2_isMeter_13 : decode cX2_isMeter 13 = .ok (.ireturn, 1) := dk_172 (dk_at dksX2_isMeter_0 13 rfl rfl)
abbrev cX2_comes : ByteArray := prog_10_method_20_code
def yX2_comes : MethodName := ⟨RX2, "comes", "(I)I"⟩
def dkwX2_comes_4 : List UInt8 := [16, 10, 47, 80, 42, 180, 0, 7, 16, 7, 92, 47, 10, 97, 80, 42, 16, 7, 182, 0, 37, 4, 100, 172]
abbrev dktX2_comes_4 : List UInt8 := dkwX2_comes_4 ++ []
def dkwX2_comes_3 : List UInt8 := [42, 180, 0, 7, 28, 5, 96, 20, 0, 66, 80, 42, 180, 0, 7, 28, 16, 6, 96, 42, 180, 0, 7]
abbrev dktX2_comes_3 : List UInt8 := dkwX2_comes_3 ++ dktX2_comes_4
def dkwX2_comes_2 : List UInt8 := [180, 0, 7, 28, 3, 96, 42, 16, 7, 182, 0, 37, 154, 0, 9, 20, 0, 99, 167, 0, 5, 27, 133, 80]
abbrev dktX2_comes_2 : List UInt8 := dkwX2_comes_2 ++ dktX2_comes_3
def dkwX2_comes_1 : List UInt8 := [29, 96, 9, 80, 132, 3, 1, 167, 255, 238, 42, 180, 0, 7, 16, 10, 92, 47, 10, 97, 80, 42]
abbrev dktX2_comes_1 : List UInt8 := dkwX2_comes_1 ++ dktX2_comes_2
def dkwX2_comes_0 : List UInt8 := [3, 42, 16, 7, 182, 0, 37, 184, 0, 45, 61, 3, 62, 29, 16, 13, 162, 0, 18, 42, 180, 0, 7, 28]
abbrev dktX2_comes_0 : List UInt8 := dkwX2_comes_0 ++ dktX2_comes_1
theorem dksX2_comes_0 : cX2_comes.data.toList.drop 0 = dktX2_comes_0 := by decide +kernel
theorem dksX2_comes_1 : cX2_comes.data.toList.drop 24 = dktX2_comes_1 := dk_seg dksX2_comes_0 24 rfl rfl
theorem dksX2_comes_2 : cX2_comes.data.toList.drop 46 = dktX2_comes_2 := dk_seg dksX2_comes_1 22 rfl rfl
theorem dksX2_comes_3 : cX2_comes.data.toList.drop 70 = dktX2_comes_3 := dk_seg dksX2_comes_2 24 rfl rfl
theorem dksX2_comes_4 : cX2_comes.data.toList.drop 93 = dktX2_comes_4 := dk_seg dksX2_comes_3 23 rfl rfl
theorem dX2_comes_0 : decode cX2_comes 0 = .ok (.iconst 0, 1) := dk_3 (dk_at dksX2_comes_0 0 rfl rfl)
theorem dX2_comes_1 : decode cX2_comes 1 = .ok (.aload_n 0, 1) := dk_42 (dk_at dksX2_comes_0 1 rfl rfl)
theorem dX2_comes_2 : decode cX2_comes 2 = .ok (.bipush 7, 2) := dk_16 7 (dk_at dksX2_comes_0 2 rfl rfl)
theorem dX2_comes_4 : decode cX2_comes 4 = .ok (.invokevirtual 37, 3) := dk_182 0 37 (dk_at dksX2_comes_0 4 rfl rfl)
theorem dX2_comes_7 : decode cX2_comes 7 = .ok (.invokestatic 45, 3) := dk_184 0 45 (dk_at dksX2_comes_0 7 rfl rfl)
theorem dX2_comes_10 : decode cX2_comes 10 = .ok (.istore_n 2, 1) := dk_61 (dk_at dksX2_comes_0 10 rfl rfl)
theorem dX2_comes_11 : decode cX2_comes 11 = .ok (.iconst 0, 1) := dk_3 (dk_at dksX2_comes_0 11 rfl rfl)
theorem dX2_comes_12 : decode cX2_comes 12 = .ok (.istore_n 3, 1) := dk_62 (dk_at dksX2_comes_0 12 rfl rfl)
theorem dX2_comes_13 : decode cX2_comes 13 = .ok (.iload_n 3, 1) := dk_29 (dk_at dksX2_comes_0 13 rfl rfl)
theorem dX2_comes_14 : decode cX2_comes 14 = .ok (.bipush 13, 2) := dk_16 13 (dk_at dksX2_comes_0 14 rfl rfl)
theorem dX2_comes_16 : decode cX2_comes 16 = .ok (.if_icmp .ge 18, 3) := dk_162 0 18 (dk_at dksX2_comes_0 16 rfl rfl)
theorem dX2_comes_19 : decode cX2_comes 19 = .ok (.aload_n 0, 1) := dk_42 (dk_at dksX2_comes_0 19 rfl rfl)
theorem dX2_comes_20 : decode cX2_comes 20 = .ok (.getfield 7, 3) := dk_180 0 7 (dk_at dksX2_comes_0 20 rfl rfl)
theorem dX2_comes_23 : decode cX2_comes 23 = .ok (.iload_n 2, 1) := dk_28 (dk_at dksX2_comes_0 23 rfl rfl)
theorem dX2_comes_24 : decode cX2_comes 24 = .ok (.iload_n 3, 1) := dk_29 (dk_at dksX2_comes_1 0 rfl rfl)
theorem dX2_comes_25 : decode cX2_comes 25 = .ok (.iadd, 1) := dk_96 (dk_at dksX2_comes_1 1 rfl rfl)
theorem dX2_comes_26 : decode cX2_comes 26 = .ok (.lconst 0, 1) := dk_9 (dk_at dksX2_comes_1 2 rfl rfl)
theorem dX2_comes_27 : decode cX2_comes 27 = .ok (.lastore, 1) := dk_80 (dk_at dksX2_comes_1 3 rfl rfl)
theorem dX2_comes_28 : decode cX2_comes 28 = .ok (.iinc 3 1, 3) := dk_132 3 1 (dk_at dksX2_comes_1 4 rfl rfl)
theorem dX2_comes_31 : decode cX2_comes 31 = .ok (.goto (-18), 3) := dk_167 255 238 (dk_at dksX2_comes_1 7 rfl rfl)
theorem dX2_comes_34 : decode cX2_comes 34 = .ok (.aload_n 0, 1) := dk_42 (dk_at dksX2_comes_1 10 rfl rfl)
theorem dX2_comes_35 : decode cX2_comes 35 = .ok (.getfield 7, 3) := dk_180 0 7 (dk_at dksX2_comes_1 11 rfl rfl)
theorem dX2_comes_38 : decode cX2_comes 38 = .ok (.bipush 10, 2) := dk_16 10 (dk_at dksX2_comes_1 14 rfl rfl)
theorem dX2_comes_40 : decode cX2_comes 40 = .ok (.dup2, 1) := dk_92 (dk_at dksX2_comes_1 16 rfl rfl)
theorem dX2_comes_41 : decode cX2_comes 41 = .ok (.laload, 1) := dk_47 (dk_at dksX2_comes_1 17 rfl rfl)
theorem dX2_comes_42 : decode cX2_comes 42 = .ok (.lconst 1, 1) := dk_10 (dk_at dksX2_comes_1 18 rfl rfl)
theorem dX2_comes_43 : decode cX2_comes 43 = .ok (.ladd, 1) := dk_97 (dk_at dksX2_comes_1 19 rfl rfl)
theorem dX2_comes_44 : decode cX2_comes 44 = .ok (.lastore, 1) := dk_80 (dk_at dksX2_comes_1 20 rfl rfl)
theorem dX2_comes_45 : decode cX2_comes 45 = .ok (.aload_n 0, 1) := dk_42 (dk_at dksX2_comes_1 21 rfl rfl)
theorem dX2_comes_46 : decode cX2_comes 46 = .ok (.getfield 7, 3) := dk_180 0 7 (dk_at dksX2_comes_2 0 rfl rfl)
theorem dX2_comes_49 : decode cX2_comes 49 = .ok (.iload_n 2, 1) := dk_28 (dk_at dksX2_comes_2 3 rfl rfl)
theorem dX2_comes_50 : decode cX2_comes 50 = .ok (.iconst 0, 1) := dk_3 (dk_at dksX2_comes_2 4 rfl rfl)
theorem dX2_comes_51 : decode cX2_comes 51 = .ok (.iadd, 1) := dk_96 (dk_at dksX2_comes_2 5 rfl rfl)
theorem dX2_comes_52 : decode cX2_comes 52 = .ok (.aload_n 0, 1) := dk_42 (dk_at dksX2_comes_2 6 rfl rfl)
theorem dX2_comes_53 : decode cX2_comes 53 = .ok (.bipush 7, 2) := dk_16 7 (dk_at dksX2_comes_2 7 rfl rfl)
theorem dX2_comes_55 : decode cX2_comes 55 = .ok (.invokevirtual 37, 3) := dk_182 0 37 (dk_at dksX2_comes_2 9 rfl rfl)
theorem dX2_comes_58 : decode cX2_comes 58 = .ok (.ifCond .ne 9, 3) := dk_154 0 9 (dk_at dksX2_comes_2 12 rfl rfl)
theorem dX2_comes_61 : decode cX2_comes 61 = .ok (.ldc2_w 99, 3) := dk_20 0 99 (dk_at dksX2_comes_2 15 rfl rfl)
theorem dX2_comes_64 : decode cX2_comes 64 = .ok (.goto 5, 3) := dk_167 0 5 (dk_at dksX2_comes_2 18 rfl rfl)
theorem dX2_comes_67 : decode cX2_comes 67 = .ok (.iload_n 1, 1) := dk_27 (dk_at dksX2_comes_2 21 rfl rfl)
theorem dX2_comes_68 : decode cX2_comes 68 = .ok (.i2l, 1) := dk_133 (dk_at dksX2_comes_2 22 rfl rfl)
theorem dX2_comes_69 : decode cX2_comes 69 = .ok (.lastore, 1) := dk_80 (dk_at dksX2_comes_2 23 rfl rfl)
theorem dX2_comes_70 : decode cX2_comes 70 = .ok (.aload_n 0, 1) := dk_42 (dk_at dksX2_comes_3 0 rfl rfl)
theorem dX2_comes_71 : decode cX2_comes 71 = .ok (.getfield 7, 3) := dk_180 0 7 (dk_at dksX2_comes_3 1 rfl rfl)
theorem dX2_comes_74 : decode cX2_comes 74 = .ok (.iload_n 2, 1) := dk_28 (dk_at dksX2_comes_3 4 rfl rfl)
theorem dX2_comes_75 : decode cX2_comes 75 = .ok (.iconst 2, 1) := dk_5 (dk_at dksX2_comes_3 5 rfl rfl)
theorem dX2_comes_76 : decode cX2_comes 76 = .ok (.iadd, 1) := dk_96 (dk_at dksX2_comes_3 6 rfl rfl)
theorem dX2_comes_77 : decode cX2_comes 77 = .ok (.ldc2_w 66, 3) := dk_20 0 66 (dk_at dksX2_comes_3 7 rfl rfl)
theorem dX2_comes_80 : decode cX2_comes 80 = .ok (.lastore, 1) := dk_80 (dk_at dksX2_comes_3 10 rfl rfl)
theorem dX2_comes_81 : decode cX2_comes 81 = .ok (.aload_n 0, 1) := dk_42 (dk_at dksX2_comes_3 11 rfl rfl)
theorem dX2_comes_82 : decode cX2_comes 82 = .ok (.getfield 7, 3) := dk_180 0 7 (dk_at dksX2_comes_3 12 rfl rfl)
theorem dX2_comes_85 : decode cX2_comes 85 = .ok (.iload_n 2, 1) := dk_28 (dk_at dksX2_comes_3 15 rfl rfl)
theorem dX2_comes_86 : decode cX2_comes 86 = .ok (.bipush 6, 2) := dk_16 6 (dk_at dksX2_comes_3 16 rfl rfl)
theorem dX2_comes_88 : decode cX2_comes 88 = .ok (.iadd, 1) := dk_96 (dk_at dksX2_comes_3 18 rfl rfl)
theorem dX2_comes_89 : decode cX2_comes 89 = .ok (.aload_n 0, 1) := dk_42 (dk_at dksX2_comes_3 19 rfl rfl)
theorem dX2_comes_90 : decode cX2_comes 90 = .ok (.getfield 7, 3) := dk_180 0 7 (dk_at dksX2_comes_3 20 rfl rfl)
theorem dX2_comes_93 : decode cX2_comes 93 = .ok (.bipush 10, 2) := dk_16 10 (dk_at dksX2_comes_4 0 rfl rfl)
theorem dX2_comes_95 : decode cX2_comes 95 = .ok (.laload, 1) := dk_47 (dk_at dksX2_comes_4 2 rfl rfl)
theorem dX2_comes_96 : decode cX2_comes 96 = .ok (.lastore, 1) := dk_80 (dk_at dksX2_comes_4 3 rfl rfl)
theorem dX2_comes_97 : decode cX2_comes 97 = .ok (.aload_n 0, 1) := dk_42 (dk_at dksX2_comes_4 4 rfl rfl)
theorem dX2_comes_98 : decode cX2_comes 98 = .ok (.getfield 7, 3) := dk_180 0 7 (dk_at dksX2_comes_4 5 rfl rfl)
theorem dX2_comes_101 : decode cX2_comes 101 = .ok (.bipush 7, 2) := dk_16 7 (dk_at dksX2_comes_4 8 rfl rfl)
theorem dX2_comes_103 : decode cX2_comes 103 = .ok (.dup2, 1) := dk_92 (dk_at dksX2_comes_4 10 rfl rfl)
theorem dX2_comes_104 : decode cX2_comes 104 = .ok (.laload, 1) := dk_47 (dk_at dksX2_comes_4 11 rfl rfl)
theorem dX2_comes_105 : decode cX2_comes 105 = .ok (.lconst 1, 1) := dk_10 (dk_at dksX2_comes_4 12 rfl rfl)
theorem dX2_comes_106 : decode cX2_comes 106 = .ok (.ladd, 1) := dk_97 (dk_at dksX2_comes_4 13 rfl rfl)
theorem dX2_comes_107 : decode cX2_comes 107 = .ok (.lastore, 1) := dk_80 (dk_at dksX2_comes_4 14 rfl rfl)
theorem dX2_comes_108 : decode cX2_comes 108 = .ok (.aload_n 0, 1) := dk_42 (dk_at dksX2_comes_4 15 rfl rfl)
theorem dX2_comes_109 : decode cX2_comes 109 = .ok (.bipush 7, 2) := dk_16 7 (dk_at dksX2_comes_4 16 rfl rfl)
theorem dX2_comes_111 : decode cX2_comes 111 = .ok (.invokevirtual 37, 3) := dk_182 0 37 (dk_at dksX2_comes_4 18 rfl rfl)
theorem dX2_comes_114 : decode cX2_comes 114 = .ok (.iconst 1, 1) := dk_4 (dk_at dksX2_comes_4 21 rfl rfl)
theorem dX2_comes_115 : decode cX2_comes 115 = .ok (.isub, 1) := dk_100 (dk_at dksX2_comes_4 22 rfl rfl)
theorem dX2_comes_116 : decode cX2_comes 116 = .ok (.ireturn, 1) := dk_172 (dk_at dksX2_comes_4 23 rfl rfl)
abbrev cX2_at : ByteArray := prog_10_method_6_code
def yX2_at : MethodName := ⟨RX2, "at", "(II)I"⟩
def dkwX2_at_0 : List UInt8 := [26, 16, 11, 96, 16, 13, 27, 104, 96, 172]
abbrev dktX2_at_0 : List UInt8 := dkwX2_at_0 ++ []
theorem dksX2_at_0 : cX2_at.data.toList.drop 0 = dktX2_at_0 := by decide +kernel
theorem dX2_at_0 : decode cX2_at 0 = .ok (.iload_n 0, 1) := dk_26 (dk_at dksX2_at_0 0 rfl rfl)
theorem dX2_at_1 : decode cX2_at 1 = .ok (.bipush 11, 2) := dk_16 11 (dk_at dksX2_at_0 1 rfl rfl)
theorem dX2_at_3 : decode cX2_at 3 = .ok (.iadd, 1) := dk_96 (dk_at dksX2_at_0 3 rfl rfl)
theorem dX2_at_4 : decode cX2_at 4 = .ok (.bipush 13, 2) := dk_16 13 (dk_at dksX2_at_0 4 rfl rfl)
theorem dX2_at_6 : decode cX2_at 6 = .ok (.iload_n 1, 1) := dk_27 (dk_at dksX2_at_0 6 rfl rfl)
theorem dX2_at_7 : decode cX2_at 7 = .ok (.imul, 1) := dk_104 (dk_at dksX2_at_0 7 rfl rfl)
theorem dX2_at_8 : decode cX2_at 8 = .ok (.iadd, 1) := dk_96 (dk_at dksX2_at_0 8 rfl rfl)
theorem dX2_at_9 : decode cX2_at 9 = .ok (.ireturn, 1) := dk_172 (dk_at dksX2_at_0 9 rfl rfl)
abbrev cX2_load : ByteArray := prog_10_method_24_code
def yX2_load : MethodName := ⟨RX2, "load", "(II)I"⟩
def dkwX2_load_0 : List UInt8 := [42, 27, 28, 182, 0, 107, 62, 29, 156, 0, 5, 29, 172, 42, 182, 0, 92, 42, 27, 28, 182, 0, 110, 172]
abbrev dktX2_load_0 : List UInt8 := dkwX2_load_0 ++ []
theorem dksX2_load_0 : cX2_load.data.toList.drop 0 = dktX2_load_0 := by decide +kernel
theorem dX2_load_0 : decode cX2_load 0 = .ok (.aload_n 0, 1) := dk_42 (dk_at dksX2_load_0 0 rfl rfl)
theorem dX2_load_1 : decode cX2_load 1 = .ok (.iload_n 1, 1) := dk_27 (dk_at dksX2_load_0 1 rfl rfl)
theorem dX2_load_2 : decode cX2_load 2 = .ok (.iload_n 2, 1) := dk_28 (dk_at dksX2_load_0 2 rfl rfl)
theorem dX2_load_3 : decode cX2_load 3 = .ok (.invokevirtual 107, 3) := dk_182 0 107 (dk_at dksX2_load_0 3 rfl rfl)
theorem dX2_load_6 : decode cX2_load 6 = .ok (.istore_n 3, 1) := dk_62 (dk_at dksX2_load_0 6 rfl rfl)
theorem dX2_load_7 : decode cX2_load 7 = .ok (.iload_n 3, 1) := dk_29 (dk_at dksX2_load_0 7 rfl rfl)
theorem dX2_load_8 : decode cX2_load 8 = .ok (.ifCond .ge 5, 3) := dk_156 0 5 (dk_at dksX2_load_0 8 rfl rfl)
theorem dX2_load_11 : decode cX2_load 11 = .ok (.iload_n 3, 1) := dk_29 (dk_at dksX2_load_0 11 rfl rfl)
theorem dX2_load_12 : decode cX2_load 12 = .ok (.ireturn, 1) := dk_172 (dk_at dksX2_load_0 12 rfl rfl)
theorem dX2_load_13 : decode cX2_load 13 = .ok (.aload_n 0, 1) := dk_42 (dk_at dksX2_load_0 13 rfl rfl)
theorem dX2_load_14 : decode cX2_load 14 = .ok (.invokevirtual 92, 3) := dk_182 0 92 (dk_at dksX2_load_0 14 rfl rfl)
theorem dX2_load_17 : decode cX2_load 17 = .ok (.aload_n 0, 1) := dk_42 (dk_at dksX2_load_0 17 rfl rfl)
theorem dX2_load_18 : decode cX2_load 18 = .ok (.iload_n 1, 1) := dk_27 (dk_at dksX2_load_0 18 rfl rfl)
theorem dX2_load_19 : decode cX2_load 19 = .ok (.iload_n 2, 1) := dk_28 (dk_at dksX2_load_0 19 rfl rfl)
theorem dX2_load_20 : decode cX2_load 20 = .ok (.invokevirtual 110, 3) := dk_182 0 110 (dk_at dksX2_load_0 20 rfl rfl)
theorem dX2_load_23 : decode cX2_load 23 = .ok (.ireturn, 1) := dk_172 (dk_at dksX2_load_0 23 rfl rfl)
abbrev cX2_whyNotLoad : ByteArray := prog_10_method_22_code
def yX2_whyNotLoad : MethodName := ⟨RX2, "whyNotLoad", "(II)I"⟩
def dkwX2_whyNotLoad_1 : List UInt8 := [16, 254, 167, 0, 20, 42, 16, 8, 182, 0, 37, 16, 12, 160, 0, 8, 16, 252, 167, 0, 4, 3, 172]
abbrev dktX2_whyNotLoad_1 : List UInt8 := dkwX2_whyNotLoad_1 ++ []
def dkwX2_whyNotLoad_0 : List UInt8 := [42, 27, 182, 0, 95, 154, 0, 7, 2, 167, 0, 36, 28, 4, 17, 15, 160, 184, 0, 41, 154, 0, 8]
abbrev dktX2_whyNotLoad_0 : List UInt8 := dkwX2_whyNotLoad_0 ++ dktX2_whyNotLoad_1
theorem dksX2_whyNotLoad_0 : cX2_whyNotLoad.data.toList.drop 0 = dktX2_whyNotLoad_0 := by decide +kernel
theorem dksX2_whyNotLoad_1 : cX2_whyNotLoad.data.toList.drop 23 = dktX2_whyNotLoad_1 := dk_seg dksX2_whyNotLoad_0 23 rfl rfl
theorem dX2_whyNotLoad_0 : decode cX2_whyNotLoad 0 = .ok (.aload_n 0, 1) := dk_42 (dk_at dksX2_whyNotLoad_0 0 rfl rfl)
theorem dX2_whyNotLoad_1 : decode cX2_whyNotLoad 1 = .ok (.iload_n 1, 1) := dk_27 (dk_at dksX2_whyNotLoad_0 1 rfl rfl)
theorem dX2_whyNotLoad_2 : decode cX2_whyNotLoad 2 = .ok (.invokevirtual 95, 3) := dk_182 0 95 (dk_at dksX2_whyNotLoad_0 2 rfl rfl)
theorem dX2_whyNotLoad_5 : decode cX2_whyNotLoad 5 = .ok (.ifCond .ne 7, 3) := dk_154 0 7 (dk_at dksX2_whyNotLoad_0 5 rfl rfl)
theorem dX2_whyNotLoad_8 : decode cX2_whyNotLoad 8 = .ok (.iconst (-1), 1) := dk_2 (dk_at dksX2_whyNotLoad_0 8 rfl rfl)
theorem dX2_whyNotLoad_9 : decode cX2_whyNotLoad 9 = .ok (.goto 36, 3) := dk_167 0 36 (dk_at dksX2_whyNotLoad_0 9 rfl rfl)
theorem dX2_whyNotLoad_12 : decode cX2_whyNotLoad 12 = .ok (.iload_n 2, 1) := dk_28 (dk_at dksX2_whyNotLoad_0 12 rfl rfl)
theorem dX2_whyNotLoad_13 : decode cX2_whyNotLoad 13 = .ok (.iconst 1, 1) := dk_4 (dk_at dksX2_whyNotLoad_0 13 rfl rfl)
theorem dX2_whyNotLoad_14 : decode cX2_whyNotLoad 14 = .ok (.sipush 4000, 3) := dk_17 15 160 (dk_at dksX2_whyNotLoad_0 14 rfl rfl)
theorem dX2_whyNotLoad_17 : decode cX2_whyNotLoad 17 = .ok (.invokestatic 41, 3) := dk_184 0 41 (dk_at dksX2_whyNotLoad_0 17 rfl rfl)
theorem dX2_whyNotLoad_20 : decode cX2_whyNotLoad 20 = .ok (.ifCond .ne 8, 3) := dk_154 0 8 (dk_at dksX2_whyNotLoad_0 20 rfl rfl)
theorem dX2_whyNotLoad_23 : decode cX2_whyNotLoad 23 = .ok (.bipush (-2), 2) := dk_16 254 (dk_at dksX2_whyNotLoad_1 0 rfl rfl)
theorem dX2_whyNotLoad_25 : decode cX2_whyNotLoad 25 = .ok (.goto 20, 3) := dk_167 0 20 (dk_at dksX2_whyNotLoad_1 2 rfl rfl)
theorem dX2_whyNotLoad_28 : decode cX2_whyNotLoad 28 = .ok (.aload_n 0, 1) := dk_42 (dk_at dksX2_whyNotLoad_1 5 rfl rfl)
theorem dX2_whyNotLoad_29 : decode cX2_whyNotLoad 29 = .ok (.bipush 8, 2) := dk_16 8 (dk_at dksX2_whyNotLoad_1 6 rfl rfl)
theorem dX2_whyNotLoad_31 : decode cX2_whyNotLoad 31 = .ok (.invokevirtual 37, 3) := dk_182 0 37 (dk_at dksX2_whyNotLoad_1 8 rfl rfl)
theorem dX2_whyNotLoad_34 : decode cX2_whyNotLoad 34 = .ok (.bipush 12, 2) := dk_16 12 (dk_at dksX2_whyNotLoad_1 11 rfl rfl)
theorem dX2_whyNotLoad_36 : decode cX2_whyNotLoad 36 = .ok (.if_icmp .ne 8, 3) := dk_160 0 8 (dk_at dksX2_whyNotLoad_1 13 rfl rfl)
theorem dX2_whyNotLoad_39 : decode cX2_whyNotLoad 39 = .ok (.bipush (-4), 2) := dk_16 252 (dk_at dksX2_whyNotLoad_1 16 rfl rfl)
theorem dX2_whyNotLoad_41 : decode cX2_whyNotLoad 41 = .ok (.goto 4, 3) := dk_167 0 4 (dk_at dksX2_whyNotLoad_1 18 rfl rfl)
theorem dX2_whyNotLoad_44 : decode cX2_whyNotLoad 44 = .ok (.iconst 0, 1) := dk_3 (dk_at dksX2_whyNotLoad_1 21 rfl rfl)
theorem dX2_whyNotLoad_45 : decode cX2_whyNotLoad 45 = .ok (.ireturn, 1) := dk_172 (dk_at dksX2_whyNotLoad_1 22 rfl rfl)
abbrev cX2_loads : ByteArray := prog_10_method_23_code
def yX2_loads : MethodName := ⟨RX2, "loads", "(II)I"⟩
def dkwX2_loads_2 : List UInt8 := [97, 80, 42, 16, 8, 182, 0, 37, 4, 100, 172]
abbrev dktX2_loads_2 : List UInt8 := dkwX2_loads_2 ++ []
def dkwX2_loads_1 : List UInt8 := [29, 4, 96, 28, 133, 80, 42, 180, 0, 7, 29, 5, 96, 9, 80, 42, 180, 0, 7, 16, 8, 92, 47, 10]
abbrev dktX2_loads_1 : List UInt8 := dkwX2_loads_1 ++ dktX2_loads_2
def dkwX2_loads_0 : List UInt8 := [16, 102, 6, 42, 16, 8, 182, 0, 37, 104, 96, 62, 42, 180, 0, 7, 29, 27, 133, 80, 42, 180, 0, 7]
abbrev dktX2_loads_0 : List UInt8 := dkwX2_loads_0 ++ dktX2_loads_1
theorem dksX2_loads_0 : cX2_loads.data.toList.drop 0 = dktX2_loads_0 := by decide +kernel
theorem dksX2_loads_1 : cX2_loads.data.toList.drop 24 = dktX2_loads_1 := dk_seg dksX2_loads_0 24 rfl rfl
theorem dksX2_loads_2 : cX2_loads.data.toList.drop 48 = dktX2_loads_2 := dk_seg dksX2_loads_1 24 rfl rfl
theorem dX2_loads_0 : decode cX2_loads 0 = .ok (.bipush 102, 2) := dk_16 102 (dk_at dksX2_loads_0 0 rfl rfl)
theorem dX2_loads_2 : decode cX2_loads 2 = .ok (.iconst 3, 1) := dk_6 (dk_at dksX2_loads_0 2 rfl rfl)
theorem dX2_loads_3 : decode cX2_loads 3 = .ok (.aload_n 0, 1) := dk_42 (dk_at dksX2_loads_0 3 rfl rfl)
theorem dX2_loads_4 : decode cX2_loads 4 = .ok (.bipush 8, 2) := dk_16 8 (dk_at dksX2_loads_0 4 rfl rfl)
theorem dX2_loads_6 : decode cX2_loads 6 = .ok (.invokevirtual 37, 3) := dk_182 0 37 (dk_at dksX2_loads_0 6 rfl rfl)
theorem dX2_loads_9 : decode cX2_loads 9 = .ok (.imul, 1) := dk_104 (dk_at dksX2_loads_0 9 rfl rfl)
theorem dX2_loads_10 : decode cX2_loads 10 = .ok (.iadd, 1) := dk_96 (dk_at dksX2_loads_0 10 rfl rfl)
theorem dX2_loads_11 : decode cX2_loads 11 = .ok (.istore_n 3, 1) := dk_62 (dk_at dksX2_loads_0 11 rfl rfl)
theorem dX2_loads_12 : decode cX2_loads 12 = .ok (.aload_n 0, 1) := dk_42 (dk_at dksX2_loads_0 12 rfl rfl)
theorem dX2_loads_13 : decode cX2_loads 13 = .ok (.getfield 7, 3) := dk_180 0 7 (dk_at dksX2_loads_0 13 rfl rfl)
theorem dX2_loads_16 : decode cX2_loads 16 = .ok (.iload_n 3, 1) := dk_29 (dk_at dksX2_loads_0 16 rfl rfl)
theorem dX2_loads_17 : decode cX2_loads 17 = .ok (.iload_n 1, 1) := dk_27 (dk_at dksX2_loads_0 17 rfl rfl)
theorem dX2_loads_18 : decode cX2_loads 18 = .ok (.i2l, 1) := dk_133 (dk_at dksX2_loads_0 18 rfl rfl)
theorem dX2_loads_19 : decode cX2_loads 19 = .ok (.lastore, 1) := dk_80 (dk_at dksX2_loads_0 19 rfl rfl)
theorem dX2_loads_20 : decode cX2_loads 20 = .ok (.aload_n 0, 1) := dk_42 (dk_at dksX2_loads_0 20 rfl rfl)
theorem dX2_loads_21 : decode cX2_loads 21 = .ok (.getfield 7, 3) := dk_180 0 7 (dk_at dksX2_loads_0 21 rfl rfl)
theorem dX2_loads_24 : decode cX2_loads 24 = .ok (.iload_n 3, 1) := dk_29 (dk_at dksX2_loads_1 0 rfl rfl)
theorem dX2_loads_25 : decode cX2_loads 25 = .ok (.iconst 1, 1) := dk_4 (dk_at dksX2_loads_1 1 rfl rfl)
theorem dX2_loads_26 : decode cX2_loads 26 = .ok (.iadd, 1) := dk_96 (dk_at dksX2_loads_1 2 rfl rfl)
theorem dX2_loads_27 : decode cX2_loads 27 = .ok (.iload_n 2, 1) := dk_28 (dk_at dksX2_loads_1 3 rfl rfl)
theorem dX2_loads_28 : decode cX2_loads 28 = .ok (.i2l, 1) := dk_133 (dk_at dksX2_loads_1 4 rfl rfl)
theorem dX2_loads_29 : decode cX2_loads 29 = .ok (.lastore, 1) := dk_80 (dk_at dksX2_loads_1 5 rfl rfl)
theorem dX2_loads_30 : decode cX2_loads 30 = .ok (.aload_n 0, 1) := dk_42 (dk_at dksX2_loads_1 6 rfl rfl)
theorem dX2_loads_31 : decode cX2_loads 31 = .ok (.getfield 7, 3) := dk_180 0 7 (dk_at dksX2_loads_1 7 rfl rfl)
theorem dX2_loads_34 : decode cX2_loads 34 = .ok (.iload_n 3, 1) := dk_29 (dk_at dksX2_loads_1 10 rfl rfl)
theorem dX2_loads_35 : decode cX2_loads 35 = .ok (.iconst 2, 1) := dk_5 (dk_at dksX2_loads_1 11 rfl rfl)
theorem dX2_loads_36 : decode cX2_loads 36 = .ok (.iadd, 1) := dk_96 (dk_at dksX2_loads_1 12 rfl rfl)
theorem dX2_loads_37 : decode cX2_loads 37 = .ok (.lconst 0, 1) := dk_9 (dk_at dksX2_loads_1 13 rfl rfl)
theorem dX2_loads_38 : decode cX2_loads 38 = .ok (.lastore, 1) := dk_80 (dk_at dksX2_loads_1 14 rfl rfl)
theorem dX2_loads_39 : decode cX2_loads 39 = .ok (.aload_n 0, 1) := dk_42 (dk_at dksX2_loads_1 15 rfl rfl)
theorem dX2_loads_40 : decode cX2_loads 40 = .ok (.getfield 7, 3) := dk_180 0 7 (dk_at dksX2_loads_1 16 rfl rfl)
theorem dX2_loads_43 : decode cX2_loads 43 = .ok (.bipush 8, 2) := dk_16 8 (dk_at dksX2_loads_1 19 rfl rfl)
theorem dX2_loads_45 : decode cX2_loads 45 = .ok (.dup2, 1) := dk_92 (dk_at dksX2_loads_1 21 rfl rfl)
theorem dX2_loads_46 : decode cX2_loads 46 = .ok (.laload, 1) := dk_47 (dk_at dksX2_loads_1 22 rfl rfl)
theorem dX2_loads_47 : decode cX2_loads 47 = .ok (.lconst 1, 1) := dk_10 (dk_at dksX2_loads_1 23 rfl rfl)
theorem dX2_loads_48 : decode cX2_loads 48 = .ok (.ladd, 1) := dk_97 (dk_at dksX2_loads_2 0 rfl rfl)
theorem dX2_loads_49 : decode cX2_loads 49 = .ok (.lastore, 1) := dk_80 (dk_at dksX2_loads_2 1 rfl rfl)
theorem dX2_loads_50 : decode cX2_loads 50 = .ok (.aload_n 0, 1) := dk_42 (dk_at dksX2_loads_2 2 rfl rfl)
theorem dX2_loads_51 : decode cX2_loads 51 = .ok (.bipush 8, 2) := dk_16 8 (dk_at dksX2_loads_2 3 rfl rfl)
theorem dX2_loads_53 : decode cX2_loads 53 = .ok (.invokevirtual 37, 3) := dk_182 0 37 (dk_at dksX2_loads_2 5 rfl rfl)
theorem dX2_loads_56 : decode cX2_loads 56 = .ok (.iconst 1, 1) := dk_4 (dk_at dksX2_loads_2 8 rfl rfl)
theorem dX2_loads_57 : decode cX2_loads 57 = .ok (.isub, 1) := dk_100 (dk_at dksX2_loads_2 9 rfl rfl)
theorem dX2_loads_58 : decode cX2_loads 58 = .ok (.ireturn, 1) := dk_172 (dk_at dksX2_loads_2 10 rfl rfl)
abbrev cX2_turn : ByteArray := prog_10_method_27_code
def yX2_turn : MethodName := ⟨RX2, "turn", "(I)I"⟩
def dkwX2_turn_0 : List UInt8 := [42, 27, 182, 0, 113, 154, 0, 5, 2, 172, 42, 182, 0, 92, 42, 27, 182, 0, 116, 172]
abbrev dktX2_turn_0 : List UInt8 := dkwX2_turn_0 ++ []
theorem dksX2_turn_0 : cX2_turn.data.toList.drop 0 = dktX2_turn_0 := by decide +kernel
theorem dX2_turn_0 : decode cX2_turn 0 = .ok (.aload_n 0, 1) := dk_42 (dk_at dksX2_turn_0 0 rfl rfl)
theorem dX2_turn_1 : decode cX2_turn 1 = .ok (.iload_n 1, 1) := dk_27 (dk_at dksX2_turn_0 1 rfl rfl)
theorem dX2_turn_2 : decode cX2_turn 2 = .ok (.invokevirtual 113, 3) := dk_182 0 113 (dk_at dksX2_turn_0 2 rfl rfl)
theorem dX2_turn_5 : decode cX2_turn 5 = .ok (.ifCond .ne 5, 3) := dk_154 0 5 (dk_at dksX2_turn_0 5 rfl rfl)
theorem dX2_turn_8 : decode cX2_turn 8 = .ok (.iconst (-1), 1) := dk_2 (dk_at dksX2_turn_0 8 rfl rfl)
theorem dX2_turn_9 : decode cX2_turn 9 = .ok (.ireturn, 1) := dk_172 (dk_at dksX2_turn_0 9 rfl rfl)
theorem dX2_turn_10 : decode cX2_turn 10 = .ok (.aload_n 0, 1) := dk_42 (dk_at dksX2_turn_0 10 rfl rfl)
theorem dX2_turn_11 : decode cX2_turn 11 = .ok (.invokevirtual 92, 3) := dk_182 0 92 (dk_at dksX2_turn_0 11 rfl rfl)
theorem dX2_turn_14 : decode cX2_turn 14 = .ok (.aload_n 0, 1) := dk_42 (dk_at dksX2_turn_0 14 rfl rfl)
theorem dX2_turn_15 : decode cX2_turn 15 = .ok (.iload_n 1, 1) := dk_27 (dk_at dksX2_turn_0 15 rfl rfl)
theorem dX2_turn_16 : decode cX2_turn 16 = .ok (.invokevirtual 116, 3) := dk_182 0 116 (dk_at dksX2_turn_0 16 rfl rfl)
theorem dX2_turn_19 : decode cX2_turn 19 = .ok (.ireturn, 1) := dk_172 (dk_at dksX2_turn_0 19 rfl rfl)
abbrev cX2_isLoad : ByteArray := prog_10_method_25_code
def yX2_isLoad : MethodName := ⟨RX2, "isLoad", "(I)Z"⟩
def dkwX2_isLoad_0 : List UInt8 := [27, 3, 42, 16, 8, 182, 0, 37, 4, 100, 184, 0, 41, 172]
abbrev dktX2_isLoad_0 : List UInt8 := dkwX2_isLoad_0 ++ []
theorem dksX2_isLoad_0 : cX2_isLoad.data.toList.drop 0 = dktX2_isLoad_0 := by decide +kernel
theorem dX2_isLoad_0 : decode cX2_isLoad 0 = .ok (.iload_n 1, 1) := dk_27 (dk_at dksX2_isLoad_0 0 rfl rfl)
theorem dX2_isLoad_1 : decode cX2_isLoad 1 = .ok (.iconst 0, 1) := dk_3 (dk_at dksX2_isLoad_0 1 rfl rfl)
theorem dX2_isLoad_2 : decode cX2_isLoad 2 = .ok (.aload_n 0, 1) := dk_42 (dk_at dksX2_isLoad_0 2 rfl rfl)
theorem dX2_isLoad_3 : decode cX2_isLoad 3 = .ok (.bipush 8, 2) := dk_16 8 (dk_at dksX2_isLoad_0 3 rfl rfl)
theorem dX2_isLoad_5 : decode cX2_isLoad 5 = .ok (.invokevirtual 37, 3) := dk_182 0 37 (dk_at dksX2_isLoad_0 5 rfl rfl)
theorem dX2_isLoad_8 : decode cX2_isLoad 8 = .ok (.iconst 1, 1) := dk_4 (dk_at dksX2_isLoad_0 8 rfl rfl)
theorem dX2_isLoad_9 : decode cX2_isLoad 9 = .ok (.isub, 1) := dk_100 (dk_at dksX2_isLoad_0 9 rfl rfl)
theorem dX2_isLoad_10 : decode cX2_isLoad 10 = .ok (.invokestatic 41, 3) := dk_184 0 41 (dk_at dksX2_isLoad_0 10 rfl rfl)
theorem dX2_isLoad_13 : decode cX2_isLoad 13 = .ok (.ireturn, 1) := dk_172 (dk_at dksX2_isLoad_0 13 rfl rfl)
abbrev cX2_turns : ByteArray := prog_10_method_26_code
def yX2_turns : MethodName := ⟨RX2, "turns", "(I)I"⟩
def dkwX2_turns_1 : List UInt8 := [28, 182, 0, 37, 172]
abbrev dktX2_turns_1 : List UInt8 := dkwX2_turns_1 ++ []
def dkwX2_turns_0 : List UInt8 := [16, 102, 6, 27, 104, 96, 5, 96, 61, 42, 180, 0, 7, 28, 10, 42, 180, 0, 7, 28, 47, 101, 80, 42]
abbrev dktX2_turns_0 : List UInt8 := dkwX2_turns_0 ++ dktX2_turns_1
theorem dksX2_turns_0 : cX2_turns.data.toList.drop 0 = dktX2_turns_0 := by decide +kernel
theorem dksX2_turns_1 : cX2_turns.data.toList.drop 24 = dktX2_turns_1 := dk_seg dksX2_turns_0 24 rfl rfl
theorem dX2_turns_0 : decode cX2_turns 0 = .ok (.bipush 102, 2) := dk_16 102 (dk_at dksX2_turns_0 0 rfl rfl)
theorem dX2_turns_2 : decode cX2_turns 2 = .ok (.iconst 3, 1) := dk_6 (dk_at dksX2_turns_0 2 rfl rfl)
theorem dX2_turns_3 : decode cX2_turns 3 = .ok (.iload_n 1, 1) := dk_27 (dk_at dksX2_turns_0 3 rfl rfl)
theorem dX2_turns_4 : decode cX2_turns 4 = .ok (.imul, 1) := dk_104 (dk_at dksX2_turns_0 4 rfl rfl)
theorem dX2_turns_5 : decode cX2_turns 5 = .ok (.iadd, 1) := dk_96 (dk_at dksX2_turns_0 5 rfl rfl)
theorem dX2_turns_6 : decode cX2_turns 6 = .ok (.iconst 2, 1) := dk_5 (dk_at dksX2_turns_0 6 rfl rfl)
theorem dX2_turns_7 : decode cX2_turns 7 = .ok (.iadd, 1) := dk_96 (dk_at dksX2_turns_0 7 rfl rfl)
theorem dX2_turns_8 : decode cX2_turns 8 = .ok (.istore_n 2, 1) := dk_61 (dk_at dksX2_turns_0 8 rfl rfl)
theorem dX2_turns_9 : decode cX2_turns 9 = .ok (.aload_n 0, 1) := dk_42 (dk_at dksX2_turns_0 9 rfl rfl)
theorem dX2_turns_10 : decode cX2_turns 10 = .ok (.getfield 7, 3) := dk_180 0 7 (dk_at dksX2_turns_0 10 rfl rfl)
theorem dX2_turns_13 : decode cX2_turns 13 = .ok (.iload_n 2, 1) := dk_28 (dk_at dksX2_turns_0 13 rfl rfl)
theorem dX2_turns_14 : decode cX2_turns 14 = .ok (.lconst 1, 1) := dk_10 (dk_at dksX2_turns_0 14 rfl rfl)
theorem dX2_turns_15 : decode cX2_turns 15 = .ok (.aload_n 0, 1) := dk_42 (dk_at dksX2_turns_0 15 rfl rfl)
theorem dX2_turns_16 : decode cX2_turns 16 = .ok (.getfield 7, 3) := dk_180 0 7 (dk_at dksX2_turns_0 16 rfl rfl)
theorem dX2_turns_19 : decode cX2_turns 19 = .ok (.iload_n 2, 1) := dk_28 (dk_at dksX2_turns_0 19 rfl rfl)
theorem dX2_turns_20 : decode cX2_turns 20 = .ok (.laload, 1) := dk_47 (dk_at dksX2_turns_0 20 rfl rfl)
theorem dX2_turns_21 : decode cX2_turns 21 = .ok (.lsub, 1) := dk_101 (dk_at dksX2_turns_0 21 rfl rfl)
theorem dX2_turns_22 : decode cX2_turns 22 = .ok (.lastore, 1) := dk_80 (dk_at dksX2_turns_0 22 rfl rfl)
theorem dX2_turns_23 : decode cX2_turns 23 = .ok (.aload_n 0, 1) := dk_42 (dk_at dksX2_turns_0 23 rfl rfl)
theorem dX2_turns_24 : decode cX2_turns 24 = .ok (.iload_n 2, 1) := dk_28 (dk_at dksX2_turns_1 0 rfl rfl)
theorem dX2_turns_25 : decode cX2_turns 25 = .ok (.invokevirtual 37, 3) := dk_182 0 37 (dk_at dksX2_turns_1 1 rfl rfl)
theorem dX2_turns_28 : decode cX2_turns 28 = .ok (.ireturn, 1) := dk_172 (dk_at dksX2_turns_1 4 rfl rfl)
abbrev cX2_tamper : ByteArray := prog_10_method_29_code
def yX2_tamper : MethodName := ⟨RX2, "tamper", "(I)I"⟩
def dkwX2_tamper_1 : List UInt8 := [184, 0, 45, 16, 7, 96, 10, 80, 42, 27, 16, 6, 182, 0, 53, 172]
abbrev dktX2_tamper_1 : List UInt8 := dkwX2_tamper_1 ++ []
def dkwX2_tamper_0 : List UInt8 := [42, 27, 182, 0, 119, 61, 28, 156, 0, 5, 28, 172, 42, 182, 0, 92, 42, 180, 0, 7, 3, 27]
abbrev dktX2_tamper_0 : List UInt8 := dkwX2_tamper_0 ++ dktX2_tamper_1
theorem dksX2_tamper_0 : cX2_tamper.data.toList.drop 0 = dktX2_tamper_0 := by decide +kernel
theorem dksX2_tamper_1 : cX2_tamper.data.toList.drop 22 = dktX2_tamper_1 := dk_seg dksX2_tamper_0 22 rfl rfl
theorem dX2_tamper_0 : decode cX2_tamper 0 = .ok (.aload_n 0, 1) := dk_42 (dk_at dksX2_tamper_0 0 rfl rfl)
theorem dX2_tamper_1 : decode cX2_tamper 1 = .ok (.iload_n 1, 1) := dk_27 (dk_at dksX2_tamper_0 1 rfl rfl)
theorem dX2_tamper_2 : decode cX2_tamper 2 = .ok (.invokevirtual 119, 3) := dk_182 0 119 (dk_at dksX2_tamper_0 2 rfl rfl)
theorem dX2_tamper_5 : decode cX2_tamper 5 = .ok (.istore_n 2, 1) := dk_61 (dk_at dksX2_tamper_0 5 rfl rfl)
theorem dX2_tamper_6 : decode cX2_tamper 6 = .ok (.iload_n 2, 1) := dk_28 (dk_at dksX2_tamper_0 6 rfl rfl)
theorem dX2_tamper_7 : decode cX2_tamper 7 = .ok (.ifCond .ge 5, 3) := dk_156 0 5 (dk_at dksX2_tamper_0 7 rfl rfl)
theorem dX2_tamper_10 : decode cX2_tamper 10 = .ok (.iload_n 2, 1) := dk_28 (dk_at dksX2_tamper_0 10 rfl rfl)
theorem dX2_tamper_11 : decode cX2_tamper 11 = .ok (.ireturn, 1) := dk_172 (dk_at dksX2_tamper_0 11 rfl rfl)
theorem dX2_tamper_12 : decode cX2_tamper 12 = .ok (.aload_n 0, 1) := dk_42 (dk_at dksX2_tamper_0 12 rfl rfl)
theorem dX2_tamper_13 : decode cX2_tamper 13 = .ok (.invokevirtual 92, 3) := dk_182 0 92 (dk_at dksX2_tamper_0 13 rfl rfl)
theorem dX2_tamper_16 : decode cX2_tamper 16 = .ok (.aload_n 0, 1) := dk_42 (dk_at dksX2_tamper_0 16 rfl rfl)
theorem dX2_tamper_17 : decode cX2_tamper 17 = .ok (.getfield 7, 3) := dk_180 0 7 (dk_at dksX2_tamper_0 17 rfl rfl)
theorem dX2_tamper_20 : decode cX2_tamper 20 = .ok (.iconst 0, 1) := dk_3 (dk_at dksX2_tamper_0 20 rfl rfl)
theorem dX2_tamper_21 : decode cX2_tamper 21 = .ok (.iload_n 1, 1) := dk_27 (dk_at dksX2_tamper_0 21 rfl rfl)
theorem dX2_tamper_22 : decode cX2_tamper 22 = .ok (.invokestatic 45, 3) := dk_184 0 45 (dk_at dksX2_tamper_1 0 rfl rfl)
theorem dX2_tamper_25 : decode cX2_tamper 25 = .ok (.bipush 7, 2) := dk_16 7 (dk_at dksX2_tamper_1 3 rfl rfl)
theorem dX2_tamper_27 : decode cX2_tamper 27 = .ok (.iadd, 1) := dk_96 (dk_at dksX2_tamper_1 5 rfl rfl)
theorem dX2_tamper_28 : decode cX2_tamper 28 = .ok (.lconst 1, 1) := dk_10 (dk_at dksX2_tamper_1 6 rfl rfl)
theorem dX2_tamper_29 : decode cX2_tamper 29 = .ok (.lastore, 1) := dk_80 (dk_at dksX2_tamper_1 7 rfl rfl)
theorem dX2_tamper_30 : decode cX2_tamper 30 = .ok (.aload_n 0, 1) := dk_42 (dk_at dksX2_tamper_1 8 rfl rfl)
theorem dX2_tamper_31 : decode cX2_tamper 31 = .ok (.iload_n 1, 1) := dk_27 (dk_at dksX2_tamper_1 9 rfl rfl)
theorem dX2_tamper_32 : decode cX2_tamper 32 = .ok (.bipush 6, 2) := dk_16 6 (dk_at dksX2_tamper_1 10 rfl rfl)
theorem dX2_tamper_34 : decode cX2_tamper 34 = .ok (.invokevirtual 53, 3) := dk_182 0 53 (dk_at dksX2_tamper_1 12 rfl rfl)
theorem dX2_tamper_37 : decode cX2_tamper 37 = .ok (.ireturn, 1) := dk_172 (dk_at dksX2_tamper_1 15 rfl rfl)
abbrev cX2_whyNotTamper : ByteArray := prog_10_method_28_code
def yX2_whyNotTamper : MethodName := ⟨RX2, "whyNotTamper", "(I)I"⟩
def dkwX2_whyNotTamper_1 : List UInt8 := [16, 251, 167, 0, 4, 3, 172]
abbrev dktX2_whyNotTamper_1 : List UInt8 := dkwX2_whyNotTamper_1 ++ []
def dkwX2_whyNotTamper_0 : List UInt8 := [42, 27, 182, 0, 95, 154, 0, 7, 2, 167, 0, 20, 42, 27, 16, 7, 182, 0, 53, 4, 160, 0, 8]
abbrev dktX2_whyNotTamper_0 : List UInt8 := dkwX2_whyNotTamper_0 ++ dktX2_whyNotTamper_1
theorem dksX2_whyNotTamper_0 : cX2_whyNotTamper.data.toList.drop 0 = dktX2_whyNotTamper_0 := by decide +kernel
theorem dksX2_whyNotTamper_1 : cX2_whyNotTamper.data.toList.drop 23 = dktX2_whyNotTamper_1 := dk_seg dksX2_whyNotTamper_0 23 rfl rfl
theorem dX2_whyNotTamper_0 : decode cX2_whyNotTamper 0 = .ok (.aload_n 0, 1) := dk_42 (dk_at dksX2_whyNotTamper_0 0 rfl rfl)
theorem dX2_whyNotTamper_1 : decode cX2_whyNotTamper 1 = .ok (.iload_n 1, 1) := dk_27 (dk_at dksX2_whyNotTamper_0 1 rfl rfl)
theorem dX2_whyNotTamper_2 : decode cX2_whyNotTamper 2 = .ok (.invokevirtual 95, 3) := dk_182 0 95 (dk_at dksX2_whyNotTamper_0 2 rfl rfl)
theorem dX2_whyNotTamper_5 : decode cX2_whyNotTamper 5 = .ok (.ifCond .ne 7, 3) := dk_154 0 7 (dk_at dksX2_whyNotTamper_0 5 rfl rfl)
theorem dX2_whyNotTamper_8 : decode cX2_whyNotTamper 8 = .ok (.iconst (-1), 1) := dk_2 (dk_at dksX2_whyNotTamper_0 8 rfl rfl)
theorem dX2_whyNotTamper_9 : decode cX2_whyNotTamper 9 = .ok (.goto 20, 3) := dk_167 0 20 (dk_at dksX2_whyNotTamper_0 9 rfl rfl)
theorem dX2_whyNotTamper_12 : decode cX2_whyNotTamper 12 = .ok (.aload_n 0, 1) := dk_42 (dk_at dksX2_whyNotTamper_0 12 rfl rfl)
theorem dX2_whyNotTamper_13 : decode cX2_whyNotTamper 13 = .ok (.iload_n 1, 1) := dk_27 (dk_at dksX2_whyNotTamper_0 13 rfl rfl)
theorem dX2_whyNotTamper_14 : decode cX2_whyNotTamper 14 = .ok (.bipush 7, 2) := dk_16 7 (dk_at dksX2_whyNotTamper_0 14 rfl rfl)
theorem dX2_whyNotTamper_16 : decode cX2_whyNotTamper 16 = .ok (.invokevirtual 53, 3) := dk_182 0 53 (dk_at dksX2_whyNotTamper_0 16 rfl rfl)
theorem dX2_whyNotTamper_19 : decode cX2_whyNotTamper 19 = .ok (.iconst 1, 1) := dk_4 (dk_at dksX2_whyNotTamper_0 19 rfl rfl)
theorem dX2_whyNotTamper_20 : decode cX2_whyNotTamper 20 = .ok (.if_icmp .ne 8, 3) := dk_160 0 8 (dk_at dksX2_whyNotTamper_0 20 rfl rfl)
theorem dX2_whyNotTamper_23 : decode cX2_whyNotTamper 23 = .ok (.bipush (-5), 2) := dk_16 251 (dk_at dksX2_whyNotTamper_1 0 rfl rfl)
theorem dX2_whyNotTamper_25 : decode cX2_whyNotTamper 25 = .ok (.goto 4, 3) := dk_167 0 4 (dk_at dksX2_whyNotTamper_1 2 rfl rfl)
theorem dX2_whyNotTamper_28 : decode cX2_whyNotTamper 28 = .ok (.iconst 0, 1) := dk_3 (dk_at dksX2_whyNotTamper_1 5 rfl rfl)
theorem dX2_whyNotTamper_29 : decode cX2_whyNotTamper 29 = .ok (.ireturn, 1) := dk_172 (dk_at dksX2_whyNotTamper_1 6 rfl rfl)
abbrev cX2_its : ByteArray := prog_10_method_7_code
def yX2_its : MethodName := ⟨RX2, "its", "(II)I"⟩
def dkwX2_its_0 : List UInt8 := [42, 180, 0, 7, 3, 27, 184, 0, 45, 28, 96, 47, 136, 172]
abbrev dktX2_its_0 : List UInt8 := dkwX2_its_0 ++ []
theorem dksX2_its_0 : cX2_its.data.toList.drop 0 = dktX2_its_0 := by decide +kernel
theorem dX2_its_0 : decode cX2_its 0 = .ok (.aload_n 0, 1) := dk_42 (dk_at dksX2_its_0 0 rfl rfl)
theorem dX2_its_1 : decode cX2_its 1 = .ok (.getfield 7, 3) := dk_180 0 7 (dk_at dksX2_its_0 1 rfl rfl)
theorem dX2_its_4 : decode cX2_its 4 = .ok (.iconst 0, 1) := dk_3 (dk_at dksX2_its_0 4 rfl rfl)
theorem dX2_its_5 : decode cX2_its 5 = .ok (.iload_n 1, 1) := dk_27 (dk_at dksX2_its_0 5 rfl rfl)
theorem dX2_its_6 : decode cX2_its 6 = .ok (.invokestatic 45, 3) := dk_184 0 45 (dk_at dksX2_its_0 6 rfl rfl)
theorem dX2_its_9 : decode cX2_its 9 = .ok (.iload_n 2, 1) := dk_28 (dk_at dksX2_its_0 9 rfl rfl)
theorem dX2_its_10 : decode cX2_its 10 = .ok (.iadd, 1) := dk_96 (dk_at dksX2_its_0 10 rfl rfl)
theorem dX2_its_11 : decode cX2_its 11 = .ok (.laload, 1) := dk_47 (dk_at dksX2_its_0 11 rfl rfl)
theorem dX2_its_12 : decode cX2_its 12 = .ok (.l2i, 1) := dk_136 (dk_at dksX2_its_0 12 rfl rfl)
theorem dX2_its_13 : decode cX2_its 13 = .ok (.ireturn, 1) := dk_172 (dk_at dksX2_its_0 13 rfl rfl)
abbrev cX2_visit : ByteArray := prog_10_method_32_code
def yX2_visit : MethodName := ⟨RX2, "visit", "(I)I"⟩
def dkwX2_visit_0 : List UInt8 := [42, 27, 182, 0, 95, 154, 0, 5, 2, 172, 42, 182, 0, 92, 42, 27, 182, 0, 125, 172]
abbrev dktX2_visit_0 : List UInt8 := dkwX2_visit_0 ++ []
theorem dksX2_visit_0 : cX2_visit.data.toList.drop 0 = dktX2_visit_0 := by decide +kernel
theorem dX2_visit_0 : decode cX2_visit 0 = .ok (.aload_n 0, 1) := dk_42 (dk_at dksX2_visit_0 0 rfl rfl)
theorem dX2_visit_1 : decode cX2_visit 1 = .ok (.iload_n 1, 1) := dk_27 (dk_at dksX2_visit_0 1 rfl rfl)
theorem dX2_visit_2 : decode cX2_visit 2 = .ok (.invokevirtual 95, 3) := dk_182 0 95 (dk_at dksX2_visit_0 2 rfl rfl)
theorem dX2_visit_5 : decode cX2_visit 5 = .ok (.ifCond .ne 5, 3) := dk_154 0 5 (dk_at dksX2_visit_0 5 rfl rfl)
theorem dX2_visit_8 : decode cX2_visit 8 = .ok (.iconst (-1), 1) := dk_2 (dk_at dksX2_visit_0 8 rfl rfl)
theorem dX2_visit_9 : decode cX2_visit 9 = .ok (.ireturn, 1) := dk_172 (dk_at dksX2_visit_0 9 rfl rfl)
theorem dX2_visit_10 : decode cX2_visit 10 = .ok (.aload_n 0, 1) := dk_42 (dk_at dksX2_visit_0 10 rfl rfl)
theorem dX2_visit_11 : decode cX2_visit 11 = .ok (.invokevirtual 92, 3) := dk_182 0 92 (dk_at dksX2_visit_0 11 rfl rfl)
theorem dX2_visit_14 : decode cX2_visit 14 = .ok (.aload_n 0, 1) := dk_42 (dk_at dksX2_visit_0 14 rfl rfl)
theorem dX2_visit_15 : decode cX2_visit 15 = .ok (.iload_n 1, 1) := dk_27 (dk_at dksX2_visit_0 15 rfl rfl)
theorem dX2_visit_16 : decode cX2_visit 16 = .ok (.invokevirtual 125, 3) := dk_182 0 125 (dk_at dksX2_visit_0 16 rfl rfl)
theorem dX2_visit_19 : decode cX2_visit 19 = .ok (.ireturn, 1) := dk_172 (dk_at dksX2_visit_0 19 rfl rfl)
abbrev cX2_visits : ByteArray := prog_10_method_31_code
def yX2_visits : MethodName := ⟨RX2, "visits", "(I)I"⟩
def dkwX2_visits_6 : List UInt8 := [180, 0, 7, 16, 10, 47, 80, 42, 180, 0, 7, 28, 16, 7, 96, 9, 80, 29, 172]
abbrev dktX2_visits_6 : List UInt8 := dkwX2_visits_6 ++ []
def dkwX2_visits_5 : List UInt8 := [154, 0, 40, 42, 180, 0, 7, 16, 10, 92, 47, 10, 97, 80, 42, 180, 0, 7, 28, 16, 6, 96, 42]
abbrev dktX2_visits_5 : List UInt8 := dkwX2_visits_5 ++ dktX2_visits_6
def dkwX2_visits_4 : List UInt8 := [180, 0, 7, 28, 16, 10, 96, 92, 47, 10, 97, 80, 42, 180, 0, 7, 28, 16, 7, 96, 47, 10, 148]
abbrev dktX2_visits_4 : List UInt8 := dkwX2_visits_4 ++ dktX2_visits_5
def dkwX2_visits_3 : List UInt8 := [80, 42, 180, 0, 7, 28, 5, 96, 20, 0, 66, 80, 42, 180, 0, 7, 28, 16, 9, 96, 9, 80, 42]
abbrev dktX2_visits_3 : List UInt8 := dkwX2_visits_3 ++ dktX2_visits_4
def dkwX2_visits_2 : List UInt8 := [180, 0, 7, 28, 16, 8, 96, 92, 47, 29, 133, 97, 80, 42, 180, 0, 7, 16, 9, 92, 47, 29, 133, 97]
abbrev dktX2_visits_2 : List UInt8 := dkwX2_visits_2 ++ dktX2_visits_3
def dkwX2_visits_1 : List UInt8 := [28, 6, 96, 47, 80, 42, 180, 0, 7, 28, 16, 12, 96, 42, 180, 0, 7, 28, 7, 96, 47, 80, 42]
abbrev dktX2_visits_1 : List UInt8 := dkwX2_visits_1 ++ dktX2_visits_2
def dkwX2_visits_0 : List UInt8 := [3, 27, 184, 0, 45, 61, 42, 27, 182, 0, 122, 62, 42, 180, 0, 7, 28, 16, 11, 96, 42, 180, 0, 7]
abbrev dktX2_visits_0 : List UInt8 := dkwX2_visits_0 ++ dktX2_visits_1
theorem dksX2_visits_0 : cX2_visits.data.toList.drop 0 = dktX2_visits_0 := by decide +kernel
theorem dksX2_visits_1 : cX2_visits.data.toList.drop 24 = dktX2_visits_1 := dk_seg dksX2_visits_0 24 rfl rfl
theorem dksX2_visits_2 : cX2_visits.data.toList.drop 47 = dktX2_visits_2 := dk_seg dksX2_visits_1 23 rfl rfl
theorem dksX2_visits_3 : cX2_visits.data.toList.drop 71 = dktX2_visits_3 := dk_seg dksX2_visits_2 24 rfl rfl
theorem dksX2_visits_4 : cX2_visits.data.toList.drop 94 = dktX2_visits_4 := dk_seg dksX2_visits_3 23 rfl rfl
theorem dksX2_visits_5 : cX2_visits.data.toList.drop 117 = dktX2_visits_5 := dk_seg dksX2_visits_4 23 rfl rfl
theorem dksX2_visits_6 : cX2_visits.data.toList.drop 140 = dktX2_visits_6 := dk_seg dksX2_visits_5 23 rfl rfl
theorem dX2_visits_0 : decode cX2_visits 0 = .ok (.iconst 0, 1) := dk_3 (dk_at dksX2_visits_0 0 rfl rfl)
theorem dX2_visits_1 : decode cX2_visits 1 = .ok (.iload_n 1, 1) := dk_27 (dk_at dksX2_visits_0 1 rfl rfl)
theorem dX2_visits_2 : decode cX2_visits 2 = .ok (.invokestatic 45, 3) := dk_184 0 45 (dk_at dksX2_visits_0 2 rfl rfl)
theorem dX2_visits_5 : decode cX2_visits 5 = .ok (.istore_n 2, 1) := dk_61 (dk_at dksX2_visits_0 5 rfl rfl)
theorem dX2_visits_6 : decode cX2_visits 6 = .ok (.aload_n 0, 1) := dk_42 (dk_at dksX2_visits_0 6 rfl rfl)
theorem dX2_visits_7 : decode cX2_visits 7 = .ok (.iload_n 1, 1) := dk_27 (dk_at dksX2_visits_0 7 rfl rfl)
theorem dX2_visits_8 : decode cX2_visits 8 = .ok (.invokevirtual 122, 3) := dk_182 0 122 (dk_at dksX2_visits_0 8 rfl rfl)
theorem dX2_visits_11 : decode cX2_visits 11 = .ok (.istore_n 3, 1) := dk_62 (dk_at dksX2_visits_0 11 rfl rfl)
theorem dX2_visits_12 : decode cX2_visits 12 = .ok (.aload_n 0, 1) := dk_42 (dk_at dksX2_visits_0 12 rfl rfl)
theorem dX2_visits_13 : decode cX2_visits 13 = .ok (.getfield 7, 3) := dk_180 0 7 (dk_at dksX2_visits_0 13 rfl rfl)
theorem dX2_visits_16 : decode cX2_visits 16 = .ok (.iload_n 2, 1) := dk_28 (dk_at dksX2_visits_0 16 rfl rfl)
theorem dX2_visits_17 : decode cX2_visits 17 = .ok (.bipush 11, 2) := dk_16 11 (dk_at dksX2_visits_0 17 rfl rfl)
theorem dX2_visits_19 : decode cX2_visits 19 = .ok (.iadd, 1) := dk_96 (dk_at dksX2_visits_0 19 rfl rfl)
theorem dX2_visits_20 : decode cX2_visits 20 = .ok (.aload_n 0, 1) := dk_42 (dk_at dksX2_visits_0 20 rfl rfl)
theorem dX2_visits_21 : decode cX2_visits 21 = .ok (.getfield 7, 3) := dk_180 0 7 (dk_at dksX2_visits_0 21 rfl rfl)
theorem dX2_visits_24 : decode cX2_visits 24 = .ok (.iload_n 2, 1) := dk_28 (dk_at dksX2_visits_1 0 rfl rfl)
theorem dX2_visits_25 : decode cX2_visits 25 = .ok (.iconst 3, 1) := dk_6 (dk_at dksX2_visits_1 1 rfl rfl)
theorem dX2_visits_26 : decode cX2_visits 26 = .ok (.iadd, 1) := dk_96 (dk_at dksX2_visits_1 2 rfl rfl)
theorem dX2_visits_27 : decode cX2_visits 27 = .ok (.laload, 1) := dk_47 (dk_at dksX2_visits_1 3 rfl rfl)
theorem dX2_visits_28 : decode cX2_visits 28 = .ok (.lastore, 1) := dk_80 (dk_at dksX2_visits_1 4 rfl rfl)
theorem dX2_visits_29 : decode cX2_visits 29 = .ok (.aload_n 0, 1) := dk_42 (dk_at dksX2_visits_1 5 rfl rfl)
theorem dX2_visits_30 : decode cX2_visits 30 = .ok (.getfield 7, 3) := dk_180 0 7 (dk_at dksX2_visits_1 6 rfl rfl)
theorem dX2_visits_33 : decode cX2_visits 33 = .ok (.iload_n 2, 1) := dk_28 (dk_at dksX2_visits_1 9 rfl rfl)
theorem dX2_visits_34 : decode cX2_visits 34 = .ok (.bipush 12, 2) := dk_16 12 (dk_at dksX2_visits_1 10 rfl rfl)
theorem dX2_visits_36 : decode cX2_visits 36 = .ok (.iadd, 1) := dk_96 (dk_at dksX2_visits_1 12 rfl rfl)
theorem dX2_visits_37 : decode cX2_visits 37 = .ok (.aload_n 0, 1) := dk_42 (dk_at dksX2_visits_1 13 rfl rfl)
theorem dX2_visits_38 : decode cX2_visits 38 = .ok (.getfield 7, 3) := dk_180 0 7 (dk_at dksX2_visits_1 14 rfl rfl)
theorem dX2_visits_41 : decode cX2_visits 41 = .ok (.iload_n 2, 1) := dk_28 (dk_at dksX2_visits_1 17 rfl rfl)
theorem dX2_visits_42 : decode cX2_visits 42 = .ok (.iconst 4, 1) := dk_7 (dk_at dksX2_visits_1 18 rfl rfl)
theorem dX2_visits_43 : decode cX2_visits 43 = .ok (.iadd, 1) := dk_96 (dk_at dksX2_visits_1 19 rfl rfl)
theorem dX2_visits_44 : decode cX2_visits 44 = .ok (.laload, 1) := dk_47 (dk_at dksX2_visits_1 20 rfl rfl)
theorem dX2_visits_45 : decode cX2_visits 45 = .ok (.lastore, 1) := dk_80 (dk_at dksX2_visits_1 21 rfl rfl)
theorem dX2_visits_46 : decode cX2_visits 46 = .ok (.aload_n 0, 1) := dk_42 (dk_at dksX2_visits_1 22 rfl rfl)
theorem dX2_visits_47 : decode cX2_visits 47 = .ok (.getfield 7, 3) := dk_180 0 7 (dk_at dksX2_visits_2 0 rfl rfl)
theorem dX2_visits_50 : decode cX2_visits 50 = .ok (.iload_n 2, 1) := dk_28 (dk_at dksX2_visits_2 3 rfl rfl)
theorem dX2_visits_51 : decode cX2_visits 51 = .ok (.bipush 8, 2) := dk_16 8 (dk_at dksX2_visits_2 4 rfl rfl)
theorem dX2_visits_53 : decode cX2_visits 53 = .ok (.iadd, 1) := dk_96 (dk_at dksX2_visits_2 6 rfl rfl)
theorem dX2_visits_54 : decode cX2_visits 54 = .ok (.dup2, 1) := dk_92 (dk_at dksX2_visits_2 7 rfl rfl)
theorem dX2_visits_55 : decode cX2_visits 55 = .ok (.laload, 1) := dk_47 (dk_at dksX2_visits_2 8 rfl rfl)
theorem dX2_visits_56 : decode cX2_visits 56 = .ok (.iload_n 3, 1) := dk_29 (dk_at dksX2_visits_2 9 rfl rfl)
theorem dX2_visits_57 : decode cX2_visits 57 = .ok (.i2l, 1) := dk_133 (dk_at dksX2_visits_2 10 rfl rfl)
theorem dX2_visits_58 : decode cX2_visits 58 = .ok (.ladd, 1) := dk_97 (dk_at dksX2_visits_2 11 rfl rfl)
theorem dX2_visits_59 : decode cX2_visits 59 = .ok (.lastore, 1) := dk_80 (dk_at dksX2_visits_2 12 rfl rfl)
theorem dX2_visits_60 : decode cX2_visits 60 = .ok (.aload_n 0, 1) := dk_42 (dk_at dksX2_visits_2 13 rfl rfl)
theorem dX2_visits_61 : decode cX2_visits 61 = .ok (.getfield 7, 3) := dk_180 0 7 (dk_at dksX2_visits_2 14 rfl rfl)
theorem dX2_visits_64 : decode cX2_visits 64 = .ok (.bipush 9, 2) := dk_16 9 (dk_at dksX2_visits_2 17 rfl rfl)
theorem dX2_visits_66 : decode cX2_visits 66 = .ok (.dup2, 1) := dk_92 (dk_at dksX2_visits_2 19 rfl rfl)
theorem dX2_visits_67 : decode cX2_visits 67 = .ok (.laload, 1) := dk_47 (dk_at dksX2_visits_2 20 rfl rfl)
theorem dX2_visits_68 : decode cX2_visits 68 = .ok (.iload_n 3, 1) := dk_29 (dk_at dksX2_visits_2 21 rfl rfl)
theorem dX2_visits_69 : decode cX2_visits 69 = .ok (.i2l, 1) := dk_133 (dk_at dksX2_visits_2 22 rfl rfl)
theorem dX2_visits_70 : decode cX2_visits 70 = .ok (.ladd, 1) := dk_97 (dk_at dksX2_visits_2 23 rfl rfl)
theorem dX2_visits_71 : decode cX2_visits 71 = .ok (.lastore, 1) := dk_80 (dk_at dksX2_visits_3 0 rfl rfl)
theorem dX2_visits_72 : decode cX2_visits 72 = .ok (.aload_n 0, 1) := dk_42 (dk_at dksX2_visits_3 1 rfl rfl)
theorem dX2_visits_73 : decode cX2_visits 73 = .ok (.getfield 7, 3) := dk_180 0 7 (dk_at dksX2_visits_3 2 rfl rfl)
theorem dX2_visits_76 : decode cX2_visits 76 = .ok (.iload_n 2, 1) := dk_28 (dk_at dksX2_visits_3 5 rfl rfl)
theorem dX2_visits_77 : decode cX2_visits 77 = .ok (.iconst 2, 1) := dk_5 (dk_at dksX2_visits_3 6 rfl rfl)
theorem dX2_visits_78 : decode cX2_visits 78 = .ok (.iadd, 1) := dk_96 (dk_at dksX2_visits_3 7 rfl rfl)
theorem dX2_visits_79 : decode cX2_visits 79 = .ok (.ldc2_w 66, 3) := dk_20 0 66 (dk_at dksX2_visits_3 8 rfl rfl)
theorem dX2_visits_82 : decode cX2_visits 82 = .ok (.lastore, 1) := dk_80 (dk_at dksX2_visits_3 11 rfl rfl)
theorem dX2_visits_83 : decode cX2_visits 83 = .ok (.aload_n 0, 1) := dk_42 (dk_at dksX2_visits_3 12 rfl rfl)
theorem dX2_visits_84 : decode cX2_visits 84 = .ok (.getfield 7, 3) := dk_180 0 7 (dk_at dksX2_visits_3 13 rfl rfl)
theorem dX2_visits_87 : decode cX2_visits 87 = .ok (.iload_n 2, 1) := dk_28 (dk_at dksX2_visits_3 16 rfl rfl)
theorem dX2_visits_88 : decode cX2_visits 88 = .ok (.bipush 9, 2) := dk_16 9 (dk_at dksX2_visits_3 17 rfl rfl)
theorem dX2_visits_90 : decode cX2_visits 90 = .ok (.iadd, 1) := dk_96 (dk_at dksX2_visits_3 19 rfl rfl)
theorem dX2_visits_91 : decode cX2_visits 91 = .ok (.lconst 0, 1) := dk_9 (dk_at dksX2_visits_3 20 rfl rfl)
theorem dX2_visits_92 : decode cX2_visits 92 = .ok (.lastore, 1) := dk_80 (dk_at dksX2_visits_3 21 rfl rfl)
theorem dX2_visits_93 : decode cX2_visits 93 = .ok (.aload_n 0, 1) := dk_42 (dk_at dksX2_visits_3 22 rfl rfl)
theorem dX2_visits_94 : decode cX2_visits 94 = .ok (.getfield 7, 3) := dk_180 0 7 (dk_at dksX2_visits_4 0 rfl rfl)
theorem dX2_visits_97 : decode cX2_visits 97 = .ok (.iload_n 2, 1) := dk_28 (dk_at dksX2_visits_4 3 rfl rfl)
theorem dX2_visits_98 : decode cX2_visits 98 = .ok (.bipush 10, 2) := dk_16 10 (dk_at dksX2_visits_4 4 rfl rfl)
theorem dX2_visits_100 : decode cX2_visits 100 = .ok (.iadd, 1) := dk_96 (dk_at dksX2_visits_4 6 rfl rfl)
theorem dX2_visits_101 : decode cX2_visits 101 = .ok (.dup2, 1) := dk_92 (dk_at dksX2_visits_4 7 rfl rfl)
theorem dX2_visits_102 : decode cX2_visits 102 = .ok (.laload, 1) := dk_47 (dk_at dksX2_visits_4 8 rfl rfl)
theorem dX2_visits_103 : decode cX2_visits 103 = .ok (.lconst 1, 1) := dk_10 (dk_at dksX2_visits_4 9 rfl rfl)
theorem dX2_visits_104 : decode cX2_visits 104 = .ok (.ladd, 1) := dk_97 (dk_at dksX2_visits_4 10 rfl rfl)
theorem dX2_visits_105 : decode cX2_visits 105 = .ok (.lastore, 1) := dk_80 (dk_at dksX2_visits_4 11 rfl rfl)
theorem dX2_visits_106 : decode cX2_visits 106 = .ok (.aload_n 0, 1) := dk_42 (dk_at dksX2_visits_4 12 rfl rfl)
theorem dX2_visits_107 : decode cX2_visits 107 = .ok (.getfield 7, 3) := dk_180 0 7 (dk_at dksX2_visits_4 13 rfl rfl)
theorem dX2_visits_110 : decode cX2_visits 110 = .ok (.iload_n 2, 1) := dk_28 (dk_at dksX2_visits_4 16 rfl rfl)
theorem dX2_visits_111 : decode cX2_visits 111 = .ok (.bipush 7, 2) := dk_16 7 (dk_at dksX2_visits_4 17 rfl rfl)
theorem dX2_visits_113 : decode cX2_visits 113 = .ok (.iadd, 1) := dk_96 (dk_at dksX2_visits_4 19 rfl rfl)
theorem dX2_visits_114 : decode cX2_visits 114 = .ok (.laload, 1) := dk_47 (dk_at dksX2_visits_4 20 rfl rfl)
theorem dX2_visits_115 : decode cX2_visits 115 = .ok (.lconst 1, 1) := dk_10 (dk_at dksX2_visits_4 21 rfl rfl)
theorem dX2_visits_116 : decode cX2_visits 116 = .ok (.lcmp, 1) := dk_148 (dk_at dksX2_visits_4 22 rfl rfl)
theorem dX2_visits_117 : decode cX2_visits 117 = .ok (.ifCond .ne 40, 3) := dk_154 0 40 (dk_at dksX2_visits_5 0 rfl rfl)
theorem dX2_visits_120 : decode cX2_visits 120 = .ok (.aload_n 0, 1) := dk_42 (dk_at dksX2_visits_5 3 rfl rfl)
theorem dX2_visits_121 : decode cX2_visits 121 = .ok (.getfield 7, 3) := dk_180 0 7 (dk_at dksX2_visits_5 4 rfl rfl)
theorem dX2_visits_124 : decode cX2_visits 124 = .ok (.bipush 10, 2) := dk_16 10 (dk_at dksX2_visits_5 7 rfl rfl)
theorem dX2_visits_126 : decode cX2_visits 126 = .ok (.dup2, 1) := dk_92 (dk_at dksX2_visits_5 9 rfl rfl)
theorem dX2_visits_127 : decode cX2_visits 127 = .ok (.laload, 1) := dk_47 (dk_at dksX2_visits_5 10 rfl rfl)
theorem dX2_visits_128 : decode cX2_visits 128 = .ok (.lconst 1, 1) := dk_10 (dk_at dksX2_visits_5 11 rfl rfl)
theorem dX2_visits_129 : decode cX2_visits 129 = .ok (.ladd, 1) := dk_97 (dk_at dksX2_visits_5 12 rfl rfl)
theorem dX2_visits_130 : decode cX2_visits 130 = .ok (.lastore, 1) := dk_80 (dk_at dksX2_visits_5 13 rfl rfl)
theorem dX2_visits_131 : decode cX2_visits 131 = .ok (.aload_n 0, 1) := dk_42 (dk_at dksX2_visits_5 14 rfl rfl)
theorem dX2_visits_132 : decode cX2_visits 132 = .ok (.getfield 7, 3) := dk_180 0 7 (dk_at dksX2_visits_5 15 rfl rfl)
theorem dX2_visits_135 : decode cX2_visits 135 = .ok (.iload_n 2, 1) := dk_28 (dk_at dksX2_visits_5 18 rfl rfl)
theorem dX2_visits_136 : decode cX2_visits 136 = .ok (.bipush 6, 2) := dk_16 6 (dk_at dksX2_visits_5 19 rfl rfl)
theorem dX2_visits_138 : decode cX2_visits 138 = .ok (.iadd, 1) := dk_96 (dk_at dksX2_visits_5 21 rfl rfl)
theorem dX2_visits_139 : decode cX2_visits 139 = .ok (.aload_n 0, 1) := dk_42 (dk_at dksX2_visits_5 22 rfl rfl)
theorem dX2_visits_140 : decode cX2_visits 140 = .ok (.getfield 7, 3) := dk_180 0 7 (dk_at dksX2_visits_6 0 rfl rfl)
theorem dX2_visits_143 : decode cX2_visits 143 = .ok (.bipush 10, 2) := dk_16 10 (dk_at dksX2_visits_6 3 rfl rfl)
theorem dX2_visits_145 : decode cX2_visits 145 = .ok (.laload, 1) := dk_47 (dk_at dksX2_visits_6 5 rfl rfl)
theorem dX2_visits_146 : decode cX2_visits 146 = .ok (.lastore, 1) := dk_80 (dk_at dksX2_visits_6 6 rfl rfl)
theorem dX2_visits_147 : decode cX2_visits 147 = .ok (.aload_n 0, 1) := dk_42 (dk_at dksX2_visits_6 7 rfl rfl)
theorem dX2_visits_148 : decode cX2_visits 148 = .ok (.getfield 7, 3) := dk_180 0 7 (dk_at dksX2_visits_6 8 rfl rfl)
theorem dX2_visits_151 : decode cX2_visits 151 = .ok (.iload_n 2, 1) := dk_28 (dk_at dksX2_visits_6 11 rfl rfl)
theorem dX2_visits_152 : decode cX2_visits 152 = .ok (.bipush 7, 2) := dk_16 7 (dk_at dksX2_visits_6 12 rfl rfl)
theorem dX2_visits_154 : decode cX2_visits 154 = .ok (.iadd, 1) := dk_96 (dk_at dksX2_visits_6 14 rfl rfl)
theorem dX2_visits_155 : decode cX2_visits 155 = .ok (.lconst 0, 1) := dk_9 (dk_at dksX2_visits_6 15 rfl rfl)
theorem dX2_visits_156 : decode cX2_visits 156 = .ok (.lastore, 1) := dk_80 (dk_at dksX2_visits_6 16 rfl rfl)
theorem dX2_visits_157 : decode cX2_visits 157 = .ok (.iload_n 3, 1) := dk_29 (dk_at dksX2_visits_6 17 rfl rfl)
theorem dX2_visits_158 : decode cX2_visits 158 = .ok (.ireturn, 1) := dk_172 (dk_at dksX2_visits_6 18 rfl rfl)
abbrev cX2_billOf : ByteArray := prog_10_method_30_code
def yX2_billOf : MethodName := ⟨RX2, "billOf", "(I)I"⟩
def dkwX2_billOf_2 : List UInt8 := [180, 0, 7, 28, 16, 12, 96, 47, 101, 105, 97, 136, 172]
abbrev dktX2_billOf_2 : List UInt8 := dkwX2_billOf_2 ++ []
def dkwX2_billOf_1 : List UInt8 := [28, 16, 11, 96, 47, 101, 105, 42, 180, 0, 7, 8, 47, 42, 180, 0, 7, 28, 7, 96, 47, 42]
abbrev dktX2_billOf_1 : List UInt8 := dkwX2_billOf_1 ++ dktX2_billOf_2
def dkwX2_billOf_0 : List UInt8 := [3, 27, 184, 0, 45, 61, 42, 180, 0, 7, 7, 47, 42, 180, 0, 7, 28, 6, 96, 47, 42, 180, 0, 7]
abbrev dktX2_billOf_0 : List UInt8 := dkwX2_billOf_0 ++ dktX2_billOf_1
theorem dksX2_billOf_0 : cX2_billOf.data.toList.drop 0 = dktX2_billOf_0 := by decide +kernel
theorem dksX2_billOf_1 : cX2_billOf.data.toList.drop 24 = dktX2_billOf_1 := dk_seg dksX2_billOf_0 24 rfl rfl
theorem dksX2_billOf_2 : cX2_billOf.data.toList.drop 46 = dktX2_billOf_2 := dk_seg dksX2_billOf_1 22 rfl rfl
theorem dX2_billOf_0 : decode cX2_billOf 0 = .ok (.iconst 0, 1) := dk_3 (dk_at dksX2_billOf_0 0 rfl rfl)
theorem dX2_billOf_1 : decode cX2_billOf 1 = .ok (.iload_n 1, 1) := dk_27 (dk_at dksX2_billOf_0 1 rfl rfl)
theorem dX2_billOf_2 : decode cX2_billOf 2 = .ok (.invokestatic 45, 3) := dk_184 0 45 (dk_at dksX2_billOf_0 2 rfl rfl)
theorem dX2_billOf_5 : decode cX2_billOf 5 = .ok (.istore_n 2, 1) := dk_61 (dk_at dksX2_billOf_0 5 rfl rfl)
theorem dX2_billOf_6 : decode cX2_billOf 6 = .ok (.aload_n 0, 1) := dk_42 (dk_at dksX2_billOf_0 6 rfl rfl)
theorem dX2_billOf_7 : decode cX2_billOf 7 = .ok (.getfield 7, 3) := dk_180 0 7 (dk_at dksX2_billOf_0 7 rfl rfl)
theorem dX2_billOf_10 : decode cX2_billOf 10 = .ok (.iconst 4, 1) := dk_7 (dk_at dksX2_billOf_0 10 rfl rfl)
theorem dX2_billOf_11 : decode cX2_billOf 11 = .ok (.laload, 1) := dk_47 (dk_at dksX2_billOf_0 11 rfl rfl)
theorem dX2_billOf_12 : decode cX2_billOf 12 = .ok (.aload_n 0, 1) := dk_42 (dk_at dksX2_billOf_0 12 rfl rfl)
theorem dX2_billOf_13 : decode cX2_billOf 13 = .ok (.getfield 7, 3) := dk_180 0 7 (dk_at dksX2_billOf_0 13 rfl rfl)
theorem dX2_billOf_16 : decode cX2_billOf 16 = .ok (.iload_n 2, 1) := dk_28 (dk_at dksX2_billOf_0 16 rfl rfl)
theorem dX2_billOf_17 : decode cX2_billOf 17 = .ok (.iconst 3, 1) := dk_6 (dk_at dksX2_billOf_0 17 rfl rfl)
theorem dX2_billOf_18 : decode cX2_billOf 18 = .ok (.iadd, 1) := dk_96 (dk_at dksX2_billOf_0 18 rfl rfl)
theorem dX2_billOf_19 : decode cX2_billOf 19 = .ok (.laload, 1) := dk_47 (dk_at dksX2_billOf_0 19 rfl rfl)
theorem dX2_billOf_20 : decode cX2_billOf 20 = .ok (.aload_n 0, 1) := dk_42 (dk_at dksX2_billOf_0 20 rfl rfl)
theorem dX2_billOf_21 : decode cX2_billOf 21 = .ok (.getfield 7, 3) := dk_180 0 7 (dk_at dksX2_billOf_0 21 rfl rfl)
theorem dX2_billOf_24 : decode cX2_billOf 24 = .ok (.iload_n 2, 1) := dk_28 (dk_at dksX2_billOf_1 0 rfl rfl)
theorem dX2_billOf_25 : decode cX2_billOf 25 = .ok (.bipush 11, 2) := dk_16 11 (dk_at dksX2_billOf_1 1 rfl rfl)
theorem dX2_billOf_27 : decode cX2_billOf 27 = .ok (.iadd, 1) := dk_96 (dk_at dksX2_billOf_1 3 rfl rfl)
theorem dX2_billOf_28 : decode cX2_billOf 28 = .ok (.laload, 1) := dk_47 (dk_at dksX2_billOf_1 4 rfl rfl)
theorem dX2_billOf_29 : decode cX2_billOf 29 = .ok (.lsub, 1) := dk_101 (dk_at dksX2_billOf_1 5 rfl rfl)
theorem dX2_billOf_30 : decode cX2_billOf 30 = .ok (.lmul, 1) := dk_105 (dk_at dksX2_billOf_1 6 rfl rfl)
theorem dX2_billOf_31 : decode cX2_billOf 31 = .ok (.aload_n 0, 1) := dk_42 (dk_at dksX2_billOf_1 7 rfl rfl)
theorem dX2_billOf_32 : decode cX2_billOf 32 = .ok (.getfield 7, 3) := dk_180 0 7 (dk_at dksX2_billOf_1 8 rfl rfl)
theorem dX2_billOf_35 : decode cX2_billOf 35 = .ok (.iconst 5, 1) := dk_8 (dk_at dksX2_billOf_1 11 rfl rfl)
theorem dX2_billOf_36 : decode cX2_billOf 36 = .ok (.laload, 1) := dk_47 (dk_at dksX2_billOf_1 12 rfl rfl)
theorem dX2_billOf_37 : decode cX2_billOf 37 = .ok (.aload_n 0, 1) := dk_42 (dk_at dksX2_billOf_1 13 rfl rfl)
theorem dX2_billOf_38 : decode cX2_billOf 38 = .ok (.getfield 7, 3) := dk_180 0 7 (dk_at dksX2_billOf_1 14 rfl rfl)
theorem dX2_billOf_41 : decode cX2_billOf 41 = .ok (.iload_n 2, 1) := dk_28 (dk_at dksX2_billOf_1 17 rfl rfl)
theorem dX2_billOf_42 : decode cX2_billOf 42 = .ok (.iconst 4, 1) := dk_7 (dk_at dksX2_billOf_1 18 rfl rfl)
theorem dX2_billOf_43 : decode cX2_billOf 43 = .ok (.iadd, 1) := dk_96 (dk_at dksX2_billOf_1 19 rfl rfl)
theorem dX2_billOf_44 : decode cX2_billOf 44 = .ok (.laload, 1) := dk_47 (dk_at dksX2_billOf_1 20 rfl rfl)
theorem dX2_billOf_45 : decode cX2_billOf 45 = .ok (.aload_n 0, 1) := dk_42 (dk_at dksX2_billOf_1 21 rfl rfl)
theorem dX2_billOf_46 : decode cX2_billOf 46 = .ok (.getfield 7, 3) := dk_180 0 7 (dk_at dksX2_billOf_2 0 rfl rfl)
theorem dX2_billOf_49 : decode cX2_billOf 49 = .ok (.iload_n 2, 1) := dk_28 (dk_at dksX2_billOf_2 3 rfl rfl)
theorem dX2_billOf_50 : decode cX2_billOf 50 = .ok (.bipush 12, 2) := dk_16 12 (dk_at dksX2_billOf_2 4 rfl rfl)
theorem dX2_billOf_52 : decode cX2_billOf 52 = .ok (.iadd, 1) := dk_96 (dk_at dksX2_billOf_2 6 rfl rfl)
theorem dX2_billOf_53 : decode cX2_billOf 53 = .ok (.laload, 1) := dk_47 (dk_at dksX2_billOf_2 7 rfl rfl)
theorem dX2_billOf_54 : decode cX2_billOf 54 = .ok (.lsub, 1) := dk_101 (dk_at dksX2_billOf_2 8 rfl rfl)
theorem dX2_billOf_55 : decode cX2_billOf 55 = .ok (.lmul, 1) := dk_105 (dk_at dksX2_billOf_2 9 rfl rfl)
theorem dX2_billOf_56 : decode cX2_billOf 56 = .ok (.ladd, 1) := dk_97 (dk_at dksX2_billOf_2 10 rfl rfl)
theorem dX2_billOf_57 : decode cX2_billOf 57 = .ok (.l2i, 1) := dk_136 (dk_at dksX2_billOf_2 11 rfl rfl)
theorem dX2_billOf_58 : decode cX2_billOf 58 = .ok (.ireturn, 1) := dk_172 (dk_at dksX2_billOf_2 12 rfl rfl)
abbrev cX2_pass : ByteArray := prog_10_method_34_code
def yX2_pass : MethodName := ⟨RX2, "pass", "(I)I"⟩
def dkwX2_pass_0 : List UInt8 := [42, 27, 182, 0, 129, 61, 28, 156, 0, 5, 28, 172, 42, 182, 0, 92, 42, 3, 27, 182, 0, 132, 172]
abbrev dktX2_pass_0 : List UInt8 := dkwX2_pass_0 ++ []
theorem dksX2_pass_0 : cX2_pass.data.toList.drop 0 = dktX2_pass_0 := by decide +kernel
theorem dX2_pass_0 : decode cX2_pass 0 = .ok (.aload_n 0, 1) := dk_42 (dk_at dksX2_pass_0 0 rfl rfl)
theorem dX2_pass_1 : decode cX2_pass 1 = .ok (.iload_n 1, 1) := dk_27 (dk_at dksX2_pass_0 1 rfl rfl)
theorem dX2_pass_2 : decode cX2_pass 2 = .ok (.invokevirtual 129, 3) := dk_182 0 129 (dk_at dksX2_pass_0 2 rfl rfl)
theorem dX2_pass_5 : decode cX2_pass 5 = .ok (.istore_n 2, 1) := dk_61 (dk_at dksX2_pass_0 5 rfl rfl)
theorem dX2_pass_6 : decode cX2_pass 6 = .ok (.iload_n 2, 1) := dk_28 (dk_at dksX2_pass_0 6 rfl rfl)
theorem dX2_pass_7 : decode cX2_pass 7 = .ok (.ifCond .ge 5, 3) := dk_156 0 5 (dk_at dksX2_pass_0 7 rfl rfl)
theorem dX2_pass_10 : decode cX2_pass 10 = .ok (.iload_n 2, 1) := dk_28 (dk_at dksX2_pass_0 10 rfl rfl)
theorem dX2_pass_11 : decode cX2_pass 11 = .ok (.ireturn, 1) := dk_172 (dk_at dksX2_pass_0 11 rfl rfl)
theorem dX2_pass_12 : decode cX2_pass 12 = .ok (.aload_n 0, 1) := dk_42 (dk_at dksX2_pass_0 12 rfl rfl)
theorem dX2_pass_13 : decode cX2_pass 13 = .ok (.invokevirtual 92, 3) := dk_182 0 92 (dk_at dksX2_pass_0 13 rfl rfl)
theorem dX2_pass_16 : decode cX2_pass 16 = .ok (.aload_n 0, 1) := dk_42 (dk_at dksX2_pass_0 16 rfl rfl)
theorem dX2_pass_17 : decode cX2_pass 17 = .ok (.iconst 0, 1) := dk_3 (dk_at dksX2_pass_0 17 rfl rfl)
theorem dX2_pass_18 : decode cX2_pass 18 = .ok (.iload_n 1, 1) := dk_27 (dk_at dksX2_pass_0 18 rfl rfl)
theorem dX2_pass_19 : decode cX2_pass 19 = .ok (.invokevirtual 132, 3) := dk_182 0 132 (dk_at dksX2_pass_0 19 rfl rfl)
theorem dX2_pass_22 : decode cX2_pass 22 = .ok (.ireturn, 1) := dk_172 (dk_at dksX2_pass_0 22 rfl rfl)
abbrev cX2_whyNotPass : ByteArray := prog_10_method_33_code
def yX2_whyNotPass : MethodName := ⟨RX2, "whyNotPass", "(I)I"⟩
def dkwX2_whyNotPass_1 : List UInt8 := [18, 128, 164, 0, 8, 16, 251, 167, 0, 4, 3, 172]
abbrev dktX2_whyNotPass_1 : List UInt8 := dkwX2_whyNotPass_1 ++ []
def dkwX2_whyNotPass_0 : List UInt8 := [27, 4, 17, 5, 160, 184, 0, 41, 154, 0, 8, 16, 254, 167, 0, 22, 42, 16, 6, 182, 0, 37, 27, 96]
abbrev dktX2_whyNotPass_0 : List UInt8 := dkwX2_whyNotPass_0 ++ dktX2_whyNotPass_1
theorem dksX2_whyNotPass_0 : cX2_whyNotPass.data.toList.drop 0 = dktX2_whyNotPass_0 := by decide +kernel
theorem dksX2_whyNotPass_1 : cX2_whyNotPass.data.toList.drop 24 = dktX2_whyNotPass_1 := dk_seg dksX2_whyNotPass_0 24 rfl rfl
theorem dX2_whyNotPass_0 : decode cX2_whyNotPass 0 = .ok (.iload_n 1, 1) := dk_27 (dk_at dksX2_whyNotPass_0 0 rfl rfl)
theorem dX2_whyNotPass_1 : decode cX2_whyNotPass 1 = .ok (.iconst 1, 1) := dk_4 (dk_at dksX2_whyNotPass_0 1 rfl rfl)
theorem dX2_whyNotPass_2 : decode cX2_whyNotPass 2 = .ok (.sipush 1440, 3) := dk_17 5 160 (dk_at dksX2_whyNotPass_0 2 rfl rfl)
theorem dX2_whyNotPass_5 : decode cX2_whyNotPass 5 = .ok (.invokestatic 41, 3) := dk_184 0 41 (dk_at dksX2_whyNotPass_0 5 rfl rfl)
theorem dX2_whyNotPass_8 : decode cX2_whyNotPass 8 = .ok (.ifCond .ne 8, 3) := dk_154 0 8 (dk_at dksX2_whyNotPass_0 8 rfl rfl)
theorem dX2_whyNotPass_11 : decode cX2_whyNotPass 11 = .ok (.bipush (-2), 2) := dk_16 254 (dk_at dksX2_whyNotPass_0 11 rfl rfl)
theorem dX2_whyNotPass_13 : decode cX2_whyNotPass 13 = .ok (.goto 22, 3) := dk_167 0 22 (dk_at dksX2_whyNotPass_0 13 rfl rfl)
theorem dX2_whyNotPass_16 : decode cX2_whyNotPass 16 = .ok (.aload_n 0, 1) := dk_42 (dk_at dksX2_whyNotPass_0 16 rfl rfl)
theorem dX2_whyNotPass_17 : decode cX2_whyNotPass 17 = .ok (.bipush 6, 2) := dk_16 6 (dk_at dksX2_whyNotPass_0 17 rfl rfl)
theorem dX2_whyNotPass_19 : decode cX2_whyNotPass 19 = .ok (.invokevirtual 37, 3) := dk_182 0 37 (dk_at dksX2_whyNotPass_0 19 rfl rfl)
theorem dX2_whyNotPass_22 : decode cX2_whyNotPass 22 = .ok (.iload_n 1, 1) := dk_27 (dk_at dksX2_whyNotPass_0 22 rfl rfl)
theorem dX2_whyNotPass_23 : decode cX2_whyNotPass 23 = .ok (.iadd, 1) := dk_96 (dk_at dksX2_whyNotPass_0 23 rfl rfl)
theorem dX2_whyNotPass_24 : decode cX2_whyNotPass 24 = .ok (.ldc 128, 2) := dk_18 128 (dk_at dksX2_whyNotPass_1 0 rfl rfl)
theorem dX2_whyNotPass_26 : decode cX2_whyNotPass 26 = .ok (.if_icmp .le 8, 3) := dk_164 0 8 (dk_at dksX2_whyNotPass_1 2 rfl rfl)
theorem dX2_whyNotPass_29 : decode cX2_whyNotPass 29 = .ok (.bipush (-5), 2) := dk_16 251 (dk_at dksX2_whyNotPass_1 5 rfl rfl)
theorem dX2_whyNotPass_31 : decode cX2_whyNotPass 31 = .ok (.goto 4, 3) := dk_167 0 4 (dk_at dksX2_whyNotPass_1 7 rfl rfl)
theorem dX2_whyNotPass_34 : decode cX2_whyNotPass 34 = .ok (.iconst 0, 1) := dk_3 (dk_at dksX2_whyNotPass_1 10 rfl rfl)
theorem dX2_whyNotPass_35 : decode cX2_whyNotPass 35 = .ok (.ireturn, 1) := dk_172 (dk_at dksX2_whyNotPass_1 11 rfl rfl)
abbrev cX2_passes : ByteArray := prog_10_method_15_code
def yX2_passes : MethodName := ⟨RX2, "passes", "(II)I"⟩
def dkwX2_passes_2 : List UInt8 := [16, 6, 96, 92, 47, 10, 97, 80, 132, 4, 1, 167, 255, 204, 29, 172]
abbrev dktX2_passes_2 : List UInt8 := dkwX2_passes_2 ++ []
def dkwX2_passes_1 : List UInt8 := [162, 0, 19, 29, 42, 27, 21, 5, 182, 0, 83, 96, 62, 132, 5, 1, 167, 255, 232, 42, 180, 0, 7, 27]
abbrev dktX2_passes_1 : List UInt8 := dkwX2_passes_1 ++ dktX2_passes_2
def dkwX2_passes_0 : List UInt8 := [3, 62, 3, 54, 4, 21, 4, 28, 162, 0, 52, 3, 54, 5, 21, 5, 42, 16, 7, 182, 0, 37]
abbrev dktX2_passes_0 : List UInt8 := dkwX2_passes_0 ++ dktX2_passes_1
theorem dksX2_passes_0 : cX2_passes.data.toList.drop 0 = dktX2_passes_0 := by decide +kernel
theorem dksX2_passes_1 : cX2_passes.data.toList.drop 22 = dktX2_passes_1 := dk_seg dksX2_passes_0 22 rfl rfl
theorem dksX2_passes_2 : cX2_passes.data.toList.drop 46 = dktX2_passes_2 := dk_seg dksX2_passes_1 24 rfl rfl
theorem dX2_passes_0 : decode cX2_passes 0 = .ok (.iconst 0, 1) := dk_3 (dk_at dksX2_passes_0 0 rfl rfl)
theorem dX2_passes_1 : decode cX2_passes 1 = .ok (.istore_n 3, 1) := dk_62 (dk_at dksX2_passes_0 1 rfl rfl)
theorem dX2_passes_2 : decode cX2_passes 2 = .ok (.iconst 0, 1) := dk_3 (dk_at dksX2_passes_0 2 rfl rfl)
theorem dX2_passes_3 : decode cX2_passes 3 = .ok (.istore 4, 2) := dk_54 4 (dk_at dksX2_passes_0 3 rfl rfl)
theorem dX2_passes_5 : decode cX2_passes 5 = .ok (.iload 4, 2) := dk_21 4 (dk_at dksX2_passes_0 5 rfl rfl)
theorem dX2_passes_7 : decode cX2_passes 7 = .ok (.iload_n 2, 1) := dk_28 (dk_at dksX2_passes_0 7 rfl rfl)
theorem dX2_passes_8 : decode cX2_passes 8 = .ok (.if_icmp .ge 52, 3) := dk_162 0 52 (dk_at dksX2_passes_0 8 rfl rfl)
theorem dX2_passes_11 : decode cX2_passes 11 = .ok (.iconst 0, 1) := dk_3 (dk_at dksX2_passes_0 11 rfl rfl)
theorem dX2_passes_12 : decode cX2_passes 12 = .ok (.istore 5, 2) := dk_54 5 (dk_at dksX2_passes_0 12 rfl rfl)
theorem dX2_passes_14 : decode cX2_passes 14 = .ok (.iload 5, 2) := dk_21 5 (dk_at dksX2_passes_0 14 rfl rfl)
theorem dX2_passes_16 : decode cX2_passes 16 = .ok (.aload_n 0, 1) := dk_42 (dk_at dksX2_passes_0 16 rfl rfl)
theorem dX2_passes_17 : decode cX2_passes 17 = .ok (.bipush 7, 2) := dk_16 7 (dk_at dksX2_passes_0 17 rfl rfl)
theorem dX2_passes_19 : decode cX2_passes 19 = .ok (.invokevirtual 37, 3) := dk_182 0 37 (dk_at dksX2_passes_0 19 rfl rfl)
theorem dX2_passes_22 : decode cX2_passes 22 = .ok (.if_icmp .ge 19, 3) := dk_162 0 19 (dk_at dksX2_passes_1 0 rfl rfl)
theorem dX2_passes_25 : decode cX2_passes 25 = .ok (.iload_n 3, 1) := dk_29 (dk_at dksX2_passes_1 3 rfl rfl)
theorem dX2_passes_26 : decode cX2_passes 26 = .ok (.aload_n 0, 1) := dk_42 (dk_at dksX2_passes_1 4 rfl rfl)
theorem dX2_passes_27 : decode cX2_passes 27 = .ok (.iload_n 1, 1) := dk_27 (dk_at dksX2_passes_1 5 rfl rfl)
theorem dX2_passes_28 : decode cX2_passes 28 = .ok (.iload 5, 2) := dk_21 5 (dk_at dksX2_passes_1 6 rfl rfl)
theorem dX2_passes_30 : decode cX2_passes 30 = .ok (.invokevirtual 83, 3) := dk_182 0 83 (dk_at dksX2_passes_1 8 rfl rfl)
theorem dX2_passes_33 : decode cX2_passes 33 = .ok (.iadd, 1) := dk_96 (dk_at dksX2_passes_1 11 rfl rfl)
theorem dX2_passes_34 : decode cX2_passes 34 = .ok (.istore_n 3, 1) := dk_62 (dk_at dksX2_passes_1 12 rfl rfl)
theorem dX2_passes_35 : decode cX2_passes 35 = .ok (.iinc 5 1, 3) := dk_132 5 1 (dk_at dksX2_passes_1 13 rfl rfl)
theorem dX2_passes_38 : decode cX2_passes 38 = .ok (.goto (-24), 3) := dk_167 255 232 (dk_at dksX2_passes_1 16 rfl rfl)
theorem dX2_passes_41 : decode cX2_passes 41 = .ok (.aload_n 0, 1) := dk_42 (dk_at dksX2_passes_1 19 rfl rfl)
theorem dX2_passes_42 : decode cX2_passes 42 = .ok (.getfield 7, 3) := dk_180 0 7 (dk_at dksX2_passes_1 20 rfl rfl)
theorem dX2_passes_45 : decode cX2_passes 45 = .ok (.iload_n 1, 1) := dk_27 (dk_at dksX2_passes_1 23 rfl rfl)
theorem dX2_passes_46 : decode cX2_passes 46 = .ok (.bipush 6, 2) := dk_16 6 (dk_at dksX2_passes_2 0 rfl rfl)
theorem dX2_passes_48 : decode cX2_passes 48 = .ok (.iadd, 1) := dk_96 (dk_at dksX2_passes_2 2 rfl rfl)
theorem dX2_passes_49 : decode cX2_passes 49 = .ok (.dup2, 1) := dk_92 (dk_at dksX2_passes_2 3 rfl rfl)
theorem dX2_passes_50 : decode cX2_passes 50 = .ok (.laload, 1) := dk_47 (dk_at dksX2_passes_2 4 rfl rfl)
theorem dX2_passes_51 : decode cX2_passes 51 = .ok (.lconst 1, 1) := dk_10 (dk_at dksX2_passes_2 5 rfl rfl)
theorem dX2_passes_52 : decode cX2_passes 52 = .ok (.ladd, 1) := dk_97 (dk_at dksX2_passes_2 6 rfl rfl)
theorem dX2_passes_53 : decode cX2_passes 53 = .ok (.lastore, 1) := dk_80 (dk_at dksX2_passes_2 7 rfl rfl)
theorem dX2_passes_54 : decode cX2_passes 54 = .ok (.iinc 4 1, 3) := dk_132 4 1 (dk_at dksX2_passes_2 8 rfl rfl)
theorem dX2_passes_57 : decode cX2_passes 57 = .ok (.goto (-52), 3) := dk_167 255 204 (dk_at dksX2_passes_2 11 rfl rfl)
theorem dX2_passes_60 : decode cX2_passes 60 = .ok (.iload_n 3, 1) := dk_29 (dk_at dksX2_passes_2 14 rfl rfl)
theorem dX2_passes_61 : decode cX2_passes 61 = .ok (.ireturn, 1) := dk_172 (dk_at dksX2_passes_2 15 rfl rfl)
abbrev cX2_passesOne : ByteArray := prog_10_method_14_code
def yX2_passesOne : MethodName := ⟨RX2, "passesOne", "(II)I"⟩
def dkwX2_passesOne_7 : List UInt8 := [167, 0, 4, 9, 97, 80, 22, 7, 136, 172]
abbrev dktX2_passesOne_7 : List UInt8 := dkwX2_passesOne_7 ++ []
def dkwX2_passesOne_6 : List UInt8 := [180, 0, 7, 29, 5, 96, 92, 47, 42, 180, 0, 7, 29, 5, 96, 47, 20, 0, 81, 148, 156, 0, 7, 10]
abbrev dktX2_passesOne_6 : List UInt8 := dkwX2_passesOne_6 ++ dktX2_passesOne_7
def dkwX2_passesOne_5 : List UInt8 := [180, 0, 7, 27, 6, 96, 47, 148, 155, 0, 44, 42, 180, 0, 7, 29, 16, 9, 96, 9, 80, 42]
abbrev dktX2_passesOne_5 : List UInt8 := dkwX2_passesOne_5 ++ dktX2_passesOne_6
def dkwX2_passesOne_4 : List UInt8 := [180, 0, 7, 29, 16, 9, 96, 92, 47, 10, 97, 80, 42, 180, 0, 7, 29, 16, 9, 96, 47, 42]
abbrev dktX2_passesOne_4 : List UInt8 := dkwX2_passesOne_4 ++ dktX2_passesOne_5
def dkwX2_passesOne_3 : List UInt8 := [16, 6, 96, 47, 184, 0, 77, 153, 0, 7, 7, 167, 0, 4, 6, 96, 92, 47, 22, 7, 97, 80, 42]
abbrev dktX2_passesOne_3 : List UInt8 := dkwX2_passesOne_3 ++ dktX2_passesOne_4
def dkwX2_passesOne_2 : List UInt8 := [180, 0, 7, 29, 4, 96, 22, 5, 20, 0, 68, 113, 80, 42, 180, 0, 7, 29, 42, 180, 0, 7, 27]
abbrev dktX2_passesOne_2 : List UInt8 := dkwX2_passesOne_2 ++ dktX2_passesOne_3
def dkwX2_passesOne_1 : List UInt8 := [133, 97, 80, 42, 27, 28, 21, 4, 182, 0, 73, 55, 5, 22, 5, 20, 0, 68, 109, 55, 7, 42]
abbrev dktX2_passesOne_1 : List UInt8 := dkwX2_passesOne_1 ++ dktX2_passesOne_2
def dkwX2_passesOne_0 : List UInt8 := [27, 28, 184, 0, 45, 62, 42, 28, 182, 0, 70, 54, 4, 42, 180, 0, 7, 29, 8, 96, 92, 47, 21, 4]
abbrev dktX2_passesOne_0 : List UInt8 := dkwX2_passesOne_0 ++ dktX2_passesOne_1
theorem dksX2_passesOne_0 : cX2_passesOne.data.toList.drop 0 = dktX2_passesOne_0 := by decide +kernel
theorem dksX2_passesOne_1 : cX2_passesOne.data.toList.drop 24 = dktX2_passesOne_1 := dk_seg dksX2_passesOne_0 24 rfl rfl
theorem dksX2_passesOne_2 : cX2_passesOne.data.toList.drop 46 = dktX2_passesOne_2 := dk_seg dksX2_passesOne_1 22 rfl rfl
theorem dksX2_passesOne_3 : cX2_passesOne.data.toList.drop 69 = dktX2_passesOne_3 := dk_seg dksX2_passesOne_2 23 rfl rfl
theorem dksX2_passesOne_4 : cX2_passesOne.data.toList.drop 92 = dktX2_passesOne_4 := dk_seg dksX2_passesOne_3 23 rfl rfl
theorem dksX2_passesOne_5 : cX2_passesOne.data.toList.drop 114 = dktX2_passesOne_5 := dk_seg dksX2_passesOne_4 22 rfl rfl
theorem dksX2_passesOne_6 : cX2_passesOne.data.toList.drop 136 = dktX2_passesOne_6 := dk_seg dksX2_passesOne_5 22 rfl rfl
theorem dksX2_passesOne_7 : cX2_passesOne.data.toList.drop 160 = dktX2_passesOne_7 := dk_seg dksX2_passesOne_6 24 rfl rfl
theorem dX2_passesOne_0 : decode cX2_passesOne 0 = .ok (.iload_n 1, 1) := dk_27 (dk_at dksX2_passesOne_0 0 rfl rfl)
theorem dX2_passesOne_1 : decode cX2_passesOne 1 = .ok (.iload_n 2, 1) := dk_28 (dk_at dksX2_passesOne_0 1 rfl rfl)
theorem dX2_passesOne_2 : decode cX2_passesOne 2 = .ok (.invokestatic 45, 3) := dk_184 0 45 (dk_at dksX2_passesOne_0 2 rfl rfl)
theorem dX2_passesOne_5 : decode cX2_passesOne 5 = .ok (.istore_n 3, 1) := dk_62 (dk_at dksX2_passesOne_0 5 rfl rfl)
theorem dX2_passesOne_6 : decode cX2_passesOne 6 = .ok (.aload_n 0, 1) := dk_42 (dk_at dksX2_passesOne_0 6 rfl rfl)
theorem dX2_passesOne_7 : decode cX2_passesOne 7 = .ok (.iload_n 2, 1) := dk_28 (dk_at dksX2_passesOne_0 7 rfl rfl)
theorem dX2_passesOne_8 : decode cX2_passesOne 8 = .ok (.invokevirtual 70, 3) := dk_182 0 70 (dk_at dksX2_passesOne_0 8 rfl rfl)
theorem dX2_passesOne_11 : decode cX2_passesOne 11 = .ok (.istore 4, 2) := dk_54 4 (dk_at dksX2_passesOne_0 11 rfl rfl)
theorem dX2_passesOne_13 : decode cX2_passesOne 13 = .ok (.aload_n 0, 1) := dk_42 (dk_at dksX2_passesOne_0 13 rfl rfl)
theorem dX2_passesOne_14 : decode cX2_passesOne 14 = .ok (.getfield 7, 3) := dk_180 0 7 (dk_at dksX2_passesOne_0 14 rfl rfl)
theorem dX2_passesOne_17 : decode cX2_passesOne 17 = .ok (.iload_n 3, 1) := dk_29 (dk_at dksX2_passesOne_0 17 rfl rfl)
theorem dX2_passesOne_18 : decode cX2_passesOne 18 = .ok (.iconst 5, 1) := dk_8 (dk_at dksX2_passesOne_0 18 rfl rfl)
theorem dX2_passesOne_19 : decode cX2_passesOne 19 = .ok (.iadd, 1) := dk_96 (dk_at dksX2_passesOne_0 19 rfl rfl)
theorem dX2_passesOne_20 : decode cX2_passesOne 20 = .ok (.dup2, 1) := dk_92 (dk_at dksX2_passesOne_0 20 rfl rfl)
theorem dX2_passesOne_21 : decode cX2_passesOne 21 = .ok (.laload, 1) := dk_47 (dk_at dksX2_passesOne_0 21 rfl rfl)
theorem dX2_passesOne_22 : decode cX2_passesOne 22 = .ok (.iload 4, 2) := dk_21 4 (dk_at dksX2_passesOne_0 22 rfl rfl)
theorem dX2_passesOne_24 : decode cX2_passesOne 24 = .ok (.i2l, 1) := dk_133 (dk_at dksX2_passesOne_1 0 rfl rfl)
theorem dX2_passesOne_25 : decode cX2_passesOne 25 = .ok (.ladd, 1) := dk_97 (dk_at dksX2_passesOne_1 1 rfl rfl)
theorem dX2_passesOne_26 : decode cX2_passesOne 26 = .ok (.lastore, 1) := dk_80 (dk_at dksX2_passesOne_1 2 rfl rfl)
theorem dX2_passesOne_27 : decode cX2_passesOne 27 = .ok (.aload_n 0, 1) := dk_42 (dk_at dksX2_passesOne_1 3 rfl rfl)
theorem dX2_passesOne_28 : decode cX2_passesOne 28 = .ok (.iload_n 1, 1) := dk_27 (dk_at dksX2_passesOne_1 4 rfl rfl)
theorem dX2_passesOne_29 : decode cX2_passesOne 29 = .ok (.iload_n 2, 1) := dk_28 (dk_at dksX2_passesOne_1 5 rfl rfl)
theorem dX2_passesOne_30 : decode cX2_passesOne 30 = .ok (.iload 4, 2) := dk_21 4 (dk_at dksX2_passesOne_1 6 rfl rfl)
theorem dX2_passesOne_32 : decode cX2_passesOne 32 = .ok (.invokevirtual 73, 3) := dk_182 0 73 (dk_at dksX2_passesOne_1 8 rfl rfl)
theorem dX2_passesOne_35 : decode cX2_passesOne 35 = .ok (.lstore 5, 2) := dk_55 5 (dk_at dksX2_passesOne_1 11 rfl rfl)
theorem dX2_passesOne_37 : decode cX2_passesOne 37 = .ok (.lload 5, 2) := dk_22 5 (dk_at dksX2_passesOne_1 13 rfl rfl)
theorem dX2_passesOne_39 : decode cX2_passesOne 39 = .ok (.ldc2_w 68, 3) := dk_20 0 68 (dk_at dksX2_passesOne_1 15 rfl rfl)
theorem dX2_passesOne_42 : decode cX2_passesOne 42 = .ok (.ldiv, 1) := dk_109 (dk_at dksX2_passesOne_1 18 rfl rfl)
theorem dX2_passesOne_43 : decode cX2_passesOne 43 = .ok (.lstore 7, 2) := dk_55 7 (dk_at dksX2_passesOne_1 19 rfl rfl)
theorem dX2_passesOne_45 : decode cX2_passesOne 45 = .ok (.aload_n 0, 1) := dk_42 (dk_at dksX2_passesOne_1 21 rfl rfl)
theorem dX2_passesOne_46 : decode cX2_passesOne 46 = .ok (.getfield 7, 3) := dk_180 0 7 (dk_at dksX2_passesOne_2 0 rfl rfl)
theorem dX2_passesOne_49 : decode cX2_passesOne 49 = .ok (.iload_n 3, 1) := dk_29 (dk_at dksX2_passesOne_2 3 rfl rfl)
theorem dX2_passesOne_50 : decode cX2_passesOne 50 = .ok (.iconst 1, 1) := dk_4 (dk_at dksX2_passesOne_2 4 rfl rfl)
theorem dX2_passesOne_51 : decode cX2_passesOne 51 = .ok (.iadd, 1) := dk_96 (dk_at dksX2_passesOne_2 5 rfl rfl)
theorem dX2_passesOne_52 : decode cX2_passesOne 52 = .ok (.lload 5, 2) := dk_22 5 (dk_at dksX2_passesOne_2 6 rfl rfl)
theorem dX2_passesOne_54 : decode cX2_passesOne 54 = .ok (.ldc2_w 68, 3) := dk_20 0 68 (dk_at dksX2_passesOne_2 8 rfl rfl)
theorem dX2_passesOne_57 : decode cX2_passesOne 57 = .ok (.lrem, 1) := dk_113 (dk_at dksX2_passesOne_2 11 rfl rfl)
theorem dX2_passesOne_58 : decode cX2_passesOne 58 = .ok (.lastore, 1) := dk_80 (dk_at dksX2_passesOne_2 12 rfl rfl)
theorem dX2_passesOne_59 : decode cX2_passesOne 59 = .ok (.aload_n 0, 1) := dk_42 (dk_at dksX2_passesOne_2 13 rfl rfl)
theorem dX2_passesOne_60 : decode cX2_passesOne 60 = .ok (.getfield 7, 3) := dk_180 0 7 (dk_at dksX2_passesOne_2 14 rfl rfl)
theorem dX2_passesOne_63 : decode cX2_passesOne 63 = .ok (.iload_n 3, 1) := dk_29 (dk_at dksX2_passesOne_2 17 rfl rfl)
theorem dX2_passesOne_64 : decode cX2_passesOne 64 = .ok (.aload_n 0, 1) := dk_42 (dk_at dksX2_passesOne_2 18 rfl rfl)
theorem dX2_passesOne_65 : decode cX2_passesOne 65 = .ok (.getfield 7, 3) := dk_180 0 7 (dk_at dksX2_passesOne_2 19 rfl rfl)
theorem dX2_passesOne_68 : decode cX2_passesOne 68 = .ok (.iload_n 1, 1) := dk_27 (dk_at dksX2_passesOne_2 22 rfl rfl)
theorem dX2_passesOne_69 : decode cX2_passesOne 69 = .ok (.bipush 6, 2) := dk_16 6 (dk_at dksX2_passesOne_3 0 rfl rfl)
theorem dX2_passesOne_71 : decode cX2_passesOne 71 = .ok (.iadd, 1) := dk_96 (dk_at dksX2_passesOne_3 2 rfl rfl)
theorem dX2_passesOne_72 : decode cX2_passesOne 72 = .ok (.laload, 1) := dk_47 (dk_at dksX2_passesOne_3 3 rfl rfl)
theorem dX2_passesOne_73 : decode cX2_passesOne 73 = .ok (.invokestatic 77, 3) := dk_184 0 77 (dk_at dksX2_passesOne_3 4 rfl rfl)
theorem dX2_passesOne_76 : decode cX2_passesOne 76 = .ok (.ifCond .eq 7, 3) := dk_153 0 7 (dk_at dksX2_passesOne_3 7 rfl rfl)
theorem dX2_passesOne_79 : decode cX2_passesOne 79 = .ok (.iconst 4, 1) := dk_7 (dk_at dksX2_passesOne_3 10 rfl rfl)
theorem dX2_passesOne_80 : decode cX2_passesOne 80 = .ok (.goto 4, 3) := dk_167 0 4 (dk_at dksX2_passesOne_3 11 rfl rfl)
theorem dX2_passesOne_83 : decode cX2_passesOne 83 = .ok (.iconst 3, 1) := dk_6 (dk_at dksX2_passesOne_3 14 rfl rfl)
theorem dX2_passesOne_84 : decode cX2_passesOne 84 = .ok (.iadd, 1) := dk_96 (dk_at dksX2_passesOne_3 15 rfl rfl)
theorem dX2_passesOne_85 : decode cX2_passesOne 85 = .ok (.dup2, 1) := dk_92 (dk_at dksX2_passesOne_3 16 rfl rfl)
theorem dX2_passesOne_86 : decode cX2_passesOne 86 = .ok (.laload, 1) := dk_47 (dk_at dksX2_passesOne_3 17 rfl rfl)
theorem dX2_passesOne_87 : decode cX2_passesOne 87 = .ok (.lload 7, 2) := dk_22 7 (dk_at dksX2_passesOne_3 18 rfl rfl)
theorem dX2_passesOne_89 : decode cX2_passesOne 89 = .ok (.ladd, 1) := dk_97 (dk_at dksX2_passesOne_3 20 rfl rfl)
theorem dX2_passesOne_90 : decode cX2_passesOne 90 = .ok (.lastore, 1) := dk_80 (dk_at dksX2_passesOne_3 21 rfl rfl)
theorem dX2_passesOne_91 : decode cX2_passesOne 91 = .ok (.aload_n 0, 1) := dk_42 (dk_at dksX2_passesOne_3 22 rfl rfl)
theorem dX2_passesOne_92 : decode cX2_passesOne 92 = .ok (.getfield 7, 3) := dk_180 0 7 (dk_at dksX2_passesOne_4 0 rfl rfl)
theorem dX2_passesOne_95 : decode cX2_passesOne 95 = .ok (.iload_n 3, 1) := dk_29 (dk_at dksX2_passesOne_4 3 rfl rfl)
theorem dX2_passesOne_96 : decode cX2_passesOne 96 = .ok (.bipush 9, 2) := dk_16 9 (dk_at dksX2_passesOne_4 4 rfl rfl)
theorem dX2_passesOne_98 : decode cX2_passesOne 98 = .ok (.iadd, 1) := dk_96 (dk_at dksX2_passesOne_4 6 rfl rfl)
theorem dX2_passesOne_99 : decode cX2_passesOne 99 = .ok (.dup2, 1) := dk_92 (dk_at dksX2_passesOne_4 7 rfl rfl)
theorem dX2_passesOne_100 : decode cX2_passesOne 100 = .ok (.laload, 1) := dk_47 (dk_at dksX2_passesOne_4 8 rfl rfl)
theorem dX2_passesOne_101 : decode cX2_passesOne 101 = .ok (.lconst 1, 1) := dk_10 (dk_at dksX2_passesOne_4 9 rfl rfl)
theorem dX2_passesOne_102 : decode cX2_passesOne 102 = .ok (.ladd, 1) := dk_97 (dk_at dksX2_passesOne_4 10 rfl rfl)
theorem dX2_passesOne_103 : decode cX2_passesOne 103 = .ok (.lastore, 1) := dk_80 (dk_at dksX2_passesOne_4 11 rfl rfl)
theorem dX2_passesOne_104 : decode cX2_passesOne 104 = .ok (.aload_n 0, 1) := dk_42 (dk_at dksX2_passesOne_4 12 rfl rfl)
theorem dX2_passesOne_105 : decode cX2_passesOne 105 = .ok (.getfield 7, 3) := dk_180 0 7 (dk_at dksX2_passesOne_4 13 rfl rfl)
theorem dX2_passesOne_108 : decode cX2_passesOne 108 = .ok (.iload_n 3, 1) := dk_29 (dk_at dksX2_passesOne_4 16 rfl rfl)
theorem dX2_passesOne_109 : decode cX2_passesOne 109 = .ok (.bipush 9, 2) := dk_16 9 (dk_at dksX2_passesOne_4 17 rfl rfl)
theorem dX2_passesOne_111 : decode cX2_passesOne 111 = .ok (.iadd, 1) := dk_96 (dk_at dksX2_passesOne_4 19 rfl rfl)
theorem dX2_passesOne_112 : decode cX2_passesOne 112 = .ok (.laload, 1) := dk_47 (dk_at dksX2_passesOne_4 20 rfl rfl)
theorem dX2_passesOne_113 : decode cX2_passesOne 113 = .ok (.aload_n 0, 1) := dk_42 (dk_at dksX2_passesOne_4 21 rfl rfl)
theorem dX2_passesOne_114 : decode cX2_passesOne 114 = .ok (.getfield 7, 3) := dk_180 0 7 (dk_at dksX2_passesOne_5 0 rfl rfl)
theorem dX2_passesOne_117 : decode cX2_passesOne 117 = .ok (.iload_n 1, 1) := dk_27 (dk_at dksX2_passesOne_5 3 rfl rfl)
theorem dX2_passesOne_118 : decode cX2_passesOne 118 = .ok (.iconst 3, 1) := dk_6 (dk_at dksX2_passesOne_5 4 rfl rfl)
theorem dX2_passesOne_119 : decode cX2_passesOne 119 = .ok (.iadd, 1) := dk_96 (dk_at dksX2_passesOne_5 5 rfl rfl)
theorem dX2_passesOne_120 : decode cX2_passesOne 120 = .ok (.laload, 1) := dk_47 (dk_at dksX2_passesOne_5 6 rfl rfl)
theorem dX2_passesOne_121 : decode cX2_passesOne 121 = .ok (.lcmp, 1) := dk_148 (dk_at dksX2_passesOne_5 7 rfl rfl)
theorem dX2_passesOne_122 : decode cX2_passesOne 122 = .ok (.ifCond .lt 44, 3) := dk_155 0 44 (dk_at dksX2_passesOne_5 8 rfl rfl)
theorem dX2_passesOne_125 : decode cX2_passesOne 125 = .ok (.aload_n 0, 1) := dk_42 (dk_at dksX2_passesOne_5 11 rfl rfl)
theorem dX2_passesOne_126 : decode cX2_passesOne 126 = .ok (.getfield 7, 3) := dk_180 0 7 (dk_at dksX2_passesOne_5 12 rfl rfl)
theorem dX2_passesOne_129 : decode cX2_passesOne 129 = .ok (.iload_n 3, 1) := dk_29 (dk_at dksX2_passesOne_5 15 rfl rfl)
theorem dX2_passesOne_130 : decode cX2_passesOne 130 = .ok (.bipush 9, 2) := dk_16 9 (dk_at dksX2_passesOne_5 16 rfl rfl)
theorem dX2_passesOne_132 : decode cX2_passesOne 132 = .ok (.iadd, 1) := dk_96 (dk_at dksX2_passesOne_5 18 rfl rfl)
theorem dX2_passesOne_133 : decode cX2_passesOne 133 = .ok (.lconst 0, 1) := dk_9 (dk_at dksX2_passesOne_5 19 rfl rfl)
theorem dX2_passesOne_134 : decode cX2_passesOne 134 = .ok (.lastore, 1) := dk_80 (dk_at dksX2_passesOne_5 20 rfl rfl)
theorem dX2_passesOne_135 : decode cX2_passesOne 135 = .ok (.aload_n 0, 1) := dk_42 (dk_at dksX2_passesOne_5 21 rfl rfl)
theorem dX2_passesOne_136 : decode cX2_passesOne 136 = .ok (.getfield 7, 3) := dk_180 0 7 (dk_at dksX2_passesOne_6 0 rfl rfl)
theorem dX2_passesOne_139 : decode cX2_passesOne 139 = .ok (.iload_n 3, 1) := dk_29 (dk_at dksX2_passesOne_6 3 rfl rfl)
theorem dX2_passesOne_140 : decode cX2_passesOne 140 = .ok (.iconst 2, 1) := dk_5 (dk_at dksX2_passesOne_6 4 rfl rfl)
theorem dX2_passesOne_141 : decode cX2_passesOne 141 = .ok (.iadd, 1) := dk_96 (dk_at dksX2_passesOne_6 5 rfl rfl)
theorem dX2_passesOne_142 : decode cX2_passesOne 142 = .ok (.dup2, 1) := dk_92 (dk_at dksX2_passesOne_6 6 rfl rfl)
theorem dX2_passesOne_143 : decode cX2_passesOne 143 = .ok (.laload, 1) := dk_47 (dk_at dksX2_passesOne_6 7 rfl rfl)
theorem dX2_passesOne_144 : decode cX2_passesOne 144 = .ok (.aload_n 0, 1) := dk_42 (dk_at dksX2_passesOne_6 8 rfl rfl)
theorem dX2_passesOne_145 : decode cX2_passesOne 145 = .ok (.getfield 7, 3) := dk_180 0 7 (dk_at dksX2_passesOne_6 9 rfl rfl)
theorem dX2_passesOne_148 : decode cX2_passesOne 148 = .ok (.iload_n 3, 1) := dk_29 (dk_at dksX2_passesOne_6 12 rfl rfl)
theorem dX2_passesOne_149 : decode cX2_passesOne 149 = .ok (.iconst 2, 1) := dk_5 (dk_at dksX2_passesOne_6 13 rfl rfl)
theorem dX2_passesOne_150 : decode cX2_passesOne 150 = .ok (.iadd, 1) := dk_96 (dk_at dksX2_passesOne_6 14 rfl rfl)
theorem dX2_passesOne_151 : decode cX2_passesOne 151 = .ok (.laload, 1) := dk_47 (dk_at dksX2_passesOne_6 15 rfl rfl)
theorem dX2_passesOne_152 : decode cX2_passesOne 152 = .ok (.ldc2_w 81, 3) := dk_20 0 81 (dk_at dksX2_passesOne_6 16 rfl rfl)
theorem dX2_passesOne_155 : decode cX2_passesOne 155 = .ok (.lcmp, 1) := dk_148 (dk_at dksX2_passesOne_6 19 rfl rfl)
theorem dX2_passesOne_156 : decode cX2_passesOne 156 = .ok (.ifCond .ge 7, 3) := dk_156 0 7 (dk_at dksX2_passesOne_6 20 rfl rfl)
theorem dX2_passesOne_159 : decode cX2_passesOne 159 = .ok (.lconst 1, 1) := dk_10 (dk_at dksX2_passesOne_6 23 rfl rfl)
theorem dX2_passesOne_160 : decode cX2_passesOne 160 = .ok (.goto 4, 3) := dk_167 0 4 (dk_at dksX2_passesOne_7 0 rfl rfl)
theorem dX2_passesOne_163 : decode cX2_passesOne 163 = .ok (.lconst 0, 1) := dk_9 (dk_at dksX2_passesOne_7 3 rfl rfl)
theorem dX2_passesOne_164 : decode cX2_passesOne 164 = .ok (.ladd, 1) := dk_97 (dk_at dksX2_passesOne_7 4 rfl rfl)
theorem dX2_passesOne_165 : decode cX2_passesOne 165 = .ok (.lastore, 1) := dk_80 (dk_at dksX2_passesOne_7 5 rfl rfl)
theorem dX2_passesOne_166 : decode cX2_passesOne 166 = .ok (.lload 7, 2) := dk_22 7 (dk_at dksX2_passesOne_7 6 rfl rfl)
theorem dX2_passesOne_168 : decode cX2_passesOne 168 = .ok (.l2i, 1) := dk_136 (dk_at dksX2_passesOne_7 8 rfl rfl)
theorem dX2_passesOne_169 : decode cX2_passesOne 169 = .ok (.ireturn, 1) := dk_172 (dk_at dksX2_passesOne_7 9 rfl rfl)
abbrev cX2_power : ByteArray := prog_10_method_11_code
def yX2_power : MethodName := ⟨RX2, "power", "(I)I"⟩
def dkwX2_power_3 : List UInt8 := [16, 102, 6, 29, 104, 96, 4, 96, 47, 136, 167, 0, 4, 3, 96, 61, 132, 3, 1, 167, 255, 172, 28, 172]
abbrev dktX2_power_3 : List UInt8 := dkwX2_power_3 ++ []
def dkwX2_power_2 : List UInt8 := [182, 0, 56, 153, 0, 7, 4, 167, 0, 4, 3, 54, 4, 28, 21, 4, 153, 0, 20, 42, 180, 0, 7]
abbrev dktX2_power_2 : List UInt8 := dkwX2_power_2 ++ dktX2_power_3
def dkwX2_power_1 : List UInt8 := [5, 96, 47, 10, 148, 154, 0, 27, 42, 42, 180, 0, 7, 16, 102, 6, 29, 104, 96, 47, 136, 27]
abbrev dktX2_power_1 : List UInt8 := dkwX2_power_1 ++ dktX2_power_2
def dkwX2_power_0 : List UInt8 := [3, 61, 3, 62, 29, 42, 16, 8, 182, 0, 37, 162, 0, 80, 42, 180, 0, 7, 16, 102, 6, 29, 104, 96]
abbrev dktX2_power_0 : List UInt8 := dkwX2_power_0 ++ dktX2_power_1
theorem dksX2_power_0 : cX2_power.data.toList.drop 0 = dktX2_power_0 := by decide +kernel
theorem dksX2_power_1 : cX2_power.data.toList.drop 24 = dktX2_power_1 := dk_seg dksX2_power_0 24 rfl rfl
theorem dksX2_power_2 : cX2_power.data.toList.drop 46 = dktX2_power_2 := dk_seg dksX2_power_1 22 rfl rfl
theorem dksX2_power_3 : cX2_power.data.toList.drop 69 = dktX2_power_3 := dk_seg dksX2_power_2 23 rfl rfl
theorem dX2_power_0 : decode cX2_power 0 = .ok (.iconst 0, 1) := dk_3 (dk_at dksX2_power_0 0 rfl rfl)
theorem dX2_power_1 : decode cX2_power 1 = .ok (.istore_n 2, 1) := dk_61 (dk_at dksX2_power_0 1 rfl rfl)
theorem dX2_power_2 : decode cX2_power 2 = .ok (.iconst 0, 1) := dk_3 (dk_at dksX2_power_0 2 rfl rfl)
theorem dX2_power_3 : decode cX2_power 3 = .ok (.istore_n 3, 1) := dk_62 (dk_at dksX2_power_0 3 rfl rfl)
theorem dX2_power_4 : decode cX2_power 4 = .ok (.iload_n 3, 1) := dk_29 (dk_at dksX2_power_0 4 rfl rfl)
theorem dX2_power_5 : decode cX2_power 5 = .ok (.aload_n 0, 1) := dk_42 (dk_at dksX2_power_0 5 rfl rfl)
theorem dX2_power_6 : decode cX2_power 6 = .ok (.bipush 8, 2) := dk_16 8 (dk_at dksX2_power_0 6 rfl rfl)
theorem dX2_power_8 : decode cX2_power 8 = .ok (.invokevirtual 37, 3) := dk_182 0 37 (dk_at dksX2_power_0 8 rfl rfl)
theorem dX2_power_11 : decode cX2_power 11 = .ok (.if_icmp .ge 80, 3) := dk_162 0 80 (dk_at dksX2_power_0 11 rfl rfl)
theorem dX2_power_14 : decode cX2_power 14 = .ok (.aload_n 0, 1) := dk_42 (dk_at dksX2_power_0 14 rfl rfl)
theorem dX2_power_15 : decode cX2_power 15 = .ok (.getfield 7, 3) := dk_180 0 7 (dk_at dksX2_power_0 15 rfl rfl)
theorem dX2_power_18 : decode cX2_power 18 = .ok (.bipush 102, 2) := dk_16 102 (dk_at dksX2_power_0 18 rfl rfl)
theorem dX2_power_20 : decode cX2_power 20 = .ok (.iconst 3, 1) := dk_6 (dk_at dksX2_power_0 20 rfl rfl)
theorem dX2_power_21 : decode cX2_power 21 = .ok (.iload_n 3, 1) := dk_29 (dk_at dksX2_power_0 21 rfl rfl)
theorem dX2_power_22 : decode cX2_power 22 = .ok (.imul, 1) := dk_104 (dk_at dksX2_power_0 22 rfl rfl)
theorem dX2_power_23 : decode cX2_power 23 = .ok (.iadd, 1) := dk_96 (dk_at dksX2_power_0 23 rfl rfl)
theorem dX2_power_24 : decode cX2_power 24 = .ok (.iconst 2, 1) := dk_5 (dk_at dksX2_power_1 0 rfl rfl)
theorem dX2_power_25 : decode cX2_power 25 = .ok (.iadd, 1) := dk_96 (dk_at dksX2_power_1 1 rfl rfl)
theorem dX2_power_26 : decode cX2_power 26 = .ok (.laload, 1) := dk_47 (dk_at dksX2_power_1 2 rfl rfl)
theorem dX2_power_27 : decode cX2_power 27 = .ok (.lconst 1, 1) := dk_10 (dk_at dksX2_power_1 3 rfl rfl)
theorem dX2_power_28 : decode cX2_power 28 = .ok (.lcmp, 1) := dk_148 (dk_at dksX2_power_1 4 rfl rfl)
theorem dX2_power_29 : decode cX2_power 29 = .ok (.ifCond .ne 27, 3) := dk_154 0 27 (dk_at dksX2_power_1 5 rfl rfl)
theorem dX2_power_32 : decode cX2_power 32 = .ok (.aload_n 0, 1) := dk_42 (dk_at dksX2_power_1 8 rfl rfl)
theorem dX2_power_33 : decode cX2_power 33 = .ok (.aload_n 0, 1) := dk_42 (dk_at dksX2_power_1 9 rfl rfl)
theorem dX2_power_34 : decode cX2_power 34 = .ok (.getfield 7, 3) := dk_180 0 7 (dk_at dksX2_power_1 10 rfl rfl)
theorem dX2_power_37 : decode cX2_power 37 = .ok (.bipush 102, 2) := dk_16 102 (dk_at dksX2_power_1 13 rfl rfl)
theorem dX2_power_39 : decode cX2_power 39 = .ok (.iconst 3, 1) := dk_6 (dk_at dksX2_power_1 15 rfl rfl)
theorem dX2_power_40 : decode cX2_power 40 = .ok (.iload_n 3, 1) := dk_29 (dk_at dksX2_power_1 16 rfl rfl)
theorem dX2_power_41 : decode cX2_power 41 = .ok (.imul, 1) := dk_104 (dk_at dksX2_power_1 17 rfl rfl)
theorem dX2_power_42 : decode cX2_power 42 = .ok (.iadd, 1) := dk_96 (dk_at dksX2_power_1 18 rfl rfl)
theorem dX2_power_43 : decode cX2_power 43 = .ok (.laload, 1) := dk_47 (dk_at dksX2_power_1 19 rfl rfl)
theorem dX2_power_44 : decode cX2_power 44 = .ok (.l2i, 1) := dk_136 (dk_at dksX2_power_1 20 rfl rfl)
theorem dX2_power_45 : decode cX2_power 45 = .ok (.iload_n 1, 1) := dk_27 (dk_at dksX2_power_1 21 rfl rfl)
theorem dX2_power_46 : decode cX2_power 46 = .ok (.invokevirtual 56, 3) := dk_182 0 56 (dk_at dksX2_power_2 0 rfl rfl)
theorem dX2_power_49 : decode cX2_power 49 = .ok (.ifCond .eq 7, 3) := dk_153 0 7 (dk_at dksX2_power_2 3 rfl rfl)
theorem dX2_power_52 : decode cX2_power 52 = .ok (.iconst 1, 1) := dk_4 (dk_at dksX2_power_2 6 rfl rfl)
theorem dX2_power_53 : decode cX2_power 53 = .ok (.goto 4, 3) := dk_167 0 4 (dk_at dksX2_power_2 7 rfl rfl)
theorem dX2_power_56 : decode cX2_power 56 = .ok (.iconst 0, 1) := dk_3 (dk_at dksX2_power_2 10 rfl rfl)
theorem dX2_power_57 : decode cX2_power 57 = .ok (.istore 4, 2) := dk_54 4 (dk_at dksX2_power_2 11 rfl rfl)
theorem dX2_power_59 : decode cX2_power 59 = .ok (.iload_n 2, 1) := dk_28 (dk_at dksX2_power_2 13 rfl rfl)
theorem dX2_power_60 : decode cX2_power 60 = .ok (.iload 4, 2) := dk_21 4 (dk_at dksX2_power_2 14 rfl rfl)
theorem dX2_power_62 : decode cX2_power 62 = .ok (.ifCond .eq 20, 3) := dk_153 0 20 (dk_at dksX2_power_2 16 rfl rfl)
theorem dX2_power_65 : decode cX2_power 65 = .ok (.aload_n 0, 1) := dk_42 (dk_at dksX2_power_2 19 rfl rfl)
theorem dX2_power_66 : decode cX2_power 66 = .ok (.getfield 7, 3) := dk_180 0 7 (dk_at dksX2_power_2 20 rfl rfl)
theorem dX2_power_69 : decode cX2_power 69 = .ok (.bipush 102, 2) := dk_16 102 (dk_at dksX2_power_3 0 rfl rfl)
theorem dX2_power_71 : decode cX2_power 71 = .ok (.iconst 3, 1) := dk_6 (dk_at dksX2_power_3 2 rfl rfl)
theorem dX2_power_72 : decode cX2_power 72 = .ok (.iload_n 3, 1) := dk_29 (dk_at dksX2_power_3 3 rfl rfl)
theorem dX2_power_73 : decode cX2_power 73 = .ok (.imul, 1) := dk_104 (dk_at dksX2_power_3 4 rfl rfl)
theorem dX2_power_74 : decode cX2_power 74 = .ok (.iadd, 1) := dk_96 (dk_at dksX2_power_3 5 rfl rfl)
theorem dX2_power_75 : decode cX2_power 75 = .ok (.iconst 1, 1) := dk_4 (dk_at dksX2_power_3 6 rfl rfl)
theorem dX2_power_76 : decode cX2_power 76 = .ok (.iadd, 1) := dk_96 (dk_at dksX2_power_3 7 rfl rfl)
theorem dX2_power_77 : decode cX2_power 77 = .ok (.laload, 1) := dk_47 (dk_at dksX2_power_3 8 rfl rfl)
theorem dX2_power_78 : decode cX2_power 78 = .ok (.l2i, 1) := dk_136 (dk_at dksX2_power_3 9 rfl rfl)
theorem dX2_power_79 : decode cX2_power 79 = .ok (.goto 4, 3) := dk_167 0 4 (dk_at dksX2_power_3 10 rfl rfl)
theorem dX2_power_82 : decode cX2_power 82 = .ok (.iconst 0, 1) := dk_3 (dk_at dksX2_power_3 13 rfl rfl)
theorem dX2_power_83 : decode cX2_power 83 = .ok (.iadd, 1) := dk_96 (dk_at dksX2_power_3 14 rfl rfl)
theorem dX2_power_84 : decode cX2_power 84 = .ok (.istore_n 2, 1) := dk_61 (dk_at dksX2_power_3 15 rfl rfl)
theorem dX2_power_85 : decode cX2_power 85 = .ok (.iinc 3 1, 3) := dk_132 3 1 (dk_at dksX2_power_3 16 rfl rfl)
theorem dX2_power_88 : decode cX2_power 88 = .ok (.goto (-84), 3) := dk_167 255 172 (dk_at dksX2_power_3 19 rfl rfl)
theorem dX2_power_91 : decode cX2_power 91 = .ok (.iload_n 2, 1) := dk_28 (dk_at dksX2_power_3 22 rfl rfl)
theorem dX2_power_92 : decode cX2_power 92 = .ok (.ireturn, 1) := dk_172 (dk_at dksX2_power_3 23 rfl rfl)
abbrev cX2_isThrough : ByteArray := prog_10_method_10_code
def yX2_isThrough : MethodName := ⟨RX2, "isThrough", "(II)Z"⟩
def dkwX2_isThrough_1 : List UInt8 := [167, 0, 4, 3, 172]
abbrev dktX2_isThrough_1 : List UInt8 := dkwX2_isThrough_1 ++ []
def dkwX2_isThrough_0 : List UInt8 := [27, 62, 29, 28, 164, 0, 13, 42, 29, 3, 182, 0, 53, 62, 167, 255, 244, 29, 28, 160, 0, 7, 4]
abbrev dktX2_isThrough_0 : List UInt8 := dkwX2_isThrough_0 ++ dktX2_isThrough_1
theorem dksX2_isThrough_0 : cX2_isThrough.data.toList.drop 0 = dktX2_isThrough_0 := by decide +kernel
theorem dksX2_isThrough_1 : cX2_isThrough.data.toList.drop 23 = dktX2_isThrough_1 := dk_seg dksX2_isThrough_0 23 rfl rfl
theorem dX2_isThrough_0 : decode cX2_isThrough 0 = .ok (.iload_n 1, 1) := dk_27 (dk_at dksX2_isThrough_0 0 rfl rfl)
theorem dX2_isThrough_1 : decode cX2_isThrough 1 = .ok (.istore_n 3, 1) := dk_62 (dk_at dksX2_isThrough_0 1 rfl rfl)
theorem dX2_isThrough_2 : decode cX2_isThrough 2 = .ok (.iload_n 3, 1) := dk_29 (dk_at dksX2_isThrough_0 2 rfl rfl)
theorem dX2_isThrough_3 : decode cX2_isThrough 3 = .ok (.iload_n 2, 1) := dk_28 (dk_at dksX2_isThrough_0 3 rfl rfl)
theorem dX2_isThrough_4 : decode cX2_isThrough 4 = .ok (.if_icmp .le 13, 3) := dk_164 0 13 (dk_at dksX2_isThrough_0 4 rfl rfl)
theorem dX2_isThrough_7 : decode cX2_isThrough 7 = .ok (.aload_n 0, 1) := dk_42 (dk_at dksX2_isThrough_0 7 rfl rfl)
theorem dX2_isThrough_8 : decode cX2_isThrough 8 = .ok (.iload_n 3, 1) := dk_29 (dk_at dksX2_isThrough_0 8 rfl rfl)
theorem dX2_isThrough_9 : decode cX2_isThrough 9 = .ok (.iconst 0, 1) := dk_3 (dk_at dksX2_isThrough_0 9 rfl rfl)
theorem dX2_isThrough_10 : decode cX2_isThrough 10 = .ok (.invokevirtual 53, 3) := dk_182 0 53 (dk_at dksX2_isThrough_0 10 rfl rfl)
theorem dX2_isThrough_13 : decode cX2_isThrough 13 = .ok (.istore_n 3, 1) := dk_62 (dk_at dksX2_isThrough_0 13 rfl rfl)
theorem dX2_isThrough_14 : decode cX2_isThrough 14 = .ok (.goto (-12), 3) := dk_167 255 244 (dk_at dksX2_isThrough_0 14 rfl rfl)
theorem dX2_isThrough_17 : decode cX2_isThrough 17 = .ok (.iload_n 3, 1) := dk_29 (dk_at dksX2_isThrough_0 17 rfl rfl)
theorem dX2_isThrough_18 : decode cX2_isThrough 18 = .ok (.iload_n 2, 1) := dk_28 (dk_at dksX2_isThrough_0 18 rfl rfl)
theorem dX2_isThrough_19 : decode cX2_isThrough 19 = .ok (.if_icmp .ne 7, 3) := dk_160 0 7 (dk_at dksX2_isThrough_0 19 rfl rfl)
theorem dX2_isThrough_22 : decode cX2_isThrough 22 = .ok (.iconst 1, 1) := dk_4 (dk_at dksX2_isThrough_0 22 rfl rfl)
theorem dX2_isThrough_23 : decode cX2_isThrough 23 = .ok (.goto 4, 3) := dk_167 0 4 (dk_at dksX2_isThrough_1 0 rfl rfl)
theorem dX2_isThrough_26 : decode cX2_isThrough 26 = .ok (.iconst 0, 1) := dk_3 (dk_at dksX2_isThrough_1 3 rfl rfl)
theorem dX2_isThrough_27 : decode cX2_isThrough 27 = .ok (.ireturn, 1) := dk_172 (dk_at dksX2_isThrough_1 4 rfl rfl)
abbrev cX2_goes : ByteArray := prog_10_method_13_code
def yX2_goes : MethodName := ⟨RX2, "goes", "(III)J"⟩
def dkwX2_goes_7 : List UInt8 := [20, 0, 68, 167, 0, 5, 22, 7, 173]
abbrev dktX2_goes_7 : List UInt8 := dkwX2_goes_7 ++ []
def dkwX2_goes_6 : List UInt8 := [22, 4, 42, 180, 0, 7, 27, 4, 96, 47, 97, 55, 7, 22, 7, 20, 0, 68, 148, 158, 0, 9]
abbrev dktX2_goes_6 : List UInt8 := dkwX2_goes_6 ++ dktX2_goes_7
def dkwX2_goes_5 : List UInt8 := [22, 4, 42, 180, 0, 7, 27, 4, 96, 47, 97, 173, 22, 4, 9, 148, 154, 0, 7, 9, 167, 0, 14]
abbrev dktX2_goes_5 : List UInt8 := dkwX2_goes_5 ++ dktX2_goes_6
def dkwX2_goes_4 : List UInt8 := [157, 0, 8, 21, 6, 153, 0, 6, 22, 4, 173, 42, 180, 0, 7, 27, 5, 96, 47, 9, 148, 154, 0, 15]
abbrev dktX2_goes_4 : List UInt8 := dkwX2_goes_4 ++ dktX2_goes_5
def dkwX2_goes_3 : List UInt8 := [109, 55, 7, 22, 4, 21, 6, 153, 0, 12, 22, 7, 20, 0, 29, 109, 167, 0, 5, 22, 7, 97, 173, 29]
abbrev dktX2_goes_3 : List UInt8 := dkwX2_goes_3 ++ dktX2_goes_4
def dkwX2_goes_2 : List UInt8 := [96, 47, 148, 158, 0, 44, 29, 133, 42, 180, 0, 7, 27, 28, 184, 0, 45, 5, 96, 47, 105, 20, 0, 66]
abbrev dktX2_goes_2 : List UInt8 := dkwX2_goes_2 ++ dktX2_goes_3
def dkwX2_goes_1 : List UInt8 := [16, 7, 96, 47, 10, 148, 154, 0, 7, 4, 167, 0, 4, 3, 54, 6, 29, 133, 42, 180, 0, 7, 27, 3]
abbrev dktX2_goes_1 : List UInt8 := dkwX2_goes_1 ++ dktX2_goes_2
def dkwX2_goes_0 : List UInt8 := [42, 180, 0, 7, 27, 28, 184, 0, 45, 4, 96, 47, 55, 4, 42, 180, 0, 7, 27, 28, 184, 0, 45]
abbrev dktX2_goes_0 : List UInt8 := dkwX2_goes_0 ++ dktX2_goes_1
theorem dksX2_goes_0 : cX2_goes.data.toList.drop 0 = dktX2_goes_0 := by decide +kernel
theorem dksX2_goes_1 : cX2_goes.data.toList.drop 23 = dktX2_goes_1 := dk_seg dksX2_goes_0 23 rfl rfl
theorem dksX2_goes_2 : cX2_goes.data.toList.drop 47 = dktX2_goes_2 := dk_seg dksX2_goes_1 24 rfl rfl
theorem dksX2_goes_3 : cX2_goes.data.toList.drop 71 = dktX2_goes_3 := dk_seg dksX2_goes_2 24 rfl rfl
theorem dksX2_goes_4 : cX2_goes.data.toList.drop 95 = dktX2_goes_4 := dk_seg dksX2_goes_3 24 rfl rfl
theorem dksX2_goes_5 : cX2_goes.data.toList.drop 119 = dktX2_goes_5 := dk_seg dksX2_goes_4 24 rfl rfl
theorem dksX2_goes_6 : cX2_goes.data.toList.drop 142 = dktX2_goes_6 := dk_seg dksX2_goes_5 23 rfl rfl
theorem dksX2_goes_7 : cX2_goes.data.toList.drop 164 = dktX2_goes_7 := dk_seg dksX2_goes_6 22 rfl rfl
theorem dX2_goes_0 : decode cX2_goes 0 = .ok (.aload_n 0, 1) := dk_42 (dk_at dksX2_goes_0 0 rfl rfl)
theorem dX2_goes_1 : decode cX2_goes 1 = .ok (.getfield 7, 3) := dk_180 0 7 (dk_at dksX2_goes_0 1 rfl rfl)
theorem dX2_goes_4 : decode cX2_goes 4 = .ok (.iload_n 1, 1) := dk_27 (dk_at dksX2_goes_0 4 rfl rfl)
theorem dX2_goes_5 : decode cX2_goes 5 = .ok (.iload_n 2, 1) := dk_28 (dk_at dksX2_goes_0 5 rfl rfl)
theorem dX2_goes_6 : decode cX2_goes 6 = .ok (.invokestatic 45, 3) := dk_184 0 45 (dk_at dksX2_goes_0 6 rfl rfl)
theorem dX2_goes_9 : decode cX2_goes 9 = .ok (.iconst 1, 1) := dk_4 (dk_at dksX2_goes_0 9 rfl rfl)
theorem dX2_goes_10 : decode cX2_goes 10 = .ok (.iadd, 1) := dk_96 (dk_at dksX2_goes_0 10 rfl rfl)
theorem dX2_goes_11 : decode cX2_goes 11 = .ok (.laload, 1) := dk_47 (dk_at dksX2_goes_0 11 rfl rfl)
theorem dX2_goes_12 : decode cX2_goes 12 = .ok (.lstore 4, 2) := dk_55 4 (dk_at dksX2_goes_0 12 rfl rfl)
theorem dX2_goes_14 : decode cX2_goes 14 = .ok (.aload_n 0, 1) := dk_42 (dk_at dksX2_goes_0 14 rfl rfl)
theorem dX2_goes_15 : decode cX2_goes 15 = .ok (.getfield 7, 3) := dk_180 0 7 (dk_at dksX2_goes_0 15 rfl rfl)
theorem dX2_goes_18 : decode cX2_goes 18 = .ok (.iload_n 1, 1) := dk_27 (dk_at dksX2_goes_0 18 rfl rfl)
theorem dX2_goes_19 : decode cX2_goes 19 = .ok (.iload_n 2, 1) := dk_28 (dk_at dksX2_goes_0 19 rfl rfl)
theorem dX2_goes_20 : decode cX2_goes 20 = .ok (.invokestatic 45, 3) := dk_184 0 45 (dk_at dksX2_goes_0 20 rfl rfl)
theorem dX2_goes_23 : decode cX2_goes 23 = .ok (.bipush 7, 2) := dk_16 7 (dk_at dksX2_goes_1 0 rfl rfl)
theorem dX2_goes_25 : decode cX2_goes 25 = .ok (.iadd, 1) := dk_96 (dk_at dksX2_goes_1 2 rfl rfl)
theorem dX2_goes_26 : decode cX2_goes 26 = .ok (.laload, 1) := dk_47 (dk_at dksX2_goes_1 3 rfl rfl)
theorem dX2_goes_27 : decode cX2_goes 27 = .ok (.lconst 1, 1) := dk_10 (dk_at dksX2_goes_1 4 rfl rfl)
theorem dX2_goes_28 : decode cX2_goes 28 = .ok (.lcmp, 1) := dk_148 (dk_at dksX2_goes_1 5 rfl rfl)
theorem dX2_goes_29 : decode cX2_goes 29 = .ok (.ifCond .ne 7, 3) := dk_154 0 7 (dk_at dksX2_goes_1 6 rfl rfl)
theorem dX2_goes_32 : decode cX2_goes 32 = .ok (.iconst 1, 1) := dk_4 (dk_at dksX2_goes_1 9 rfl rfl)
theorem dX2_goes_33 : decode cX2_goes 33 = .ok (.goto 4, 3) := dk_167 0 4 (dk_at dksX2_goes_1 10 rfl rfl)
theorem dX2_goes_36 : decode cX2_goes 36 = .ok (.iconst 0, 1) := dk_3 (dk_at dksX2_goes_1 13 rfl rfl)
theorem dX2_goes_37 : decode cX2_goes 37 = .ok (.istore 6, 2) := dk_54 6 (dk_at dksX2_goes_1 14 rfl rfl)
theorem dX2_goes_39 : decode cX2_goes 39 = .ok (.iload_n 3, 1) := dk_29 (dk_at dksX2_goes_1 16 rfl rfl)
theorem dX2_goes_40 : decode cX2_goes 40 = .ok (.i2l, 1) := dk_133 (dk_at dksX2_goes_1 17 rfl rfl)
theorem dX2_goes_41 : decode cX2_goes 41 = .ok (.aload_n 0, 1) := dk_42 (dk_at dksX2_goes_1 18 rfl rfl)
theorem dX2_goes_42 : decode cX2_goes 42 = .ok (.getfield 7, 3) := dk_180 0 7 (dk_at dksX2_goes_1 19 rfl rfl)
theorem dX2_goes_45 : decode cX2_goes 45 = .ok (.iload_n 1, 1) := dk_27 (dk_at dksX2_goes_1 22 rfl rfl)
theorem dX2_goes_46 : decode cX2_goes 46 = .ok (.iconst 0, 1) := dk_3 (dk_at dksX2_goes_1 23 rfl rfl)
theorem dX2_goes_47 : decode cX2_goes 47 = .ok (.iadd, 1) := dk_96 (dk_at dksX2_goes_2 0 rfl rfl)
theorem dX2_goes_48 : decode cX2_goes 48 = .ok (.laload, 1) := dk_47 (dk_at dksX2_goes_2 1 rfl rfl)
theorem dX2_goes_49 : decode cX2_goes 49 = .ok (.lcmp, 1) := dk_148 (dk_at dksX2_goes_2 2 rfl rfl)
theorem dX2_goes_50 : decode cX2_goes 50 = .ok (.ifCond .le 44, 3) := dk_158 0 44 (dk_at dksX2_goes_2 3 rfl rfl)
theorem dX2_goes_53 : decode cX2_goes 53 = .ok (.iload_n 3, 1) := dk_29 (dk_at dksX2_goes_2 6 rfl rfl)
theorem dX2_goes_54 : decode cX2_goes 54 = .ok (.i2l, 1) := dk_133 (dk_at dksX2_goes_2 7 rfl rfl)
theorem dX2_goes_55 : decode cX2_goes 55 = .ok (.aload_n 0, 1) := dk_42 (dk_at dksX2_goes_2 8 rfl rfl)
theorem dX2_goes_56 : decode cX2_goes 56 = .ok (.getfield 7, 3) := dk_180 0 7 (dk_at dksX2_goes_2 9 rfl rfl)
theorem dX2_goes_59 : decode cX2_goes 59 = .ok (.iload_n 1, 1) := dk_27 (dk_at dksX2_goes_2 12 rfl rfl)
theorem dX2_goes_60 : decode cX2_goes 60 = .ok (.iload_n 2, 1) := dk_28 (dk_at dksX2_goes_2 13 rfl rfl)
theorem dX2_goes_61 : decode cX2_goes 61 = .ok (.invokestatic 45, 3) := dk_184 0 45 (dk_at dksX2_goes_2 14 rfl rfl)
theorem dX2_goes_64 : decode cX2_goes 64 = .ok (.iconst 2, 1) := dk_5 (dk_at dksX2_goes_2 17 rfl rfl)
theorem dX2_goes_65 : decode cX2_goes 65 = .ok (.iadd, 1) := dk_96 (dk_at dksX2_goes_2 18 rfl rfl)
theorem dX2_goes_66 : decode cX2_goes 66 = .ok (.laload, 1) := dk_47 (dk_at dksX2_goes_2 19 rfl rfl)
theorem dX2_goes_67 : decode cX2_goes 67 = .ok (.lmul, 1) := dk_105 (dk_at dksX2_goes_2 20 rfl rfl)
theorem dX2_goes_68 : decode cX2_goes 68 = .ok (.ldc2_w 66, 3) := dk_20 0 66 (dk_at dksX2_goes_2 21 rfl rfl)
theorem dX2_goes_71 : decode cX2_goes 71 = .ok (.ldiv, 1) := dk_109 (dk_at dksX2_goes_3 0 rfl rfl)
theorem dX2_goes_72 : decode cX2_goes 72 = .ok (.lstore 7, 2) := dk_55 7 (dk_at dksX2_goes_3 1 rfl rfl)
theorem dX2_goes_74 : decode cX2_goes 74 = .ok (.lload 4, 2) := dk_22 4 (dk_at dksX2_goes_3 3 rfl rfl)
theorem dX2_goes_76 : decode cX2_goes 76 = .ok (.iload 6, 2) := dk_21 6 (dk_at dksX2_goes_3 5 rfl rfl)
theorem dX2_goes_78 : decode cX2_goes 78 = .ok (.ifCond .eq 12, 3) := dk_153 0 12 (dk_at dksX2_goes_3 7 rfl rfl)
theorem dX2_goes_81 : decode cX2_goes 81 = .ok (.lload 7, 2) := dk_22 7 (dk_at dksX2_goes_3 10 rfl rfl)
theorem dX2_goes_83 : decode cX2_goes 83 = .ok (.ldc2_w 29, 3) := dk_20 0 29 (dk_at dksX2_goes_3 12 rfl rfl)
theorem dX2_goes_86 : decode cX2_goes 86 = .ok (.ldiv, 1) := dk_109 (dk_at dksX2_goes_3 15 rfl rfl)
theorem dX2_goes_87 : decode cX2_goes 87 = .ok (.goto 5, 3) := dk_167 0 5 (dk_at dksX2_goes_3 16 rfl rfl)
theorem dX2_goes_90 : decode cX2_goes 90 = .ok (.lload 7, 2) := dk_22 7 (dk_at dksX2_goes_3 19 rfl rfl)
theorem dX2_goes_92 : decode cX2_goes 92 = .ok (.ladd, 1) := dk_97 (dk_at dksX2_goes_3 21 rfl rfl)
theorem dX2_goes_93 : decode cX2_goes 93 = .ok (.lreturn, 1) := dk_173 (dk_at dksX2_goes_3 22 rfl rfl)
theorem dX2_goes_94 : decode cX2_goes 94 = .ok (.iload_n 3, 1) := dk_29 (dk_at dksX2_goes_3 23 rfl rfl)
theorem dX2_goes_95 : decode cX2_goes 95 = .ok (.ifCond .gt 8, 3) := dk_157 0 8 (dk_at dksX2_goes_4 0 rfl rfl)
theorem dX2_goes_98 : decode cX2_goes 98 = .ok (.iload 6, 2) := dk_21 6 (dk_at dksX2_goes_4 3 rfl rfl)
theorem dX2_goes_100 : decode cX2_goes 100 = .ok (.ifCond .eq 6, 3) := dk_153 0 6 (dk_at dksX2_goes_4 5 rfl rfl)
theorem dX2_goes_103 : decode cX2_goes 103 = .ok (.lload 4, 2) := dk_22 4 (dk_at dksX2_goes_4 8 rfl rfl)
theorem dX2_goes_105 : decode cX2_goes 105 = .ok (.lreturn, 1) := dk_173 (dk_at dksX2_goes_4 10 rfl rfl)
theorem dX2_goes_106 : decode cX2_goes 106 = .ok (.aload_n 0, 1) := dk_42 (dk_at dksX2_goes_4 11 rfl rfl)
theorem dX2_goes_107 : decode cX2_goes 107 = .ok (.getfield 7, 3) := dk_180 0 7 (dk_at dksX2_goes_4 12 rfl rfl)
theorem dX2_goes_110 : decode cX2_goes 110 = .ok (.iload_n 1, 1) := dk_27 (dk_at dksX2_goes_4 15 rfl rfl)
theorem dX2_goes_111 : decode cX2_goes 111 = .ok (.iconst 2, 1) := dk_5 (dk_at dksX2_goes_4 16 rfl rfl)
theorem dX2_goes_112 : decode cX2_goes 112 = .ok (.iadd, 1) := dk_96 (dk_at dksX2_goes_4 17 rfl rfl)
theorem dX2_goes_113 : decode cX2_goes 113 = .ok (.laload, 1) := dk_47 (dk_at dksX2_goes_4 18 rfl rfl)
theorem dX2_goes_114 : decode cX2_goes 114 = .ok (.lconst 0, 1) := dk_9 (dk_at dksX2_goes_4 19 rfl rfl)
theorem dX2_goes_115 : decode cX2_goes 115 = .ok (.lcmp, 1) := dk_148 (dk_at dksX2_goes_4 20 rfl rfl)
theorem dX2_goes_116 : decode cX2_goes 116 = .ok (.ifCond .ne 15, 3) := dk_154 0 15 (dk_at dksX2_goes_4 21 rfl rfl)
theorem dX2_goes_119 : decode cX2_goes 119 = .ok (.lload 4, 2) := dk_22 4 (dk_at dksX2_goes_5 0 rfl rfl)
theorem dX2_goes_121 : decode cX2_goes 121 = .ok (.aload_n 0, 1) := dk_42 (dk_at dksX2_goes_5 2 rfl rfl)
theorem dX2_goes_122 : decode cX2_goes 122 = .ok (.getfield 7, 3) := dk_180 0 7 (dk_at dksX2_goes_5 3 rfl rfl)
theorem dX2_goes_125 : decode cX2_goes 125 = .ok (.iload_n 1, 1) := dk_27 (dk_at dksX2_goes_5 6 rfl rfl)
theorem dX2_goes_126 : decode cX2_goes 126 = .ok (.iconst 1, 1) := dk_4 (dk_at dksX2_goes_5 7 rfl rfl)
theorem dX2_goes_127 : decode cX2_goes 127 = .ok (.iadd, 1) := dk_96 (dk_at dksX2_goes_5 8 rfl rfl)
theorem dX2_goes_128 : decode cX2_goes 128 = .ok (.laload, 1) := dk_47 (dk_at dksX2_goes_5 9 rfl rfl)
theorem dX2_goes_129 : decode cX2_goes 129 = .ok (.ladd, 1) := dk_97 (dk_at dksX2_goes_5 10 rfl rfl)
theorem dX2_goes_130 : decode cX2_goes 130 = .ok (.lreturn, 1) := dk_173 (dk_at dksX2_goes_5 11 rfl rfl)
theorem dX2_goes_131 : decode cX2_goes 131 = .ok (.lload 4, 2) := dk_22 4 (dk_at dksX2_goes_5 12 rfl rfl)
theorem dX2_goes_133 : decode cX2_goes 133 = .ok (.lconst 0, 1) := dk_9 (dk_at dksX2_goes_5 14 rfl rfl)
theorem dX2_goes_134 : decode cX2_goes 134 = .ok (.lcmp, 1) := dk_148 (dk_at dksX2_goes_5 15 rfl rfl)
theorem dX2_goes_135 : decode cX2_goes 135 = .ok (.ifCond .ne 7, 3) := dk_154 0 7 (dk_at dksX2_goes_5 16 rfl rfl)
theorem dX2_goes_138 : decode cX2_goes 138 = .ok (.lconst 0, 1) := dk_9 (dk_at dksX2_goes_5 19 rfl rfl)
theorem dX2_goes_139 : decode cX2_goes 139 = .ok (.goto 14, 3) := dk_167 0 14 (dk_at dksX2_goes_5 20 rfl rfl)
theorem dX2_goes_142 : decode cX2_goes 142 = .ok (.lload 4, 2) := dk_22 4 (dk_at dksX2_goes_6 0 rfl rfl)
theorem dX2_goes_144 : decode cX2_goes 144 = .ok (.aload_n 0, 1) := dk_42 (dk_at dksX2_goes_6 2 rfl rfl)
theorem dX2_goes_145 : decode cX2_goes 145 = .ok (.getfield 7, 3) := dk_180 0 7 (dk_at dksX2_goes_6 3 rfl rfl)
theorem dX2_goes_148 : decode cX2_goes 148 = .ok (.iload_n 1, 1) := dk_27 (dk_at dksX2_goes_6 6 rfl rfl)
theorem dX2_goes_149 : decode cX2_goes 149 = .ok (.iconst 1, 1) := dk_4 (dk_at dksX2_goes_6 7 rfl rfl)
theorem dX2_goes_150 : decode cX2_goes 150 = .ok (.iadd, 1) := dk_96 (dk_at dksX2_goes_6 8 rfl rfl)
theorem dX2_goes_151 : decode cX2_goes 151 = .ok (.laload, 1) := dk_47 (dk_at dksX2_goes_6 9 rfl rfl)
theorem dX2_goes_152 : decode cX2_goes 152 = .ok (.ladd, 1) := dk_97 (dk_at dksX2_goes_6 10 rfl rfl)
theorem dX2_goes_153 : decode cX2_goes 153 = .ok (.lstore 7, 2) := dk_55 7 (dk_at dksX2_goes_6 11 rfl rfl)
theorem dX2_goes_155 : decode cX2_goes 155 = .ok (.lload 7, 2) := dk_22 7 (dk_at dksX2_goes_6 13 rfl rfl)
theorem dX2_goes_157 : decode cX2_goes 157 = .ok (.ldc2_w 68, 3) := dk_20 0 68 (dk_at dksX2_goes_6 15 rfl rfl)
theorem dX2_goes_160 : decode cX2_goes 160 = .ok (.lcmp, 1) := dk_148 (dk_at dksX2_goes_6 18 rfl rfl)
theorem dX2_goes_161 : decode cX2_goes 161 = .ok (.ifCond .le 9, 3) := dk_158 0 9 (dk_at dksX2_goes_6 19 rfl rfl)
theorem dX2_goes_164 : decode cX2_goes 164 = .ok (.ldc2_w 68, 3) := dk_20 0 68 (dk_at dksX2_goes_7 0 rfl rfl)
theorem dX2_goes_167 : decode cX2_goes 167 = .ok (.goto 5, 3) := dk_167 0 5 (dk_at dksX2_goes_7 3 rfl rfl)
theorem dX2_goes_170 : decode cX2_goes 170 = .ok (.lload 7, 2) := dk_22 7 (dk_at dksX2_goes_7 6 rfl rfl)
theorem dX2_goes_172 : decode cX2_goes 172 = .ok (.lreturn, 1) := dk_173 (dk_at dksX2_goes_7 8 rfl rfl)
abbrev cX2_isNight : ByteArray := prog_10_method_12_code
def yX2_isNight : MethodName := ⟨RX2, "isNight", "(J)Z"⟩
def dkwX2_isNight_1 : List UInt8 := [167, 0, 4, 3, 172]
abbrev dktX2_isNight_1 : List UInt8 := dkwX2_isNight_1 ++ []
def dkwX2_isNight_0 : List UInt8 := [30, 20, 0, 60, 113, 65, 32, 20, 0, 62, 148, 156, 0, 11, 32, 20, 0, 64, 148, 156, 0, 7, 4]
abbrev dktX2_isNight_0 : List UInt8 := dkwX2_isNight_0 ++ dktX2_isNight_1
theorem dksX2_isNight_0 : cX2_isNight.data.toList.drop 0 = dktX2_isNight_0 := by decide +kernel
theorem dksX2_isNight_1 : cX2_isNight.data.toList.drop 23 = dktX2_isNight_1 := dk_seg dksX2_isNight_0 23 rfl rfl
theorem dX2_isNight_0 : decode cX2_isNight 0 = .ok (.lload_n 0, 1) := dk_30 (dk_at dksX2_isNight_0 0 rfl rfl)
theorem dX2_isNight_1 : decode cX2_isNight 1 = .ok (.ldc2_w 60, 3) := dk_20 0 60 (dk_at dksX2_isNight_0 1 rfl rfl)
theorem dX2_isNight_4 : decode cX2_isNight 4 = .ok (.lrem, 1) := dk_113 (dk_at dksX2_isNight_0 4 rfl rfl)
theorem dX2_isNight_5 : decode cX2_isNight 5 = .ok (.lstore_n 2, 1) := dk_65 (dk_at dksX2_isNight_0 5 rfl rfl)
theorem dX2_isNight_6 : decode cX2_isNight 6 = .ok (.lload_n 2, 1) := dk_32 (dk_at dksX2_isNight_0 6 rfl rfl)
theorem dX2_isNight_7 : decode cX2_isNight 7 = .ok (.ldc2_w 62, 3) := dk_20 0 62 (dk_at dksX2_isNight_0 7 rfl rfl)
theorem dX2_isNight_10 : decode cX2_isNight 10 = .ok (.lcmp, 1) := dk_148 (dk_at dksX2_isNight_0 10 rfl rfl)
theorem dX2_isNight_11 : decode cX2_isNight 11 = .ok (.ifCond .ge 11, 3) := dk_156 0 11 (dk_at dksX2_isNight_0 11 rfl rfl)
theorem dX2_isNight_14 : decode cX2_isNight 14 = .ok (.lload_n 2, 1) := dk_32 (dk_at dksX2_isNight_0 14 rfl rfl)
theorem dX2_isNight_15 : decode cX2_isNight 15 = .ok (.ldc2_w 64, 3) := dk_20 0 64 (dk_at dksX2_isNight_0 15 rfl rfl)
theorem dX2_isNight_18 : decode cX2_isNight 18 = .ok (.lcmp, 1) := dk_148 (dk_at dksX2_isNight_0 18 rfl rfl)
theorem dX2_isNight_19 : decode cX2_isNight 19 = .ok (.ifCond .ge 7, 3) := dk_156 0 7 (dk_at dksX2_isNight_0 19 rfl rfl)
theorem dX2_isNight_22 : decode cX2_isNight 22 = .ok (.iconst 1, 1) := dk_4 (dk_at dksX2_isNight_0 22 rfl rfl)
theorem dX2_isNight_23 : decode cX2_isNight 23 = .ok (.goto 4, 3) := dk_167 0 4 (dk_at dksX2_isNight_1 0 rfl rfl)
theorem dX2_isNight_26 : decode cX2_isNight 26 = .ok (.iconst 0, 1) := dk_3 (dk_at dksX2_isNight_1 3 rfl rfl)
theorem dX2_isNight_27 : decode cX2_isNight 27 = .ok (.ireturn, 1) := dk_172 (dk_at dksX2_isNight_1 4 rfl rfl)
abbrev cX2_write : ByteArray := prog_10_method_37_code
def yX2_write : MethodName := ⟨RX2, "write", "(I)I"⟩
def dkwX2_write_3 : List UInt8 := [160, 0, 9, 42, 16, 33, 182, 0, 138, 42, 180, 0, 135, 172]
abbrev dktX2_write_3 : List UInt8 := dkwX2_write_3 ++ []
def dkwX2_write_2 : List UInt8 := [16, 35, 182, 0, 138, 42, 42, 27, 16, 6, 182, 0, 53, 182, 0, 142, 42, 27, 16, 7, 182, 0, 53, 4]
abbrev dktX2_write_2 : List UInt8 := dkwX2_write_2 ++ dktX2_write_3
def dkwX2_write_1 : List UInt8 := [6, 182, 0, 53, 182, 0, 142, 42, 16, 110, 182, 0, 138, 42, 42, 27, 7, 182, 0, 53, 182, 0, 142, 42]
abbrev dktX2_write_1 : List UInt8 := dkwX2_write_1 ++ dktX2_write_2
def dkwX2_write_0 : List UInt8 := [42, 27, 182, 0, 95, 154, 0, 5, 2, 172, 42, 3, 181, 0, 135, 42, 16, 100, 182, 0, 138, 42, 42, 27]
abbrev dktX2_write_0 : List UInt8 := dkwX2_write_0 ++ dktX2_write_1
theorem dksX2_write_0 : cX2_write.data.toList.drop 0 = dktX2_write_0 := by decide +kernel
theorem dksX2_write_1 : cX2_write.data.toList.drop 24 = dktX2_write_1 := dk_seg dksX2_write_0 24 rfl rfl
theorem dksX2_write_2 : cX2_write.data.toList.drop 48 = dktX2_write_2 := dk_seg dksX2_write_1 24 rfl rfl
theorem dksX2_write_3 : cX2_write.data.toList.drop 72 = dktX2_write_3 := dk_seg dksX2_write_2 24 rfl rfl
theorem dX2_write_0 : decode cX2_write 0 = .ok (.aload_n 0, 1) := dk_42 (dk_at dksX2_write_0 0 rfl rfl)
theorem dX2_write_1 : decode cX2_write 1 = .ok (.iload_n 1, 1) := dk_27 (dk_at dksX2_write_0 1 rfl rfl)
theorem dX2_write_2 : decode cX2_write 2 = .ok (.invokevirtual 95, 3) := dk_182 0 95 (dk_at dksX2_write_0 2 rfl rfl)
theorem dX2_write_5 : decode cX2_write 5 = .ok (.ifCond .ne 5, 3) := dk_154 0 5 (dk_at dksX2_write_0 5 rfl rfl)
theorem dX2_write_8 : decode cX2_write 8 = .ok (.iconst (-1), 1) := dk_2 (dk_at dksX2_write_0 8 rfl rfl)
theorem dX2_write_9 : decode cX2_write 9 = .ok (.ireturn, 1) := dk_172 (dk_at dksX2_write_0 9 rfl rfl)
theorem dX2_write_10 : decode cX2_write 10 = .ok (.aload_n 0, 1) := dk_42 (dk_at dksX2_write_0 10 rfl rfl)
theorem dX2_write_11 : decode cX2_write 11 = .ok (.iconst 0, 1) := dk_3 (dk_at dksX2_write_0 11 rfl rfl)
theorem dX2_write_12 : decode cX2_write 12 = .ok (.putfield 135, 3) := dk_181 0 135 (dk_at dksX2_write_0 12 rfl rfl)
theorem dX2_write_15 : decode cX2_write 15 = .ok (.aload_n 0, 1) := dk_42 (dk_at dksX2_write_0 15 rfl rfl)
theorem dX2_write_16 : decode cX2_write 16 = .ok (.bipush 100, 2) := dk_16 100 (dk_at dksX2_write_0 16 rfl rfl)
theorem dX2_write_18 : decode cX2_write 18 = .ok (.invokevirtual 138, 3) := dk_182 0 138 (dk_at dksX2_write_0 18 rfl rfl)
theorem dX2_write_21 : decode cX2_write 21 = .ok (.aload_n 0, 1) := dk_42 (dk_at dksX2_write_0 21 rfl rfl)
theorem dX2_write_22 : decode cX2_write 22 = .ok (.aload_n 0, 1) := dk_42 (dk_at dksX2_write_0 22 rfl rfl)
theorem dX2_write_23 : decode cX2_write 23 = .ok (.iload_n 1, 1) := dk_27 (dk_at dksX2_write_0 23 rfl rfl)
theorem dX2_write_24 : decode cX2_write 24 = .ok (.iconst 3, 1) := dk_6 (dk_at dksX2_write_1 0 rfl rfl)
theorem dX2_write_25 : decode cX2_write 25 = .ok (.invokevirtual 53, 3) := dk_182 0 53 (dk_at dksX2_write_1 1 rfl rfl)
theorem dX2_write_28 : decode cX2_write 28 = .ok (.invokevirtual 142, 3) := dk_182 0 142 (dk_at dksX2_write_1 4 rfl rfl)
theorem dX2_write_31 : decode cX2_write 31 = .ok (.aload_n 0, 1) := dk_42 (dk_at dksX2_write_1 7 rfl rfl)
theorem dX2_write_32 : decode cX2_write 32 = .ok (.bipush 110, 2) := dk_16 110 (dk_at dksX2_write_1 8 rfl rfl)
theorem dX2_write_34 : decode cX2_write 34 = .ok (.invokevirtual 138, 3) := dk_182 0 138 (dk_at dksX2_write_1 10 rfl rfl)
theorem dX2_write_37 : decode cX2_write 37 = .ok (.aload_n 0, 1) := dk_42 (dk_at dksX2_write_1 13 rfl rfl)
theorem dX2_write_38 : decode cX2_write 38 = .ok (.aload_n 0, 1) := dk_42 (dk_at dksX2_write_1 14 rfl rfl)
theorem dX2_write_39 : decode cX2_write 39 = .ok (.iload_n 1, 1) := dk_27 (dk_at dksX2_write_1 15 rfl rfl)
theorem dX2_write_40 : decode cX2_write 40 = .ok (.iconst 4, 1) := dk_7 (dk_at dksX2_write_1 16 rfl rfl)
theorem dX2_write_41 : decode cX2_write 41 = .ok (.invokevirtual 53, 3) := dk_182 0 53 (dk_at dksX2_write_1 17 rfl rfl)
theorem dX2_write_44 : decode cX2_write 44 = .ok (.invokevirtual 142, 3) := dk_182 0 142 (dk_at dksX2_write_1 20 rfl rfl)
theorem dX2_write_47 : decode cX2_write 47 = .ok (.aload_n 0, 1) := dk_42 (dk_at dksX2_write_1 23 rfl rfl)
theorem dX2_write_48 : decode cX2_write 48 = .ok (.bipush 35, 2) := dk_16 35 (dk_at dksX2_write_2 0 rfl rfl)
theorem dX2_write_50 : decode cX2_write 50 = .ok (.invokevirtual 138, 3) := dk_182 0 138 (dk_at dksX2_write_2 2 rfl rfl)
theorem dX2_write_53 : decode cX2_write 53 = .ok (.aload_n 0, 1) := dk_42 (dk_at dksX2_write_2 5 rfl rfl)
theorem dX2_write_54 : decode cX2_write 54 = .ok (.aload_n 0, 1) := dk_42 (dk_at dksX2_write_2 6 rfl rfl)
theorem dX2_write_55 : decode cX2_write 55 = .ok (.iload_n 1, 1) := dk_27 (dk_at dksX2_write_2 7 rfl rfl)
theorem dX2_write_56 : decode cX2_write 56 = .ok (.bipush 6, 2) := dk_16 6 (dk_at dksX2_write_2 8 rfl rfl)
theorem dX2_write_58 : decode cX2_write 58 = .ok (.invokevirtual 53, 3) := dk_182 0 53 (dk_at dksX2_write_2 10 rfl rfl)
theorem dX2_write_61 : decode cX2_write 61 = .ok (.invokevirtual 142, 3) := dk_182 0 142 (dk_at dksX2_write_2 13 rfl rfl)
theorem dX2_write_64 : decode cX2_write 64 = .ok (.aload_n 0, 1) := dk_42 (dk_at dksX2_write_2 16 rfl rfl)
theorem dX2_write_65 : decode cX2_write 65 = .ok (.iload_n 1, 1) := dk_27 (dk_at dksX2_write_2 17 rfl rfl)
theorem dX2_write_66 : decode cX2_write 66 = .ok (.bipush 7, 2) := dk_16 7 (dk_at dksX2_write_2 18 rfl rfl)
theorem dX2_write_68 : decode cX2_write 68 = .ok (.invokevirtual 53, 3) := dk_182 0 53 (dk_at dksX2_write_2 20 rfl rfl)
theorem dX2_write_71 : decode cX2_write 71 = .ok (.iconst 1, 1) := dk_4 (dk_at dksX2_write_2 23 rfl rfl)
theorem dX2_write_72 : decode cX2_write 72 = .ok (.if_icmp .ne 9, 3) := dk_160 0 9 (dk_at dksX2_write_3 0 rfl rfl)
theorem dX2_write_75 : decode cX2_write 75 = .ok (.aload_n 0, 1) := dk_42 (dk_at dksX2_write_3 3 rfl rfl)
theorem dX2_write_76 : decode cX2_write 76 = .ok (.bipush 33, 2) := dk_16 33 (dk_at dksX2_write_3 4 rfl rfl)
theorem dX2_write_78 : decode cX2_write 78 = .ok (.invokevirtual 138, 3) := dk_182 0 138 (dk_at dksX2_write_3 6 rfl rfl)
theorem dX2_write_81 : decode cX2_write 81 = .ok (.aload_n 0, 1) := dk_42 (dk_at dksX2_write_3 9 rfl rfl)
theorem dX2_write_82 : decode cX2_write 82 = .ok (.getfield 135, 3) := dk_180 0 135 (dk_at dksX2_write_3 10 rfl rfl)
theorem dX2_write_85 : decode cX2_write 85 = .ok (.ireturn, 1) := dk_172 (dk_at dksX2_write_3 13 rfl rfl)
abbrev cX2_types : ByteArray := prog_10_method_35_code
def yX2_types : MethodName := ⟨RX2, "types", "(I)V"⟩
def dkwX2_types_0 : List UInt8 := [42, 180, 0, 23, 42, 180, 0, 135, 27, 79, 42, 89, 180, 0, 135, 4, 96, 181, 0, 135, 177]
abbrev dktX2_types_0 : List UInt8 := dkwX2_types_0 ++ []
theorem dksX2_types_0 : cX2_types.data.toList.drop 0 = dktX2_types_0 := by decide +kernel
theorem dX2_types_0 : decode cX2_types 0 = .ok (.aload_n 0, 1) := dk_42 (dk_at dksX2_types_0 0 rfl rfl)
theorem dX2_types_1 : decode cX2_types 1 = .ok (.getfield 23, 3) := dk_180 0 23 (dk_at dksX2_types_0 1 rfl rfl)
theorem dX2_types_4 : decode cX2_types 4 = .ok (.aload_n 0, 1) := dk_42 (dk_at dksX2_types_0 4 rfl rfl)
theorem dX2_types_5 : decode cX2_types 5 = .ok (.getfield 135, 3) := dk_180 0 135 (dk_at dksX2_types_0 5 rfl rfl)
theorem dX2_types_8 : decode cX2_types 8 = .ok (.iload_n 1, 1) := dk_27 (dk_at dksX2_types_0 8 rfl rfl)
theorem dX2_types_9 : decode cX2_types 9 = .ok (.iastore, 1) := dk_79 (dk_at dksX2_types_0 9 rfl rfl)
theorem dX2_types_10 : decode cX2_types 10 = .ok (.aload_n 0, 1) := dk_42 (dk_at dksX2_types_0 10 rfl rfl)
theorem dX2_types_11 : decode cX2_types 11 = .ok (.dup, 1) := dk_89 (dk_at dksX2_types_0 11 rfl rfl)
theorem dX2_types_12 : decode cX2_types 12 = .ok (.getfield 135, 3) := dk_180 0 135 (dk_at dksX2_types_0 12 rfl rfl)
theorem dX2_types_15 : decode cX2_types 15 = .ok (.iconst 1, 1) := dk_4 (dk_at dksX2_types_0 15 rfl rfl)
theorem dX2_types_16 : decode cX2_types 16 = .ok (.iadd, 1) := dk_96 (dk_at dksX2_types_0 16 rfl rfl)
theorem dX2_types_17 : decode cX2_types 17 = .ok (.putfield 135, 3) := dk_181 0 135 (dk_at dksX2_types_0 17 rfl rfl)
theorem dX2_types_20 : decode cX2_types 20 = .ok (.return_, 1) := dk_177 (dk_at dksX2_types_0 20 rfl rfl)
abbrev cX2_typesNumber : ByteArray := prog_10_method_36_code
def yX2_typesNumber : MethodName := ⟨RX2, "typesNumber", "(I)V"⟩
def dkwX2_typesNumber_1 : List UInt8 := [16, 48, 27, 28, 108, 16, 10, 112, 96, 182, 0, 138, 28, 16, 10, 108, 61, 167, 255, 234, 177]
abbrev dktX2_typesNumber_1 : List UInt8 := dkwX2_typesNumber_1 ++ []
def dkwX2_typesNumber_0 : List UInt8 := [4, 61, 27, 28, 108, 16, 9, 164, 0, 11, 28, 16, 10, 104, 61, 167, 255, 243, 28, 158, 0, 24, 42]
abbrev dktX2_typesNumber_0 : List UInt8 := dkwX2_typesNumber_0 ++ dktX2_typesNumber_1
theorem dksX2_typesNumber_0 : cX2_typesNumber.data.toList.drop 0 = dktX2_typesNumber_0 := by decide +kernel
theorem dksX2_typesNumber_1 : cX2_typesNumber.data.toList.drop 23 = dktX2_typesNumber_1 := dk_seg dksX2_typesNumber_0 23 rfl rfl
theorem dX2_typesNumber_0 : decode cX2_typesNumber 0 = .ok (.iconst 1, 1) := dk_4 (dk_at dksX2_typesNumber_0 0 rfl rfl)
theorem dX2_typesNumber_1 : decode cX2_typesNumber 1 = .ok (.istore_n 2, 1) := dk_61 (dk_at dksX2_typesNumber_0 1 rfl rfl)
theorem dX2_typesNumber_2 : decode cX2_typesNumber 2 = .ok (.iload_n 1, 1) := dk_27 (dk_at dksX2_typesNumber_0 2 rfl rfl)
theorem dX2_typesNumber_3 : decode cX2_typesNumber 3 = .ok (.iload_n 2, 1) := dk_28 (dk_at dksX2_typesNumber_0 3 rfl rfl)
theorem dX2_typesNumber_4 : decode cX2_typesNumber 4 = .ok (.idiv, 1) := dk_108 (dk_at dksX2_typesNumber_0 4 rfl rfl)
theorem dX2_typesNumber_5 : decode cX2_typesNumber 5 = .ok (.bipush 9, 2) := dk_16 9 (dk_at dksX2_typesNumber_0 5 rfl rfl)
theorem dX2_typesNumber_7 : decode cX2_typesNumber 7 = .ok (.if_icmp .le 11, 3) := dk_164 0 11 (dk_at dksX2_typesNumber_0 7 rfl rfl)
theorem dX2_typesNumber_10 : decode cX2_typesNumber 10 = .ok (.iload_n 2, 1) := dk_28 (dk_at dksX2_typesNumber_0 10 rfl rfl)
theorem dX2_typesNumber_11 : decode cX2_typesNumber 11 = .ok (.bipush 10, 2) := dk_16 10 (dk_at dksX2_typesNumber_0 11 rfl rfl)
theorem dX2_typesNumber_13 : decode cX2_typesNumber 13 = .ok (.imul, 1) := dk_104 (dk_at dksX2_typesNumber_0 13 rfl rfl)
theorem dX2_typesNumber_14 : decode cX2_typesNumber 14 = .ok (.istore_n 2, 1) := dk_61 (dk_at dksX2_typesNumber_0 14 rfl rfl)
theorem dX2_typesNumber_15 : decode cX2_typesNumber 15 = .ok (.goto (-13), 3) := dk_167 255 243 (dk_at dksX2_typesNumber_0 15 rfl rfl)
theorem dX2_typesNumber_18 : decode cX2_typesNumber 18 = .ok (.iload_n 2, 1) := dk_28 (dk_at dksX2_typesNumber_0 18 rfl rfl)
theorem dX2_typesNumber_19 : decode cX2_typesNumber 19 = .ok (.ifCond .le 24, 3) := dk_158 0 24 (dk_at dksX2_typesNumber_0 19 rfl rfl)
theorem dX2_typesNumber_22 : decode cX2_typesNumber 22 = .ok (.aload_n 0, 1) := dk_42 (dk_at dksX2_typesNumber_0 22 rfl rfl)
theorem dX2_typesNumber_23 : decode cX2_typesNumber 23 = .ok (.bipush 48, 2) := dk_16 48 (dk_at dksX2_typesNumber_1 0 rfl rfl)
theorem dX2_typesNumber_25 : decode cX2_typesNumber 25 = .ok (.iload_n 1, 1) := dk_27 (dk_at dksX2_typesNumber_1 2 rfl rfl)
theorem dX2_typesNumber_26 : decode cX2_typesNumber 26 = .ok (.iload_n 2, 1) := dk_28 (dk_at dksX2_typesNumber_1 3 rfl rfl)
theorem dX2_typesNumber_27 : decode cX2_typesNumber 27 = .ok (.idiv, 1) := dk_108 (dk_at dksX2_typesNumber_1 4 rfl rfl)
theorem dX2_typesNumber_28 : decode cX2_typesNumber 28 = .ok (.bipush 10, 2) := dk_16 10 (dk_at dksX2_typesNumber_1 5 rfl rfl)
theorem dX2_typesNumber_30 : decode cX2_typesNumber 30 = .ok (.irem, 1) := dk_112 (dk_at dksX2_typesNumber_1 7 rfl rfl)
theorem dX2_typesNumber_31 : decode cX2_typesNumber 31 = .ok (.iadd, 1) := dk_96 (dk_at dksX2_typesNumber_1 8 rfl rfl)
theorem dX2_typesNumber_32 : decode cX2_typesNumber 32 = .ok (.invokevirtual 138, 3) := dk_182 0 138 (dk_at dksX2_typesNumber_1 9 rfl rfl)
theorem dX2_typesNumber_35 : decode cX2_typesNumber 35 = .ok (.iload_n 2, 1) := dk_28 (dk_at dksX2_typesNumber_1 12 rfl rfl)
theorem dX2_typesNumber_36 : decode cX2_typesNumber 36 = .ok (.bipush 10, 2) := dk_16 10 (dk_at dksX2_typesNumber_1 13 rfl rfl)
theorem dX2_typesNumber_38 : decode cX2_typesNumber 38 = .ok (.idiv, 1) := dk_108 (dk_at dksX2_typesNumber_1 15 rfl rfl)
theorem dX2_typesNumber_39 : decode cX2_typesNumber 39 = .ok (.istore_n 2, 1) := dk_61 (dk_at dksX2_typesNumber_1 16 rfl rfl)
theorem dX2_typesNumber_40 : decode cX2_typesNumber 40 = .ok (.goto (-22), 3) := dk_167 255 234 (dk_at dksX2_typesNumber_1 17 rfl rfl)
theorem dX2_typesNumber_43 : decode cX2_typesNumber 43 = .ok (.return_, 1) := dk_177 (dk_at dksX2_typesNumber_1 20 rfl rfl)
abbrev cX2_sign : ByteArray := prog_10_method_38_code
def yX2_sign : MethodName := ⟨RX2, "sign", "(I)I"⟩
def dkwX2_sign_1 : List UInt8 := [172]
abbrev dktX2_sign_1 : List UInt8 := dkwX2_sign_1 ++ []
def dkwX2_sign_0 : List UInt8 := [27, 3, 42, 180, 0, 135, 4, 100, 184, 0, 41, 153, 0, 12, 42, 180, 0, 23, 27, 46, 167, 0, 4, 2]
abbrev dktX2_sign_0 : List UInt8 := dkwX2_sign_0 ++ dktX2_sign_1
theorem dksX2_sign_0 : cX2_sign.data.toList.drop 0 = dktX2_sign_0 := by decide +kernel
theorem dksX2_sign_1 : cX2_sign.data.toList.drop 24 = dktX2_sign_1 := dk_seg dksX2_sign_0 24 rfl rfl
theorem dX2_sign_0 : decode cX2_sign 0 = .ok (.iload_n 1, 1) := dk_27 (dk_at dksX2_sign_0 0 rfl rfl)
theorem dX2_sign_1 : decode cX2_sign 1 = .ok (.iconst 0, 1) := dk_3 (dk_at dksX2_sign_0 1 rfl rfl)
theorem dX2_sign_2 : decode cX2_sign 2 = .ok (.aload_n 0, 1) := dk_42 (dk_at dksX2_sign_0 2 rfl rfl)
theorem dX2_sign_3 : decode cX2_sign 3 = .ok (.getfield 135, 3) := dk_180 0 135 (dk_at dksX2_sign_0 3 rfl rfl)
theorem dX2_sign_6 : decode cX2_sign 6 = .ok (.iconst 1, 1) := dk_4 (dk_at dksX2_sign_0 6 rfl rfl)
theorem dX2_sign_7 : decode cX2_sign 7 = .ok (.isub, 1) := dk_100 (dk_at dksX2_sign_0 7 rfl rfl)
theorem dX2_sign_8 : decode cX2_sign 8 = .ok (.invokestatic 41, 3) := dk_184 0 41 (dk_at dksX2_sign_0 8 rfl rfl)
theorem dX2_sign_11 : decode cX2_sign 11 = .ok (.ifCond .eq 12, 3) := dk_153 0 12 (dk_at dksX2_sign_0 11 rfl rfl)
theorem dX2_sign_14 : decode cX2_sign 14 = .ok (.aload_n 0, 1) := dk_42 (dk_at dksX2_sign_0 14 rfl rfl)
theorem dX2_sign_15 : decode cX2_sign 15 = .ok (.getfield 23, 3) := dk_180 0 23 (dk_at dksX2_sign_0 15 rfl rfl)
theorem dX2_sign_18 : decode cX2_sign 18 = .ok (.iload_n 1, 1) := dk_27 (dk_at dksX2_sign_0 18 rfl rfl)
theorem dX2_sign_19 : decode cX2_sign 19 = .ok (.iaload, 1) := dk_46 (dk_at dksX2_sign_0 19 rfl rfl)
theorem dX2_sign_20 : decode cX2_sign 20 = .ok (.goto 4, 3) := dk_167 0 4 (dk_at dksX2_sign_0 20 rfl rfl)
theorem dX2_sign_23 : decode cX2_sign 23 = .ok (.iconst (-1), 1) := dk_2 (dk_at dksX2_sign_0 23 rfl rfl)
theorem dX2_sign_24 : decode cX2_sign 24 = .ok (.ireturn, 1) := dk_172 (dk_at dksX2_sign_1 0 rfl rfl)
abbrev cX2_of : ByteArray := prog_10_method_40_code
def yX2_of : MethodName := ⟨RX2, "of", "(II)I"⟩
def dkwX2_of_5 : List UInt8 := [27, 16, 8, 182, 0, 53, 172, 42, 27, 182, 0, 145, 172, 42, 27, 16, 10, 182, 0, 53, 172, 16, 254, 172]
abbrev dktX2_of_5 : List UInt8 := dkwX2_of_5 ++ []
def dkwX2_of_4 : List UInt8 := [47, 20, 0, 68, 109, 136, 172, 42, 27, 16, 6, 182, 0, 53, 172, 42, 27, 16, 7, 182, 0, 53, 172, 42]
abbrev dktX2_of_4 : List UInt8 := dkwX2_of_4 ++ dktX2_of_5
def dkwX2_of_3 : List UInt8 := [182, 0, 70, 172, 42, 27, 28, 4, 100, 182, 0, 53, 172, 42, 180, 0, 7, 3, 27, 184, 0, 45, 8, 96]
abbrev dktX2_of_3 : List UInt8 := dkwX2_of_3 ++ dktX2_of_4
def dkwX2_of_2 : List UInt8 := [42, 27, 3, 182, 0, 53, 156, 0, 8, 16, 250, 167, 0, 9, 42, 27, 3, 182, 0, 53, 172, 42, 27]
abbrev dktX2_of_2 : List UInt8 := dkwX2_of_2 ++ dktX2_of_3
def dkwX2_of_1 : List UInt8 := [170, 0, 0, 0, 153, 0, 0, 0, 0, 0, 0, 0, 11, 0, 0, 0, 61, 0, 0, 0, 82, 0, 0, 0, 88, 0, 0, 0, 88, 0, 0, 0, 88, 0, 0, 0, 88, 0, 0, 0, 97, 0, 0, 0, 115, 0, 0, 0, 123, 0, 0, 0, 131, 0, 0, 0, 139, 0, 0, 0, 145]
abbrev dktX2_of_1 : List UInt8 := dkwX2_of_1 ++ dktX2_of_2
def dkwX2_of_0 : List UInt8 := [42, 27, 182, 0, 95, 154, 0, 5, 2, 172, 28]
abbrev dktX2_of_0 : List UInt8 := dkwX2_of_0 ++ dktX2_of_1
theorem dksX2_of_0 : cX2_of.data.toList.drop 0 = dktX2_of_0 := by decide +kernel
theorem dksX2_of_1 : cX2_of.data.toList.drop 11 = dktX2_of_1 := dk_seg dksX2_of_0 11 rfl rfl
theorem dksX2_of_2 : cX2_of.data.toList.drop 72 = dktX2_of_2 := dk_seg dksX2_of_1 61 rfl rfl
theorem dksX2_of_3 : cX2_of.data.toList.drop 95 = dktX2_of_3 := dk_seg dksX2_of_2 23 rfl rfl
theorem dksX2_of_4 : cX2_of.data.toList.drop 119 = dktX2_of_4 := dk_seg dksX2_of_3 24 rfl rfl
theorem dksX2_of_5 : cX2_of.data.toList.drop 143 = dktX2_of_5 := dk_seg dksX2_of_4 24 rfl rfl
theorem dX2_of_0 : decode cX2_of 0 = .ok (.aload_n 0, 1) := dk_42 (dk_at dksX2_of_0 0 rfl rfl)
theorem dX2_of_1 : decode cX2_of 1 = .ok (.iload_n 1, 1) := dk_27 (dk_at dksX2_of_0 1 rfl rfl)
theorem dX2_of_2 : decode cX2_of 2 = .ok (.invokevirtual 95, 3) := dk_182 0 95 (dk_at dksX2_of_0 2 rfl rfl)
theorem dX2_of_5 : decode cX2_of 5 = .ok (.ifCond .ne 5, 3) := dk_154 0 5 (dk_at dksX2_of_0 5 rfl rfl)
theorem dX2_of_8 : decode cX2_of 8 = .ok (.iconst (-1), 1) := dk_2 (dk_at dksX2_of_0 8 rfl rfl)
theorem dX2_of_9 : decode cX2_of 9 = .ok (.ireturn, 1) := dk_172 (dk_at dksX2_of_0 9 rfl rfl)
theorem dX2_of_10 : decode cX2_of 10 = .ok (.iload_n 2, 1) := dk_28 (dk_at dksX2_of_0 10 rfl rfl)
theorem dX2_of_11 : decode cX2_of 11 = .ok (.tableswitch 153 0 11 #[61, 82, 88, 88, 88, 88, 97, 115, 123, 131, 139, 145], 61) := by decide +kernel
theorem dX2_of_72 : decode cX2_of 72 = .ok (.aload_n 0, 1) := dk_42 (dk_at dksX2_of_2 0 rfl rfl)
theorem dX2_of_73 : decode cX2_of 73 = .ok (.iload_n 1, 1) := dk_27 (dk_at dksX2_of_2 1 rfl rfl)
theorem dX2_of_74 : decode cX2_of 74 = .ok (.iconst 0, 1) := dk_3 (dk_at dksX2_of_2 2 rfl rfl)
theorem dX2_of_75 : decode cX2_of 75 = .ok (.invokevirtual 53, 3) := dk_182 0 53 (dk_at dksX2_of_2 3 rfl rfl)
theorem dX2_of_78 : decode cX2_of 78 = .ok (.ifCond .ge 8, 3) := dk_156 0 8 (dk_at dksX2_of_2 6 rfl rfl)
theorem dX2_of_81 : decode cX2_of 81 = .ok (.bipush (-6), 2) := dk_16 250 (dk_at dksX2_of_2 9 rfl rfl)
theorem dX2_of_83 : decode cX2_of 83 = .ok (.goto 9, 3) := dk_167 0 9 (dk_at dksX2_of_2 11 rfl rfl)
theorem dX2_of_86 : decode cX2_of 86 = .ok (.aload_n 0, 1) := dk_42 (dk_at dksX2_of_2 14 rfl rfl)
theorem dX2_of_87 : decode cX2_of 87 = .ok (.iload_n 1, 1) := dk_27 (dk_at dksX2_of_2 15 rfl rfl)
theorem dX2_of_88 : decode cX2_of 88 = .ok (.iconst 0, 1) := dk_3 (dk_at dksX2_of_2 16 rfl rfl)
theorem dX2_of_89 : decode cX2_of 89 = .ok (.invokevirtual 53, 3) := dk_182 0 53 (dk_at dksX2_of_2 17 rfl rfl)
theorem dX2_of_92 : decode cX2_of 92 = .ok (.ireturn, 1) := dk_172 (dk_at dksX2_of_2 20 rfl rfl)
theorem dX2_of_93 : decode cX2_of 93 = .ok (.aload_n 0, 1) := dk_42 (dk_at dksX2_of_2 21 rfl rfl)
theorem dX2_of_94 : decode cX2_of 94 = .ok (.iload_n 1, 1) := dk_27 (dk_at dksX2_of_2 22 rfl rfl)
theorem dX2_of_95 : decode cX2_of 95 = .ok (.invokevirtual 70, 3) := dk_182 0 70 (dk_at dksX2_of_3 0 rfl rfl)
theorem dX2_of_98 : decode cX2_of 98 = .ok (.ireturn, 1) := dk_172 (dk_at dksX2_of_3 3 rfl rfl)
theorem dX2_of_99 : decode cX2_of 99 = .ok (.aload_n 0, 1) := dk_42 (dk_at dksX2_of_3 4 rfl rfl)
theorem dX2_of_100 : decode cX2_of 100 = .ok (.iload_n 1, 1) := dk_27 (dk_at dksX2_of_3 5 rfl rfl)
theorem dX2_of_101 : decode cX2_of 101 = .ok (.iload_n 2, 1) := dk_28 (dk_at dksX2_of_3 6 rfl rfl)
theorem dX2_of_102 : decode cX2_of 102 = .ok (.iconst 1, 1) := dk_4 (dk_at dksX2_of_3 7 rfl rfl)
theorem dX2_of_103 : decode cX2_of 103 = .ok (.isub, 1) := dk_100 (dk_at dksX2_of_3 8 rfl rfl)
theorem dX2_of_104 : decode cX2_of 104 = .ok (.invokevirtual 53, 3) := dk_182 0 53 (dk_at dksX2_of_3 9 rfl rfl)
theorem dX2_of_107 : decode cX2_of 107 = .ok (.ireturn, 1) := dk_172 (dk_at dksX2_of_3 12 rfl rfl)
theorem dX2_of_108 : decode cX2_of 108 = .ok (.aload_n 0, 1) := dk_42 (dk_at dksX2_of_3 13 rfl rfl)
theorem dX2_of_109 : decode cX2_of 109 = .ok (.getfield 7, 3) := dk_180 0 7 (dk_at dksX2_of_3 14 rfl rfl)
theorem dX2_of_112 : decode cX2_of 112 = .ok (.iconst 0, 1) := dk_3 (dk_at dksX2_of_3 17 rfl rfl)
theorem dX2_of_113 : decode cX2_of 113 = .ok (.iload_n 1, 1) := dk_27 (dk_at dksX2_of_3 18 rfl rfl)
theorem dX2_of_114 : decode cX2_of 114 = .ok (.invokestatic 45, 3) := dk_184 0 45 (dk_at dksX2_of_3 19 rfl rfl)
theorem dX2_of_117 : decode cX2_of 117 = .ok (.iconst 5, 1) := dk_8 (dk_at dksX2_of_3 22 rfl rfl)
theorem dX2_of_118 : decode cX2_of 118 = .ok (.iadd, 1) := dk_96 (dk_at dksX2_of_3 23 rfl rfl)
theorem dX2_of_119 : decode cX2_of 119 = .ok (.laload, 1) := dk_47 (dk_at dksX2_of_4 0 rfl rfl)
theorem dX2_of_120 : decode cX2_of 120 = .ok (.ldc2_w 68, 3) := dk_20 0 68 (dk_at dksX2_of_4 1 rfl rfl)
theorem dX2_of_123 : decode cX2_of 123 = .ok (.ldiv, 1) := dk_109 (dk_at dksX2_of_4 4 rfl rfl)
theorem dX2_of_124 : decode cX2_of 124 = .ok (.l2i, 1) := dk_136 (dk_at dksX2_of_4 5 rfl rfl)
theorem dX2_of_125 : decode cX2_of 125 = .ok (.ireturn, 1) := dk_172 (dk_at dksX2_of_4 6 rfl rfl)
theorem dX2_of_126 : decode cX2_of 126 = .ok (.aload_n 0, 1) := dk_42 (dk_at dksX2_of_4 7 rfl rfl)
theorem dX2_of_127 : decode cX2_of 127 = .ok (.iload_n 1, 1) := dk_27 (dk_at dksX2_of_4 8 rfl rfl)
theorem dX2_of_128 : decode cX2_of 128 = .ok (.bipush 6, 2) := dk_16 6 (dk_at dksX2_of_4 9 rfl rfl)
theorem dX2_of_130 : decode cX2_of 130 = .ok (.invokevirtual 53, 3) := dk_182 0 53 (dk_at dksX2_of_4 11 rfl rfl)
theorem dX2_of_133 : decode cX2_of 133 = .ok (.ireturn, 1) := dk_172 (dk_at dksX2_of_4 14 rfl rfl)
theorem dX2_of_134 : decode cX2_of 134 = .ok (.aload_n 0, 1) := dk_42 (dk_at dksX2_of_4 15 rfl rfl)
theorem dX2_of_135 : decode cX2_of 135 = .ok (.iload_n 1, 1) := dk_27 (dk_at dksX2_of_4 16 rfl rfl)
theorem dX2_of_136 : decode cX2_of 136 = .ok (.bipush 7, 2) := dk_16 7 (dk_at dksX2_of_4 17 rfl rfl)
theorem dX2_of_138 : decode cX2_of 138 = .ok (.invokevirtual 53, 3) := dk_182 0 53 (dk_at dksX2_of_4 19 rfl rfl)
theorem dX2_of_141 : decode cX2_of 141 = .ok (.ireturn, 1) := dk_172 (dk_at dksX2_of_4 22 rfl rfl)
theorem dX2_of_142 : decode cX2_of 142 = .ok (.aload_n 0, 1) := dk_42 (dk_at dksX2_of_4 23 rfl rfl)
theorem dX2_of_143 : decode cX2_of 143 = .ok (.iload_n 1, 1) := dk_27 (dk_at dksX2_of_5 0 rfl rfl)
theorem dX2_of_144 : decode cX2_of 144 = .ok (.bipush 8, 2) := dk_16 8 (dk_at dksX2_of_5 1 rfl rfl)
theorem dX2_of_146 : decode cX2_of 146 = .ok (.invokevirtual 53, 3) := dk_182 0 53 (dk_at dksX2_of_5 3 rfl rfl)
theorem dX2_of_149 : decode cX2_of 149 = .ok (.ireturn, 1) := dk_172 (dk_at dksX2_of_5 6 rfl rfl)
theorem dX2_of_150 : decode cX2_of 150 = .ok (.aload_n 0, 1) := dk_42 (dk_at dksX2_of_5 7 rfl rfl)
theorem dX2_of_151 : decode cX2_of 151 = .ok (.iload_n 1, 1) := dk_27 (dk_at dksX2_of_5 8 rfl rfl)
theorem dX2_of_152 : decode cX2_of 152 = .ok (.invokevirtual 145, 3) := dk_182 0 145 (dk_at dksX2_of_5 9 rfl rfl)
theorem dX2_of_155 : decode cX2_of 155 = .ok (.ireturn, 1) := dk_172 (dk_at dksX2_of_5 12 rfl rfl)
theorem dX2_of_156 : decode cX2_of 156 = .ok (.aload_n 0, 1) := dk_42 (dk_at dksX2_of_5 13 rfl rfl)
theorem dX2_of_157 : decode cX2_of 157 = .ok (.iload_n 1, 1) := dk_27 (dk_at dksX2_of_5 14 rfl rfl)
theorem dX2_of_158 : decode cX2_of 158 = .ok (.bipush 10, 2) := dk_16 10 (dk_at dksX2_of_5 15 rfl rfl)
theorem dX2_of_160 : decode cX2_of 160 = .ok (.invokevirtual 53, 3) := dk_182 0 53 (dk_at dksX2_of_5 17 rfl rfl)
theorem dX2_of_163 : decode cX2_of 163 = .ok (.ireturn, 1) := dk_172 (dk_at dksX2_of_5 20 rfl rfl)
theorem dX2_of_164 : decode cX2_of 164 = .ok (.bipush (-2), 2) := dk_16 254 (dk_at dksX2_of_5 21 rfl rfl)
theorem dX2_of_166 : decode cX2_of 166 = .ok (.ireturn, 1) := dk_172 (dk_at dksX2_of_5 23 rfl rfl)
abbrev cX2_untilWeaker : ByteArray := prog_10_method_39_code
def yX2_untilWeaker : MethodName := ⟨RX2, "untilWeaker", "(I)I"⟩
def dkwX2_untilWeaker_1 : List UInt8 := [160, 0, 8, 16, 250, 167, 0, 13, 28, 4, 162, 0, 7, 4, 167, 0, 4, 28, 172]
abbrev dktX2_untilWeaker_1 : List UInt8 := dkwX2_untilWeaker_1 ++ []
def dkwX2_untilWeaker_0 : List UInt8 := [42, 6, 182, 0, 37, 42, 27, 16, 9, 182, 0, 53, 100, 61, 42, 27, 5, 182, 0, 53, 17, 0, 160]
abbrev dktX2_untilWeaker_0 : List UInt8 := dkwX2_untilWeaker_0 ++ dktX2_untilWeaker_1
theorem dksX2_untilWeaker_0 : cX2_untilWeaker.data.toList.drop 0 = dktX2_untilWeaker_0 := by decide +kernel
theorem dksX2_untilWeaker_1 : cX2_untilWeaker.data.toList.drop 23 = dktX2_untilWeaker_1 := dk_seg dksX2_untilWeaker_0 23 rfl rfl
theorem dX2_untilWeaker_0 : decode cX2_untilWeaker 0 = .ok (.aload_n 0, 1) := dk_42 (dk_at dksX2_untilWeaker_0 0 rfl rfl)
theorem dX2_untilWeaker_1 : decode cX2_untilWeaker 1 = .ok (.iconst 3, 1) := dk_6 (dk_at dksX2_untilWeaker_0 1 rfl rfl)
theorem dX2_untilWeaker_2 : decode cX2_untilWeaker 2 = .ok (.invokevirtual 37, 3) := dk_182 0 37 (dk_at dksX2_untilWeaker_0 2 rfl rfl)
theorem dX2_untilWeaker_5 : decode cX2_untilWeaker 5 = .ok (.aload_n 0, 1) := dk_42 (dk_at dksX2_untilWeaker_0 5 rfl rfl)
theorem dX2_untilWeaker_6 : decode cX2_untilWeaker 6 = .ok (.iload_n 1, 1) := dk_27 (dk_at dksX2_untilWeaker_0 6 rfl rfl)
theorem dX2_untilWeaker_7 : decode cX2_untilWeaker 7 = .ok (.bipush 9, 2) := dk_16 9 (dk_at dksX2_untilWeaker_0 7 rfl rfl)
theorem dX2_untilWeaker_9 : decode cX2_untilWeaker 9 = .ok (.invokevirtual 53, 3) := dk_182 0 53 (dk_at dksX2_untilWeaker_0 9 rfl rfl)
theorem dX2_untilWeaker_12 : decode cX2_untilWeaker 12 = .ok (.isub, 1) := dk_100 (dk_at dksX2_untilWeaker_0 12 rfl rfl)
theorem dX2_untilWeaker_13 : decode cX2_untilWeaker 13 = .ok (.istore_n 2, 1) := dk_61 (dk_at dksX2_untilWeaker_0 13 rfl rfl)
theorem dX2_untilWeaker_14 : decode cX2_untilWeaker 14 = .ok (.aload_n 0, 1) := dk_42 (dk_at dksX2_untilWeaker_0 14 rfl rfl)
theorem dX2_untilWeaker_15 : decode cX2_untilWeaker 15 = .ok (.iload_n 1, 1) := dk_27 (dk_at dksX2_untilWeaker_0 15 rfl rfl)
theorem dX2_untilWeaker_16 : decode cX2_untilWeaker 16 = .ok (.iconst 2, 1) := dk_5 (dk_at dksX2_untilWeaker_0 16 rfl rfl)
theorem dX2_untilWeaker_17 : decode cX2_untilWeaker 17 = .ok (.invokevirtual 53, 3) := dk_182 0 53 (dk_at dksX2_untilWeaker_0 17 rfl rfl)
theorem dX2_untilWeaker_20 : decode cX2_untilWeaker 20 = .ok (.sipush 160, 3) := dk_17 0 160 (dk_at dksX2_untilWeaker_0 20 rfl rfl)
theorem dX2_untilWeaker_23 : decode cX2_untilWeaker 23 = .ok (.if_icmp .ne 8, 3) := dk_160 0 8 (dk_at dksX2_untilWeaker_1 0 rfl rfl)
theorem dX2_untilWeaker_26 : decode cX2_untilWeaker 26 = .ok (.bipush (-6), 2) := dk_16 250 (dk_at dksX2_untilWeaker_1 3 rfl rfl)
theorem dX2_untilWeaker_28 : decode cX2_untilWeaker 28 = .ok (.goto 13, 3) := dk_167 0 13 (dk_at dksX2_untilWeaker_1 5 rfl rfl)
theorem dX2_untilWeaker_31 : decode cX2_untilWeaker 31 = .ok (.iload_n 2, 1) := dk_28 (dk_at dksX2_untilWeaker_1 8 rfl rfl)
theorem dX2_untilWeaker_32 : decode cX2_untilWeaker 32 = .ok (.iconst 1, 1) := dk_4 (dk_at dksX2_untilWeaker_1 9 rfl rfl)
theorem dX2_untilWeaker_33 : decode cX2_untilWeaker 33 = .ok (.if_icmp .ge 7, 3) := dk_162 0 7 (dk_at dksX2_untilWeaker_1 10 rfl rfl)
theorem dX2_untilWeaker_36 : decode cX2_untilWeaker 36 = .ok (.iconst 1, 1) := dk_4 (dk_at dksX2_untilWeaker_1 13 rfl rfl)
theorem dX2_untilWeaker_37 : decode cX2_untilWeaker 37 = .ok (.goto 4, 3) := dk_167 0 4 (dk_at dksX2_untilWeaker_1 14 rfl rfl)
theorem dX2_untilWeaker_40 : decode cX2_untilWeaker 40 = .ok (.iload_n 2, 1) := dk_28 (dk_at dksX2_untilWeaker_1 17 rfl rfl)
theorem dX2_untilWeaker_41 : decode cX2_untilWeaker 41 = .ok (.ireturn, 1) := dk_172 (dk_at dksX2_untilWeaker_1 18 rfl rfl)
abbrev cX2_ofLoad : ByteArray := prog_10_method_41_code
def yX2_ofLoad : MethodName := ⟨RX2, "ofLoad", "(II)I"⟩
def dkwX2_ofLoad_1 : List UInt8 := [104, 96, 28, 96, 182, 0, 37, 167, 0, 5, 16, 254, 172]
abbrev dktX2_ofLoad_1 : List UInt8 := dkwX2_ofLoad_1 ++ []
def dkwX2_ofLoad_0 : List UInt8 := [42, 27, 182, 0, 113, 154, 0, 5, 2, 172, 28, 3, 5, 184, 0, 41, 153, 0, 18, 42, 16, 102, 6, 27]
abbrev dktX2_ofLoad_0 : List UInt8 := dkwX2_ofLoad_0 ++ dktX2_ofLoad_1
theorem dksX2_ofLoad_0 : cX2_ofLoad.data.toList.drop 0 = dktX2_ofLoad_0 := by decide +kernel
theorem dksX2_ofLoad_1 : cX2_ofLoad.data.toList.drop 24 = dktX2_ofLoad_1 := dk_seg dksX2_ofLoad_0 24 rfl rfl
theorem dX2_ofLoad_0 : decode cX2_ofLoad 0 = .ok (.aload_n 0, 1) := dk_42 (dk_at dksX2_ofLoad_0 0 rfl rfl)
theorem dX2_ofLoad_1 : decode cX2_ofLoad 1 = .ok (.iload_n 1, 1) := dk_27 (dk_at dksX2_ofLoad_0 1 rfl rfl)
theorem dX2_ofLoad_2 : decode cX2_ofLoad 2 = .ok (.invokevirtual 113, 3) := dk_182 0 113 (dk_at dksX2_ofLoad_0 2 rfl rfl)
theorem dX2_ofLoad_5 : decode cX2_ofLoad 5 = .ok (.ifCond .ne 5, 3) := dk_154 0 5 (dk_at dksX2_ofLoad_0 5 rfl rfl)
theorem dX2_ofLoad_8 : decode cX2_ofLoad 8 = .ok (.iconst (-1), 1) := dk_2 (dk_at dksX2_ofLoad_0 8 rfl rfl)
theorem dX2_ofLoad_9 : decode cX2_ofLoad 9 = .ok (.ireturn, 1) := dk_172 (dk_at dksX2_ofLoad_0 9 rfl rfl)
theorem dX2_ofLoad_10 : decode cX2_ofLoad 10 = .ok (.iload_n 2, 1) := dk_28 (dk_at dksX2_ofLoad_0 10 rfl rfl)
theorem dX2_ofLoad_11 : decode cX2_ofLoad 11 = .ok (.iconst 0, 1) := dk_3 (dk_at dksX2_ofLoad_0 11 rfl rfl)
theorem dX2_ofLoad_12 : decode cX2_ofLoad 12 = .ok (.iconst 2, 1) := dk_5 (dk_at dksX2_ofLoad_0 12 rfl rfl)
theorem dX2_ofLoad_13 : decode cX2_ofLoad 13 = .ok (.invokestatic 41, 3) := dk_184 0 41 (dk_at dksX2_ofLoad_0 13 rfl rfl)
theorem dX2_ofLoad_16 : decode cX2_ofLoad 16 = .ok (.ifCond .eq 18, 3) := dk_153 0 18 (dk_at dksX2_ofLoad_0 16 rfl rfl)
theorem dX2_ofLoad_19 : decode cX2_ofLoad 19 = .ok (.aload_n 0, 1) := dk_42 (dk_at dksX2_ofLoad_0 19 rfl rfl)
theorem dX2_ofLoad_20 : decode cX2_ofLoad 20 = .ok (.bipush 102, 2) := dk_16 102 (dk_at dksX2_ofLoad_0 20 rfl rfl)
theorem dX2_ofLoad_22 : decode cX2_ofLoad 22 = .ok (.iconst 3, 1) := dk_6 (dk_at dksX2_ofLoad_0 22 rfl rfl)
theorem dX2_ofLoad_23 : decode cX2_ofLoad 23 = .ok (.iload_n 1, 1) := dk_27 (dk_at dksX2_ofLoad_0 23 rfl rfl)
theorem dX2_ofLoad_24 : decode cX2_ofLoad 24 = .ok (.imul, 1) := dk_104 (dk_at dksX2_ofLoad_1 0 rfl rfl)
theorem dX2_ofLoad_25 : decode cX2_ofLoad 25 = .ok (.iadd, 1) := dk_96 (dk_at dksX2_ofLoad_1 1 rfl rfl)
theorem dX2_ofLoad_26 : decode cX2_ofLoad 26 = .ok (.iload_n 2, 1) := dk_28 (dk_at dksX2_ofLoad_1 2 rfl rfl)
theorem dX2_ofLoad_27 : decode cX2_ofLoad 27 = .ok (.iadd, 1) := dk_96 (dk_at dksX2_ofLoad_1 3 rfl rfl)
theorem dX2_ofLoad_28 : decode cX2_ofLoad 28 = .ok (.invokevirtual 37, 3) := dk_182 0 37 (dk_at dksX2_ofLoad_1 4 rfl rfl)
theorem dX2_ofLoad_31 : decode cX2_ofLoad 31 = .ok (.goto 5, 3) := dk_167 0 5 (dk_at dksX2_ofLoad_1 7 rfl rfl)
theorem dX2_ofLoad_34 : decode cX2_ofLoad 34 = .ok (.bipush (-2), 2) := dk_16 254 (dk_at dksX2_ofLoad_1 10 rfl rfl)
theorem dX2_ofLoad_36 : decode cX2_ofLoad 36 = .ok (.ireturn, 1) := dk_172 (dk_at dksX2_ofLoad_1 12 rfl rfl)
abbrev cX2_misses : ByteArray := prog_10_method_43_code
def yX2_misses : MethodName := ⟨RX2, "misses", "(I)J"⟩
def dkwX2_misses_1 : List UInt8 := [20, 0, 68, 42, 27, 182, 0, 148, 133, 105, 101, 42, 27, 4, 182, 0, 53, 133, 101, 20, 0, 151, 97, 173]
abbrev dktX2_misses_1 : List UInt8 := dkwX2_misses_1 ++ []
def dkwX2_misses_0 : List UInt8 := [42, 27, 182, 0, 95, 154, 0, 7, 20, 0, 99, 173, 42, 180, 0, 7, 3, 27, 184, 0, 45, 8, 96, 47]
abbrev dktX2_misses_0 : List UInt8 := dkwX2_misses_0 ++ dktX2_misses_1
theorem dksX2_misses_0 : cX2_misses.data.toList.drop 0 = dktX2_misses_0 := by decide +kernel
theorem dksX2_misses_1 : cX2_misses.data.toList.drop 24 = dktX2_misses_1 := dk_seg dksX2_misses_0 24 rfl rfl
theorem dX2_misses_0 : decode cX2_misses 0 = .ok (.aload_n 0, 1) := dk_42 (dk_at dksX2_misses_0 0 rfl rfl)
theorem dX2_misses_1 : decode cX2_misses 1 = .ok (.iload_n 1, 1) := dk_27 (dk_at dksX2_misses_0 1 rfl rfl)
theorem dX2_misses_2 : decode cX2_misses 2 = .ok (.invokevirtual 95, 3) := dk_182 0 95 (dk_at dksX2_misses_0 2 rfl rfl)
theorem dX2_misses_5 : decode cX2_misses 5 = .ok (.ifCond .ne 7, 3) := dk_154 0 7 (dk_at dksX2_misses_0 5 rfl rfl)
theorem dX2_misses_8 : decode cX2_misses 8 = .ok (.ldc2_w 99, 3) := dk_20 0 99 (dk_at dksX2_misses_0 8 rfl rfl)
theorem dX2_misses_11 : decode cX2_misses 11 = .ok (.lreturn, 1) := dk_173 (dk_at dksX2_misses_0 11 rfl rfl)
theorem dX2_misses_12 : decode cX2_misses 12 = .ok (.aload_n 0, 1) := dk_42 (dk_at dksX2_misses_0 12 rfl rfl)
theorem dX2_misses_13 : decode cX2_misses 13 = .ok (.getfield 7, 3) := dk_180 0 7 (dk_at dksX2_misses_0 13 rfl rfl)
theorem dX2_misses_16 : decode cX2_misses 16 = .ok (.iconst 0, 1) := dk_3 (dk_at dksX2_misses_0 16 rfl rfl)
theorem dX2_misses_17 : decode cX2_misses 17 = .ok (.iload_n 1, 1) := dk_27 (dk_at dksX2_misses_0 17 rfl rfl)
theorem dX2_misses_18 : decode cX2_misses 18 = .ok (.invokestatic 45, 3) := dk_184 0 45 (dk_at dksX2_misses_0 18 rfl rfl)
theorem dX2_misses_21 : decode cX2_misses 21 = .ok (.iconst 5, 1) := dk_8 (dk_at dksX2_misses_0 21 rfl rfl)
theorem dX2_misses_22 : decode cX2_misses 22 = .ok (.iadd, 1) := dk_96 (dk_at dksX2_misses_0 22 rfl rfl)
theorem dX2_misses_23 : decode cX2_misses 23 = .ok (.laload, 1) := dk_47 (dk_at dksX2_misses_0 23 rfl rfl)
theorem dX2_misses_24 : decode cX2_misses 24 = .ok (.ldc2_w 68, 3) := dk_20 0 68 (dk_at dksX2_misses_1 0 rfl rfl)
theorem dX2_misses_27 : decode cX2_misses 27 = .ok (.aload_n 0, 1) := dk_42 (dk_at dksX2_misses_1 3 rfl rfl)
theorem dX2_misses_28 : decode cX2_misses 28 = .ok (.iload_n 1, 1) := dk_27 (dk_at dksX2_misses_1 4 rfl rfl)
theorem dX2_misses_29 : decode cX2_misses 29 = .ok (.invokevirtual 148, 3) := dk_182 0 148 (dk_at dksX2_misses_1 5 rfl rfl)
theorem dX2_misses_32 : decode cX2_misses 32 = .ok (.i2l, 1) := dk_133 (dk_at dksX2_misses_1 8 rfl rfl)
theorem dX2_misses_33 : decode cX2_misses 33 = .ok (.lmul, 1) := dk_105 (dk_at dksX2_misses_1 9 rfl rfl)
theorem dX2_misses_34 : decode cX2_misses 34 = .ok (.lsub, 1) := dk_101 (dk_at dksX2_misses_1 10 rfl rfl)
theorem dX2_misses_35 : decode cX2_misses 35 = .ok (.aload_n 0, 1) := dk_42 (dk_at dksX2_misses_1 11 rfl rfl)
theorem dX2_misses_36 : decode cX2_misses 36 = .ok (.iload_n 1, 1) := dk_27 (dk_at dksX2_misses_1 12 rfl rfl)
theorem dX2_misses_37 : decode cX2_misses 37 = .ok (.iconst 1, 1) := dk_4 (dk_at dksX2_misses_1 13 rfl rfl)
theorem dX2_misses_38 : decode cX2_misses 38 = .ok (.invokevirtual 53, 3) := dk_182 0 53 (dk_at dksX2_misses_1 14 rfl rfl)
theorem dX2_misses_41 : decode cX2_misses 41 = .ok (.i2l, 1) := dk_133 (dk_at dksX2_misses_1 17 rfl rfl)
theorem dX2_misses_42 : decode cX2_misses 42 = .ok (.lsub, 1) := dk_101 (dk_at dksX2_misses_1 18 rfl rfl)
theorem dX2_misses_43 : decode cX2_misses 43 = .ok (.ldc2_w 151, 3) := dk_20 0 151 (dk_at dksX2_misses_1 19 rfl rfl)
theorem dX2_misses_46 : decode cX2_misses 46 = .ok (.ladd, 1) := dk_97 (dk_at dksX2_misses_1 22 rfl rfl)
theorem dX2_misses_47 : decode cX2_misses 47 = .ok (.lreturn, 1) := dk_173 (dk_at dksX2_misses_1 23 rfl rfl)
abbrev cX2_turnsOf : ByteArray := prog_10_method_42_code
def yX2_turnsOf : MethodName := ⟨RX2, "turnsOf", "(I)I"⟩
def dkwX2_turnsOf_0 : List UInt8 := [42, 27, 6, 182, 0, 53, 42, 27, 7, 182, 0, 53, 96, 172]
abbrev dktX2_turnsOf_0 : List UInt8 := dkwX2_turnsOf_0 ++ []
theorem dksX2_turnsOf_0 : cX2_turnsOf.data.toList.drop 0 = dktX2_turnsOf_0 := by decide +kernel
theorem dX2_turnsOf_0 : decode cX2_turnsOf 0 = .ok (.aload_n 0, 1) := dk_42 (dk_at dksX2_turnsOf_0 0 rfl rfl)
theorem dX2_turnsOf_1 : decode cX2_turnsOf 1 = .ok (.iload_n 1, 1) := dk_27 (dk_at dksX2_turnsOf_0 1 rfl rfl)
theorem dX2_turnsOf_2 : decode cX2_turnsOf 2 = .ok (.iconst 3, 1) := dk_6 (dk_at dksX2_turnsOf_0 2 rfl rfl)
theorem dX2_turnsOf_3 : decode cX2_turnsOf 3 = .ok (.invokevirtual 53, 3) := dk_182 0 53 (dk_at dksX2_turnsOf_0 3 rfl rfl)
theorem dX2_turnsOf_6 : decode cX2_turnsOf 6 = .ok (.aload_n 0, 1) := dk_42 (dk_at dksX2_turnsOf_0 6 rfl rfl)
theorem dX2_turnsOf_7 : decode cX2_turnsOf 7 = .ok (.iload_n 1, 1) := dk_27 (dk_at dksX2_turnsOf_0 7 rfl rfl)
theorem dX2_turnsOf_8 : decode cX2_turnsOf 8 = .ok (.iconst 4, 1) := dk_7 (dk_at dksX2_turnsOf_0 8 rfl rfl)
theorem dX2_turnsOf_9 : decode cX2_turnsOf 9 = .ok (.invokevirtual 53, 3) := dk_182 0 53 (dk_at dksX2_turnsOf_0 9 rfl rfl)
theorem dX2_turnsOf_12 : decode cX2_turnsOf 12 = .ok (.iadd, 1) := dk_96 (dk_at dksX2_turnsOf_0 12 rfl rfl)
theorem dX2_turnsOf_13 : decode cX2_turnsOf 13 = .ok (.ireturn, 1) := dk_172 (dk_at dksX2_turnsOf_0 13 rfl rfl)
abbrev cX2_fed : ByteArray := prog_10_method_44_code
def yX2_fed : MethodName := ⟨RX2, "fed", "(I)I"⟩
def dkwX2_fed_2 : List UInt8 := [128, 61, 132, 3, 1, 167, 255, 220, 28, 172]
abbrev dktX2_fed_2 : List UInt8 := dkwX2_fed_2 ++ []
def dkwX2_fed_1 : List UInt8 := [162, 0, 32, 28, 155, 0, 28, 28, 42, 29, 27, 182, 0, 56, 153, 0, 9, 4, 29, 120, 167, 0, 4, 3]
abbrev dktX2_fed_1 : List UInt8 := dkwX2_fed_1 ++ dktX2_fed_2
def dkwX2_fed_0 : List UInt8 := [42, 27, 182, 0, 95, 153, 0, 7, 3, 167, 0, 4, 2, 61, 3, 62, 29, 42, 16, 7, 182, 0, 37]
abbrev dktX2_fed_0 : List UInt8 := dkwX2_fed_0 ++ dktX2_fed_1
theorem dksX2_fed_0 : cX2_fed.data.toList.drop 0 = dktX2_fed_0 := by decide +kernel
theorem dksX2_fed_1 : cX2_fed.data.toList.drop 23 = dktX2_fed_1 := dk_seg dksX2_fed_0 23 rfl rfl
theorem dksX2_fed_2 : cX2_fed.data.toList.drop 47 = dktX2_fed_2 := dk_seg dksX2_fed_1 24 rfl rfl
theorem dX2_fed_0 : decode cX2_fed 0 = .ok (.aload_n 0, 1) := dk_42 (dk_at dksX2_fed_0 0 rfl rfl)
theorem dX2_fed_1 : decode cX2_fed 1 = .ok (.iload_n 1, 1) := dk_27 (dk_at dksX2_fed_0 1 rfl rfl)
theorem dX2_fed_2 : decode cX2_fed 2 = .ok (.invokevirtual 95, 3) := dk_182 0 95 (dk_at dksX2_fed_0 2 rfl rfl)
theorem dX2_fed_5 : decode cX2_fed 5 = .ok (.ifCond .eq 7, 3) := dk_153 0 7 (dk_at dksX2_fed_0 5 rfl rfl)
theorem dX2_fed_8 : decode cX2_fed 8 = .ok (.iconst 0, 1) := dk_3 (dk_at dksX2_fed_0 8 rfl rfl)
theorem dX2_fed_9 : decode cX2_fed 9 = .ok (.goto 4, 3) := dk_167 0 4 (dk_at dksX2_fed_0 9 rfl rfl)
theorem dX2_fed_12 : decode cX2_fed 12 = .ok (.iconst (-1), 1) := dk_2 (dk_at dksX2_fed_0 12 rfl rfl)
theorem dX2_fed_13 : decode cX2_fed 13 = .ok (.istore_n 2, 1) := dk_61 (dk_at dksX2_fed_0 13 rfl rfl)
theorem dX2_fed_14 : decode cX2_fed 14 = .ok (.iconst 0, 1) := dk_3 (dk_at dksX2_fed_0 14 rfl rfl)
theorem dX2_fed_15 : decode cX2_fed 15 = .ok (.istore_n 3, 1) := dk_62 (dk_at dksX2_fed_0 15 rfl rfl)
theorem dX2_fed_16 : decode cX2_fed 16 = .ok (.iload_n 3, 1) := dk_29 (dk_at dksX2_fed_0 16 rfl rfl)
theorem dX2_fed_17 : decode cX2_fed 17 = .ok (.aload_n 0, 1) := dk_42 (dk_at dksX2_fed_0 17 rfl rfl)
theorem dX2_fed_18 : decode cX2_fed 18 = .ok (.bipush 7, 2) := dk_16 7 (dk_at dksX2_fed_0 18 rfl rfl)
theorem dX2_fed_20 : decode cX2_fed 20 = .ok (.invokevirtual 37, 3) := dk_182 0 37 (dk_at dksX2_fed_0 20 rfl rfl)
theorem dX2_fed_23 : decode cX2_fed 23 = .ok (.if_icmp .ge 32, 3) := dk_162 0 32 (dk_at dksX2_fed_1 0 rfl rfl)
theorem dX2_fed_26 : decode cX2_fed 26 = .ok (.iload_n 2, 1) := dk_28 (dk_at dksX2_fed_1 3 rfl rfl)
theorem dX2_fed_27 : decode cX2_fed 27 = .ok (.ifCond .lt 28, 3) := dk_155 0 28 (dk_at dksX2_fed_1 4 rfl rfl)
theorem dX2_fed_30 : decode cX2_fed 30 = .ok (.iload_n 2, 1) := dk_28 (dk_at dksX2_fed_1 7 rfl rfl)
theorem dX2_fed_31 : decode cX2_fed 31 = .ok (.aload_n 0, 1) := dk_42 (dk_at dksX2_fed_1 8 rfl rfl)
theorem dX2_fed_32 : decode cX2_fed 32 = .ok (.iload_n 3, 1) := dk_29 (dk_at dksX2_fed_1 9 rfl rfl)
theorem dX2_fed_33 : decode cX2_fed 33 = .ok (.iload_n 1, 1) := dk_27 (dk_at dksX2_fed_1 10 rfl rfl)
theorem dX2_fed_34 : decode cX2_fed 34 = .ok (.invokevirtual 56, 3) := dk_182 0 56 (dk_at dksX2_fed_1 11 rfl rfl)
theorem dX2_fed_37 : decode cX2_fed 37 = .ok (.ifCond .eq 9, 3) := dk_153 0 9 (dk_at dksX2_fed_1 14 rfl rfl)
theorem dX2_fed_40 : decode cX2_fed 40 = .ok (.iconst 1, 1) := dk_4 (dk_at dksX2_fed_1 17 rfl rfl)
theorem dX2_fed_41 : decode cX2_fed 41 = .ok (.iload_n 3, 1) := dk_29 (dk_at dksX2_fed_1 18 rfl rfl)
theorem dX2_fed_42 : decode cX2_fed 42 = .ok (.ishl, 1) := dk_120 (dk_at dksX2_fed_1 19 rfl rfl)
theorem dX2_fed_43 : decode cX2_fed 43 = .ok (.goto 4, 3) := dk_167 0 4 (dk_at dksX2_fed_1 20 rfl rfl)
theorem dX2_fed_46 : decode cX2_fed 46 = .ok (.iconst 0, 1) := dk_3 (dk_at dksX2_fed_1 23 rfl rfl)
theorem dX2_fed_47 : decode cX2_fed 47 = .ok (.ior, 1) := dk_128 (dk_at dksX2_fed_2 0 rfl rfl)
theorem dX2_fed_48 : decode cX2_fed 48 = .ok (.istore_n 2, 1) := dk_61 (dk_at dksX2_fed_2 1 rfl rfl)
theorem dX2_fed_49 : decode cX2_fed 49 = .ok (.iinc 3 1, 3) := dk_132 3 1 (dk_at dksX2_fed_2 2 rfl rfl)
theorem dX2_fed_52 : decode cX2_fed 52 = .ok (.goto (-36), 3) := dk_167 255 220 (dk_at dksX2_fed_2 5 rfl rfl)
theorem dX2_fed_55 : decode cX2_fed 55 = .ok (.iload_n 2, 1) := dk_28 (dk_at dksX2_fed_2 8 rfl rfl)
theorem dX2_fed_56 : decode cX2_fed 56 = .ok (.ireturn, 1) := dk_172 (dk_at dksX2_fed_2 9 rfl rfl)
abbrev cX2_count : ByteArray := prog_10_method_46_code
def yX2_count : MethodName := ⟨RX2, "count", "(I)I"⟩
def dkwX2_count_5 : List UInt8 := [184, 0, 41, 153, 0, 14, 42, 27, 16, 9, 100, 182, 0, 37, 167, 0, 5, 16, 254, 172]
abbrev dktX2_count_5 : List UInt8 := dkwX2_count_5 ++ []
def dkwX2_count_4 : List UInt8 := [16, 7, 100, 182, 0, 37, 172, 42, 180, 0, 135, 172, 42, 180, 0, 49, 172, 27, 16, 9, 16, 14]
abbrev dktX2_count_4 : List UInt8 := dkwX2_count_4 ++ dktX2_count_5
def dkwX2_count_3 : List UInt8 := [3, 172, 42, 16, 7, 27, 96, 5, 100, 182, 0, 37, 172, 42, 27, 182, 0, 153, 172, 42, 16, 9, 27, 96]
abbrev dktX2_count_3 : List UInt8 := dkwX2_count_3 ++ dktX2_count_4
def dkwX2_count_2 : List UInt8 := [42, 16, 6, 182, 0, 37, 172, 42, 180, 0, 7, 16, 6, 47, 184, 0, 77, 153, 0, 7, 4, 167, 0, 4]
abbrev dktX2_count_2 : List UInt8 := dkwX2_count_2 ++ dktX2_count_3
def dkwX2_count_1 : List UInt8 := [170, 0, 0, 0, 0, 0, 148, 0, 0, 0, 0, 0, 0, 0, 16, 0, 0, 0, 83, 0, 0, 0, 90, 0, 0, 0, 109, 0, 0, 0, 109, 0, 0, 0, 120, 0, 0, 0, 120, 0, 0, 0, 120, 0, 0, 0, 126, 0, 0, 0, 126, 0, 0, 0, 148, 0, 0, 0, 148, 0, 0, 0, 148, 0, 0, 0, 148, 0, 0, 0, 148, 0, 0, 0, 148, 0, 0, 0, 138, 0, 0, 0, 143]
abbrev dktX2_count_1 : List UInt8 := dkwX2_count_1 ++ dktX2_count_2
def dkwX2_count_0 : List UInt8 := [27]
abbrev dktX2_count_0 : List UInt8 := dkwX2_count_0 ++ dktX2_count_1
theorem dksX2_count_0 : cX2_count.data.toList.drop 0 = dktX2_count_0 := by decide +kernel
theorem dksX2_count_1 : cX2_count.data.toList.drop 1 = dktX2_count_1 := dk_seg dksX2_count_0 1 rfl rfl
theorem dksX2_count_2 : cX2_count.data.toList.drop 84 = dktX2_count_2 := dk_seg dksX2_count_1 83 rfl rfl
theorem dksX2_count_3 : cX2_count.data.toList.drop 108 = dktX2_count_3 := dk_seg dksX2_count_2 24 rfl rfl
theorem dksX2_count_4 : cX2_count.data.toList.drop 132 = dktX2_count_4 := dk_seg dksX2_count_3 24 rfl rfl
theorem dksX2_count_5 : cX2_count.data.toList.drop 154 = dktX2_count_5 := dk_seg dksX2_count_4 22 rfl rfl
theorem dX2_count_0 : decode cX2_count 0 = .ok (.iload_n 1, 1) := dk_27 (dk_at dksX2_count_0 0 rfl rfl)
theorem dX2_count_1 : decode cX2_count 1 = .ok (.tableswitch 148 0 16 #[83, 90, 109, 109, 120, 120, 120, 126, 126, 148, 148, 148, 148, 148, 148, 138, 143], 83) := by decide +kernel
theorem dX2_count_84 : decode cX2_count 84 = .ok (.aload_n 0, 1) := dk_42 (dk_at dksX2_count_2 0 rfl rfl)
theorem dX2_count_85 : decode cX2_count 85 = .ok (.bipush 6, 2) := dk_16 6 (dk_at dksX2_count_2 1 rfl rfl)
theorem dX2_count_87 : decode cX2_count 87 = .ok (.invokevirtual 37, 3) := dk_182 0 37 (dk_at dksX2_count_2 3 rfl rfl)
theorem dX2_count_90 : decode cX2_count 90 = .ok (.ireturn, 1) := dk_172 (dk_at dksX2_count_2 6 rfl rfl)
theorem dX2_count_91 : decode cX2_count 91 = .ok (.aload_n 0, 1) := dk_42 (dk_at dksX2_count_2 7 rfl rfl)
theorem dX2_count_92 : decode cX2_count 92 = .ok (.getfield 7, 3) := dk_180 0 7 (dk_at dksX2_count_2 8 rfl rfl)
theorem dX2_count_95 : decode cX2_count 95 = .ok (.bipush 6, 2) := dk_16 6 (dk_at dksX2_count_2 11 rfl rfl)
theorem dX2_count_97 : decode cX2_count 97 = .ok (.laload, 1) := dk_47 (dk_at dksX2_count_2 13 rfl rfl)
theorem dX2_count_98 : decode cX2_count 98 = .ok (.invokestatic 77, 3) := dk_184 0 77 (dk_at dksX2_count_2 14 rfl rfl)
theorem dX2_count_101 : decode cX2_count 101 = .ok (.ifCond .eq 7, 3) := dk_153 0 7 (dk_at dksX2_count_2 17 rfl rfl)
theorem dX2_count_104 : decode cX2_count 104 = .ok (.iconst 1, 1) := dk_4 (dk_at dksX2_count_2 20 rfl rfl)
theorem dX2_count_105 : decode cX2_count 105 = .ok (.goto 4, 3) := dk_167 0 4 (dk_at dksX2_count_2 21 rfl rfl)
theorem dX2_count_108 : decode cX2_count 108 = .ok (.iconst 0, 1) := dk_3 (dk_at dksX2_count_3 0 rfl rfl)
theorem dX2_count_109 : decode cX2_count 109 = .ok (.ireturn, 1) := dk_172 (dk_at dksX2_count_3 1 rfl rfl)
theorem dX2_count_110 : decode cX2_count 110 = .ok (.aload_n 0, 1) := dk_42 (dk_at dksX2_count_3 2 rfl rfl)
theorem dX2_count_111 : decode cX2_count 111 = .ok (.bipush 7, 2) := dk_16 7 (dk_at dksX2_count_3 3 rfl rfl)
theorem dX2_count_113 : decode cX2_count 113 = .ok (.iload_n 1, 1) := dk_27 (dk_at dksX2_count_3 5 rfl rfl)
theorem dX2_count_114 : decode cX2_count 114 = .ok (.iadd, 1) := dk_96 (dk_at dksX2_count_3 6 rfl rfl)
theorem dX2_count_115 : decode cX2_count 115 = .ok (.iconst 2, 1) := dk_5 (dk_at dksX2_count_3 7 rfl rfl)
theorem dX2_count_116 : decode cX2_count 116 = .ok (.isub, 1) := dk_100 (dk_at dksX2_count_3 8 rfl rfl)
theorem dX2_count_117 : decode cX2_count 117 = .ok (.invokevirtual 37, 3) := dk_182 0 37 (dk_at dksX2_count_3 9 rfl rfl)
theorem dX2_count_120 : decode cX2_count 120 = .ok (.ireturn, 1) := dk_172 (dk_at dksX2_count_3 12 rfl rfl)
theorem dX2_count_121 : decode cX2_count 121 = .ok (.aload_n 0, 1) := dk_42 (dk_at dksX2_count_3 13 rfl rfl)
theorem dX2_count_122 : decode cX2_count 122 = .ok (.iload_n 1, 1) := dk_27 (dk_at dksX2_count_3 14 rfl rfl)
theorem dX2_count_123 : decode cX2_count 123 = .ok (.invokevirtual 153, 3) := dk_182 0 153 (dk_at dksX2_count_3 15 rfl rfl)
theorem dX2_count_126 : decode cX2_count 126 = .ok (.ireturn, 1) := dk_172 (dk_at dksX2_count_3 18 rfl rfl)
theorem dX2_count_127 : decode cX2_count 127 = .ok (.aload_n 0, 1) := dk_42 (dk_at dksX2_count_3 19 rfl rfl)
theorem dX2_count_128 : decode cX2_count 128 = .ok (.bipush 9, 2) := dk_16 9 (dk_at dksX2_count_3 20 rfl rfl)
theorem dX2_count_130 : decode cX2_count 130 = .ok (.iload_n 1, 1) := dk_27 (dk_at dksX2_count_3 22 rfl rfl)
theorem dX2_count_131 : decode cX2_count 131 = .ok (.iadd, 1) := dk_96 (dk_at dksX2_count_3 23 rfl rfl)
theorem dX2_count_132 : decode cX2_count 132 = .ok (.bipush 7, 2) := dk_16 7 (dk_at dksX2_count_4 0 rfl rfl)
theorem dX2_count_134 : decode cX2_count 134 = .ok (.isub, 1) := dk_100 (dk_at dksX2_count_4 2 rfl rfl)
theorem dX2_count_135 : decode cX2_count 135 = .ok (.invokevirtual 37, 3) := dk_182 0 37 (dk_at dksX2_count_4 3 rfl rfl)
theorem dX2_count_138 : decode cX2_count 138 = .ok (.ireturn, 1) := dk_172 (dk_at dksX2_count_4 6 rfl rfl)
theorem dX2_count_139 : decode cX2_count 139 = .ok (.aload_n 0, 1) := dk_42 (dk_at dksX2_count_4 7 rfl rfl)
theorem dX2_count_140 : decode cX2_count 140 = .ok (.getfield 135, 3) := dk_180 0 135 (dk_at dksX2_count_4 8 rfl rfl)
theorem dX2_count_143 : decode cX2_count 143 = .ok (.ireturn, 1) := dk_172 (dk_at dksX2_count_4 11 rfl rfl)
theorem dX2_count_144 : decode cX2_count 144 = .ok (.aload_n 0, 1) := dk_42 (dk_at dksX2_count_4 12 rfl rfl)
theorem dX2_count_145 : decode cX2_count 145 = .ok (.getfield 49, 3) := dk_180 0 49 (dk_at dksX2_count_4 13 rfl rfl)
theorem dX2_count_148 : decode cX2_count 148 = .ok (.ireturn, 1) := dk_172 (dk_at dksX2_count_4 16 rfl rfl)
theorem dX2_count_149 : decode cX2_count 149 = .ok (.iload_n 1, 1) := dk_27 (dk_at dksX2_count_4 17 rfl rfl)
theorem dX2_count_150 : decode cX2_count 150 = .ok (.bipush 9, 2) := dk_16 9 (dk_at dksX2_count_4 18 rfl rfl)
theorem dX2_count_152 : decode cX2_count 152 = .ok (.bipush 14, 2) := dk_16 14 (dk_at dksX2_count_4 20 rfl rfl)
theorem dX2_count_154 : decode cX2_count 154 = .ok (.invokestatic 41, 3) := dk_184 0 41 (dk_at dksX2_count_5 0 rfl rfl)
theorem dX2_count_157 : decode cX2_count 157 = .ok (.ifCond .eq 14, 3) := dk_153 0 14 (dk_at dksX2_count_5 3 rfl rfl)
theorem dX2_count_160 : decode cX2_count 160 = .ok (.aload_n 0, 1) := dk_42 (dk_at dksX2_count_5 6 rfl rfl)
theorem dX2_count_161 : decode cX2_count 161 = .ok (.iload_n 1, 1) := dk_27 (dk_at dksX2_count_5 7 rfl rfl)
theorem dX2_count_162 : decode cX2_count 162 = .ok (.bipush 9, 2) := dk_16 9 (dk_at dksX2_count_5 8 rfl rfl)
theorem dX2_count_164 : decode cX2_count 164 = .ok (.isub, 1) := dk_100 (dk_at dksX2_count_5 10 rfl rfl)
theorem dX2_count_165 : decode cX2_count 165 = .ok (.invokevirtual 37, 3) := dk_182 0 37 (dk_at dksX2_count_5 11 rfl rfl)
theorem dX2_count_168 : decode cX2_count 168 = .ok (.goto 5, 3) := dk_167 0 5 (dk_at dksX2_count_5 14 rfl rfl)
theorem dX2_count_171 : decode cX2_count 171 = .ok (.bipush (-2), 2) := dk_16 254 (dk_at dksX2_count_5 17 rfl rfl)
theorem dX2_count_173 : decode cX2_count 173 = .ok (.ireturn, 1) := dk_172 (dk_at dksX2_count_5 19 rfl rfl)
abbrev cX2_ofAll : ByteArray := prog_10_method_45_code
def yX2_ofAll : MethodName := ⟨RX2, "ofAll", "(I)I"⟩
def dkwX2_ofAll_4 : List UInt8 := [96, 61, 132, 3, 1, 167, 255, 211, 28, 172]
abbrev dktX2_ofAll_4 : List UInt8 := dkwX2_ofAll_4 ++ []
def dkwX2_ofAll_3 : List UInt8 := [8, 160, 0, 17, 28, 42, 29, 16, 7, 182, 0, 53, 29, 120, 128, 167, 0, 10, 28, 42, 29, 182, 0, 148]
abbrev dktX2_ofAll_3 : List UInt8 := dkwX2_ofAll_3 ++ dktX2_ofAll_4
def dkwX2_ofAll_2 : List UInt8 := [132, 3, 1, 167, 255, 210, 3, 62, 29, 42, 16, 7, 182, 0, 37, 162, 0, 41, 27, 7, 164, 0, 36, 27]
abbrev dktX2_ofAll_2 : List UInt8 := dkwX2_ofAll_2 ++ dktX2_ofAll_3
def dkwX2_ofAll_1 : List UInt8 := [16, 102, 6, 29, 104, 96, 5, 96, 47, 10, 148, 154, 0, 9, 4, 29, 120, 167, 0, 4, 3, 128, 61]
abbrev dktX2_ofAll_1 : List UInt8 := dkwX2_ofAll_1 ++ dktX2_ofAll_2
def dkwX2_ofAll_0 : List UInt8 := [3, 61, 3, 62, 29, 42, 16, 8, 182, 0, 37, 162, 0, 42, 27, 7, 160, 0, 37, 28, 42, 180, 0, 7]
abbrev dktX2_ofAll_0 : List UInt8 := dkwX2_ofAll_0 ++ dktX2_ofAll_1
theorem dksX2_ofAll_0 : cX2_ofAll.data.toList.drop 0 = dktX2_ofAll_0 := by decide +kernel
theorem dksX2_ofAll_1 : cX2_ofAll.data.toList.drop 24 = dktX2_ofAll_1 := dk_seg dksX2_ofAll_0 24 rfl rfl
theorem dksX2_ofAll_2 : cX2_ofAll.data.toList.drop 47 = dktX2_ofAll_2 := dk_seg dksX2_ofAll_1 23 rfl rfl
theorem dksX2_ofAll_3 : cX2_ofAll.data.toList.drop 71 = dktX2_ofAll_3 := dk_seg dksX2_ofAll_2 24 rfl rfl
theorem dksX2_ofAll_4 : cX2_ofAll.data.toList.drop 95 = dktX2_ofAll_4 := dk_seg dksX2_ofAll_3 24 rfl rfl
theorem dX2_ofAll_0 : decode cX2_ofAll 0 = .ok (.iconst 0, 1) := dk_3 (dk_at dksX2_ofAll_0 0 rfl rfl)
theorem dX2_ofAll_1 : decode cX2_ofAll 1 = .ok (.istore_n 2, 1) := dk_61 (dk_at dksX2_ofAll_0 1 rfl rfl)
theorem dX2_ofAll_2 : decode cX2_ofAll 2 = .ok (.iconst 0, 1) := dk_3 (dk_at dksX2_ofAll_0 2 rfl rfl)
theorem dX2_ofAll_3 : decode cX2_ofAll 3 = .ok (.istore_n 3, 1) := dk_62 (dk_at dksX2_ofAll_0 3 rfl rfl)
theorem dX2_ofAll_4 : decode cX2_ofAll 4 = .ok (.iload_n 3, 1) := dk_29 (dk_at dksX2_ofAll_0 4 rfl rfl)
theorem dX2_ofAll_5 : decode cX2_ofAll 5 = .ok (.aload_n 0, 1) := dk_42 (dk_at dksX2_ofAll_0 5 rfl rfl)
theorem dX2_ofAll_6 : decode cX2_ofAll 6 = .ok (.bipush 8, 2) := dk_16 8 (dk_at dksX2_ofAll_0 6 rfl rfl)
theorem dX2_ofAll_8 : decode cX2_ofAll 8 = .ok (.invokevirtual 37, 3) := dk_182 0 37 (dk_at dksX2_ofAll_0 8 rfl rfl)
theorem dX2_ofAll_11 : decode cX2_ofAll 11 = .ok (.if_icmp .ge 42, 3) := dk_162 0 42 (dk_at dksX2_ofAll_0 11 rfl rfl)
theorem dX2_ofAll_14 : decode cX2_ofAll 14 = .ok (.iload_n 1, 1) := dk_27 (dk_at dksX2_ofAll_0 14 rfl rfl)
theorem dX2_ofAll_15 : decode cX2_ofAll 15 = .ok (.iconst 4, 1) := dk_7 (dk_at dksX2_ofAll_0 15 rfl rfl)
theorem dX2_ofAll_16 : decode cX2_ofAll 16 = .ok (.if_icmp .ne 37, 3) := dk_160 0 37 (dk_at dksX2_ofAll_0 16 rfl rfl)
theorem dX2_ofAll_19 : decode cX2_ofAll 19 = .ok (.iload_n 2, 1) := dk_28 (dk_at dksX2_ofAll_0 19 rfl rfl)
theorem dX2_ofAll_20 : decode cX2_ofAll 20 = .ok (.aload_n 0, 1) := dk_42 (dk_at dksX2_ofAll_0 20 rfl rfl)
theorem dX2_ofAll_21 : decode cX2_ofAll 21 = .ok (.getfield 7, 3) := dk_180 0 7 (dk_at dksX2_ofAll_0 21 rfl rfl)
theorem dX2_ofAll_24 : decode cX2_ofAll 24 = .ok (.bipush 102, 2) := dk_16 102 (dk_at dksX2_ofAll_1 0 rfl rfl)
theorem dX2_ofAll_26 : decode cX2_ofAll 26 = .ok (.iconst 3, 1) := dk_6 (dk_at dksX2_ofAll_1 2 rfl rfl)
theorem dX2_ofAll_27 : decode cX2_ofAll 27 = .ok (.iload_n 3, 1) := dk_29 (dk_at dksX2_ofAll_1 3 rfl rfl)
theorem dX2_ofAll_28 : decode cX2_ofAll 28 = .ok (.imul, 1) := dk_104 (dk_at dksX2_ofAll_1 4 rfl rfl)
theorem dX2_ofAll_29 : decode cX2_ofAll 29 = .ok (.iadd, 1) := dk_96 (dk_at dksX2_ofAll_1 5 rfl rfl)
theorem dX2_ofAll_30 : decode cX2_ofAll 30 = .ok (.iconst 2, 1) := dk_5 (dk_at dksX2_ofAll_1 6 rfl rfl)
theorem dX2_ofAll_31 : decode cX2_ofAll 31 = .ok (.iadd, 1) := dk_96 (dk_at dksX2_ofAll_1 7 rfl rfl)
theorem dX2_ofAll_32 : decode cX2_ofAll 32 = .ok (.laload, 1) := dk_47 (dk_at dksX2_ofAll_1 8 rfl rfl)
theorem dX2_ofAll_33 : decode cX2_ofAll 33 = .ok (.lconst 1, 1) := dk_10 (dk_at dksX2_ofAll_1 9 rfl rfl)
theorem dX2_ofAll_34 : decode cX2_ofAll 34 = .ok (.lcmp, 1) := dk_148 (dk_at dksX2_ofAll_1 10 rfl rfl)
theorem dX2_ofAll_35 : decode cX2_ofAll 35 = .ok (.ifCond .ne 9, 3) := dk_154 0 9 (dk_at dksX2_ofAll_1 11 rfl rfl)
theorem dX2_ofAll_38 : decode cX2_ofAll 38 = .ok (.iconst 1, 1) := dk_4 (dk_at dksX2_ofAll_1 14 rfl rfl)
theorem dX2_ofAll_39 : decode cX2_ofAll 39 = .ok (.iload_n 3, 1) := dk_29 (dk_at dksX2_ofAll_1 15 rfl rfl)
theorem dX2_ofAll_40 : decode cX2_ofAll 40 = .ok (.ishl, 1) := dk_120 (dk_at dksX2_ofAll_1 16 rfl rfl)
theorem dX2_ofAll_41 : decode cX2_ofAll 41 = .ok (.goto 4, 3) := dk_167 0 4 (dk_at dksX2_ofAll_1 17 rfl rfl)
theorem dX2_ofAll_44 : decode cX2_ofAll 44 = .ok (.iconst 0, 1) := dk_3 (dk_at dksX2_ofAll_1 20 rfl rfl)
theorem dX2_ofAll_45 : decode cX2_ofAll 45 = .ok (.ior, 1) := dk_128 (dk_at dksX2_ofAll_1 21 rfl rfl)
theorem dX2_ofAll_46 : decode cX2_ofAll 46 = .ok (.istore_n 2, 1) := dk_61 (dk_at dksX2_ofAll_1 22 rfl rfl)
theorem dX2_ofAll_47 : decode cX2_ofAll 47 = .ok (.iinc 3 1, 3) := dk_132 3 1 (dk_at dksX2_ofAll_2 0 rfl rfl)
theorem dX2_ofAll_50 : decode cX2_ofAll 50 = .ok (.goto (-46), 3) := dk_167 255 210 (dk_at dksX2_ofAll_2 3 rfl rfl)
theorem dX2_ofAll_53 : decode cX2_ofAll 53 = .ok (.iconst 0, 1) := dk_3 (dk_at dksX2_ofAll_2 6 rfl rfl)
theorem dX2_ofAll_54 : decode cX2_ofAll 54 = .ok (.istore_n 3, 1) := dk_62 (dk_at dksX2_ofAll_2 7 rfl rfl)
theorem dX2_ofAll_55 : decode cX2_ofAll 55 = .ok (.iload_n 3, 1) := dk_29 (dk_at dksX2_ofAll_2 8 rfl rfl)
theorem dX2_ofAll_56 : decode cX2_ofAll 56 = .ok (.aload_n 0, 1) := dk_42 (dk_at dksX2_ofAll_2 9 rfl rfl)
theorem dX2_ofAll_57 : decode cX2_ofAll 57 = .ok (.bipush 7, 2) := dk_16 7 (dk_at dksX2_ofAll_2 10 rfl rfl)
theorem dX2_ofAll_59 : decode cX2_ofAll 59 = .ok (.invokevirtual 37, 3) := dk_182 0 37 (dk_at dksX2_ofAll_2 12 rfl rfl)
theorem dX2_ofAll_62 : decode cX2_ofAll 62 = .ok (.if_icmp .ge 41, 3) := dk_162 0 41 (dk_at dksX2_ofAll_2 15 rfl rfl)
theorem dX2_ofAll_65 : decode cX2_ofAll 65 = .ok (.iload_n 1, 1) := dk_27 (dk_at dksX2_ofAll_2 18 rfl rfl)
theorem dX2_ofAll_66 : decode cX2_ofAll 66 = .ok (.iconst 4, 1) := dk_7 (dk_at dksX2_ofAll_2 19 rfl rfl)
theorem dX2_ofAll_67 : decode cX2_ofAll 67 = .ok (.if_icmp .le 36, 3) := dk_164 0 36 (dk_at dksX2_ofAll_2 20 rfl rfl)
theorem dX2_ofAll_70 : decode cX2_ofAll 70 = .ok (.iload_n 1, 1) := dk_27 (dk_at dksX2_ofAll_2 23 rfl rfl)
theorem dX2_ofAll_71 : decode cX2_ofAll 71 = .ok (.iconst 5, 1) := dk_8 (dk_at dksX2_ofAll_3 0 rfl rfl)
theorem dX2_ofAll_72 : decode cX2_ofAll 72 = .ok (.if_icmp .ne 17, 3) := dk_160 0 17 (dk_at dksX2_ofAll_3 1 rfl rfl)
theorem dX2_ofAll_75 : decode cX2_ofAll 75 = .ok (.iload_n 2, 1) := dk_28 (dk_at dksX2_ofAll_3 4 rfl rfl)
theorem dX2_ofAll_76 : decode cX2_ofAll 76 = .ok (.aload_n 0, 1) := dk_42 (dk_at dksX2_ofAll_3 5 rfl rfl)
theorem dX2_ofAll_77 : decode cX2_ofAll 77 = .ok (.iload_n 3, 1) := dk_29 (dk_at dksX2_ofAll_3 6 rfl rfl)
theorem dX2_ofAll_78 : decode cX2_ofAll 78 = .ok (.bipush 7, 2) := dk_16 7 (dk_at dksX2_ofAll_3 7 rfl rfl)
theorem dX2_ofAll_80 : decode cX2_ofAll 80 = .ok (.invokevirtual 53, 3) := dk_182 0 53 (dk_at dksX2_ofAll_3 9 rfl rfl)
theorem dX2_ofAll_83 : decode cX2_ofAll 83 = .ok (.iload_n 3, 1) := dk_29 (dk_at dksX2_ofAll_3 12 rfl rfl)
theorem dX2_ofAll_84 : decode cX2_ofAll 84 = .ok (.ishl, 1) := dk_120 (dk_at dksX2_ofAll_3 13 rfl rfl)
theorem dX2_ofAll_85 : decode cX2_ofAll 85 = .ok (.ior, 1) := dk_128 (dk_at dksX2_ofAll_3 14 rfl rfl)
theorem dX2_ofAll_86 : decode cX2_ofAll 86 = .ok (.goto 10, 3) := dk_167 0 10 (dk_at dksX2_ofAll_3 15 rfl rfl)
theorem dX2_ofAll_89 : decode cX2_ofAll 89 = .ok (.iload_n 2, 1) := dk_28 (dk_at dksX2_ofAll_3 18 rfl rfl)
theorem dX2_ofAll_90 : decode cX2_ofAll 90 = .ok (.aload_n 0, 1) := dk_42 (dk_at dksX2_ofAll_3 19 rfl rfl)
theorem dX2_ofAll_91 : decode cX2_ofAll 91 = .ok (.iload_n 3, 1) := dk_29 (dk_at dksX2_ofAll_3 20 rfl rfl)
theorem dX2_ofAll_92 : decode cX2_ofAll 92 = .ok (.invokevirtual 148, 3) := dk_182 0 148 (dk_at dksX2_ofAll_3 21 rfl rfl)
theorem dX2_ofAll_95 : decode cX2_ofAll 95 = .ok (.iadd, 1) := dk_96 (dk_at dksX2_ofAll_4 0 rfl rfl)
theorem dX2_ofAll_96 : decode cX2_ofAll 96 = .ok (.istore_n 2, 1) := dk_61 (dk_at dksX2_ofAll_4 1 rfl rfl)
theorem dX2_ofAll_97 : decode cX2_ofAll 97 = .ok (.iinc 3 1, 3) := dk_132 3 1 (dk_at dksX2_ofAll_4 2 rfl rfl)
theorem dX2_ofAll_100 : decode cX2_ofAll 100 = .ok (.goto (-45), 3) := dk_167 255 211 (dk_at dksX2_ofAll_4 5 rfl rfl)
theorem dX2_ofAll_103 : decode cX2_ofAll 103 = .ok (.iload_n 2, 1) := dk_28 (dk_at dksX2_ofAll_4 8 rfl rfl)
theorem dX2_ofAll_104 : decode cX2_ofAll 104 = .ok (.ireturn, 1) := dk_172 (dk_at dksX2_ofAll_4 9 rfl rfl)
abbrev cX2_bill : ByteArray := prog_10_method_47_code
def yX2_bill : MethodName := ⟨RX2, "bill", "(I)I"⟩
def dkwX2_bill_0 : List UInt8 := [42, 27, 182, 0, 95, 153, 0, 11, 42, 27, 182, 0, 122, 167, 0, 4, 2, 172]
abbrev dktX2_bill_0 : List UInt8 := dkwX2_bill_0 ++ []
theorem dksX2_bill_0 : cX2_bill.data.toList.drop 0 = dktX2_bill_0 := by decide +kernel
theorem dX2_bill_0 : decode cX2_bill 0 = .ok (.aload_n 0, 1) := dk_42 (dk_at dksX2_bill_0 0 rfl rfl)
theorem dX2_bill_1 : decode cX2_bill 1 = .ok (.iload_n 1, 1) := dk_27 (dk_at dksX2_bill_0 1 rfl rfl)
theorem dX2_bill_2 : decode cX2_bill 2 = .ok (.invokevirtual 95, 3) := dk_182 0 95 (dk_at dksX2_bill_0 2 rfl rfl)
theorem dX2_bill_5 : decode cX2_bill 5 = .ok (.ifCond .eq 11, 3) := dk_153 0 11 (dk_at dksX2_bill_0 5 rfl rfl)
theorem dX2_bill_8 : decode cX2_bill 8 = .ok (.aload_n 0, 1) := dk_42 (dk_at dksX2_bill_0 8 rfl rfl)
theorem dX2_bill_9 : decode cX2_bill 9 = .ok (.iload_n 1, 1) := dk_27 (dk_at dksX2_bill_0 9 rfl rfl)
theorem dX2_bill_10 : decode cX2_bill 10 = .ok (.invokevirtual 122, 3) := dk_182 0 122 (dk_at dksX2_bill_0 10 rfl rfl)
theorem dX2_bill_13 : decode cX2_bill 13 = .ok (.goto 4, 3) := dk_167 0 4 (dk_at dksX2_bill_0 13 rfl rfl)
theorem dX2_bill_16 : decode cX2_bill 16 = .ok (.iconst (-1), 1) := dk_2 (dk_at dksX2_bill_0 16 rfl rfl)
theorem dX2_bill_17 : decode cX2_bill 17 = .ok (.ireturn, 1) := dk_172 (dk_at dksX2_bill_0 17 rfl rfl)
abbrev cX2_turnsIn : ByteArray := prog_10_method_48_code
def yX2_turnsIn : MethodName := ⟨RX2, "turnsIn", "(I)I"⟩
def dkwX2_turnsIn_2 : List UInt8 := [28, 172, 132, 2, 1, 167, 255, 219, 16, 250, 172]
abbrev dktX2_turnsIn_2 : List UInt8 := dkwX2_turnsIn_2 ++ []
def dkwX2_turnsIn_1 : List UInt8 := [17, 0, 138, 27, 182, 0, 83, 62, 42, 180, 0, 7, 17, 0, 144, 92, 47, 10, 97, 80, 29, 158, 0, 5]
abbrev dktX2_turnsIn_1 : List UInt8 := dkwX2_turnsIn_1 ++ dktX2_turnsIn_2
def dkwX2_turnsIn_0 : List UInt8 := [42, 27, 182, 0, 95, 154, 0, 5, 2, 172, 42, 182, 0, 156, 4, 61, 28, 17, 11, 184, 163, 0, 36, 42]
abbrev dktX2_turnsIn_0 : List UInt8 := dkwX2_turnsIn_0 ++ dktX2_turnsIn_1
theorem dksX2_turnsIn_0 : cX2_turnsIn.data.toList.drop 0 = dktX2_turnsIn_0 := by decide +kernel
theorem dksX2_turnsIn_1 : cX2_turnsIn.data.toList.drop 24 = dktX2_turnsIn_1 := dk_seg dksX2_turnsIn_0 24 rfl rfl
theorem dksX2_turnsIn_2 : cX2_turnsIn.data.toList.drop 48 = dktX2_turnsIn_2 := dk_seg dksX2_turnsIn_1 24 rfl rfl
theorem dX2_turnsIn_0 : decode cX2_turnsIn 0 = .ok (.aload_n 0, 1) := dk_42 (dk_at dksX2_turnsIn_0 0 rfl rfl)
theorem dX2_turnsIn_1 : decode cX2_turnsIn 1 = .ok (.iload_n 1, 1) := dk_27 (dk_at dksX2_turnsIn_0 1 rfl rfl)
theorem dX2_turnsIn_2 : decode cX2_turnsIn 2 = .ok (.invokevirtual 95, 3) := dk_182 0 95 (dk_at dksX2_turnsIn_0 2 rfl rfl)
theorem dX2_turnsIn_5 : decode cX2_turnsIn 5 = .ok (.ifCond .ne 5, 3) := dk_154 0 5 (dk_at dksX2_turnsIn_0 5 rfl rfl)
theorem dX2_turnsIn_8 : decode cX2_turnsIn 8 = .ok (.iconst (-1), 1) := dk_2 (dk_at dksX2_turnsIn_0 8 rfl rfl)
theorem dX2_turnsIn_9 : decode cX2_turnsIn 9 = .ok (.ireturn, 1) := dk_172 (dk_at dksX2_turnsIn_0 9 rfl rfl)
theorem dX2_turnsIn_10 : decode cX2_turnsIn 10 = .ok (.aload_n 0, 1) := dk_42 (dk_at dksX2_turnsIn_0 10 rfl rfl)
theorem dX2_turnsIn_11 : decode cX2_turnsIn 11 = .ok (.invokevirtual 156, 3) := dk_182 0 156 (dk_at dksX2_turnsIn_0 11 rfl rfl)
theorem dX2_turnsIn_14 : decode cX2_turnsIn 14 = .ok (.iconst 1, 1) := dk_4 (dk_at dksX2_turnsIn_0 14 rfl rfl)
theorem dX2_turnsIn_15 : decode cX2_turnsIn 15 = .ok (.istore_n 2, 1) := dk_61 (dk_at dksX2_turnsIn_0 15 rfl rfl)
theorem dX2_turnsIn_16 : decode cX2_turnsIn 16 = .ok (.iload_n 2, 1) := dk_28 (dk_at dksX2_turnsIn_0 16 rfl rfl)
theorem dX2_turnsIn_17 : decode cX2_turnsIn 17 = .ok (.sipush 3000, 3) := dk_17 11 184 (dk_at dksX2_turnsIn_0 17 rfl rfl)
theorem dX2_turnsIn_20 : decode cX2_turnsIn 20 = .ok (.if_icmp .gt 36, 3) := dk_163 0 36 (dk_at dksX2_turnsIn_0 20 rfl rfl)
theorem dX2_turnsIn_23 : decode cX2_turnsIn 23 = .ok (.aload_n 0, 1) := dk_42 (dk_at dksX2_turnsIn_0 23 rfl rfl)
theorem dX2_turnsIn_24 : decode cX2_turnsIn 24 = .ok (.sipush 138, 3) := dk_17 0 138 (dk_at dksX2_turnsIn_1 0 rfl rfl)
theorem dX2_turnsIn_27 : decode cX2_turnsIn 27 = .ok (.iload_n 1, 1) := dk_27 (dk_at dksX2_turnsIn_1 3 rfl rfl)
theorem dX2_turnsIn_28 : decode cX2_turnsIn 28 = .ok (.invokevirtual 83, 3) := dk_182 0 83 (dk_at dksX2_turnsIn_1 4 rfl rfl)
theorem dX2_turnsIn_31 : decode cX2_turnsIn 31 = .ok (.istore_n 3, 1) := dk_62 (dk_at dksX2_turnsIn_1 7 rfl rfl)
theorem dX2_turnsIn_32 : decode cX2_turnsIn 32 = .ok (.aload_n 0, 1) := dk_42 (dk_at dksX2_turnsIn_1 8 rfl rfl)
theorem dX2_turnsIn_33 : decode cX2_turnsIn 33 = .ok (.getfield 7, 3) := dk_180 0 7 (dk_at dksX2_turnsIn_1 9 rfl rfl)
theorem dX2_turnsIn_36 : decode cX2_turnsIn 36 = .ok (.sipush 144, 3) := dk_17 0 144 (dk_at dksX2_turnsIn_1 12 rfl rfl)
theorem dX2_turnsIn_39 : decode cX2_turnsIn 39 = .ok (.dup2, 1) := dk_92 (dk_at dksX2_turnsIn_1 15 rfl rfl)
theorem dX2_turnsIn_40 : decode cX2_turnsIn 40 = .ok (.laload, 1) := dk_47 (dk_at dksX2_turnsIn_1 16 rfl rfl)
theorem dX2_turnsIn_41 : decode cX2_turnsIn 41 = .ok (.lconst 1, 1) := dk_10 (dk_at dksX2_turnsIn_1 17 rfl rfl)
theorem dX2_turnsIn_42 : decode cX2_turnsIn 42 = .ok (.ladd, 1) := dk_97 (dk_at dksX2_turnsIn_1 18 rfl rfl)
theorem dX2_turnsIn_43 : decode cX2_turnsIn 43 = .ok (.lastore, 1) := dk_80 (dk_at dksX2_turnsIn_1 19 rfl rfl)
theorem dX2_turnsIn_44 : decode cX2_turnsIn 44 = .ok (.iload_n 3, 1) := dk_29 (dk_at dksX2_turnsIn_1 20 rfl rfl)
theorem dX2_turnsIn_45 : decode cX2_turnsIn 45 = .ok (.ifCond .le 5, 3) := dk_158 0 5 (dk_at dksX2_turnsIn_1 21 rfl rfl)
theorem dX2_turnsIn_48 : decode cX2_turnsIn 48 = .ok (.iload_n 2, 1) := dk_28 (dk_at dksX2_turnsIn_2 0 rfl rfl)
theorem dX2_turnsIn_49 : decode cX2_turnsIn 49 = .ok (.ireturn, 1) := dk_172 (dk_at dksX2_turnsIn_2 1 rfl rfl)
theorem dX2_turnsIn_50 : decode cX2_turnsIn 50 = .ok (.iinc 2 1, 3) := dk_132 2 1 (dk_at dksX2_turnsIn_2 2 rfl rfl)
theorem dX2_turnsIn_53 : decode cX2_turnsIn 53 = .ok (.goto (-37), 3) := dk_167 255 219 (dk_at dksX2_turnsIn_2 5 rfl rfl)
theorem dX2_turnsIn_56 : decode cX2_turnsIn 56 = .ok (.bipush (-6), 2) := dk_16 250 (dk_at dksX2_turnsIn_2 8 rfl rfl)
theorem dX2_turnsIn_58 : decode cX2_turnsIn 58 = .ok (.ireturn, 1) := dk_172 (dk_at dksX2_turnsIn_2 10 rfl rfl)
abbrev cX2_copies : ByteArray := prog_10_method_9_code
def yX2_copies : MethodName := ⟨RX2, "copies", "()V"⟩
def dkwX2_copies_1 : List UInt8 := [80, 132, 1, 1, 167, 255, 230, 177]
abbrev dktX2_copies_1 : List UInt8 := dkwX2_copies_1 ++ []
def dkwX2_copies_0 : List UInt8 := [3, 60, 27, 17, 0, 138, 162, 0, 25, 42, 180, 0, 7, 17, 0, 138, 27, 96, 42, 180, 0, 7, 27, 47]
abbrev dktX2_copies_0 : List UInt8 := dkwX2_copies_0 ++ dktX2_copies_1
theorem dksX2_copies_0 : cX2_copies.data.toList.drop 0 = dktX2_copies_0 := by decide +kernel
theorem dksX2_copies_1 : cX2_copies.data.toList.drop 24 = dktX2_copies_1 := dk_seg dksX2_copies_0 24 rfl rfl
theorem dX2_copies_0 : decode cX2_copies 0 = .ok (.iconst 0, 1) := dk_3 (dk_at dksX2_copies_0 0 rfl rfl)
theorem dX2_copies_1 : decode cX2_copies 1 = .ok (.istore_n 1, 1) := dk_60 (dk_at dksX2_copies_0 1 rfl rfl)
theorem dX2_copies_2 : decode cX2_copies 2 = .ok (.iload_n 1, 1) := dk_27 (dk_at dksX2_copies_0 2 rfl rfl)
theorem dX2_copies_3 : decode cX2_copies 3 = .ok (.sipush 138, 3) := dk_17 0 138 (dk_at dksX2_copies_0 3 rfl rfl)
theorem dX2_copies_6 : decode cX2_copies 6 = .ok (.if_icmp .ge 25, 3) := dk_162 0 25 (dk_at dksX2_copies_0 6 rfl rfl)
theorem dX2_copies_9 : decode cX2_copies 9 = .ok (.aload_n 0, 1) := dk_42 (dk_at dksX2_copies_0 9 rfl rfl)
theorem dX2_copies_10 : decode cX2_copies 10 = .ok (.getfield 7, 3) := dk_180 0 7 (dk_at dksX2_copies_0 10 rfl rfl)
theorem dX2_copies_13 : decode cX2_copies 13 = .ok (.sipush 138, 3) := dk_17 0 138 (dk_at dksX2_copies_0 13 rfl rfl)
theorem dX2_copies_16 : decode cX2_copies 16 = .ok (.iload_n 1, 1) := dk_27 (dk_at dksX2_copies_0 16 rfl rfl)
theorem dX2_copies_17 : decode cX2_copies 17 = .ok (.iadd, 1) := dk_96 (dk_at dksX2_copies_0 17 rfl rfl)
theorem dX2_copies_18 : decode cX2_copies 18 = .ok (.aload_n 0, 1) := dk_42 (dk_at dksX2_copies_0 18 rfl rfl)
theorem dX2_copies_19 : decode cX2_copies 19 = .ok (.getfield 7, 3) := dk_180 0 7 (dk_at dksX2_copies_0 19 rfl rfl)
theorem dX2_copies_22 : decode cX2_copies 22 = .ok (.iload_n 1, 1) := dk_27 (dk_at dksX2_copies_0 22 rfl rfl)
theorem dX2_copies_23 : decode cX2_copies 23 = .ok (.laload, 1) := dk_47 (dk_at dksX2_copies_0 23 rfl rfl)
theorem dX2_copies_24 : decode cX2_copies 24 = .ok (.lastore, 1) := dk_80 (dk_at dksX2_copies_1 0 rfl rfl)
theorem dX2_copies_25 : decode cX2_copies 25 = .ok (.iinc 1 1, 3) := dk_132 1 1 (dk_at dksX2_copies_1 1 rfl rfl)
theorem dX2_copies_28 : decode cX2_copies 28 = .ok (.goto (-26), 3) := dk_167 255 230 (dk_at dksX2_copies_1 4 rfl rfl)
theorem dX2_copies_31 : decode cX2_copies 31 = .ok (.return_, 1) := dk_177 (dk_at dksX2_copies_1 7 rfl rfl)
abbrev cX2_wouldTurn : ByteArray := prog_10_method_49_code
def yX2_wouldTurn : MethodName := ⟨RX2, "wouldTurn", "(III)I"⟩
def dkwX2_wouldTurn_4 : List UInt8 := [17, 0, 138, 21, 4, 96, 47, 42, 180, 0, 7, 21, 4, 47, 101, 136, 172]
abbrev dktX2_wouldTurn_4 : List UInt8 := dkwX2_wouldTurn_4 ++ []
def dkwX2_wouldTurn_3 : List UInt8 := [54, 6, 42, 180, 0, 7, 17, 0, 144, 92, 47, 10, 97, 80, 132, 5, 1, 167, 255, 225, 42, 180, 0, 7]
abbrev dktX2_wouldTurn_3 : List UInt8 := dkwX2_wouldTurn_3 ++ dktX2_wouldTurn_4
def dkwX2_wouldTurn_2 : List UInt8 := [167, 0, 4, 6, 96, 54, 4, 3, 54, 5, 21, 5, 28, 162, 0, 31, 42, 17, 0, 138, 27, 182, 0, 83]
abbrev dktX2_wouldTurn_2 : List UInt8 := dkwX2_wouldTurn_2 ++ dktX2_wouldTurn_3
def dkwX2_wouldTurn_1 : List UInt8 := [184, 0, 41, 154, 0, 6, 16, 254, 172, 42, 182, 0, 156, 3, 27, 184, 0, 45, 29, 4, 160, 0, 7, 7]
abbrev dktX2_wouldTurn_1 : List UInt8 := dkwX2_wouldTurn_1 ++ dktX2_wouldTurn_2
def dkwX2_wouldTurn_0 : List UInt8 := [42, 27, 182, 0, 95, 154, 0, 5, 2, 172, 28, 4, 17, 5, 160, 184, 0, 41, 153, 0, 12, 29, 3, 4]
abbrev dktX2_wouldTurn_0 : List UInt8 := dkwX2_wouldTurn_0 ++ dktX2_wouldTurn_1
theorem dksX2_wouldTurn_0 : cX2_wouldTurn.data.toList.drop 0 = dktX2_wouldTurn_0 := by decide +kernel
theorem dksX2_wouldTurn_1 : cX2_wouldTurn.data.toList.drop 24 = dktX2_wouldTurn_1 := dk_seg dksX2_wouldTurn_0 24 rfl rfl
theorem dksX2_wouldTurn_2 : cX2_wouldTurn.data.toList.drop 48 = dktX2_wouldTurn_2 := dk_seg dksX2_wouldTurn_1 24 rfl rfl
theorem dksX2_wouldTurn_3 : cX2_wouldTurn.data.toList.drop 72 = dktX2_wouldTurn_3 := dk_seg dksX2_wouldTurn_2 24 rfl rfl
theorem dksX2_wouldTurn_4 : cX2_wouldTurn.data.toList.drop 96 = dktX2_wouldTurn_4 := dk_seg dksX2_wouldTurn_3 24 rfl rfl
theorem dX2_wouldTurn_0 : decode cX2_wouldTurn 0 = .ok (.aload_n 0, 1) := dk_42 (dk_at dksX2_wouldTurn_0 0 rfl rfl)
theorem dX2_wouldTurn_1 : decode cX2_wouldTurn 1 = .ok (.iload_n 1, 1) := dk_27 (dk_at dksX2_wouldTurn_0 1 rfl rfl)
theorem dX2_wouldTurn_2 : decode cX2_wouldTurn 2 = .ok (.invokevirtual 95, 3) := dk_182 0 95 (dk_at dksX2_wouldTurn_0 2 rfl rfl)
theorem dX2_wouldTurn_5 : decode cX2_wouldTurn 5 = .ok (.ifCond .ne 5, 3) := dk_154 0 5 (dk_at dksX2_wouldTurn_0 5 rfl rfl)
theorem dX2_wouldTurn_8 : decode cX2_wouldTurn 8 = .ok (.iconst (-1), 1) := dk_2 (dk_at dksX2_wouldTurn_0 8 rfl rfl)
theorem dX2_wouldTurn_9 : decode cX2_wouldTurn 9 = .ok (.ireturn, 1) := dk_172 (dk_at dksX2_wouldTurn_0 9 rfl rfl)
theorem dX2_wouldTurn_10 : decode cX2_wouldTurn 10 = .ok (.iload_n 2, 1) := dk_28 (dk_at dksX2_wouldTurn_0 10 rfl rfl)
theorem dX2_wouldTurn_11 : decode cX2_wouldTurn 11 = .ok (.iconst 1, 1) := dk_4 (dk_at dksX2_wouldTurn_0 11 rfl rfl)
theorem dX2_wouldTurn_12 : decode cX2_wouldTurn 12 = .ok (.sipush 1440, 3) := dk_17 5 160 (dk_at dksX2_wouldTurn_0 12 rfl rfl)
theorem dX2_wouldTurn_15 : decode cX2_wouldTurn 15 = .ok (.invokestatic 41, 3) := dk_184 0 41 (dk_at dksX2_wouldTurn_0 15 rfl rfl)
theorem dX2_wouldTurn_18 : decode cX2_wouldTurn 18 = .ok (.ifCond .eq 12, 3) := dk_153 0 12 (dk_at dksX2_wouldTurn_0 18 rfl rfl)
theorem dX2_wouldTurn_21 : decode cX2_wouldTurn 21 = .ok (.iload_n 3, 1) := dk_29 (dk_at dksX2_wouldTurn_0 21 rfl rfl)
theorem dX2_wouldTurn_22 : decode cX2_wouldTurn 22 = .ok (.iconst 0, 1) := dk_3 (dk_at dksX2_wouldTurn_0 22 rfl rfl)
theorem dX2_wouldTurn_23 : decode cX2_wouldTurn 23 = .ok (.iconst 1, 1) := dk_4 (dk_at dksX2_wouldTurn_0 23 rfl rfl)
theorem dX2_wouldTurn_24 : decode cX2_wouldTurn 24 = .ok (.invokestatic 41, 3) := dk_184 0 41 (dk_at dksX2_wouldTurn_1 0 rfl rfl)
theorem dX2_wouldTurn_27 : decode cX2_wouldTurn 27 = .ok (.ifCond .ne 6, 3) := dk_154 0 6 (dk_at dksX2_wouldTurn_1 3 rfl rfl)
theorem dX2_wouldTurn_30 : decode cX2_wouldTurn 30 = .ok (.bipush (-2), 2) := dk_16 254 (dk_at dksX2_wouldTurn_1 6 rfl rfl)
theorem dX2_wouldTurn_32 : decode cX2_wouldTurn 32 = .ok (.ireturn, 1) := dk_172 (dk_at dksX2_wouldTurn_1 8 rfl rfl)
theorem dX2_wouldTurn_33 : decode cX2_wouldTurn 33 = .ok (.aload_n 0, 1) := dk_42 (dk_at dksX2_wouldTurn_1 9 rfl rfl)
theorem dX2_wouldTurn_34 : decode cX2_wouldTurn 34 = .ok (.invokevirtual 156, 3) := dk_182 0 156 (dk_at dksX2_wouldTurn_1 10 rfl rfl)
theorem dX2_wouldTurn_37 : decode cX2_wouldTurn 37 = .ok (.iconst 0, 1) := dk_3 (dk_at dksX2_wouldTurn_1 13 rfl rfl)
theorem dX2_wouldTurn_38 : decode cX2_wouldTurn 38 = .ok (.iload_n 1, 1) := dk_27 (dk_at dksX2_wouldTurn_1 14 rfl rfl)
theorem dX2_wouldTurn_39 : decode cX2_wouldTurn 39 = .ok (.invokestatic 45, 3) := dk_184 0 45 (dk_at dksX2_wouldTurn_1 15 rfl rfl)
theorem dX2_wouldTurn_42 : decode cX2_wouldTurn 42 = .ok (.iload_n 3, 1) := dk_29 (dk_at dksX2_wouldTurn_1 18 rfl rfl)
theorem dX2_wouldTurn_43 : decode cX2_wouldTurn 43 = .ok (.iconst 1, 1) := dk_4 (dk_at dksX2_wouldTurn_1 19 rfl rfl)
theorem dX2_wouldTurn_44 : decode cX2_wouldTurn 44 = .ok (.if_icmp .ne 7, 3) := dk_160 0 7 (dk_at dksX2_wouldTurn_1 20 rfl rfl)
theorem dX2_wouldTurn_47 : decode cX2_wouldTurn 47 = .ok (.iconst 4, 1) := dk_7 (dk_at dksX2_wouldTurn_1 23 rfl rfl)
theorem dX2_wouldTurn_48 : decode cX2_wouldTurn 48 = .ok (.goto 4, 3) := dk_167 0 4 (dk_at dksX2_wouldTurn_2 0 rfl rfl)
theorem dX2_wouldTurn_51 : decode cX2_wouldTurn 51 = .ok (.iconst 3, 1) := dk_6 (dk_at dksX2_wouldTurn_2 3 rfl rfl)
theorem dX2_wouldTurn_52 : decode cX2_wouldTurn 52 = .ok (.iadd, 1) := dk_96 (dk_at dksX2_wouldTurn_2 4 rfl rfl)
theorem dX2_wouldTurn_53 : decode cX2_wouldTurn 53 = .ok (.istore 4, 2) := dk_54 4 (dk_at dksX2_wouldTurn_2 5 rfl rfl)
theorem dX2_wouldTurn_55 : decode cX2_wouldTurn 55 = .ok (.iconst 0, 1) := dk_3 (dk_at dksX2_wouldTurn_2 7 rfl rfl)
theorem dX2_wouldTurn_56 : decode cX2_wouldTurn 56 = .ok (.istore 5, 2) := dk_54 5 (dk_at dksX2_wouldTurn_2 8 rfl rfl)
theorem dX2_wouldTurn_58 : decode cX2_wouldTurn 58 = .ok (.iload 5, 2) := dk_21 5 (dk_at dksX2_wouldTurn_2 10 rfl rfl)
theorem dX2_wouldTurn_60 : decode cX2_wouldTurn 60 = .ok (.iload_n 2, 1) := dk_28 (dk_at dksX2_wouldTurn_2 12 rfl rfl)
theorem dX2_wouldTurn_61 : decode cX2_wouldTurn 61 = .ok (.if_icmp .ge 31, 3) := dk_162 0 31 (dk_at dksX2_wouldTurn_2 13 rfl rfl)
theorem dX2_wouldTurn_64 : decode cX2_wouldTurn 64 = .ok (.aload_n 0, 1) := dk_42 (dk_at dksX2_wouldTurn_2 16 rfl rfl)
theorem dX2_wouldTurn_65 : decode cX2_wouldTurn 65 = .ok (.sipush 138, 3) := dk_17 0 138 (dk_at dksX2_wouldTurn_2 17 rfl rfl)
theorem dX2_wouldTurn_68 : decode cX2_wouldTurn 68 = .ok (.iload_n 1, 1) := dk_27 (dk_at dksX2_wouldTurn_2 20 rfl rfl)
theorem dX2_wouldTurn_69 : decode cX2_wouldTurn 69 = .ok (.invokevirtual 83, 3) := dk_182 0 83 (dk_at dksX2_wouldTurn_2 21 rfl rfl)
theorem dX2_wouldTurn_72 : decode cX2_wouldTurn 72 = .ok (.istore 6, 2) := dk_54 6 (dk_at dksX2_wouldTurn_3 0 rfl rfl)
theorem dX2_wouldTurn_74 : decode cX2_wouldTurn 74 = .ok (.aload_n 0, 1) := dk_42 (dk_at dksX2_wouldTurn_3 2 rfl rfl)
theorem dX2_wouldTurn_75 : decode cX2_wouldTurn 75 = .ok (.getfield 7, 3) := dk_180 0 7 (dk_at dksX2_wouldTurn_3 3 rfl rfl)
theorem dX2_wouldTurn_78 : decode cX2_wouldTurn 78 = .ok (.sipush 144, 3) := dk_17 0 144 (dk_at dksX2_wouldTurn_3 6 rfl rfl)
theorem dX2_wouldTurn_81 : decode cX2_wouldTurn 81 = .ok (.dup2, 1) := dk_92 (dk_at dksX2_wouldTurn_3 9 rfl rfl)
theorem dX2_wouldTurn_82 : decode cX2_wouldTurn 82 = .ok (.laload, 1) := dk_47 (dk_at dksX2_wouldTurn_3 10 rfl rfl)
theorem dX2_wouldTurn_83 : decode cX2_wouldTurn 83 = .ok (.lconst 1, 1) := dk_10 (dk_at dksX2_wouldTurn_3 11 rfl rfl)
theorem dX2_wouldTurn_84 : decode cX2_wouldTurn 84 = .ok (.ladd, 1) := dk_97 (dk_at dksX2_wouldTurn_3 12 rfl rfl)
theorem dX2_wouldTurn_85 : decode cX2_wouldTurn 85 = .ok (.lastore, 1) := dk_80 (dk_at dksX2_wouldTurn_3 13 rfl rfl)
theorem dX2_wouldTurn_86 : decode cX2_wouldTurn 86 = .ok (.iinc 5 1, 3) := dk_132 5 1 (dk_at dksX2_wouldTurn_3 14 rfl rfl)
theorem dX2_wouldTurn_89 : decode cX2_wouldTurn 89 = .ok (.goto (-31), 3) := dk_167 255 225 (dk_at dksX2_wouldTurn_3 17 rfl rfl)
theorem dX2_wouldTurn_92 : decode cX2_wouldTurn 92 = .ok (.aload_n 0, 1) := dk_42 (dk_at dksX2_wouldTurn_3 20 rfl rfl)
theorem dX2_wouldTurn_93 : decode cX2_wouldTurn 93 = .ok (.getfield 7, 3) := dk_180 0 7 (dk_at dksX2_wouldTurn_3 21 rfl rfl)
theorem dX2_wouldTurn_96 : decode cX2_wouldTurn 96 = .ok (.sipush 138, 3) := dk_17 0 138 (dk_at dksX2_wouldTurn_4 0 rfl rfl)
theorem dX2_wouldTurn_99 : decode cX2_wouldTurn 99 = .ok (.iload 4, 2) := dk_21 4 (dk_at dksX2_wouldTurn_4 3 rfl rfl)
theorem dX2_wouldTurn_101 : decode cX2_wouldTurn 101 = .ok (.iadd, 1) := dk_96 (dk_at dksX2_wouldTurn_4 5 rfl rfl)
theorem dX2_wouldTurn_102 : decode cX2_wouldTurn 102 = .ok (.laload, 1) := dk_47 (dk_at dksX2_wouldTurn_4 6 rfl rfl)
theorem dX2_wouldTurn_103 : decode cX2_wouldTurn 103 = .ok (.aload_n 0, 1) := dk_42 (dk_at dksX2_wouldTurn_4 7 rfl rfl)
theorem dX2_wouldTurn_104 : decode cX2_wouldTurn 104 = .ok (.getfield 7, 3) := dk_180 0 7 (dk_at dksX2_wouldTurn_4 8 rfl rfl)
theorem dX2_wouldTurn_107 : decode cX2_wouldTurn 107 = .ok (.iload 4, 2) := dk_21 4 (dk_at dksX2_wouldTurn_4 11 rfl rfl)
theorem dX2_wouldTurn_109 : decode cX2_wouldTurn 109 = .ok (.laload, 1) := dk_47 (dk_at dksX2_wouldTurn_4 13 rfl rfl)
theorem dX2_wouldTurn_110 : decode cX2_wouldTurn 110 = .ok (.lsub, 1) := dk_101 (dk_at dksX2_wouldTurn_4 14 rfl rfl)
theorem dX2_wouldTurn_111 : decode cX2_wouldTurn 111 = .ok (.l2i, 1) := dk_136 (dk_at dksX2_wouldTurn_4 15 rfl rfl)
theorem dX2_wouldTurn_112 : decode cX2_wouldTurn 112 = .ok (.ireturn, 1) := dk_172 (dk_at dksX2_wouldTurn_4 16 rfl rfl)
abbrev cX2_worst : ByteArray := prog_10_method_50_code
def yX2_worst : MethodName := ⟨RX2, "worst", "()I"⟩
def dkwX2_worst_2 : List UInt8 := [27, 172]
abbrev dktX2_worst_2 : List UInt8 := dkwX2_worst_2 ++ []
def dkwX2_worst_1 : List UInt8 := [182, 0, 159, 42, 27, 182, 0, 159, 148, 158, 0, 7, 28, 167, 0, 4, 27, 60, 132, 2, 1, 167, 255, 217]
abbrev dktX2_worst_1 : List UInt8 := dkwX2_worst_1 ++ dktX2_worst_2
def dkwX2_worst_0 : List UInt8 := [16, 250, 60, 3, 61, 28, 42, 16, 7, 182, 0, 37, 162, 0, 35, 27, 16, 250, 159, 0, 17, 42, 28]
abbrev dktX2_worst_0 : List UInt8 := dkwX2_worst_0 ++ dktX2_worst_1
theorem dksX2_worst_0 : cX2_worst.data.toList.drop 0 = dktX2_worst_0 := by decide +kernel
theorem dksX2_worst_1 : cX2_worst.data.toList.drop 23 = dktX2_worst_1 := dk_seg dksX2_worst_0 23 rfl rfl
theorem dksX2_worst_2 : cX2_worst.data.toList.drop 47 = dktX2_worst_2 := dk_seg dksX2_worst_1 24 rfl rfl
theorem dX2_worst_0 : decode cX2_worst 0 = .ok (.bipush (-6), 2) := dk_16 250 (dk_at dksX2_worst_0 0 rfl rfl)
theorem dX2_worst_2 : decode cX2_worst 2 = .ok (.istore_n 1, 1) := dk_60 (dk_at dksX2_worst_0 2 rfl rfl)
theorem dX2_worst_3 : decode cX2_worst 3 = .ok (.iconst 0, 1) := dk_3 (dk_at dksX2_worst_0 3 rfl rfl)
theorem dX2_worst_4 : decode cX2_worst 4 = .ok (.istore_n 2, 1) := dk_61 (dk_at dksX2_worst_0 4 rfl rfl)
theorem dX2_worst_5 : decode cX2_worst 5 = .ok (.iload_n 2, 1) := dk_28 (dk_at dksX2_worst_0 5 rfl rfl)
theorem dX2_worst_6 : decode cX2_worst 6 = .ok (.aload_n 0, 1) := dk_42 (dk_at dksX2_worst_0 6 rfl rfl)
theorem dX2_worst_7 : decode cX2_worst 7 = .ok (.bipush 7, 2) := dk_16 7 (dk_at dksX2_worst_0 7 rfl rfl)
theorem dX2_worst_9 : decode cX2_worst 9 = .ok (.invokevirtual 37, 3) := dk_182 0 37 (dk_at dksX2_worst_0 9 rfl rfl)
theorem dX2_worst_12 : decode cX2_worst 12 = .ok (.if_icmp .ge 35, 3) := dk_162 0 35 (dk_at dksX2_worst_0 12 rfl rfl)
theorem dX2_worst_15 : decode cX2_worst 15 = .ok (.iload_n 1, 1) := dk_27 (dk_at dksX2_worst_0 15 rfl rfl)
theorem dX2_worst_16 : decode cX2_worst 16 = .ok (.bipush (-6), 2) := dk_16 250 (dk_at dksX2_worst_0 16 rfl rfl)
theorem dX2_worst_18 : decode cX2_worst 18 = .ok (.if_icmp .eq 17, 3) := dk_159 0 17 (dk_at dksX2_worst_0 18 rfl rfl)
theorem dX2_worst_21 : decode cX2_worst 21 = .ok (.aload_n 0, 1) := dk_42 (dk_at dksX2_worst_0 21 rfl rfl)
theorem dX2_worst_22 : decode cX2_worst 22 = .ok (.iload_n 2, 1) := dk_28 (dk_at dksX2_worst_0 22 rfl rfl)
theorem dX2_worst_23 : decode cX2_worst 23 = .ok (.invokevirtual 159, 3) := dk_182 0 159 (dk_at dksX2_worst_1 0 rfl rfl)
theorem dX2_worst_26 : decode cX2_worst 26 = .ok (.aload_n 0, 1) := dk_42 (dk_at dksX2_worst_1 3 rfl rfl)
theorem dX2_worst_27 : decode cX2_worst 27 = .ok (.iload_n 1, 1) := dk_27 (dk_at dksX2_worst_1 4 rfl rfl)
theorem dX2_worst_28 : decode cX2_worst 28 = .ok (.invokevirtual 159, 3) := dk_182 0 159 (dk_at dksX2_worst_1 5 rfl rfl)
theorem dX2_worst_31 : decode cX2_worst 31 = .ok (.lcmp, 1) := dk_148 (dk_at dksX2_worst_1 8 rfl rfl)
theorem dX2_worst_32 : decode cX2_worst 32 = .ok (.ifCond .le 7, 3) := dk_158 0 7 (dk_at dksX2_worst_1 9 rfl rfl)
theorem dX2_worst_35 : decode cX2_worst 35 = .ok (.iload_n 2, 1) := dk_28 (dk_at dksX2_worst_1 12 rfl rfl)
theorem dX2_worst_36 : decode cX2_worst 36 = .ok (.goto 4, 3) := dk_167 0 4 (dk_at dksX2_worst_1 13 rfl rfl)
theorem dX2_worst_39 : decode cX2_worst 39 = .ok (.iload_n 1, 1) := dk_27 (dk_at dksX2_worst_1 16 rfl rfl)
theorem dX2_worst_40 : decode cX2_worst 40 = .ok (.istore_n 1, 1) := dk_60 (dk_at dksX2_worst_1 17 rfl rfl)
theorem dX2_worst_41 : decode cX2_worst 41 = .ok (.iinc 2 1, 3) := dk_132 2 1 (dk_at dksX2_worst_1 18 rfl rfl)
theorem dX2_worst_44 : decode cX2_worst 44 = .ok (.goto (-39), 3) := dk_167 255 217 (dk_at dksX2_worst_1 21 rfl rfl)
theorem dX2_worst_47 : decode cX2_worst 47 = .ok (.iload_n 1, 1) := dk_27 (dk_at dksX2_worst_2 0 rfl rfl)
theorem dX2_worst_48 : decode cX2_worst 48 = .ok (.ireturn, 1) := dk_172 (dk_at dksX2_worst_2 1 rfl rfl)
abbrev cX2_lags : ByteArray := prog_10_method_51_code
def yX2_lags : MethodName := ⟨RX2, "lags", "(I)I"⟩
def dkwX2_lags_2 : List UInt8 := [167, 0, 4, 3, 96, 61, 132, 3, 1, 167, 255, 221, 28, 172]
abbrev dktX2_lags_2 : List UInt8 := dkwX2_lags_2 ++ []
def dkwX2_lags_1 : List UInt8 := [16, 7, 182, 0, 37, 162, 0, 31, 28, 42, 29, 3, 182, 0, 53, 27, 160, 0, 11, 42, 29, 182, 0, 148]
abbrev dktX2_lags_1 : List UInt8 := dkwX2_lags_1 ++ dktX2_lags_2
def dkwX2_lags_0 : List UInt8 := [42, 27, 182, 0, 95, 154, 0, 5, 2, 172, 18, 163, 42, 27, 182, 0, 148, 100, 61, 4, 62, 29, 42]
abbrev dktX2_lags_0 : List UInt8 := dkwX2_lags_0 ++ dktX2_lags_1
theorem dksX2_lags_0 : cX2_lags.data.toList.drop 0 = dktX2_lags_0 := by decide +kernel
theorem dksX2_lags_1 : cX2_lags.data.toList.drop 23 = dktX2_lags_1 := dk_seg dksX2_lags_0 23 rfl rfl
theorem dksX2_lags_2 : cX2_lags.data.toList.drop 47 = dktX2_lags_2 := dk_seg dksX2_lags_1 24 rfl rfl
theorem dX2_lags_0 : decode cX2_lags 0 = .ok (.aload_n 0, 1) := dk_42 (dk_at dksX2_lags_0 0 rfl rfl)
theorem dX2_lags_1 : decode cX2_lags 1 = .ok (.iload_n 1, 1) := dk_27 (dk_at dksX2_lags_0 1 rfl rfl)
theorem dX2_lags_2 : decode cX2_lags 2 = .ok (.invokevirtual 95, 3) := dk_182 0 95 (dk_at dksX2_lags_0 2 rfl rfl)
theorem dX2_lags_5 : decode cX2_lags 5 = .ok (.ifCond .ne 5, 3) := dk_154 0 5 (dk_at dksX2_lags_0 5 rfl rfl)
theorem dX2_lags_8 : decode cX2_lags 8 = .ok (.iconst (-1), 1) := dk_2 (dk_at dksX2_lags_0 8 rfl rfl)
theorem dX2_lags_9 : decode cX2_lags 9 = .ok (.ireturn, 1) := dk_172 (dk_at dksX2_lags_0 9 rfl rfl)
theorem dX2_lags_10 : decode cX2_lags 10 = .ok (.ldc 163, 2) := dk_18 163 (dk_at dksX2_lags_0 10 rfl rfl)
theorem dX2_lags_12 : decode cX2_lags 12 = .ok (.aload_n 0, 1) := dk_42 (dk_at dksX2_lags_0 12 rfl rfl)
theorem dX2_lags_13 : decode cX2_lags 13 = .ok (.iload_n 1, 1) := dk_27 (dk_at dksX2_lags_0 13 rfl rfl)
theorem dX2_lags_14 : decode cX2_lags 14 = .ok (.invokevirtual 148, 3) := dk_182 0 148 (dk_at dksX2_lags_0 14 rfl rfl)
theorem dX2_lags_17 : decode cX2_lags 17 = .ok (.isub, 1) := dk_100 (dk_at dksX2_lags_0 17 rfl rfl)
theorem dX2_lags_18 : decode cX2_lags 18 = .ok (.istore_n 2, 1) := dk_61 (dk_at dksX2_lags_0 18 rfl rfl)
theorem dX2_lags_19 : decode cX2_lags 19 = .ok (.iconst 1, 1) := dk_4 (dk_at dksX2_lags_0 19 rfl rfl)
theorem dX2_lags_20 : decode cX2_lags 20 = .ok (.istore_n 3, 1) := dk_62 (dk_at dksX2_lags_0 20 rfl rfl)
theorem dX2_lags_21 : decode cX2_lags 21 = .ok (.iload_n 3, 1) := dk_29 (dk_at dksX2_lags_0 21 rfl rfl)
theorem dX2_lags_22 : decode cX2_lags 22 = .ok (.aload_n 0, 1) := dk_42 (dk_at dksX2_lags_0 22 rfl rfl)
theorem dX2_lags_23 : decode cX2_lags 23 = .ok (.bipush 7, 2) := dk_16 7 (dk_at dksX2_lags_1 0 rfl rfl)
theorem dX2_lags_25 : decode cX2_lags 25 = .ok (.invokevirtual 37, 3) := dk_182 0 37 (dk_at dksX2_lags_1 2 rfl rfl)
theorem dX2_lags_28 : decode cX2_lags 28 = .ok (.if_icmp .ge 31, 3) := dk_162 0 31 (dk_at dksX2_lags_1 5 rfl rfl)
theorem dX2_lags_31 : decode cX2_lags 31 = .ok (.iload_n 2, 1) := dk_28 (dk_at dksX2_lags_1 8 rfl rfl)
theorem dX2_lags_32 : decode cX2_lags 32 = .ok (.aload_n 0, 1) := dk_42 (dk_at dksX2_lags_1 9 rfl rfl)
theorem dX2_lags_33 : decode cX2_lags 33 = .ok (.iload_n 3, 1) := dk_29 (dk_at dksX2_lags_1 10 rfl rfl)
theorem dX2_lags_34 : decode cX2_lags 34 = .ok (.iconst 0, 1) := dk_3 (dk_at dksX2_lags_1 11 rfl rfl)
theorem dX2_lags_35 : decode cX2_lags 35 = .ok (.invokevirtual 53, 3) := dk_182 0 53 (dk_at dksX2_lags_1 12 rfl rfl)
theorem dX2_lags_38 : decode cX2_lags 38 = .ok (.iload_n 1, 1) := dk_27 (dk_at dksX2_lags_1 15 rfl rfl)
theorem dX2_lags_39 : decode cX2_lags 39 = .ok (.if_icmp .ne 11, 3) := dk_160 0 11 (dk_at dksX2_lags_1 16 rfl rfl)
theorem dX2_lags_42 : decode cX2_lags 42 = .ok (.aload_n 0, 1) := dk_42 (dk_at dksX2_lags_1 19 rfl rfl)
theorem dX2_lags_43 : decode cX2_lags 43 = .ok (.iload_n 3, 1) := dk_29 (dk_at dksX2_lags_1 20 rfl rfl)
theorem dX2_lags_44 : decode cX2_lags 44 = .ok (.invokevirtual 148, 3) := dk_182 0 148 (dk_at dksX2_lags_1 21 rfl rfl)
theorem dX2_lags_47 : decode cX2_lags 47 = .ok (.goto 4, 3) := dk_167 0 4 (dk_at dksX2_lags_2 0 rfl rfl)
theorem dX2_lags_50 : decode cX2_lags 50 = .ok (.iconst 0, 1) := dk_3 (dk_at dksX2_lags_2 3 rfl rfl)
theorem dX2_lags_51 : decode cX2_lags 51 = .ok (.iadd, 1) := dk_96 (dk_at dksX2_lags_2 4 rfl rfl)
theorem dX2_lags_52 : decode cX2_lags 52 = .ok (.istore_n 2, 1) := dk_61 (dk_at dksX2_lags_2 5 rfl rfl)
theorem dX2_lags_53 : decode cX2_lags 53 = .ok (.iinc 3 1, 3) := dk_132 3 1 (dk_at dksX2_lags_2 6 rfl rfl)
theorem dX2_lags_56 : decode cX2_lags 56 = .ok (.goto (-35), 3) := dk_167 255 221 (dk_at dksX2_lags_2 9 rfl rfl)
theorem dX2_lags_59 : decode cX2_lags 59 = .ok (.iload_n 2, 1) := dk_28 (dk_at dksX2_lags_2 12 rfl rfl)
theorem dX2_lags_60 : decode cX2_lags 60 = .ok (.ireturn, 1) := dk_172 (dk_at dksX2_lags_2 13 rfl rfl)
abbrev cX2_put : ByteArray := prog_10_method_52_code
def yX2_put : MethodName := ⟨RX2, "put", "(J)I"⟩
def dkwX2_put_7 : List UInt8 := [180, 0, 135, 172]
abbrev dktX2_put_7 : List UInt8 := dkwX2_put_7 ++ []
def dkwX2_put_6 : List UInt8 := [42, 31, 16, 8, 21, 6, 104, 123, 20, 0, 164, 127, 136, 182, 0, 138, 132, 6, 255, 167, 255, 232, 42]
abbrev dktX2_put_6 : List UInt8 := dkwX2_put_6 ++ dktX2_put_7
def dkwX2_put_5 : List UInt8 := [42, 180, 0, 135, 29, 96, 16, 80, 164, 0, 6, 16, 252, 172, 29, 4, 100, 54, 6, 21, 6, 155, 0, 25]
abbrev dktX2_put_5 : List UInt8 := dkwX2_put_5 ++ dktX2_put_6
def dkwX2_put_4 : List UInt8 := [167, 0, 4, 4, 96, 62, 132, 6, 1, 167, 255, 165, 21, 4, 153, 0, 7, 29, 154, 0, 6, 16, 254, 172]
abbrev dktX2_put_4 : List UInt8 := dkwX2_put_4 ++ dktX2_put_5
def dkwX2_put_3 : List UInt8 := [16, 126, 184, 0, 41, 153, 0, 7, 4, 167, 0, 4, 3, 54, 4, 29, 21, 5, 153, 0, 7, 3]
abbrev dktX2_put_3 : List UInt8 := dkwX2_put_3 ++ dktX2_put_4
def dkwX2_put_2 : List UInt8 := [54, 5, 21, 4, 153, 0, 32, 21, 5, 153, 0, 11, 21, 7, 154, 0, 22, 167, 0, 15, 21, 7, 16, 33]
abbrev dktX2_put_2 : List UInt8 := dkwX2_put_2 ++ dktX2_put_3
def dkwX2_put_1 : List UInt8 := [123, 20, 0, 164, 127, 136, 54, 7, 21, 5, 154, 0, 8, 21, 7, 154, 0, 7, 4, 167, 0, 4, 3]
abbrev dktX2_put_1 : List UInt8 := dkwX2_put_1 ++ dktX2_put_2
def dkwX2_put_0 : List UInt8 := [3, 62, 4, 54, 4, 3, 54, 5, 3, 54, 6, 21, 6, 16, 8, 162, 0, 90, 31, 16, 8, 21, 6, 104]
abbrev dktX2_put_0 : List UInt8 := dkwX2_put_0 ++ dktX2_put_1
theorem dksX2_put_0 : cX2_put.data.toList.drop 0 = dktX2_put_0 := by decide +kernel
theorem dksX2_put_1 : cX2_put.data.toList.drop 24 = dktX2_put_1 := dk_seg dksX2_put_0 24 rfl rfl
theorem dksX2_put_2 : cX2_put.data.toList.drop 47 = dktX2_put_2 := dk_seg dksX2_put_1 23 rfl rfl
theorem dksX2_put_3 : cX2_put.data.toList.drop 71 = dktX2_put_3 := dk_seg dksX2_put_2 24 rfl rfl
theorem dksX2_put_4 : cX2_put.data.toList.drop 93 = dktX2_put_4 := dk_seg dksX2_put_3 22 rfl rfl
theorem dksX2_put_5 : cX2_put.data.toList.drop 117 = dktX2_put_5 := dk_seg dksX2_put_4 24 rfl rfl
theorem dksX2_put_6 : cX2_put.data.toList.drop 141 = dktX2_put_6 := dk_seg dksX2_put_5 24 rfl rfl
theorem dksX2_put_7 : cX2_put.data.toList.drop 164 = dktX2_put_7 := dk_seg dksX2_put_6 23 rfl rfl
theorem dX2_put_0 : decode cX2_put 0 = .ok (.iconst 0, 1) := dk_3 (dk_at dksX2_put_0 0 rfl rfl)
theorem dX2_put_1 : decode cX2_put 1 = .ok (.istore_n 3, 1) := dk_62 (dk_at dksX2_put_0 1 rfl rfl)
theorem dX2_put_2 : decode cX2_put 2 = .ok (.iconst 1, 1) := dk_4 (dk_at dksX2_put_0 2 rfl rfl)
theorem dX2_put_3 : decode cX2_put 3 = .ok (.istore 4, 2) := dk_54 4 (dk_at dksX2_put_0 3 rfl rfl)
theorem dX2_put_5 : decode cX2_put 5 = .ok (.iconst 0, 1) := dk_3 (dk_at dksX2_put_0 5 rfl rfl)
theorem dX2_put_6 : decode cX2_put 6 = .ok (.istore 5, 2) := dk_54 5 (dk_at dksX2_put_0 6 rfl rfl)
theorem dX2_put_8 : decode cX2_put 8 = .ok (.iconst 0, 1) := dk_3 (dk_at dksX2_put_0 8 rfl rfl)
theorem dX2_put_9 : decode cX2_put 9 = .ok (.istore 6, 2) := dk_54 6 (dk_at dksX2_put_0 9 rfl rfl)
theorem dX2_put_11 : decode cX2_put 11 = .ok (.iload 6, 2) := dk_21 6 (dk_at dksX2_put_0 11 rfl rfl)
theorem dX2_put_13 : decode cX2_put 13 = .ok (.bipush 8, 2) := dk_16 8 (dk_at dksX2_put_0 13 rfl rfl)
theorem dX2_put_15 : decode cX2_put 15 = .ok (.if_icmp .ge 90, 3) := dk_162 0 90 (dk_at dksX2_put_0 15 rfl rfl)
theorem dX2_put_18 : decode cX2_put 18 = .ok (.lload_n 1, 1) := dk_31 (dk_at dksX2_put_0 18 rfl rfl)
theorem dX2_put_19 : decode cX2_put 19 = .ok (.bipush 8, 2) := dk_16 8 (dk_at dksX2_put_0 19 rfl rfl)
theorem dX2_put_21 : decode cX2_put 21 = .ok (.iload 6, 2) := dk_21 6 (dk_at dksX2_put_0 21 rfl rfl)
theorem dX2_put_23 : decode cX2_put 23 = .ok (.imul, 1) := dk_104 (dk_at dksX2_put_0 23 rfl rfl)
theorem dX2_put_24 : decode cX2_put 24 = .ok (.lshr, 1) := dk_123 (dk_at dksX2_put_1 0 rfl rfl)
theorem dX2_put_25 : decode cX2_put 25 = .ok (.ldc2_w 164, 3) := dk_20 0 164 (dk_at dksX2_put_1 1 rfl rfl)
theorem dX2_put_28 : decode cX2_put 28 = .ok (.land, 1) := dk_127 (dk_at dksX2_put_1 4 rfl rfl)
theorem dX2_put_29 : decode cX2_put 29 = .ok (.l2i, 1) := dk_136 (dk_at dksX2_put_1 5 rfl rfl)
theorem dX2_put_30 : decode cX2_put 30 = .ok (.istore 7, 2) := dk_54 7 (dk_at dksX2_put_1 6 rfl rfl)
theorem dX2_put_32 : decode cX2_put 32 = .ok (.iload 5, 2) := dk_21 5 (dk_at dksX2_put_1 8 rfl rfl)
theorem dX2_put_34 : decode cX2_put 34 = .ok (.ifCond .ne 8, 3) := dk_154 0 8 (dk_at dksX2_put_1 10 rfl rfl)
theorem dX2_put_37 : decode cX2_put 37 = .ok (.iload 7, 2) := dk_21 7 (dk_at dksX2_put_1 13 rfl rfl)
theorem dX2_put_39 : decode cX2_put 39 = .ok (.ifCond .ne 7, 3) := dk_154 0 7 (dk_at dksX2_put_1 15 rfl rfl)
theorem dX2_put_42 : decode cX2_put 42 = .ok (.iconst 1, 1) := dk_4 (dk_at dksX2_put_1 18 rfl rfl)
theorem dX2_put_43 : decode cX2_put 43 = .ok (.goto 4, 3) := dk_167 0 4 (dk_at dksX2_put_1 19 rfl rfl)
theorem dX2_put_46 : decode cX2_put 46 = .ok (.iconst 0, 1) := dk_3 (dk_at dksX2_put_1 22 rfl rfl)
theorem dX2_put_47 : decode cX2_put 47 = .ok (.istore 5, 2) := dk_54 5 (dk_at dksX2_put_2 0 rfl rfl)
theorem dX2_put_49 : decode cX2_put 49 = .ok (.iload 4, 2) := dk_21 4 (dk_at dksX2_put_2 2 rfl rfl)
theorem dX2_put_51 : decode cX2_put 51 = .ok (.ifCond .eq 32, 3) := dk_153 0 32 (dk_at dksX2_put_2 4 rfl rfl)
theorem dX2_put_54 : decode cX2_put 54 = .ok (.iload 5, 2) := dk_21 5 (dk_at dksX2_put_2 7 rfl rfl)
theorem dX2_put_56 : decode cX2_put 56 = .ok (.ifCond .eq 11, 3) := dk_153 0 11 (dk_at dksX2_put_2 9 rfl rfl)
theorem dX2_put_59 : decode cX2_put 59 = .ok (.iload 7, 2) := dk_21 7 (dk_at dksX2_put_2 12 rfl rfl)
theorem dX2_put_61 : decode cX2_put 61 = .ok (.ifCond .ne 22, 3) := dk_154 0 22 (dk_at dksX2_put_2 14 rfl rfl)
theorem dX2_put_64 : decode cX2_put 64 = .ok (.goto 15, 3) := dk_167 0 15 (dk_at dksX2_put_2 17 rfl rfl)
theorem dX2_put_67 : decode cX2_put 67 = .ok (.iload 7, 2) := dk_21 7 (dk_at dksX2_put_2 20 rfl rfl)
theorem dX2_put_69 : decode cX2_put 69 = .ok (.bipush 33, 2) := dk_16 33 (dk_at dksX2_put_2 22 rfl rfl)
theorem dX2_put_71 : decode cX2_put 71 = .ok (.bipush 126, 2) := dk_16 126 (dk_at dksX2_put_3 0 rfl rfl)
theorem dX2_put_73 : decode cX2_put 73 = .ok (.invokestatic 41, 3) := dk_184 0 41 (dk_at dksX2_put_3 2 rfl rfl)
theorem dX2_put_76 : decode cX2_put 76 = .ok (.ifCond .eq 7, 3) := dk_153 0 7 (dk_at dksX2_put_3 5 rfl rfl)
theorem dX2_put_79 : decode cX2_put 79 = .ok (.iconst 1, 1) := dk_4 (dk_at dksX2_put_3 8 rfl rfl)
theorem dX2_put_80 : decode cX2_put 80 = .ok (.goto 4, 3) := dk_167 0 4 (dk_at dksX2_put_3 9 rfl rfl)
theorem dX2_put_83 : decode cX2_put 83 = .ok (.iconst 0, 1) := dk_3 (dk_at dksX2_put_3 12 rfl rfl)
theorem dX2_put_84 : decode cX2_put 84 = .ok (.istore 4, 2) := dk_54 4 (dk_at dksX2_put_3 13 rfl rfl)
theorem dX2_put_86 : decode cX2_put 86 = .ok (.iload_n 3, 1) := dk_29 (dk_at dksX2_put_3 15 rfl rfl)
theorem dX2_put_87 : decode cX2_put 87 = .ok (.iload 5, 2) := dk_21 5 (dk_at dksX2_put_3 16 rfl rfl)
theorem dX2_put_89 : decode cX2_put 89 = .ok (.ifCond .eq 7, 3) := dk_153 0 7 (dk_at dksX2_put_3 18 rfl rfl)
theorem dX2_put_92 : decode cX2_put 92 = .ok (.iconst 0, 1) := dk_3 (dk_at dksX2_put_3 21 rfl rfl)
theorem dX2_put_93 : decode cX2_put 93 = .ok (.goto 4, 3) := dk_167 0 4 (dk_at dksX2_put_4 0 rfl rfl)
theorem dX2_put_96 : decode cX2_put 96 = .ok (.iconst 1, 1) := dk_4 (dk_at dksX2_put_4 3 rfl rfl)
theorem dX2_put_97 : decode cX2_put 97 = .ok (.iadd, 1) := dk_96 (dk_at dksX2_put_4 4 rfl rfl)
theorem dX2_put_98 : decode cX2_put 98 = .ok (.istore_n 3, 1) := dk_62 (dk_at dksX2_put_4 5 rfl rfl)
theorem dX2_put_99 : decode cX2_put 99 = .ok (.iinc 6 1, 3) := dk_132 6 1 (dk_at dksX2_put_4 6 rfl rfl)
theorem dX2_put_102 : decode cX2_put 102 = .ok (.goto (-91), 3) := dk_167 255 165 (dk_at dksX2_put_4 9 rfl rfl)
theorem dX2_put_105 : decode cX2_put 105 = .ok (.iload 4, 2) := dk_21 4 (dk_at dksX2_put_4 12 rfl rfl)
theorem dX2_put_107 : decode cX2_put 107 = .ok (.ifCond .eq 7, 3) := dk_153 0 7 (dk_at dksX2_put_4 14 rfl rfl)
theorem dX2_put_110 : decode cX2_put 110 = .ok (.iload_n 3, 1) := dk_29 (dk_at dksX2_put_4 17 rfl rfl)
theorem dX2_put_111 : decode cX2_put 111 = .ok (.ifCond .ne 6, 3) := dk_154 0 6 (dk_at dksX2_put_4 18 rfl rfl)
theorem dX2_put_114 : decode cX2_put 114 = .ok (.bipush (-2), 2) := dk_16 254 (dk_at dksX2_put_4 21 rfl rfl)
theorem dX2_put_116 : decode cX2_put 116 = .ok (.ireturn, 1) := dk_172 (dk_at dksX2_put_4 23 rfl rfl)
theorem dX2_put_117 : decode cX2_put 117 = .ok (.aload_n 0, 1) := dk_42 (dk_at dksX2_put_5 0 rfl rfl)
theorem dX2_put_118 : decode cX2_put 118 = .ok (.getfield 135, 3) := dk_180 0 135 (dk_at dksX2_put_5 1 rfl rfl)
theorem dX2_put_121 : decode cX2_put 121 = .ok (.iload_n 3, 1) := dk_29 (dk_at dksX2_put_5 4 rfl rfl)
theorem dX2_put_122 : decode cX2_put 122 = .ok (.iadd, 1) := dk_96 (dk_at dksX2_put_5 5 rfl rfl)
theorem dX2_put_123 : decode cX2_put 123 = .ok (.bipush 80, 2) := dk_16 80 (dk_at dksX2_put_5 6 rfl rfl)
theorem dX2_put_125 : decode cX2_put 125 = .ok (.if_icmp .le 6, 3) := dk_164 0 6 (dk_at dksX2_put_5 8 rfl rfl)
theorem dX2_put_128 : decode cX2_put 128 = .ok (.bipush (-4), 2) := dk_16 252 (dk_at dksX2_put_5 11 rfl rfl)
theorem dX2_put_130 : decode cX2_put 130 = .ok (.ireturn, 1) := dk_172 (dk_at dksX2_put_5 13 rfl rfl)
theorem dX2_put_131 : decode cX2_put 131 = .ok (.iload_n 3, 1) := dk_29 (dk_at dksX2_put_5 14 rfl rfl)
theorem dX2_put_132 : decode cX2_put 132 = .ok (.iconst 1, 1) := dk_4 (dk_at dksX2_put_5 15 rfl rfl)
theorem dX2_put_133 : decode cX2_put 133 = .ok (.isub, 1) := dk_100 (dk_at dksX2_put_5 16 rfl rfl)
theorem dX2_put_134 : decode cX2_put 134 = .ok (.istore 6, 2) := dk_54 6 (dk_at dksX2_put_5 17 rfl rfl)
theorem dX2_put_136 : decode cX2_put 136 = .ok (.iload 6, 2) := dk_21 6 (dk_at dksX2_put_5 19 rfl rfl)
theorem dX2_put_138 : decode cX2_put 138 = .ok (.ifCond .lt 25, 3) := dk_155 0 25 (dk_at dksX2_put_5 21 rfl rfl)
theorem dX2_put_141 : decode cX2_put 141 = .ok (.aload_n 0, 1) := dk_42 (dk_at dksX2_put_6 0 rfl rfl)
theorem dX2_put_142 : decode cX2_put 142 = .ok (.lload_n 1, 1) := dk_31 (dk_at dksX2_put_6 1 rfl rfl)
theorem dX2_put_143 : decode cX2_put 143 = .ok (.bipush 8, 2) := dk_16 8 (dk_at dksX2_put_6 2 rfl rfl)
theorem dX2_put_145 : decode cX2_put 145 = .ok (.iload 6, 2) := dk_21 6 (dk_at dksX2_put_6 4 rfl rfl)
theorem dX2_put_147 : decode cX2_put 147 = .ok (.imul, 1) := dk_104 (dk_at dksX2_put_6 6 rfl rfl)
theorem dX2_put_148 : decode cX2_put 148 = .ok (.lshr, 1) := dk_123 (dk_at dksX2_put_6 7 rfl rfl)
theorem dX2_put_149 : decode cX2_put 149 = .ok (.ldc2_w 164, 3) := dk_20 0 164 (dk_at dksX2_put_6 8 rfl rfl)
theorem dX2_put_152 : decode cX2_put 152 = .ok (.land, 1) := dk_127 (dk_at dksX2_put_6 11 rfl rfl)
theorem dX2_put_153 : decode cX2_put 153 = .ok (.l2i, 1) := dk_136 (dk_at dksX2_put_6 12 rfl rfl)
theorem dX2_put_154 : decode cX2_put 154 = .ok (.invokevirtual 138, 3) := dk_182 0 138 (dk_at dksX2_put_6 13 rfl rfl)
theorem dX2_put_157 : decode cX2_put 157 = .ok (.iinc 6 (-1), 3) := dk_132 6 255 (dk_at dksX2_put_6 16 rfl rfl)
theorem dX2_put_160 : decode cX2_put 160 = .ok (.goto (-24), 3) := dk_167 255 232 (dk_at dksX2_put_6 19 rfl rfl)
theorem dX2_put_163 : decode cX2_put 163 = .ok (.aload_n 0, 1) := dk_42 (dk_at dksX2_put_6 22 rfl rfl)
theorem dX2_put_164 : decode cX2_put 164 = .ok (.getfield 135, 3) := dk_180 0 135 (dk_at dksX2_put_7 0 rfl rfl)
theorem dX2_put_167 : decode cX2_put 167 = .ok (.ireturn, 1) := dk_172 (dk_at dksX2_put_7 3 rfl rfl)
abbrev cX2_wipe : ByteArray := prog_10_method_53_code
def yX2_wipe : MethodName := ⟨RX2, "wipe", "()I"⟩
def dkwX2_wipe_0 : List UInt8 := [42, 180, 0, 135, 60, 42, 3, 181, 0, 135, 27, 172]
abbrev dktX2_wipe_0 : List UInt8 := dkwX2_wipe_0 ++ []
theorem dksX2_wipe_0 : cX2_wipe.data.toList.drop 0 = dktX2_wipe_0 := by decide +kernel
theorem dX2_wipe_0 : decode cX2_wipe 0 = .ok (.aload_n 0, 1) := dk_42 (dk_at dksX2_wipe_0 0 rfl rfl)
theorem dX2_wipe_1 : decode cX2_wipe 1 = .ok (.getfield 135, 3) := dk_180 0 135 (dk_at dksX2_wipe_0 1 rfl rfl)
theorem dX2_wipe_4 : decode cX2_wipe 4 = .ok (.istore_n 1, 1) := dk_60 (dk_at dksX2_wipe_0 4 rfl rfl)
theorem dX2_wipe_5 : decode cX2_wipe 5 = .ok (.aload_n 0, 1) := dk_42 (dk_at dksX2_wipe_0 5 rfl rfl)
theorem dX2_wipe_6 : decode cX2_wipe 6 = .ok (.iconst 0, 1) := dk_3 (dk_at dksX2_wipe_0 6 rfl rfl)
theorem dX2_wipe_7 : decode cX2_wipe 7 = .ok (.putfield 135, 3) := dk_181 0 135 (dk_at dksX2_wipe_0 7 rfl rfl)
theorem dX2_wipe_10 : decode cX2_wipe 10 = .ok (.iload_n 1, 1) := dk_27 (dk_at dksX2_wipe_0 10 rfl rfl)
theorem dX2_wipe_11 : decode cX2_wipe 11 = .ok (.ireturn, 1) := dk_172 (dk_at dksX2_wipe_0 11 rfl rfl)
abbrev cX2_fault : ByteArray := prog_10_method_59_code
def yX2_fault : MethodName := ⟨RX2, "fault", "()I"⟩
def dkwX2_fault_2 : List UInt8 := [4, 96, 60, 132, 2, 1, 167, 255, 206, 16, 250, 172]
abbrev dktX2_fault_2 : List UInt8 := dkwX2_fault_2 ++ []
def dkwX2_fault_1 : List UInt8 := [29, 42, 180, 0, 135, 160, 0, 6, 16, 250, 172, 42, 29, 182, 0, 172, 16, 59, 159, 0, 5, 29, 172, 29]
abbrev dktX2_fault_1 : List UInt8 := dkwX2_fault_1 ++ dktX2_fault_2
def dkwX2_fault_0 : List UInt8 := [3, 60, 3, 61, 28, 16, 80, 162, 0, 50, 42, 27, 182, 0, 175, 62, 29, 156, 0, 7, 2, 29, 100, 172]
abbrev dktX2_fault_0 : List UInt8 := dkwX2_fault_0 ++ dktX2_fault_1
theorem dksX2_fault_0 : cX2_fault.data.toList.drop 0 = dktX2_fault_0 := by decide +kernel
theorem dksX2_fault_1 : cX2_fault.data.toList.drop 24 = dktX2_fault_1 := dk_seg dksX2_fault_0 24 rfl rfl
theorem dksX2_fault_2 : cX2_fault.data.toList.drop 48 = dktX2_fault_2 := dk_seg dksX2_fault_1 24 rfl rfl
theorem dX2_fault_0 : decode cX2_fault 0 = .ok (.iconst 0, 1) := dk_3 (dk_at dksX2_fault_0 0 rfl rfl)
theorem dX2_fault_1 : decode cX2_fault 1 = .ok (.istore_n 1, 1) := dk_60 (dk_at dksX2_fault_0 1 rfl rfl)
theorem dX2_fault_2 : decode cX2_fault 2 = .ok (.iconst 0, 1) := dk_3 (dk_at dksX2_fault_0 2 rfl rfl)
theorem dX2_fault_3 : decode cX2_fault 3 = .ok (.istore_n 2, 1) := dk_61 (dk_at dksX2_fault_0 3 rfl rfl)
theorem dX2_fault_4 : decode cX2_fault 4 = .ok (.iload_n 2, 1) := dk_28 (dk_at dksX2_fault_0 4 rfl rfl)
theorem dX2_fault_5 : decode cX2_fault 5 = .ok (.bipush 80, 2) := dk_16 80 (dk_at dksX2_fault_0 5 rfl rfl)
theorem dX2_fault_7 : decode cX2_fault 7 = .ok (.if_icmp .ge 50, 3) := dk_162 0 50 (dk_at dksX2_fault_0 7 rfl rfl)
theorem dX2_fault_10 : decode cX2_fault 10 = .ok (.aload_n 0, 1) := dk_42 (dk_at dksX2_fault_0 10 rfl rfl)
theorem dX2_fault_11 : decode cX2_fault 11 = .ok (.iload_n 1, 1) := dk_27 (dk_at dksX2_fault_0 11 rfl rfl)
theorem dX2_fault_12 : decode cX2_fault 12 = .ok (.invokevirtual 175, 3) := dk_182 0 175 (dk_at dksX2_fault_0 12 rfl rfl)
theorem dX2_fault_15 : decode cX2_fault 15 = .ok (.istore_n 3, 1) := dk_62 (dk_at dksX2_fault_0 15 rfl rfl)
theorem dX2_fault_16 : decode cX2_fault 16 = .ok (.iload_n 3, 1) := dk_29 (dk_at dksX2_fault_0 16 rfl rfl)
theorem dX2_fault_17 : decode cX2_fault 17 = .ok (.ifCond .ge 7, 3) := dk_156 0 7 (dk_at dksX2_fault_0 17 rfl rfl)
theorem dX2_fault_20 : decode cX2_fault 20 = .ok (.iconst (-1), 1) := dk_2 (dk_at dksX2_fault_0 20 rfl rfl)
theorem dX2_fault_21 : decode cX2_fault 21 = .ok (.iload_n 3, 1) := dk_29 (dk_at dksX2_fault_0 21 rfl rfl)
theorem dX2_fault_22 : decode cX2_fault 22 = .ok (.isub, 1) := dk_100 (dk_at dksX2_fault_0 22 rfl rfl)
theorem dX2_fault_23 : decode cX2_fault 23 = .ok (.ireturn, 1) := dk_172 (dk_at dksX2_fault_0 23 rfl rfl)
theorem dX2_fault_24 : decode cX2_fault 24 = .ok (.iload_n 3, 1) := dk_29 (dk_at dksX2_fault_1 0 rfl rfl)
theorem dX2_fault_25 : decode cX2_fault 25 = .ok (.aload_n 0, 1) := dk_42 (dk_at dksX2_fault_1 1 rfl rfl)
theorem dX2_fault_26 : decode cX2_fault 26 = .ok (.getfield 135, 3) := dk_180 0 135 (dk_at dksX2_fault_1 2 rfl rfl)
theorem dX2_fault_29 : decode cX2_fault 29 = .ok (.if_icmp .ne 6, 3) := dk_160 0 6 (dk_at dksX2_fault_1 5 rfl rfl)
theorem dX2_fault_32 : decode cX2_fault 32 = .ok (.bipush (-6), 2) := dk_16 250 (dk_at dksX2_fault_1 8 rfl rfl)
theorem dX2_fault_34 : decode cX2_fault 34 = .ok (.ireturn, 1) := dk_172 (dk_at dksX2_fault_1 10 rfl rfl)
theorem dX2_fault_35 : decode cX2_fault 35 = .ok (.aload_n 0, 1) := dk_42 (dk_at dksX2_fault_1 11 rfl rfl)
theorem dX2_fault_36 : decode cX2_fault 36 = .ok (.iload_n 3, 1) := dk_29 (dk_at dksX2_fault_1 12 rfl rfl)
theorem dX2_fault_37 : decode cX2_fault 37 = .ok (.invokevirtual 172, 3) := dk_182 0 172 (dk_at dksX2_fault_1 13 rfl rfl)
theorem dX2_fault_40 : decode cX2_fault 40 = .ok (.bipush 59, 2) := dk_16 59 (dk_at dksX2_fault_1 16 rfl rfl)
theorem dX2_fault_42 : decode cX2_fault 42 = .ok (.if_icmp .eq 5, 3) := dk_159 0 5 (dk_at dksX2_fault_1 18 rfl rfl)
theorem dX2_fault_45 : decode cX2_fault 45 = .ok (.iload_n 3, 1) := dk_29 (dk_at dksX2_fault_1 21 rfl rfl)
theorem dX2_fault_46 : decode cX2_fault 46 = .ok (.ireturn, 1) := dk_172 (dk_at dksX2_fault_1 22 rfl rfl)
theorem dX2_fault_47 : decode cX2_fault 47 = .ok (.iload_n 3, 1) := dk_29 (dk_at dksX2_fault_1 23 rfl rfl)
theorem dX2_fault_48 : decode cX2_fault 48 = .ok (.iconst 1, 1) := dk_4 (dk_at dksX2_fault_2 0 rfl rfl)
theorem dX2_fault_49 : decode cX2_fault 49 = .ok (.iadd, 1) := dk_96 (dk_at dksX2_fault_2 1 rfl rfl)
theorem dX2_fault_50 : decode cX2_fault 50 = .ok (.istore_n 1, 1) := dk_60 (dk_at dksX2_fault_2 2 rfl rfl)
theorem dX2_fault_51 : decode cX2_fault 51 = .ok (.iinc 2 1, 3) := dk_132 2 1 (dk_at dksX2_fault_2 3 rfl rfl)
theorem dX2_fault_54 : decode cX2_fault 54 = .ok (.goto (-50), 3) := dk_167 255 206 (dk_at dksX2_fault_2 6 rfl rfl)
theorem dX2_fault_57 : decode cX2_fault 57 = .ok (.bipush (-6), 2) := dk_16 250 (dk_at dksX2_fault_2 9 rfl rfl)
theorem dX2_fault_59 : decode cX2_fault 59 = .ok (.ireturn, 1) := dk_172 (dk_at dksX2_fault_2 11 rfl rfl)
abbrev cX2_orderEnd : ByteArray := prog_10_method_58_code
def yX2_orderEnd : MethodName := ⟨RX2, "orderEnd", "(I)I"⟩
def dkwX2_orderEnd_5 : List UInt8 := [4, 96, 182, 0, 166, 156, 0, 10, 16, 254, 27, 100, 167, 0, 6, 27, 5, 96, 172, 2, 27, 100, 172]
abbrev dktX2_orderEnd_5 : List UInt8 := dkwX2_orderEnd_5 ++ []
def dkwX2_orderEnd_4 : List UInt8 := [27, 6, 96, 182, 0, 169, 167, 0, 7, 16, 253, 27, 100, 172, 42, 27, 4, 96, 182, 0, 169, 172, 42, 27]
abbrev dktX2_orderEnd_4 : List UInt8 := dkwX2_orderEnd_4 ++ dktX2_orderEnd_5
def dkwX2_orderEnd_3 : List UInt8 := [182, 0, 166, 156, 0, 8, 16, 254, 27, 100, 172, 42, 27, 5, 96, 182, 0, 172, 16, 61, 160, 0, 13, 42]
abbrev dktX2_orderEnd_3 : List UInt8 := dkwX2_orderEnd_3 ++ dktX2_orderEnd_4
def dkwX2_orderEnd_2 : List UInt8 := [42, 27, 4, 96, 182, 0, 166, 156, 0, 9, 27, 4, 96, 167, 0, 6, 27, 5, 96, 172, 42, 27, 4, 96]
abbrev dktX2_orderEnd_2 : List UInt8 := dkwX2_orderEnd_2 ++ dktX2_orderEnd_3
def dkwX2_orderEnd_1 : List UInt8 := [171, 0, 0, 0, 0, 0, 150, 0, 0, 0, 6, 0, 0, 0, 98, 0, 0, 0, 129, 0, 0, 0, 108, 0, 0, 0, 79, 0, 0, 0, 109, 0, 0, 0, 59, 0, 0, 0, 115, 0, 0, 0, 121, 0, 0, 0, 116, 0, 0, 0, 121, 0, 0, 0, 118, 0, 0, 0, 129]
abbrev dktX2_orderEnd_1 : List UInt8 := dkwX2_orderEnd_1 ++ dktX2_orderEnd_2
def dkwX2_orderEnd_0 : List UInt8 := [42, 27, 182, 0, 172]
abbrev dktX2_orderEnd_0 : List UInt8 := dkwX2_orderEnd_0 ++ dktX2_orderEnd_1
theorem dksX2_orderEnd_0 : cX2_orderEnd.data.toList.drop 0 = dktX2_orderEnd_0 := by decide +kernel
theorem dksX2_orderEnd_1 : cX2_orderEnd.data.toList.drop 5 = dktX2_orderEnd_1 := dk_seg dksX2_orderEnd_0 5 rfl rfl
theorem dksX2_orderEnd_2 : cX2_orderEnd.data.toList.drop 64 = dktX2_orderEnd_2 := dk_seg dksX2_orderEnd_1 59 rfl rfl
theorem dksX2_orderEnd_3 : cX2_orderEnd.data.toList.drop 88 = dktX2_orderEnd_3 := dk_seg dksX2_orderEnd_2 24 rfl rfl
theorem dksX2_orderEnd_4 : cX2_orderEnd.data.toList.drop 112 = dktX2_orderEnd_4 := dk_seg dksX2_orderEnd_3 24 rfl rfl
theorem dksX2_orderEnd_5 : cX2_orderEnd.data.toList.drop 136 = dktX2_orderEnd_5 := dk_seg dksX2_orderEnd_4 24 rfl rfl
theorem dX2_orderEnd_0 : decode cX2_orderEnd 0 = .ok (.aload_n 0, 1) := dk_42 (dk_at dksX2_orderEnd_0 0 rfl rfl)
theorem dX2_orderEnd_1 : decode cX2_orderEnd 1 = .ok (.iload_n 1, 1) := dk_27 (dk_at dksX2_orderEnd_0 1 rfl rfl)
theorem dX2_orderEnd_2 : decode cX2_orderEnd 2 = .ok (.invokevirtual 172, 3) := dk_182 0 172 (dk_at dksX2_orderEnd_0 2 rfl rfl)
theorem dX2_orderEnd_5 : decode cX2_orderEnd 5 = .ok (.lookupswitch 150 #[(98, 129), (108, 79), (109, 59), (115, 121), (116, 121), (118, 129)], 59) := by decide +kernel
theorem dX2_orderEnd_64 : decode cX2_orderEnd 64 = .ok (.aload_n 0, 1) := dk_42 (dk_at dksX2_orderEnd_2 0 rfl rfl)
theorem dX2_orderEnd_65 : decode cX2_orderEnd 65 = .ok (.iload_n 1, 1) := dk_27 (dk_at dksX2_orderEnd_2 1 rfl rfl)
theorem dX2_orderEnd_66 : decode cX2_orderEnd 66 = .ok (.iconst 1, 1) := dk_4 (dk_at dksX2_orderEnd_2 2 rfl rfl)
theorem dX2_orderEnd_67 : decode cX2_orderEnd 67 = .ok (.iadd, 1) := dk_96 (dk_at dksX2_orderEnd_2 3 rfl rfl)
theorem dX2_orderEnd_68 : decode cX2_orderEnd 68 = .ok (.invokevirtual 166, 3) := dk_182 0 166 (dk_at dksX2_orderEnd_2 4 rfl rfl)
theorem dX2_orderEnd_71 : decode cX2_orderEnd 71 = .ok (.ifCond .ge 9, 3) := dk_156 0 9 (dk_at dksX2_orderEnd_2 7 rfl rfl)
theorem dX2_orderEnd_74 : decode cX2_orderEnd 74 = .ok (.iload_n 1, 1) := dk_27 (dk_at dksX2_orderEnd_2 10 rfl rfl)
theorem dX2_orderEnd_75 : decode cX2_orderEnd 75 = .ok (.iconst 1, 1) := dk_4 (dk_at dksX2_orderEnd_2 11 rfl rfl)
theorem dX2_orderEnd_76 : decode cX2_orderEnd 76 = .ok (.iadd, 1) := dk_96 (dk_at dksX2_orderEnd_2 12 rfl rfl)
theorem dX2_orderEnd_77 : decode cX2_orderEnd 77 = .ok (.goto 6, 3) := dk_167 0 6 (dk_at dksX2_orderEnd_2 13 rfl rfl)
theorem dX2_orderEnd_80 : decode cX2_orderEnd 80 = .ok (.iload_n 1, 1) := dk_27 (dk_at dksX2_orderEnd_2 16 rfl rfl)
theorem dX2_orderEnd_81 : decode cX2_orderEnd 81 = .ok (.iconst 2, 1) := dk_5 (dk_at dksX2_orderEnd_2 17 rfl rfl)
theorem dX2_orderEnd_82 : decode cX2_orderEnd 82 = .ok (.iadd, 1) := dk_96 (dk_at dksX2_orderEnd_2 18 rfl rfl)
theorem dX2_orderEnd_83 : decode cX2_orderEnd 83 = .ok (.ireturn, 1) := dk_172 (dk_at dksX2_orderEnd_2 19 rfl rfl)
theorem dX2_orderEnd_84 : decode cX2_orderEnd 84 = .ok (.aload_n 0, 1) := dk_42 (dk_at dksX2_orderEnd_2 20 rfl rfl)
theorem dX2_orderEnd_85 : decode cX2_orderEnd 85 = .ok (.iload_n 1, 1) := dk_27 (dk_at dksX2_orderEnd_2 21 rfl rfl)
theorem dX2_orderEnd_86 : decode cX2_orderEnd 86 = .ok (.iconst 1, 1) := dk_4 (dk_at dksX2_orderEnd_2 22 rfl rfl)
theorem dX2_orderEnd_87 : decode cX2_orderEnd 87 = .ok (.iadd, 1) := dk_96 (dk_at dksX2_orderEnd_2 23 rfl rfl)
theorem dX2_orderEnd_88 : decode cX2_orderEnd 88 = .ok (.invokevirtual 166, 3) := dk_182 0 166 (dk_at dksX2_orderEnd_3 0 rfl rfl)
theorem dX2_orderEnd_91 : decode cX2_orderEnd 91 = .ok (.ifCond .ge 8, 3) := dk_156 0 8 (dk_at dksX2_orderEnd_3 3 rfl rfl)
theorem dX2_orderEnd_94 : decode cX2_orderEnd 94 = .ok (.bipush (-2), 2) := dk_16 254 (dk_at dksX2_orderEnd_3 6 rfl rfl)
theorem dX2_orderEnd_96 : decode cX2_orderEnd 96 = .ok (.iload_n 1, 1) := dk_27 (dk_at dksX2_orderEnd_3 8 rfl rfl)
theorem dX2_orderEnd_97 : decode cX2_orderEnd 97 = .ok (.isub, 1) := dk_100 (dk_at dksX2_orderEnd_3 9 rfl rfl)
theorem dX2_orderEnd_98 : decode cX2_orderEnd 98 = .ok (.ireturn, 1) := dk_172 (dk_at dksX2_orderEnd_3 10 rfl rfl)
theorem dX2_orderEnd_99 : decode cX2_orderEnd 99 = .ok (.aload_n 0, 1) := dk_42 (dk_at dksX2_orderEnd_3 11 rfl rfl)
theorem dX2_orderEnd_100 : decode cX2_orderEnd 100 = .ok (.iload_n 1, 1) := dk_27 (dk_at dksX2_orderEnd_3 12 rfl rfl)
theorem dX2_orderEnd_101 : decode cX2_orderEnd 101 = .ok (.iconst 2, 1) := dk_5 (dk_at dksX2_orderEnd_3 13 rfl rfl)
theorem dX2_orderEnd_102 : decode cX2_orderEnd 102 = .ok (.iadd, 1) := dk_96 (dk_at dksX2_orderEnd_3 14 rfl rfl)
theorem dX2_orderEnd_103 : decode cX2_orderEnd 103 = .ok (.invokevirtual 172, 3) := dk_182 0 172 (dk_at dksX2_orderEnd_3 15 rfl rfl)
theorem dX2_orderEnd_106 : decode cX2_orderEnd 106 = .ok (.bipush 61, 2) := dk_16 61 (dk_at dksX2_orderEnd_3 18 rfl rfl)
theorem dX2_orderEnd_108 : decode cX2_orderEnd 108 = .ok (.if_icmp .ne 13, 3) := dk_160 0 13 (dk_at dksX2_orderEnd_3 20 rfl rfl)
theorem dX2_orderEnd_111 : decode cX2_orderEnd 111 = .ok (.aload_n 0, 1) := dk_42 (dk_at dksX2_orderEnd_3 23 rfl rfl)
theorem dX2_orderEnd_112 : decode cX2_orderEnd 112 = .ok (.iload_n 1, 1) := dk_27 (dk_at dksX2_orderEnd_4 0 rfl rfl)
theorem dX2_orderEnd_113 : decode cX2_orderEnd 113 = .ok (.iconst 3, 1) := dk_6 (dk_at dksX2_orderEnd_4 1 rfl rfl)
theorem dX2_orderEnd_114 : decode cX2_orderEnd 114 = .ok (.iadd, 1) := dk_96 (dk_at dksX2_orderEnd_4 2 rfl rfl)
theorem dX2_orderEnd_115 : decode cX2_orderEnd 115 = .ok (.invokevirtual 169, 3) := dk_182 0 169 (dk_at dksX2_orderEnd_4 3 rfl rfl)
theorem dX2_orderEnd_118 : decode cX2_orderEnd 118 = .ok (.goto 7, 3) := dk_167 0 7 (dk_at dksX2_orderEnd_4 6 rfl rfl)
theorem dX2_orderEnd_121 : decode cX2_orderEnd 121 = .ok (.bipush (-3), 2) := dk_16 253 (dk_at dksX2_orderEnd_4 9 rfl rfl)
theorem dX2_orderEnd_123 : decode cX2_orderEnd 123 = .ok (.iload_n 1, 1) := dk_27 (dk_at dksX2_orderEnd_4 11 rfl rfl)
theorem dX2_orderEnd_124 : decode cX2_orderEnd 124 = .ok (.isub, 1) := dk_100 (dk_at dksX2_orderEnd_4 12 rfl rfl)
theorem dX2_orderEnd_125 : decode cX2_orderEnd 125 = .ok (.ireturn, 1) := dk_172 (dk_at dksX2_orderEnd_4 13 rfl rfl)
theorem dX2_orderEnd_126 : decode cX2_orderEnd 126 = .ok (.aload_n 0, 1) := dk_42 (dk_at dksX2_orderEnd_4 14 rfl rfl)
theorem dX2_orderEnd_127 : decode cX2_orderEnd 127 = .ok (.iload_n 1, 1) := dk_27 (dk_at dksX2_orderEnd_4 15 rfl rfl)
theorem dX2_orderEnd_128 : decode cX2_orderEnd 128 = .ok (.iconst 1, 1) := dk_4 (dk_at dksX2_orderEnd_4 16 rfl rfl)
theorem dX2_orderEnd_129 : decode cX2_orderEnd 129 = .ok (.iadd, 1) := dk_96 (dk_at dksX2_orderEnd_4 17 rfl rfl)
theorem dX2_orderEnd_130 : decode cX2_orderEnd 130 = .ok (.invokevirtual 169, 3) := dk_182 0 169 (dk_at dksX2_orderEnd_4 18 rfl rfl)
theorem dX2_orderEnd_133 : decode cX2_orderEnd 133 = .ok (.ireturn, 1) := dk_172 (dk_at dksX2_orderEnd_4 21 rfl rfl)
theorem dX2_orderEnd_134 : decode cX2_orderEnd 134 = .ok (.aload_n 0, 1) := dk_42 (dk_at dksX2_orderEnd_4 22 rfl rfl)
theorem dX2_orderEnd_135 : decode cX2_orderEnd 135 = .ok (.iload_n 1, 1) := dk_27 (dk_at dksX2_orderEnd_4 23 rfl rfl)
theorem dX2_orderEnd_136 : decode cX2_orderEnd 136 = .ok (.iconst 1, 1) := dk_4 (dk_at dksX2_orderEnd_5 0 rfl rfl)
theorem dX2_orderEnd_137 : decode cX2_orderEnd 137 = .ok (.iadd, 1) := dk_96 (dk_at dksX2_orderEnd_5 1 rfl rfl)
theorem dX2_orderEnd_138 : decode cX2_orderEnd 138 = .ok (.invokevirtual 166, 3) := dk_182 0 166 (dk_at dksX2_orderEnd_5 2 rfl rfl)
theorem dX2_orderEnd_141 : decode cX2_orderEnd 141 = .ok (.ifCond .ge 10, 3) := dk_156 0 10 (dk_at dksX2_orderEnd_5 5 rfl rfl)
theorem dX2_orderEnd_144 : decode cX2_orderEnd 144 = .ok (.bipush (-2), 2) := dk_16 254 (dk_at dksX2_orderEnd_5 8 rfl rfl)
theorem dX2_orderEnd_146 : decode cX2_orderEnd 146 = .ok (.iload_n 1, 1) := dk_27 (dk_at dksX2_orderEnd_5 10 rfl rfl)
theorem dX2_orderEnd_147 : decode cX2_orderEnd 147 = .ok (.isub, 1) := dk_100 (dk_at dksX2_orderEnd_5 11 rfl rfl)
theorem dX2_orderEnd_148 : decode cX2_orderEnd 148 = .ok (.goto 6, 3) := dk_167 0 6 (dk_at dksX2_orderEnd_5 12 rfl rfl)
theorem dX2_orderEnd_151 : decode cX2_orderEnd 151 = .ok (.iload_n 1, 1) := dk_27 (dk_at dksX2_orderEnd_5 15 rfl rfl)
theorem dX2_orderEnd_152 : decode cX2_orderEnd 152 = .ok (.iconst 2, 1) := dk_5 (dk_at dksX2_orderEnd_5 16 rfl rfl)
theorem dX2_orderEnd_153 : decode cX2_orderEnd 153 = .ok (.iadd, 1) := dk_96 (dk_at dksX2_orderEnd_5 17 rfl rfl)
theorem dX2_orderEnd_154 : decode cX2_orderEnd 154 = .ok (.ireturn, 1) := dk_172 (dk_at dksX2_orderEnd_5 18 rfl rfl)
theorem dX2_orderEnd_155 : decode cX2_orderEnd 155 = .ok (.iconst (-1), 1) := dk_2 (dk_at dksX2_orderEnd_5 19 rfl rfl)
theorem dX2_orderEnd_156 : decode cX2_orderEnd 156 = .ok (.iload_n 1, 1) := dk_27 (dk_at dksX2_orderEnd_5 20 rfl rfl)
theorem dX2_orderEnd_157 : decode cX2_orderEnd 157 = .ok (.isub, 1) := dk_100 (dk_at dksX2_orderEnd_5 21 rfl rfl)
theorem dX2_orderEnd_158 : decode cX2_orderEnd 158 = .ok (.ireturn, 1) := dk_172 (dk_at dksX2_orderEnd_5 22 rfl rfl)
abbrev cX2_code : ByteArray := prog_10_method_55_code
def yX2_code : MethodName := ⟨RX2, "code", "(I)I"⟩
def dkwX2_code_0 : List UInt8 := [27, 42, 180, 0, 135, 162, 0, 12, 42, 180, 0, 23, 27, 46, 167, 0, 4, 2, 172]
abbrev dktX2_code_0 : List UInt8 := dkwX2_code_0 ++ []
theorem dksX2_code_0 : cX2_code.data.toList.drop 0 = dktX2_code_0 := by decide +kernel
theorem dX2_code_0 : decode cX2_code 0 = .ok (.iload_n 1, 1) := dk_27 (dk_at dksX2_code_0 0 rfl rfl)
theorem dX2_code_1 : decode cX2_code 1 = .ok (.aload_n 0, 1) := dk_42 (dk_at dksX2_code_0 1 rfl rfl)
theorem dX2_code_2 : decode cX2_code 2 = .ok (.getfield 135, 3) := dk_180 0 135 (dk_at dksX2_code_0 2 rfl rfl)
theorem dX2_code_5 : decode cX2_code 5 = .ok (.if_icmp .ge 12, 3) := dk_162 0 12 (dk_at dksX2_code_0 5 rfl rfl)
theorem dX2_code_8 : decode cX2_code 8 = .ok (.aload_n 0, 1) := dk_42 (dk_at dksX2_code_0 8 rfl rfl)
theorem dX2_code_9 : decode cX2_code 9 = .ok (.getfield 23, 3) := dk_180 0 23 (dk_at dksX2_code_0 9 rfl rfl)
theorem dX2_code_12 : decode cX2_code 12 = .ok (.iload_n 1, 1) := dk_27 (dk_at dksX2_code_0 12 rfl rfl)
theorem dX2_code_13 : decode cX2_code 13 = .ok (.iaload, 1) := dk_46 (dk_at dksX2_code_0 13 rfl rfl)
theorem dX2_code_14 : decode cX2_code 14 = .ok (.goto 4, 3) := dk_167 0 4 (dk_at dksX2_code_0 14 rfl rfl)
theorem dX2_code_17 : decode cX2_code 17 = .ok (.iconst (-1), 1) := dk_2 (dk_at dksX2_code_0 17 rfl rfl)
theorem dX2_code_18 : decode cX2_code 18 = .ok (.ireturn, 1) := dk_172 (dk_at dksX2_code_0 18 rfl rfl)
abbrev cX2_digit : ByteArray := prog_10_method_54_code
def yX2_digit : MethodName := ⟨RX2, "digit", "(I)I"⟩
def dkwX2_digit_1 : List UInt8 := [42, 180, 0, 23, 27, 46, 16, 48, 100, 167, 0, 4, 2, 172]
abbrev dktX2_digit_1 : List UInt8 := dkwX2_digit_1 ++ []
def dkwX2_digit_0 : List UInt8 := [27, 42, 180, 0, 135, 162, 0, 31, 42, 180, 0, 23, 27, 46, 16, 48, 16, 57, 184, 0, 41, 153, 0, 15]
abbrev dktX2_digit_0 : List UInt8 := dkwX2_digit_0 ++ dktX2_digit_1
theorem dksX2_digit_0 : cX2_digit.data.toList.drop 0 = dktX2_digit_0 := by decide +kernel
theorem dksX2_digit_1 : cX2_digit.data.toList.drop 24 = dktX2_digit_1 := dk_seg dksX2_digit_0 24 rfl rfl
theorem dX2_digit_0 : decode cX2_digit 0 = .ok (.iload_n 1, 1) := dk_27 (dk_at dksX2_digit_0 0 rfl rfl)
theorem dX2_digit_1 : decode cX2_digit 1 = .ok (.aload_n 0, 1) := dk_42 (dk_at dksX2_digit_0 1 rfl rfl)
theorem dX2_digit_2 : decode cX2_digit 2 = .ok (.getfield 135, 3) := dk_180 0 135 (dk_at dksX2_digit_0 2 rfl rfl)
theorem dX2_digit_5 : decode cX2_digit 5 = .ok (.if_icmp .ge 31, 3) := dk_162 0 31 (dk_at dksX2_digit_0 5 rfl rfl)
theorem dX2_digit_8 : decode cX2_digit 8 = .ok (.aload_n 0, 1) := dk_42 (dk_at dksX2_digit_0 8 rfl rfl)
theorem dX2_digit_9 : decode cX2_digit 9 = .ok (.getfield 23, 3) := dk_180 0 23 (dk_at dksX2_digit_0 9 rfl rfl)
theorem dX2_digit_12 : decode cX2_digit 12 = .ok (.iload_n 1, 1) := dk_27 (dk_at dksX2_digit_0 12 rfl rfl)
theorem dX2_digit_13 : decode cX2_digit 13 = .ok (.iaload, 1) := dk_46 (dk_at dksX2_digit_0 13 rfl rfl)
theorem dX2_digit_14 : decode cX2_digit 14 = .ok (.bipush 48, 2) := dk_16 48 (dk_at dksX2_digit_0 14 rfl rfl)
theorem dX2_digit_16 : decode cX2_digit 16 = .ok (.bipush 57, 2) := dk_16 57 (dk_at dksX2_digit_0 16 rfl rfl)
theorem dX2_digit_18 : decode cX2_digit 18 = .ok (.invokestatic 41, 3) := dk_184 0 41 (dk_at dksX2_digit_0 18 rfl rfl)
theorem dX2_digit_21 : decode cX2_digit 21 = .ok (.ifCond .eq 15, 3) := dk_153 0 15 (dk_at dksX2_digit_0 21 rfl rfl)
theorem dX2_digit_24 : decode cX2_digit 24 = .ok (.aload_n 0, 1) := dk_42 (dk_at dksX2_digit_1 0 rfl rfl)
theorem dX2_digit_25 : decode cX2_digit 25 = .ok (.getfield 23, 3) := dk_180 0 23 (dk_at dksX2_digit_1 1 rfl rfl)
theorem dX2_digit_28 : decode cX2_digit 28 = .ok (.iload_n 1, 1) := dk_27 (dk_at dksX2_digit_1 4 rfl rfl)
theorem dX2_digit_29 : decode cX2_digit 29 = .ok (.iaload, 1) := dk_46 (dk_at dksX2_digit_1 5 rfl rfl)
theorem dX2_digit_30 : decode cX2_digit 30 = .ok (.bipush 48, 2) := dk_16 48 (dk_at dksX2_digit_1 6 rfl rfl)
theorem dX2_digit_32 : decode cX2_digit 32 = .ok (.isub, 1) := dk_100 (dk_at dksX2_digit_1 8 rfl rfl)
theorem dX2_digit_33 : decode cX2_digit 33 = .ok (.goto 4, 3) := dk_167 0 4 (dk_at dksX2_digit_1 9 rfl rfl)
theorem dX2_digit_36 : decode cX2_digit 36 = .ok (.iconst (-1), 1) := dk_2 (dk_at dksX2_digit_1 12 rfl rfl)
theorem dX2_digit_37 : decode cX2_digit 37 = .ok (.ireturn, 1) := dk_172 (dk_at dksX2_digit_1 13 rfl rfl)
abbrev cX2_numberEnd : ByteArray := prog_10_method_56_code
def yX2_numberEnd : MethodName := ⟨RX2, "numberEnd", "(I)I"⟩
def dkwX2_numberEnd_1 : List UInt8 := [28, 27, 7, 96, 162, 0, 17, 42, 28, 182, 0, 166, 155, 0, 9, 132, 2, 1, 167, 255, 230, 28, 172]
abbrev dktX2_numberEnd_1 : List UInt8 := dkwX2_numberEnd_1 ++ []
def dkwX2_numberEnd_0 : List UInt8 := [42, 27, 182, 0, 166, 156, 0, 7, 2, 27, 100, 172, 27, 4, 96, 61, 42, 27, 182, 0, 166, 158, 0, 24]
abbrev dktX2_numberEnd_0 : List UInt8 := dkwX2_numberEnd_0 ++ dktX2_numberEnd_1
theorem dksX2_numberEnd_0 : cX2_numberEnd.data.toList.drop 0 = dktX2_numberEnd_0 := by decide +kernel
theorem dksX2_numberEnd_1 : cX2_numberEnd.data.toList.drop 24 = dktX2_numberEnd_1 := dk_seg dksX2_numberEnd_0 24 rfl rfl
theorem dX2_numberEnd_0 : decode cX2_numberEnd 0 = .ok (.aload_n 0, 1) := dk_42 (dk_at dksX2_numberEnd_0 0 rfl rfl)
theorem dX2_numberEnd_1 : decode cX2_numberEnd 1 = .ok (.iload_n 1, 1) := dk_27 (dk_at dksX2_numberEnd_0 1 rfl rfl)
theorem dX2_numberEnd_2 : decode cX2_numberEnd 2 = .ok (.invokevirtual 166, 3) := dk_182 0 166 (dk_at dksX2_numberEnd_0 2 rfl rfl)
theorem dX2_numberEnd_5 : decode cX2_numberEnd 5 = .ok (.ifCond .ge 7, 3) := dk_156 0 7 (dk_at dksX2_numberEnd_0 5 rfl rfl)
theorem dX2_numberEnd_8 : decode cX2_numberEnd 8 = .ok (.iconst (-1), 1) := dk_2 (dk_at dksX2_numberEnd_0 8 rfl rfl)
theorem dX2_numberEnd_9 : decode cX2_numberEnd 9 = .ok (.iload_n 1, 1) := dk_27 (dk_at dksX2_numberEnd_0 9 rfl rfl)
theorem dX2_numberEnd_10 : decode cX2_numberEnd 10 = .ok (.isub, 1) := dk_100 (dk_at dksX2_numberEnd_0 10 rfl rfl)
theorem dX2_numberEnd_11 : decode cX2_numberEnd 11 = .ok (.ireturn, 1) := dk_172 (dk_at dksX2_numberEnd_0 11 rfl rfl)
theorem dX2_numberEnd_12 : decode cX2_numberEnd 12 = .ok (.iload_n 1, 1) := dk_27 (dk_at dksX2_numberEnd_0 12 rfl rfl)
theorem dX2_numberEnd_13 : decode cX2_numberEnd 13 = .ok (.iconst 1, 1) := dk_4 (dk_at dksX2_numberEnd_0 13 rfl rfl)
theorem dX2_numberEnd_14 : decode cX2_numberEnd 14 = .ok (.iadd, 1) := dk_96 (dk_at dksX2_numberEnd_0 14 rfl rfl)
theorem dX2_numberEnd_15 : decode cX2_numberEnd 15 = .ok (.istore_n 2, 1) := dk_61 (dk_at dksX2_numberEnd_0 15 rfl rfl)
theorem dX2_numberEnd_16 : decode cX2_numberEnd 16 = .ok (.aload_n 0, 1) := dk_42 (dk_at dksX2_numberEnd_0 16 rfl rfl)
theorem dX2_numberEnd_17 : decode cX2_numberEnd 17 = .ok (.iload_n 1, 1) := dk_27 (dk_at dksX2_numberEnd_0 17 rfl rfl)
theorem dX2_numberEnd_18 : decode cX2_numberEnd 18 = .ok (.invokevirtual 166, 3) := dk_182 0 166 (dk_at dksX2_numberEnd_0 18 rfl rfl)
theorem dX2_numberEnd_21 : decode cX2_numberEnd 21 = .ok (.ifCond .le 24, 3) := dk_158 0 24 (dk_at dksX2_numberEnd_0 21 rfl rfl)
theorem dX2_numberEnd_24 : decode cX2_numberEnd 24 = .ok (.iload_n 2, 1) := dk_28 (dk_at dksX2_numberEnd_1 0 rfl rfl)
theorem dX2_numberEnd_25 : decode cX2_numberEnd 25 = .ok (.iload_n 1, 1) := dk_27 (dk_at dksX2_numberEnd_1 1 rfl rfl)
theorem dX2_numberEnd_26 : decode cX2_numberEnd 26 = .ok (.iconst 4, 1) := dk_7 (dk_at dksX2_numberEnd_1 2 rfl rfl)
theorem dX2_numberEnd_27 : decode cX2_numberEnd 27 = .ok (.iadd, 1) := dk_96 (dk_at dksX2_numberEnd_1 3 rfl rfl)
theorem dX2_numberEnd_28 : decode cX2_numberEnd 28 = .ok (.if_icmp .ge 17, 3) := dk_162 0 17 (dk_at dksX2_numberEnd_1 4 rfl rfl)
theorem dX2_numberEnd_31 : decode cX2_numberEnd 31 = .ok (.aload_n 0, 1) := dk_42 (dk_at dksX2_numberEnd_1 7 rfl rfl)
theorem dX2_numberEnd_32 : decode cX2_numberEnd 32 = .ok (.iload_n 2, 1) := dk_28 (dk_at dksX2_numberEnd_1 8 rfl rfl)
theorem dX2_numberEnd_33 : decode cX2_numberEnd 33 = .ok (.invokevirtual 166, 3) := dk_182 0 166 (dk_at dksX2_numberEnd_1 9 rfl rfl)
theorem dX2_numberEnd_36 : decode cX2_numberEnd 36 = .ok (.ifCond .lt 9, 3) := dk_155 0 9 (dk_at dksX2_numberEnd_1 12 rfl rfl)
theorem dX2_numberEnd_39 : decode cX2_numberEnd 39 = .ok (.iinc 2 1, 3) := dk_132 2 1 (dk_at dksX2_numberEnd_1 15 rfl rfl)
theorem dX2_numberEnd_42 : decode cX2_numberEnd 42 = .ok (.goto (-26), 3) := dk_167 255 230 (dk_at dksX2_numberEnd_1 18 rfl rfl)
theorem dX2_numberEnd_45 : decode cX2_numberEnd 45 = .ok (.iload_n 2, 1) := dk_28 (dk_at dksX2_numberEnd_1 21 rfl rfl)
theorem dX2_numberEnd_46 : decode cX2_numberEnd 46 = .ok (.ireturn, 1) := dk_172 (dk_at dksX2_numberEnd_1 22 rfl rfl)
abbrev cX2_carryOut : ByteArray := prog_10_method_62_code
def yX2_carryOut : MethodName := ⟨RX2, "carryOut", "()I"⟩
def dkwX2_carryOut_2 : List UInt8 := [28, 182, 0, 175, 4, 96, 61, 167, 255, 223, 42, 3, 181, 0, 135, 27, 172]
abbrev dktX2_carryOut_2 : List UInt8 := dkwX2_carryOut_2 ++ []
def dkwX2_carryOut_1 : List UInt8 := [180, 0, 135, 162, 0, 31, 42, 28, 182, 0, 185, 154, 0, 23, 42, 28, 182, 0, 188, 62, 132, 1, 1, 42]
abbrev dktX2_carryOut_1 : List UInt8 := dkwX2_carryOut_1 ++ dktX2_carryOut_2
def dkwX2_carryOut_0 : List UInt8 := [42, 182, 0, 181, 16, 250, 159, 0, 6, 16, 253, 172, 42, 182, 0, 92, 3, 60, 3, 61, 28, 42]
abbrev dktX2_carryOut_0 : List UInt8 := dkwX2_carryOut_0 ++ dktX2_carryOut_1
theorem dksX2_carryOut_0 : cX2_carryOut.data.toList.drop 0 = dktX2_carryOut_0 := by decide +kernel
theorem dksX2_carryOut_1 : cX2_carryOut.data.toList.drop 22 = dktX2_carryOut_1 := dk_seg dksX2_carryOut_0 22 rfl rfl
theorem dksX2_carryOut_2 : cX2_carryOut.data.toList.drop 46 = dktX2_carryOut_2 := dk_seg dksX2_carryOut_1 24 rfl rfl
theorem dX2_carryOut_0 : decode cX2_carryOut 0 = .ok (.aload_n 0, 1) := dk_42 (dk_at dksX2_carryOut_0 0 rfl rfl)
theorem dX2_carryOut_1 : decode cX2_carryOut 1 = .ok (.invokevirtual 181, 3) := dk_182 0 181 (dk_at dksX2_carryOut_0 1 rfl rfl)
theorem dX2_carryOut_4 : decode cX2_carryOut 4 = .ok (.bipush (-6), 2) := dk_16 250 (dk_at dksX2_carryOut_0 4 rfl rfl)
theorem dX2_carryOut_6 : decode cX2_carryOut 6 = .ok (.if_icmp .eq 6, 3) := dk_159 0 6 (dk_at dksX2_carryOut_0 6 rfl rfl)
theorem dX2_carryOut_9 : decode cX2_carryOut 9 = .ok (.bipush (-3), 2) := dk_16 253 (dk_at dksX2_carryOut_0 9 rfl rfl)
theorem dX2_carryOut_11 : decode cX2_carryOut 11 = .ok (.ireturn, 1) := dk_172 (dk_at dksX2_carryOut_0 11 rfl rfl)
theorem dX2_carryOut_12 : decode cX2_carryOut 12 = .ok (.aload_n 0, 1) := dk_42 (dk_at dksX2_carryOut_0 12 rfl rfl)
theorem dX2_carryOut_13 : decode cX2_carryOut 13 = .ok (.invokevirtual 92, 3) := dk_182 0 92 (dk_at dksX2_carryOut_0 13 rfl rfl)
theorem dX2_carryOut_16 : decode cX2_carryOut 16 = .ok (.iconst 0, 1) := dk_3 (dk_at dksX2_carryOut_0 16 rfl rfl)
theorem dX2_carryOut_17 : decode cX2_carryOut 17 = .ok (.istore_n 1, 1) := dk_60 (dk_at dksX2_carryOut_0 17 rfl rfl)
theorem dX2_carryOut_18 : decode cX2_carryOut 18 = .ok (.iconst 0, 1) := dk_3 (dk_at dksX2_carryOut_0 18 rfl rfl)
theorem dX2_carryOut_19 : decode cX2_carryOut 19 = .ok (.istore_n 2, 1) := dk_61 (dk_at dksX2_carryOut_0 19 rfl rfl)
theorem dX2_carryOut_20 : decode cX2_carryOut 20 = .ok (.iload_n 2, 1) := dk_28 (dk_at dksX2_carryOut_0 20 rfl rfl)
theorem dX2_carryOut_21 : decode cX2_carryOut 21 = .ok (.aload_n 0, 1) := dk_42 (dk_at dksX2_carryOut_0 21 rfl rfl)
theorem dX2_carryOut_22 : decode cX2_carryOut 22 = .ok (.getfield 135, 3) := dk_180 0 135 (dk_at dksX2_carryOut_1 0 rfl rfl)
theorem dX2_carryOut_25 : decode cX2_carryOut 25 = .ok (.if_icmp .ge 31, 3) := dk_162 0 31 (dk_at dksX2_carryOut_1 3 rfl rfl)
theorem dX2_carryOut_28 : decode cX2_carryOut 28 = .ok (.aload_n 0, 1) := dk_42 (dk_at dksX2_carryOut_1 6 rfl rfl)
theorem dX2_carryOut_29 : decode cX2_carryOut 29 = .ok (.iload_n 2, 1) := dk_28 (dk_at dksX2_carryOut_1 7 rfl rfl)
theorem dX2_carryOut_30 : decode cX2_carryOut 30 = .ok (.invokevirtual 185, 3) := dk_182 0 185 (dk_at dksX2_carryOut_1 8 rfl rfl)
theorem dX2_carryOut_33 : decode cX2_carryOut 33 = .ok (.ifCond .ne 23, 3) := dk_154 0 23 (dk_at dksX2_carryOut_1 11 rfl rfl)
theorem dX2_carryOut_36 : decode cX2_carryOut 36 = .ok (.aload_n 0, 1) := dk_42 (dk_at dksX2_carryOut_1 14 rfl rfl)
theorem dX2_carryOut_37 : decode cX2_carryOut 37 = .ok (.iload_n 2, 1) := dk_28 (dk_at dksX2_carryOut_1 15 rfl rfl)
theorem dX2_carryOut_38 : decode cX2_carryOut 38 = .ok (.invokevirtual 188, 3) := dk_182 0 188 (dk_at dksX2_carryOut_1 16 rfl rfl)
theorem dX2_carryOut_41 : decode cX2_carryOut 41 = .ok (.istore_n 3, 1) := dk_62 (dk_at dksX2_carryOut_1 19 rfl rfl)
theorem dX2_carryOut_42 : decode cX2_carryOut 42 = .ok (.iinc 1 1, 3) := dk_132 1 1 (dk_at dksX2_carryOut_1 20 rfl rfl)
theorem dX2_carryOut_45 : decode cX2_carryOut 45 = .ok (.aload_n 0, 1) := dk_42 (dk_at dksX2_carryOut_1 23 rfl rfl)
theorem dX2_carryOut_46 : decode cX2_carryOut 46 = .ok (.iload_n 2, 1) := dk_28 (dk_at dksX2_carryOut_2 0 rfl rfl)
theorem dX2_carryOut_47 : decode cX2_carryOut 47 = .ok (.invokevirtual 175, 3) := dk_182 0 175 (dk_at dksX2_carryOut_2 1 rfl rfl)
theorem dX2_carryOut_50 : decode cX2_carryOut 50 = .ok (.iconst 1, 1) := dk_4 (dk_at dksX2_carryOut_2 4 rfl rfl)
theorem dX2_carryOut_51 : decode cX2_carryOut 51 = .ok (.iadd, 1) := dk_96 (dk_at dksX2_carryOut_2 5 rfl rfl)
theorem dX2_carryOut_52 : decode cX2_carryOut 52 = .ok (.istore_n 2, 1) := dk_61 (dk_at dksX2_carryOut_2 6 rfl rfl)
theorem dX2_carryOut_53 : decode cX2_carryOut 53 = .ok (.goto (-33), 3) := dk_167 255 223 (dk_at dksX2_carryOut_2 7 rfl rfl)
theorem dX2_carryOut_56 : decode cX2_carryOut 56 = .ok (.aload_n 0, 1) := dk_42 (dk_at dksX2_carryOut_2 10 rfl rfl)
theorem dX2_carryOut_57 : decode cX2_carryOut 57 = .ok (.iconst 0, 1) := dk_3 (dk_at dksX2_carryOut_2 11 rfl rfl)
theorem dX2_carryOut_58 : decode cX2_carryOut 58 = .ok (.putfield 135, 3) := dk_181 0 135 (dk_at dksX2_carryOut_2 12 rfl rfl)
theorem dX2_carryOut_61 : decode cX2_carryOut 61 = .ok (.iload_n 1, 1) := dk_27 (dk_at dksX2_carryOut_2 15 rfl rfl)
theorem dX2_carryOut_62 : decode cX2_carryOut 62 = .ok (.ireturn, 1) := dk_172 (dk_at dksX2_carryOut_2 16 rfl rfl)
abbrev cX2_whyNot : ByteArray := prog_10_method_60_code
def yX2_whyNot : MethodName := ⟨RX2, "whyNot", "(I)I"⟩
def dkwX2_whyNot_5 : List UInt8 := [153, 0, 7, 3, 167, 0, 4, 2, 172]
abbrev dktX2_whyNot_5 : List UInt8 := dkwX2_whyNot_5 ++ []
def dkwX2_whyNot_4 : List UInt8 := [42, 42, 27, 4, 96, 182, 0, 178, 182, 0, 129, 172, 42, 28, 182, 0, 119, 172, 42, 28, 182, 0, 95]
abbrev dktX2_whyNot_4 : List UInt8 := dkwX2_whyNot_4 ++ dktX2_whyNot_5
def dkwX2_whyNot_3 : List UInt8 := [182, 0, 107, 172, 42, 42, 27, 4, 96, 182, 0, 178, 182, 0, 113, 153, 0, 7, 3, 167, 0, 4, 2, 172]
abbrev dktX2_whyNot_3 : List UInt8 := dkwX2_whyNot_3 ++ dktX2_whyNot_4
def dkwX2_whyNot_2 : List UInt8 := [42, 28, 156, 0, 7, 3, 167, 0, 4, 28, 182, 0, 101, 172, 42, 28, 42, 27, 6, 96, 182, 0, 178]
abbrev dktX2_whyNot_2 : List UInt8 := dkwX2_whyNot_2 ++ dktX2_whyNot_3
def dkwX2_whyNot_1 : List UInt8 := [171, 0, 0, 0, 0, 0, 116, 0, 0, 0, 5, 0, 0, 0, 98, 0, 0, 0, 110, 0, 0, 0, 108, 0, 0, 0, 65, 0, 0, 0, 109, 0, 0, 0, 51, 0, 0, 0, 115, 0, 0, 0, 78, 0, 0, 0, 116, 0, 0, 0, 98]
abbrev dktX2_whyNot_1 : List UInt8 := dkwX2_whyNot_1 ++ dktX2_whyNot_2
def dkwX2_whyNot_0 : List UInt8 := [42, 27, 4, 96, 182, 0, 166, 61, 42, 27, 182, 0, 172]
abbrev dktX2_whyNot_0 : List UInt8 := dkwX2_whyNot_0 ++ dktX2_whyNot_1
theorem dksX2_whyNot_0 : cX2_whyNot.data.toList.drop 0 = dktX2_whyNot_0 := by decide +kernel
theorem dksX2_whyNot_1 : cX2_whyNot.data.toList.drop 13 = dktX2_whyNot_1 := dk_seg dksX2_whyNot_0 13 rfl rfl
theorem dksX2_whyNot_2 : cX2_whyNot.data.toList.drop 64 = dktX2_whyNot_2 := dk_seg dksX2_whyNot_1 51 rfl rfl
theorem dksX2_whyNot_3 : cX2_whyNot.data.toList.drop 87 = dktX2_whyNot_3 := dk_seg dksX2_whyNot_2 23 rfl rfl
theorem dksX2_whyNot_4 : cX2_whyNot.data.toList.drop 111 = dktX2_whyNot_4 := dk_seg dksX2_whyNot_3 24 rfl rfl
theorem dksX2_whyNot_5 : cX2_whyNot.data.toList.drop 134 = dktX2_whyNot_5 := dk_seg dksX2_whyNot_4 23 rfl rfl
theorem dX2_whyNot_0 : decode cX2_whyNot 0 = .ok (.aload_n 0, 1) := dk_42 (dk_at dksX2_whyNot_0 0 rfl rfl)
theorem dX2_whyNot_1 : decode cX2_whyNot 1 = .ok (.iload_n 1, 1) := dk_27 (dk_at dksX2_whyNot_0 1 rfl rfl)
theorem dX2_whyNot_2 : decode cX2_whyNot 2 = .ok (.iconst 1, 1) := dk_4 (dk_at dksX2_whyNot_0 2 rfl rfl)
theorem dX2_whyNot_3 : decode cX2_whyNot 3 = .ok (.iadd, 1) := dk_96 (dk_at dksX2_whyNot_0 3 rfl rfl)
theorem dX2_whyNot_4 : decode cX2_whyNot 4 = .ok (.invokevirtual 166, 3) := dk_182 0 166 (dk_at dksX2_whyNot_0 4 rfl rfl)
theorem dX2_whyNot_7 : decode cX2_whyNot 7 = .ok (.istore_n 2, 1) := dk_61 (dk_at dksX2_whyNot_0 7 rfl rfl)
theorem dX2_whyNot_8 : decode cX2_whyNot 8 = .ok (.aload_n 0, 1) := dk_42 (dk_at dksX2_whyNot_0 8 rfl rfl)
theorem dX2_whyNot_9 : decode cX2_whyNot 9 = .ok (.iload_n 1, 1) := dk_27 (dk_at dksX2_whyNot_0 9 rfl rfl)
theorem dX2_whyNot_10 : decode cX2_whyNot 10 = .ok (.invokevirtual 172, 3) := dk_182 0 172 (dk_at dksX2_whyNot_0 10 rfl rfl)
theorem dX2_whyNot_13 : decode cX2_whyNot 13 = .ok (.lookupswitch 116 #[(98, 110), (108, 65), (109, 51), (115, 78), (116, 98)], 51) := by decide +kernel
theorem dX2_whyNot_64 : decode cX2_whyNot 64 = .ok (.aload_n 0, 1) := dk_42 (dk_at dksX2_whyNot_2 0 rfl rfl)
theorem dX2_whyNot_65 : decode cX2_whyNot 65 = .ok (.iload_n 2, 1) := dk_28 (dk_at dksX2_whyNot_2 1 rfl rfl)
theorem dX2_whyNot_66 : decode cX2_whyNot 66 = .ok (.ifCond .ge 7, 3) := dk_156 0 7 (dk_at dksX2_whyNot_2 2 rfl rfl)
theorem dX2_whyNot_69 : decode cX2_whyNot 69 = .ok (.iconst 0, 1) := dk_3 (dk_at dksX2_whyNot_2 5 rfl rfl)
theorem dX2_whyNot_70 : decode cX2_whyNot 70 = .ok (.goto 4, 3) := dk_167 0 4 (dk_at dksX2_whyNot_2 6 rfl rfl)
theorem dX2_whyNot_73 : decode cX2_whyNot 73 = .ok (.iload_n 2, 1) := dk_28 (dk_at dksX2_whyNot_2 9 rfl rfl)
theorem dX2_whyNot_74 : decode cX2_whyNot 74 = .ok (.invokevirtual 101, 3) := dk_182 0 101 (dk_at dksX2_whyNot_2 10 rfl rfl)
theorem dX2_whyNot_77 : decode cX2_whyNot 77 = .ok (.ireturn, 1) := dk_172 (dk_at dksX2_whyNot_2 13 rfl rfl)
theorem dX2_whyNot_78 : decode cX2_whyNot 78 = .ok (.aload_n 0, 1) := dk_42 (dk_at dksX2_whyNot_2 14 rfl rfl)
theorem dX2_whyNot_79 : decode cX2_whyNot 79 = .ok (.iload_n 2, 1) := dk_28 (dk_at dksX2_whyNot_2 15 rfl rfl)
theorem dX2_whyNot_80 : decode cX2_whyNot 80 = .ok (.aload_n 0, 1) := dk_42 (dk_at dksX2_whyNot_2 16 rfl rfl)
theorem dX2_whyNot_81 : decode cX2_whyNot 81 = .ok (.iload_n 1, 1) := dk_27 (dk_at dksX2_whyNot_2 17 rfl rfl)
theorem dX2_whyNot_82 : decode cX2_whyNot 82 = .ok (.iconst 3, 1) := dk_6 (dk_at dksX2_whyNot_2 18 rfl rfl)
theorem dX2_whyNot_83 : decode cX2_whyNot 83 = .ok (.iadd, 1) := dk_96 (dk_at dksX2_whyNot_2 19 rfl rfl)
theorem dX2_whyNot_84 : decode cX2_whyNot 84 = .ok (.invokevirtual 178, 3) := dk_182 0 178 (dk_at dksX2_whyNot_2 20 rfl rfl)
theorem dX2_whyNot_87 : decode cX2_whyNot 87 = .ok (.invokevirtual 107, 3) := dk_182 0 107 (dk_at dksX2_whyNot_3 0 rfl rfl)
theorem dX2_whyNot_90 : decode cX2_whyNot 90 = .ok (.ireturn, 1) := dk_172 (dk_at dksX2_whyNot_3 3 rfl rfl)
theorem dX2_whyNot_91 : decode cX2_whyNot 91 = .ok (.aload_n 0, 1) := dk_42 (dk_at dksX2_whyNot_3 4 rfl rfl)
theorem dX2_whyNot_92 : decode cX2_whyNot 92 = .ok (.aload_n 0, 1) := dk_42 (dk_at dksX2_whyNot_3 5 rfl rfl)
theorem dX2_whyNot_93 : decode cX2_whyNot 93 = .ok (.iload_n 1, 1) := dk_27 (dk_at dksX2_whyNot_3 6 rfl rfl)
theorem dX2_whyNot_94 : decode cX2_whyNot 94 = .ok (.iconst 1, 1) := dk_4 (dk_at dksX2_whyNot_3 7 rfl rfl)
theorem dX2_whyNot_95 : decode cX2_whyNot 95 = .ok (.iadd, 1) := dk_96 (dk_at dksX2_whyNot_3 8 rfl rfl)
theorem dX2_whyNot_96 : decode cX2_whyNot 96 = .ok (.invokevirtual 178, 3) := dk_182 0 178 (dk_at dksX2_whyNot_3 9 rfl rfl)
theorem dX2_whyNot_99 : decode cX2_whyNot 99 = .ok (.invokevirtual 113, 3) := dk_182 0 113 (dk_at dksX2_whyNot_3 12 rfl rfl)
theorem dX2_whyNot_102 : decode cX2_whyNot 102 = .ok (.ifCond .eq 7, 3) := dk_153 0 7 (dk_at dksX2_whyNot_3 15 rfl rfl)
theorem dX2_whyNot_105 : decode cX2_whyNot 105 = .ok (.iconst 0, 1) := dk_3 (dk_at dksX2_whyNot_3 18 rfl rfl)
theorem dX2_whyNot_106 : decode cX2_whyNot 106 = .ok (.goto 4, 3) := dk_167 0 4 (dk_at dksX2_whyNot_3 19 rfl rfl)
theorem dX2_whyNot_109 : decode cX2_whyNot 109 = .ok (.iconst (-1), 1) := dk_2 (dk_at dksX2_whyNot_3 22 rfl rfl)
theorem dX2_whyNot_110 : decode cX2_whyNot 110 = .ok (.ireturn, 1) := dk_172 (dk_at dksX2_whyNot_3 23 rfl rfl)
theorem dX2_whyNot_111 : decode cX2_whyNot 111 = .ok (.aload_n 0, 1) := dk_42 (dk_at dksX2_whyNot_4 0 rfl rfl)
theorem dX2_whyNot_112 : decode cX2_whyNot 112 = .ok (.aload_n 0, 1) := dk_42 (dk_at dksX2_whyNot_4 1 rfl rfl)
theorem dX2_whyNot_113 : decode cX2_whyNot 113 = .ok (.iload_n 1, 1) := dk_27 (dk_at dksX2_whyNot_4 2 rfl rfl)
theorem dX2_whyNot_114 : decode cX2_whyNot 114 = .ok (.iconst 1, 1) := dk_4 (dk_at dksX2_whyNot_4 3 rfl rfl)
theorem dX2_whyNot_115 : decode cX2_whyNot 115 = .ok (.iadd, 1) := dk_96 (dk_at dksX2_whyNot_4 4 rfl rfl)
theorem dX2_whyNot_116 : decode cX2_whyNot 116 = .ok (.invokevirtual 178, 3) := dk_182 0 178 (dk_at dksX2_whyNot_4 5 rfl rfl)
theorem dX2_whyNot_119 : decode cX2_whyNot 119 = .ok (.invokevirtual 129, 3) := dk_182 0 129 (dk_at dksX2_whyNot_4 8 rfl rfl)
theorem dX2_whyNot_122 : decode cX2_whyNot 122 = .ok (.ireturn, 1) := dk_172 (dk_at dksX2_whyNot_4 11 rfl rfl)
theorem dX2_whyNot_123 : decode cX2_whyNot 123 = .ok (.aload_n 0, 1) := dk_42 (dk_at dksX2_whyNot_4 12 rfl rfl)
theorem dX2_whyNot_124 : decode cX2_whyNot 124 = .ok (.iload_n 2, 1) := dk_28 (dk_at dksX2_whyNot_4 13 rfl rfl)
theorem dX2_whyNot_125 : decode cX2_whyNot 125 = .ok (.invokevirtual 119, 3) := dk_182 0 119 (dk_at dksX2_whyNot_4 14 rfl rfl)
theorem dX2_whyNot_128 : decode cX2_whyNot 128 = .ok (.ireturn, 1) := dk_172 (dk_at dksX2_whyNot_4 17 rfl rfl)
theorem dX2_whyNot_129 : decode cX2_whyNot 129 = .ok (.aload_n 0, 1) := dk_42 (dk_at dksX2_whyNot_4 18 rfl rfl)
theorem dX2_whyNot_130 : decode cX2_whyNot 130 = .ok (.iload_n 2, 1) := dk_28 (dk_at dksX2_whyNot_4 19 rfl rfl)
theorem dX2_whyNot_131 : decode cX2_whyNot 131 = .ok (.invokevirtual 95, 3) := dk_182 0 95 (dk_at dksX2_whyNot_4 20 rfl rfl)
theorem dX2_whyNot_134 : decode cX2_whyNot 134 = .ok (.ifCond .eq 7, 3) := dk_153 0 7 (dk_at dksX2_whyNot_5 0 rfl rfl)
theorem dX2_whyNot_137 : decode cX2_whyNot 137 = .ok (.iconst 0, 1) := dk_3 (dk_at dksX2_whyNot_5 3 rfl rfl)
theorem dX2_whyNot_138 : decode cX2_whyNot 138 = .ok (.goto 4, 3) := dk_167 0 4 (dk_at dksX2_whyNot_5 4 rfl rfl)
theorem dX2_whyNot_141 : decode cX2_whyNot 141 = .ok (.iconst (-1), 1) := dk_2 (dk_at dksX2_whyNot_5 7 rfl rfl)
theorem dX2_whyNot_142 : decode cX2_whyNot 142 = .ok (.ireturn, 1) := dk_172 (dk_at dksX2_whyNot_5 8 rfl rfl)
abbrev cX2_numberAt : ByteArray := prog_10_method_57_code
def yX2_numberAt : MethodName := ⟨RX2, "numberAt", "(I)I"⟩
def dkwX2_numberAt_1 : List UInt8 := [132, 3, 1, 167, 255, 233, 28, 172]
abbrev dktX2_numberAt_1 : List UInt8 := dkwX2_numberAt_1 ++ []
def dkwX2_numberAt_0 : List UInt8 := [3, 61, 27, 62, 29, 42, 27, 182, 0, 169, 162, 0, 20, 16, 10, 28, 104, 42, 29, 182, 0, 166, 96, 61]
abbrev dktX2_numberAt_0 : List UInt8 := dkwX2_numberAt_0 ++ dktX2_numberAt_1
theorem dksX2_numberAt_0 : cX2_numberAt.data.toList.drop 0 = dktX2_numberAt_0 := by decide +kernel
theorem dksX2_numberAt_1 : cX2_numberAt.data.toList.drop 24 = dktX2_numberAt_1 := dk_seg dksX2_numberAt_0 24 rfl rfl
theorem dX2_numberAt_0 : decode cX2_numberAt 0 = .ok (.iconst 0, 1) := dk_3 (dk_at dksX2_numberAt_0 0 rfl rfl)
theorem dX2_numberAt_1 : decode cX2_numberAt 1 = .ok (.istore_n 2, 1) := dk_61 (dk_at dksX2_numberAt_0 1 rfl rfl)
theorem dX2_numberAt_2 : decode cX2_numberAt 2 = .ok (.iload_n 1, 1) := dk_27 (dk_at dksX2_numberAt_0 2 rfl rfl)
theorem dX2_numberAt_3 : decode cX2_numberAt 3 = .ok (.istore_n 3, 1) := dk_62 (dk_at dksX2_numberAt_0 3 rfl rfl)
theorem dX2_numberAt_4 : decode cX2_numberAt 4 = .ok (.iload_n 3, 1) := dk_29 (dk_at dksX2_numberAt_0 4 rfl rfl)
theorem dX2_numberAt_5 : decode cX2_numberAt 5 = .ok (.aload_n 0, 1) := dk_42 (dk_at dksX2_numberAt_0 5 rfl rfl)
theorem dX2_numberAt_6 : decode cX2_numberAt 6 = .ok (.iload_n 1, 1) := dk_27 (dk_at dksX2_numberAt_0 6 rfl rfl)
theorem dX2_numberAt_7 : decode cX2_numberAt 7 = .ok (.invokevirtual 169, 3) := dk_182 0 169 (dk_at dksX2_numberAt_0 7 rfl rfl)
theorem dX2_numberAt_10 : decode cX2_numberAt 10 = .ok (.if_icmp .ge 20, 3) := dk_162 0 20 (dk_at dksX2_numberAt_0 10 rfl rfl)
theorem dX2_numberAt_13 : decode cX2_numberAt 13 = .ok (.bipush 10, 2) := dk_16 10 (dk_at dksX2_numberAt_0 13 rfl rfl)
theorem dX2_numberAt_15 : decode cX2_numberAt 15 = .ok (.iload_n 2, 1) := dk_28 (dk_at dksX2_numberAt_0 15 rfl rfl)
theorem dX2_numberAt_16 : decode cX2_numberAt 16 = .ok (.imul, 1) := dk_104 (dk_at dksX2_numberAt_0 16 rfl rfl)
theorem dX2_numberAt_17 : decode cX2_numberAt 17 = .ok (.aload_n 0, 1) := dk_42 (dk_at dksX2_numberAt_0 17 rfl rfl)
theorem dX2_numberAt_18 : decode cX2_numberAt 18 = .ok (.iload_n 3, 1) := dk_29 (dk_at dksX2_numberAt_0 18 rfl rfl)
theorem dX2_numberAt_19 : decode cX2_numberAt 19 = .ok (.invokevirtual 166, 3) := dk_182 0 166 (dk_at dksX2_numberAt_0 19 rfl rfl)
theorem dX2_numberAt_22 : decode cX2_numberAt 22 = .ok (.iadd, 1) := dk_96 (dk_at dksX2_numberAt_0 22 rfl rfl)
theorem dX2_numberAt_23 : decode cX2_numberAt 23 = .ok (.istore_n 2, 1) := dk_61 (dk_at dksX2_numberAt_0 23 rfl rfl)
theorem dX2_numberAt_24 : decode cX2_numberAt 24 = .ok (.iinc 3 1, 3) := dk_132 3 1 (dk_at dksX2_numberAt_1 0 rfl rfl)
theorem dX2_numberAt_27 : decode cX2_numberAt 27 = .ok (.goto (-23), 3) := dk_167 255 233 (dk_at dksX2_numberAt_1 3 rfl rfl)
theorem dX2_numberAt_30 : decode cX2_numberAt 30 = .ok (.iload_n 2, 1) := dk_28 (dk_at dksX2_numberAt_1 6 rfl rfl)
theorem dX2_numberAt_31 : decode cX2_numberAt 31 = .ok (.ireturn, 1) := dk_172 (dk_at dksX2_numberAt_1 7 rfl rfl)
abbrev cX2_does : ByteArray := prog_10_method_61_code
def yX2_does : MethodName := ⟨RX2, "does", "(I)I"⟩
def dkwX2_does_5 : List UInt8 := [28, 182, 0, 125, 172]
abbrev dktX2_does_5 : List UInt8 := dkwX2_does_5 ++ []
def dkwX2_does_4 : List UInt8 := [182, 0, 178, 182, 0, 132, 172, 42, 180, 0, 7, 3, 28, 184, 0, 45, 16, 7, 96, 10, 80, 28, 172, 42]
abbrev dktX2_does_4 : List UInt8 := dkwX2_does_4 ++ dktX2_does_5
def dkwX2_does_3 : List UInt8 := [182, 0, 110, 172, 42, 42, 27, 4, 96, 182, 0, 178, 182, 0, 116, 172, 42, 3, 42, 27, 4, 96]
abbrev dktX2_does_3 : List UInt8 := dkwX2_does_3 ++ dktX2_does_4
def dkwX2_does_2 : List UInt8 := [42, 28, 156, 0, 7, 3, 167, 0, 4, 28, 182, 0, 104, 172, 42, 28, 42, 27, 6, 96, 182, 0, 178]
abbrev dktX2_does_2 : List UInt8 := dkwX2_does_2 ++ dktX2_does_3
def dkwX2_does_1 : List UInt8 := [171, 0, 0, 0, 0, 0, 119, 0, 0, 0, 5, 0, 0, 0, 98, 0, 0, 0, 103, 0, 0, 0, 108, 0, 0, 0, 65, 0, 0, 0, 109, 0, 0, 0, 51, 0, 0, 0, 115, 0, 0, 0, 78, 0, 0, 0, 116, 0, 0, 0, 90]
abbrev dktX2_does_1 : List UInt8 := dkwX2_does_1 ++ dktX2_does_2
def dkwX2_does_0 : List UInt8 := [42, 27, 4, 96, 182, 0, 166, 61, 42, 27, 182, 0, 172]
abbrev dktX2_does_0 : List UInt8 := dkwX2_does_0 ++ dktX2_does_1
theorem dksX2_does_0 : cX2_does.data.toList.drop 0 = dktX2_does_0 := by decide +kernel
theorem dksX2_does_1 : cX2_does.data.toList.drop 13 = dktX2_does_1 := dk_seg dksX2_does_0 13 rfl rfl
theorem dksX2_does_2 : cX2_does.data.toList.drop 64 = dktX2_does_2 := dk_seg dksX2_does_1 51 rfl rfl
theorem dksX2_does_3 : cX2_does.data.toList.drop 87 = dktX2_does_3 := dk_seg dksX2_does_2 23 rfl rfl
theorem dksX2_does_4 : cX2_does.data.toList.drop 109 = dktX2_does_4 := dk_seg dksX2_does_3 22 rfl rfl
theorem dksX2_does_5 : cX2_does.data.toList.drop 133 = dktX2_does_5 := dk_seg dksX2_does_4 24 rfl rfl
theorem dX2_does_0 : decode cX2_does 0 = .ok (.aload_n 0, 1) := dk_42 (dk_at dksX2_does_0 0 rfl rfl)
theorem dX2_does_1 : decode cX2_does 1 = .ok (.iload_n 1, 1) := dk_27 (dk_at dksX2_does_0 1 rfl rfl)
theorem dX2_does_2 : decode cX2_does 2 = .ok (.iconst 1, 1) := dk_4 (dk_at dksX2_does_0 2 rfl rfl)
theorem dX2_does_3 : decode cX2_does 3 = .ok (.iadd, 1) := dk_96 (dk_at dksX2_does_0 3 rfl rfl)
theorem dX2_does_4 : decode cX2_does 4 = .ok (.invokevirtual 166, 3) := dk_182 0 166 (dk_at dksX2_does_0 4 rfl rfl)
theorem dX2_does_7 : decode cX2_does 7 = .ok (.istore_n 2, 1) := dk_61 (dk_at dksX2_does_0 7 rfl rfl)
theorem dX2_does_8 : decode cX2_does 8 = .ok (.aload_n 0, 1) := dk_42 (dk_at dksX2_does_0 8 rfl rfl)
theorem dX2_does_9 : decode cX2_does 9 = .ok (.iload_n 1, 1) := dk_27 (dk_at dksX2_does_0 9 rfl rfl)
theorem dX2_does_10 : decode cX2_does 10 = .ok (.invokevirtual 172, 3) := dk_182 0 172 (dk_at dksX2_does_0 10 rfl rfl)
theorem dX2_does_13 : decode cX2_does 13 = .ok (.lookupswitch 119 #[(98, 103), (108, 65), (109, 51), (115, 78), (116, 90)], 51) := by decide +kernel
theorem dX2_does_64 : decode cX2_does 64 = .ok (.aload_n 0, 1) := dk_42 (dk_at dksX2_does_2 0 rfl rfl)
theorem dX2_does_65 : decode cX2_does 65 = .ok (.iload_n 2, 1) := dk_28 (dk_at dksX2_does_2 1 rfl rfl)
theorem dX2_does_66 : decode cX2_does 66 = .ok (.ifCond .ge 7, 3) := dk_156 0 7 (dk_at dksX2_does_2 2 rfl rfl)
theorem dX2_does_69 : decode cX2_does 69 = .ok (.iconst 0, 1) := dk_3 (dk_at dksX2_does_2 5 rfl rfl)
theorem dX2_does_70 : decode cX2_does 70 = .ok (.goto 4, 3) := dk_167 0 4 (dk_at dksX2_does_2 6 rfl rfl)
theorem dX2_does_73 : decode cX2_does 73 = .ok (.iload_n 2, 1) := dk_28 (dk_at dksX2_does_2 9 rfl rfl)
theorem dX2_does_74 : decode cX2_does 74 = .ok (.invokevirtual 104, 3) := dk_182 0 104 (dk_at dksX2_does_2 10 rfl rfl)
theorem dX2_does_77 : decode cX2_does 77 = .ok (.ireturn, 1) := dk_172 (dk_at dksX2_does_2 13 rfl rfl)
theorem dX2_does_78 : decode cX2_does 78 = .ok (.aload_n 0, 1) := dk_42 (dk_at dksX2_does_2 14 rfl rfl)
theorem dX2_does_79 : decode cX2_does 79 = .ok (.iload_n 2, 1) := dk_28 (dk_at dksX2_does_2 15 rfl rfl)
theorem dX2_does_80 : decode cX2_does 80 = .ok (.aload_n 0, 1) := dk_42 (dk_at dksX2_does_2 16 rfl rfl)
theorem dX2_does_81 : decode cX2_does 81 = .ok (.iload_n 1, 1) := dk_27 (dk_at dksX2_does_2 17 rfl rfl)
theorem dX2_does_82 : decode cX2_does 82 = .ok (.iconst 3, 1) := dk_6 (dk_at dksX2_does_2 18 rfl rfl)
theorem dX2_does_83 : decode cX2_does 83 = .ok (.iadd, 1) := dk_96 (dk_at dksX2_does_2 19 rfl rfl)
theorem dX2_does_84 : decode cX2_does 84 = .ok (.invokevirtual 178, 3) := dk_182 0 178 (dk_at dksX2_does_2 20 rfl rfl)
theorem dX2_does_87 : decode cX2_does 87 = .ok (.invokevirtual 110, 3) := dk_182 0 110 (dk_at dksX2_does_3 0 rfl rfl)
theorem dX2_does_90 : decode cX2_does 90 = .ok (.ireturn, 1) := dk_172 (dk_at dksX2_does_3 3 rfl rfl)
theorem dX2_does_91 : decode cX2_does 91 = .ok (.aload_n 0, 1) := dk_42 (dk_at dksX2_does_3 4 rfl rfl)
theorem dX2_does_92 : decode cX2_does 92 = .ok (.aload_n 0, 1) := dk_42 (dk_at dksX2_does_3 5 rfl rfl)
theorem dX2_does_93 : decode cX2_does 93 = .ok (.iload_n 1, 1) := dk_27 (dk_at dksX2_does_3 6 rfl rfl)
theorem dX2_does_94 : decode cX2_does 94 = .ok (.iconst 1, 1) := dk_4 (dk_at dksX2_does_3 7 rfl rfl)
theorem dX2_does_95 : decode cX2_does 95 = .ok (.iadd, 1) := dk_96 (dk_at dksX2_does_3 8 rfl rfl)
theorem dX2_does_96 : decode cX2_does 96 = .ok (.invokevirtual 178, 3) := dk_182 0 178 (dk_at dksX2_does_3 9 rfl rfl)
theorem dX2_does_99 : decode cX2_does 99 = .ok (.invokevirtual 116, 3) := dk_182 0 116 (dk_at dksX2_does_3 12 rfl rfl)
theorem dX2_does_102 : decode cX2_does 102 = .ok (.ireturn, 1) := dk_172 (dk_at dksX2_does_3 15 rfl rfl)
theorem dX2_does_103 : decode cX2_does 103 = .ok (.aload_n 0, 1) := dk_42 (dk_at dksX2_does_3 16 rfl rfl)
theorem dX2_does_104 : decode cX2_does 104 = .ok (.iconst 0, 1) := dk_3 (dk_at dksX2_does_3 17 rfl rfl)
theorem dX2_does_105 : decode cX2_does 105 = .ok (.aload_n 0, 1) := dk_42 (dk_at dksX2_does_3 18 rfl rfl)
theorem dX2_does_106 : decode cX2_does 106 = .ok (.iload_n 1, 1) := dk_27 (dk_at dksX2_does_3 19 rfl rfl)
theorem dX2_does_107 : decode cX2_does 107 = .ok (.iconst 1, 1) := dk_4 (dk_at dksX2_does_3 20 rfl rfl)
theorem dX2_does_108 : decode cX2_does 108 = .ok (.iadd, 1) := dk_96 (dk_at dksX2_does_3 21 rfl rfl)
theorem dX2_does_109 : decode cX2_does 109 = .ok (.invokevirtual 178, 3) := dk_182 0 178 (dk_at dksX2_does_4 0 rfl rfl)
theorem dX2_does_112 : decode cX2_does 112 = .ok (.invokevirtual 132, 3) := dk_182 0 132 (dk_at dksX2_does_4 3 rfl rfl)
theorem dX2_does_115 : decode cX2_does 115 = .ok (.ireturn, 1) := dk_172 (dk_at dksX2_does_4 6 rfl rfl)
theorem dX2_does_116 : decode cX2_does 116 = .ok (.aload_n 0, 1) := dk_42 (dk_at dksX2_does_4 7 rfl rfl)
theorem dX2_does_117 : decode cX2_does 117 = .ok (.getfield 7, 3) := dk_180 0 7 (dk_at dksX2_does_4 8 rfl rfl)
theorem dX2_does_120 : decode cX2_does 120 = .ok (.iconst 0, 1) := dk_3 (dk_at dksX2_does_4 11 rfl rfl)
theorem dX2_does_121 : decode cX2_does 121 = .ok (.iload_n 2, 1) := dk_28 (dk_at dksX2_does_4 12 rfl rfl)
theorem dX2_does_122 : decode cX2_does 122 = .ok (.invokestatic 45, 3) := dk_184 0 45 (dk_at dksX2_does_4 13 rfl rfl)
theorem dX2_does_125 : decode cX2_does 125 = .ok (.bipush 7, 2) := dk_16 7 (dk_at dksX2_does_4 16 rfl rfl)
theorem dX2_does_127 : decode cX2_does 127 = .ok (.iadd, 1) := dk_96 (dk_at dksX2_does_4 18 rfl rfl)
theorem dX2_does_128 : decode cX2_does 128 = .ok (.lconst 1, 1) := dk_10 (dk_at dksX2_does_4 19 rfl rfl)
theorem dX2_does_129 : decode cX2_does 129 = .ok (.lastore, 1) := dk_80 (dk_at dksX2_does_4 20 rfl rfl)
theorem dX2_does_130 : decode cX2_does 130 = .ok (.iload_n 2, 1) := dk_28 (dk_at dksX2_does_4 21 rfl rfl)
theorem dX2_does_131 : decode cX2_does 131 = .ok (.ireturn, 1) := dk_172 (dk_at dksX2_does_4 22 rfl rfl)
theorem dX2_does_132 : decode cX2_does 132 = .ok (.aload_n 0, 1) := dk_42 (dk_at dksX2_does_4 23 rfl rfl)
theorem dX2_does_133 : decode cX2_does 133 = .ok (.iload_n 2, 1) := dk_28 (dk_at dksX2_does_5 0 rfl rfl)
theorem dX2_does_134 : decode cX2_does 134 = .ok (.invokevirtual 125, 3) := dk_182 0 125 (dk_at dksX2_does_5 1 rfl rfl)
theorem dX2_does_137 : decode cX2_does 137 = .ok (.ireturn, 1) := dk_172 (dk_at dksX2_does_5 4 rfl rfl)
abbrev cX2_undo : ByteArray := prog_10_method_63_code
def yX2_undo : MethodName := ⟨RX2, "undo", "()I"⟩
def dkwX2_undo_2 : List UInt8 := [96, 47, 80, 132, 1, 1, 167, 255, 225, 42, 180, 0, 49, 172]
abbrev dktX2_undo_2 : List UInt8 := dkwX2_undo_2 ++ []
def dkwX2_undo_1 : List UInt8 := [17, 0, 138, 162, 0, 30, 42, 180, 0, 7, 27, 42, 180, 0, 13, 17, 0, 138, 42, 180, 0, 49, 104, 27]
abbrev dktX2_undo_1 : List UInt8 := dkwX2_undo_1 ++ dktX2_undo_2
def dkwX2_undo_0 : List UInt8 := [42, 180, 0, 49, 154, 0, 6, 16, 251, 172, 42, 89, 180, 0, 49, 4, 100, 181, 0, 49, 3, 60, 27]
abbrev dktX2_undo_0 : List UInt8 := dkwX2_undo_0 ++ dktX2_undo_1
theorem dksX2_undo_0 : cX2_undo.data.toList.drop 0 = dktX2_undo_0 := by decide +kernel
theorem dksX2_undo_1 : cX2_undo.data.toList.drop 23 = dktX2_undo_1 := dk_seg dksX2_undo_0 23 rfl rfl
theorem dksX2_undo_2 : cX2_undo.data.toList.drop 47 = dktX2_undo_2 := dk_seg dksX2_undo_1 24 rfl rfl
theorem dX2_undo_0 : decode cX2_undo 0 = .ok (.aload_n 0, 1) := dk_42 (dk_at dksX2_undo_0 0 rfl rfl)
theorem dX2_undo_1 : decode cX2_undo 1 = .ok (.getfield 49, 3) := dk_180 0 49 (dk_at dksX2_undo_0 1 rfl rfl)
theorem dX2_undo_4 : decode cX2_undo 4 = .ok (.ifCond .ne 6, 3) := dk_154 0 6 (dk_at dksX2_undo_0 4 rfl rfl)
theorem dX2_undo_7 : decode cX2_undo 7 = .ok (.bipush (-5), 2) := dk_16 251 (dk_at dksX2_undo_0 7 rfl rfl)
theorem dX2_undo_9 : decode cX2_undo 9 = .ok (.ireturn, 1) := dk_172 (dk_at dksX2_undo_0 9 rfl rfl)
theorem dX2_undo_10 : decode cX2_undo 10 = .ok (.aload_n 0, 1) := dk_42 (dk_at dksX2_undo_0 10 rfl rfl)
theorem dX2_undo_11 : decode cX2_undo 11 = .ok (.dup, 1) := dk_89 (dk_at dksX2_undo_0 11 rfl rfl)
theorem dX2_undo_12 : decode cX2_undo 12 = .ok (.getfield 49, 3) := dk_180 0 49 (dk_at dksX2_undo_0 12 rfl rfl)
theorem dX2_undo_15 : decode cX2_undo 15 = .ok (.iconst 1, 1) := dk_4 (dk_at dksX2_undo_0 15 rfl rfl)
theorem dX2_undo_16 : decode cX2_undo 16 = .ok (.isub, 1) := dk_100 (dk_at dksX2_undo_0 16 rfl rfl)
theorem dX2_undo_17 : decode cX2_undo 17 = .ok (.putfield 49, 3) := dk_181 0 49 (dk_at dksX2_undo_0 17 rfl rfl)
theorem dX2_undo_20 : decode cX2_undo 20 = .ok (.iconst 0, 1) := dk_3 (dk_at dksX2_undo_0 20 rfl rfl)
theorem dX2_undo_21 : decode cX2_undo 21 = .ok (.istore_n 1, 1) := dk_60 (dk_at dksX2_undo_0 21 rfl rfl)
theorem dX2_undo_22 : decode cX2_undo 22 = .ok (.iload_n 1, 1) := dk_27 (dk_at dksX2_undo_0 22 rfl rfl)
theorem dX2_undo_23 : decode cX2_undo 23 = .ok (.sipush 138, 3) := dk_17 0 138 (dk_at dksX2_undo_1 0 rfl rfl)
theorem dX2_undo_26 : decode cX2_undo 26 = .ok (.if_icmp .ge 30, 3) := dk_162 0 30 (dk_at dksX2_undo_1 3 rfl rfl)
theorem dX2_undo_29 : decode cX2_undo 29 = .ok (.aload_n 0, 1) := dk_42 (dk_at dksX2_undo_1 6 rfl rfl)
theorem dX2_undo_30 : decode cX2_undo 30 = .ok (.getfield 7, 3) := dk_180 0 7 (dk_at dksX2_undo_1 7 rfl rfl)
theorem dX2_undo_33 : decode cX2_undo 33 = .ok (.iload_n 1, 1) := dk_27 (dk_at dksX2_undo_1 10 rfl rfl)
theorem dX2_undo_34 : decode cX2_undo 34 = .ok (.aload_n 0, 1) := dk_42 (dk_at dksX2_undo_1 11 rfl rfl)
theorem dX2_undo_35 : decode cX2_undo 35 = .ok (.getfield 13, 3) := dk_180 0 13 (dk_at dksX2_undo_1 12 rfl rfl)
theorem dX2_undo_38 : decode cX2_undo 38 = .ok (.sipush 138, 3) := dk_17 0 138 (dk_at dksX2_undo_1 15 rfl rfl)
theorem dX2_undo_41 : decode cX2_undo 41 = .ok (.aload_n 0, 1) := dk_42 (dk_at dksX2_undo_1 18 rfl rfl)
theorem dX2_undo_42 : decode cX2_undo 42 = .ok (.getfield 49, 3) := dk_180 0 49 (dk_at dksX2_undo_1 19 rfl rfl)
theorem dX2_undo_45 : decode cX2_undo 45 = .ok (.imul, 1) := dk_104 (dk_at dksX2_undo_1 22 rfl rfl)
theorem dX2_undo_46 : decode cX2_undo 46 = .ok (.iload_n 1, 1) := dk_27 (dk_at dksX2_undo_1 23 rfl rfl)
theorem dX2_undo_47 : decode cX2_undo 47 = .ok (.iadd, 1) := dk_96 (dk_at dksX2_undo_2 0 rfl rfl)
theorem dX2_undo_48 : decode cX2_undo 48 = .ok (.laload, 1) := dk_47 (dk_at dksX2_undo_2 1 rfl rfl)
theorem dX2_undo_49 : decode cX2_undo 49 = .ok (.lastore, 1) := dk_80 (dk_at dksX2_undo_2 2 rfl rfl)
theorem dX2_undo_50 : decode cX2_undo 50 = .ok (.iinc 1 1, 3) := dk_132 1 1 (dk_at dksX2_undo_2 3 rfl rfl)
theorem dX2_undo_53 : decode cX2_undo 53 = .ok (.goto (-31), 3) := dk_167 255 225 (dk_at dksX2_undo_2 6 rfl rfl)
theorem dX2_undo_56 : decode cX2_undo 56 = .ok (.aload_n 0, 1) := dk_42 (dk_at dksX2_undo_2 9 rfl rfl)
theorem dX2_undo_57 : decode cX2_undo 57 = .ok (.getfield 49, 3) := dk_180 0 49 (dk_at dksX2_undo_2 10 rfl rfl)
theorem dX2_undo_60 : decode cX2_undo 60 = .ok (.ireturn, 1) := dk_172 (dk_at dksX2_undo_2 13 rfl rfl)
abbrev cX2_save : ByteArray := prog_10_method_64_code
def yX2_save : MethodName := ⟨RX2, "save", "(I)I"⟩
def dkwX2_save_2 : List UInt8 := [180, 0, 19, 27, 4, 84, 42, 16, 7, 182, 0, 37, 172]
abbrev dktX2_save_2 : List UInt8 := dkwX2_save_2 ++ []
def dkwX2_save_1 : List UInt8 := [180, 0, 16, 17, 0, 138, 27, 104, 28, 96, 42, 180, 0, 7, 28, 47, 80, 132, 2, 1, 167, 255, 228, 42]
abbrev dktX2_save_1 : List UInt8 := dkwX2_save_1 ++ dktX2_save_2
def dkwX2_save_0 : List UInt8 := [27, 3, 4, 184, 0, 41, 154, 0, 6, 16, 254, 172, 3, 61, 28, 17, 0, 138, 162, 0, 27, 42]
abbrev dktX2_save_0 : List UInt8 := dkwX2_save_0 ++ dktX2_save_1
theorem dksX2_save_0 : cX2_save.data.toList.drop 0 = dktX2_save_0 := by decide +kernel
theorem dksX2_save_1 : cX2_save.data.toList.drop 22 = dktX2_save_1 := dk_seg dksX2_save_0 22 rfl rfl
theorem dksX2_save_2 : cX2_save.data.toList.drop 46 = dktX2_save_2 := dk_seg dksX2_save_1 24 rfl rfl
theorem dX2_save_0 : decode cX2_save 0 = .ok (.iload_n 1, 1) := dk_27 (dk_at dksX2_save_0 0 rfl rfl)
theorem dX2_save_1 : decode cX2_save 1 = .ok (.iconst 0, 1) := dk_3 (dk_at dksX2_save_0 1 rfl rfl)
theorem dX2_save_2 : decode cX2_save 2 = .ok (.iconst 1, 1) := dk_4 (dk_at dksX2_save_0 2 rfl rfl)
theorem dX2_save_3 : decode cX2_save 3 = .ok (.invokestatic 41, 3) := dk_184 0 41 (dk_at dksX2_save_0 3 rfl rfl)
theorem dX2_save_6 : decode cX2_save 6 = .ok (.ifCond .ne 6, 3) := dk_154 0 6 (dk_at dksX2_save_0 6 rfl rfl)
theorem dX2_save_9 : decode cX2_save 9 = .ok (.bipush (-2), 2) := dk_16 254 (dk_at dksX2_save_0 9 rfl rfl)
theorem dX2_save_11 : decode cX2_save 11 = .ok (.ireturn, 1) := dk_172 (dk_at dksX2_save_0 11 rfl rfl)
theorem dX2_save_12 : decode cX2_save 12 = .ok (.iconst 0, 1) := dk_3 (dk_at dksX2_save_0 12 rfl rfl)
theorem dX2_save_13 : decode cX2_save 13 = .ok (.istore_n 2, 1) := dk_61 (dk_at dksX2_save_0 13 rfl rfl)
theorem dX2_save_14 : decode cX2_save 14 = .ok (.iload_n 2, 1) := dk_28 (dk_at dksX2_save_0 14 rfl rfl)
theorem dX2_save_15 : decode cX2_save 15 = .ok (.sipush 138, 3) := dk_17 0 138 (dk_at dksX2_save_0 15 rfl rfl)
theorem dX2_save_18 : decode cX2_save 18 = .ok (.if_icmp .ge 27, 3) := dk_162 0 27 (dk_at dksX2_save_0 18 rfl rfl)
theorem dX2_save_21 : decode cX2_save 21 = .ok (.aload_n 0, 1) := dk_42 (dk_at dksX2_save_0 21 rfl rfl)
theorem dX2_save_22 : decode cX2_save 22 = .ok (.getfield 16, 3) := dk_180 0 16 (dk_at dksX2_save_1 0 rfl rfl)
theorem dX2_save_25 : decode cX2_save 25 = .ok (.sipush 138, 3) := dk_17 0 138 (dk_at dksX2_save_1 3 rfl rfl)
theorem dX2_save_28 : decode cX2_save 28 = .ok (.iload_n 1, 1) := dk_27 (dk_at dksX2_save_1 6 rfl rfl)
theorem dX2_save_29 : decode cX2_save 29 = .ok (.imul, 1) := dk_104 (dk_at dksX2_save_1 7 rfl rfl)
theorem dX2_save_30 : decode cX2_save 30 = .ok (.iload_n 2, 1) := dk_28 (dk_at dksX2_save_1 8 rfl rfl)
theorem dX2_save_31 : decode cX2_save 31 = .ok (.iadd, 1) := dk_96 (dk_at dksX2_save_1 9 rfl rfl)
theorem dX2_save_32 : decode cX2_save 32 = .ok (.aload_n 0, 1) := dk_42 (dk_at dksX2_save_1 10 rfl rfl)
theorem dX2_save_33 : decode cX2_save 33 = .ok (.getfield 7, 3) := dk_180 0 7 (dk_at dksX2_save_1 11 rfl rfl)
theorem dX2_save_36 : decode cX2_save 36 = .ok (.iload_n 2, 1) := dk_28 (dk_at dksX2_save_1 14 rfl rfl)
theorem dX2_save_37 : decode cX2_save 37 = .ok (.laload, 1) := dk_47 (dk_at dksX2_save_1 15 rfl rfl)
theorem dX2_save_38 : decode cX2_save 38 = .ok (.lastore, 1) := dk_80 (dk_at dksX2_save_1 16 rfl rfl)
theorem dX2_save_39 : decode cX2_save 39 = .ok (.iinc 2 1, 3) := dk_132 2 1 (dk_at dksX2_save_1 17 rfl rfl)
theorem dX2_save_42 : decode cX2_save 42 = .ok (.goto (-28), 3) := dk_167 255 228 (dk_at dksX2_save_1 20 rfl rfl)
theorem dX2_save_45 : decode cX2_save 45 = .ok (.aload_n 0, 1) := dk_42 (dk_at dksX2_save_1 23 rfl rfl)
theorem dX2_save_46 : decode cX2_save 46 = .ok (.getfield 19, 3) := dk_180 0 19 (dk_at dksX2_save_2 0 rfl rfl)
theorem dX2_save_49 : decode cX2_save 49 = .ok (.iload_n 1, 1) := dk_27 (dk_at dksX2_save_2 3 rfl rfl)
theorem dX2_save_50 : decode cX2_save 50 = .ok (.iconst 1, 1) := dk_4 (dk_at dksX2_save_2 4 rfl rfl)
theorem dX2_save_51 : decode cX2_save 51 = .ok (.bastore, 1) := dk_84 (dk_at dksX2_save_2 5 rfl rfl)
theorem dX2_save_52 : decode cX2_save 52 = .ok (.aload_n 0, 1) := dk_42 (dk_at dksX2_save_2 6 rfl rfl)
theorem dX2_save_53 : decode cX2_save 53 = .ok (.bipush 7, 2) := dk_16 7 (dk_at dksX2_save_2 7 rfl rfl)
theorem dX2_save_55 : decode cX2_save 55 = .ok (.invokevirtual 37, 3) := dk_182 0 37 (dk_at dksX2_save_2 9 rfl rfl)
theorem dX2_save_58 : decode cX2_save 58 = .ok (.ireturn, 1) := dk_172 (dk_at dksX2_save_2 12 rfl rfl)
abbrev cX2_restore : ByteArray := prog_10_method_65_code
def yX2_restore : MethodName := ⟨RX2, "restore", "(I)I"⟩
def dkwX2_restore_2 : List UInt8 := [17, 0, 138, 27, 104, 28, 96, 47, 80, 132, 2, 1, 167, 255, 228, 42, 16, 7, 182, 0, 37, 172]
abbrev dktX2_restore_2 : List UInt8 := dkwX2_restore_2 ++ []
def dkwX2_restore_1 : List UInt8 := [42, 182, 0, 92, 3, 61, 28, 17, 0, 138, 162, 0, 27, 42, 180, 0, 7, 28, 42, 180, 0, 16]
abbrev dktX2_restore_1 : List UInt8 := dkwX2_restore_1 ++ dktX2_restore_2
def dkwX2_restore_0 : List UInt8 := [27, 3, 4, 184, 0, 41, 154, 0, 6, 16, 254, 172, 42, 180, 0, 19, 27, 51, 154, 0, 6, 16, 251, 172]
abbrev dktX2_restore_0 : List UInt8 := dkwX2_restore_0 ++ dktX2_restore_1
theorem dksX2_restore_0 : cX2_restore.data.toList.drop 0 = dktX2_restore_0 := by decide +kernel
theorem dksX2_restore_1 : cX2_restore.data.toList.drop 24 = dktX2_restore_1 := dk_seg dksX2_restore_0 24 rfl rfl
theorem dksX2_restore_2 : cX2_restore.data.toList.drop 46 = dktX2_restore_2 := dk_seg dksX2_restore_1 22 rfl rfl
theorem dX2_restore_0 : decode cX2_restore 0 = .ok (.iload_n 1, 1) := dk_27 (dk_at dksX2_restore_0 0 rfl rfl)
theorem dX2_restore_1 : decode cX2_restore 1 = .ok (.iconst 0, 1) := dk_3 (dk_at dksX2_restore_0 1 rfl rfl)
theorem dX2_restore_2 : decode cX2_restore 2 = .ok (.iconst 1, 1) := dk_4 (dk_at dksX2_restore_0 2 rfl rfl)
theorem dX2_restore_3 : decode cX2_restore 3 = .ok (.invokestatic 41, 3) := dk_184 0 41 (dk_at dksX2_restore_0 3 rfl rfl)
theorem dX2_restore_6 : decode cX2_restore 6 = .ok (.ifCond .ne 6, 3) := dk_154 0 6 (dk_at dksX2_restore_0 6 rfl rfl)
theorem dX2_restore_9 : decode cX2_restore 9 = .ok (.bipush (-2), 2) := dk_16 254 (dk_at dksX2_restore_0 9 rfl rfl)
theorem dX2_restore_11 : decode cX2_restore 11 = .ok (.ireturn, 1) := dk_172 (dk_at dksX2_restore_0 11 rfl rfl)
theorem dX2_restore_12 : decode cX2_restore 12 = .ok (.aload_n 0, 1) := dk_42 (dk_at dksX2_restore_0 12 rfl rfl)
theorem dX2_restore_13 : decode cX2_restore 13 = .ok (.getfield 19, 3) := dk_180 0 19 (dk_at dksX2_restore_0 13 rfl rfl)
theorem dX2_restore_16 : decode cX2_restore 16 = .ok (.iload_n 1, 1) := dk_27 (dk_at dksX2_restore_0 16 rfl rfl)
theorem dX2_restore_17 : decode cX2_restore 17 = .ok (.baload, 1) := dk_51 (dk_at dksX2_restore_0 17 rfl rfl)
theorem dX2_restore_18 : decode cX2_restore 18 = .ok (.ifCond .ne 6, 3) := dk_154 0 6 (dk_at dksX2_restore_0 18 rfl rfl)
theorem dX2_restore_21 : decode cX2_restore 21 = .ok (.bipush (-5), 2) := dk_16 251 (dk_at dksX2_restore_0 21 rfl rfl)
theorem dX2_restore_23 : decode cX2_restore 23 = .ok (.ireturn, 1) := dk_172 (dk_at dksX2_restore_0 23 rfl rfl)
theorem dX2_restore_24 : decode cX2_restore 24 = .ok (.aload_n 0, 1) := dk_42 (dk_at dksX2_restore_1 0 rfl rfl)
theorem dX2_restore_25 : decode cX2_restore 25 = .ok (.invokevirtual 92, 3) := dk_182 0 92 (dk_at dksX2_restore_1 1 rfl rfl)
theorem dX2_restore_28 : decode cX2_restore 28 = .ok (.iconst 0, 1) := dk_3 (dk_at dksX2_restore_1 4 rfl rfl)
theorem dX2_restore_29 : decode cX2_restore 29 = .ok (.istore_n 2, 1) := dk_61 (dk_at dksX2_restore_1 5 rfl rfl)
theorem dX2_restore_30 : decode cX2_restore 30 = .ok (.iload_n 2, 1) := dk_28 (dk_at dksX2_restore_1 6 rfl rfl)
theorem dX2_restore_31 : decode cX2_restore 31 = .ok (.sipush 138, 3) := dk_17 0 138 (dk_at dksX2_restore_1 7 rfl rfl)
theorem dX2_restore_34 : decode cX2_restore 34 = .ok (.if_icmp .ge 27, 3) := dk_162 0 27 (dk_at dksX2_restore_1 10 rfl rfl)
theorem dX2_restore_37 : decode cX2_restore 37 = .ok (.aload_n 0, 1) := dk_42 (dk_at dksX2_restore_1 13 rfl rfl)
theorem dX2_restore_38 : decode cX2_restore 38 = .ok (.getfield 7, 3) := dk_180 0 7 (dk_at dksX2_restore_1 14 rfl rfl)
theorem dX2_restore_41 : decode cX2_restore 41 = .ok (.iload_n 2, 1) := dk_28 (dk_at dksX2_restore_1 17 rfl rfl)
theorem dX2_restore_42 : decode cX2_restore 42 = .ok (.aload_n 0, 1) := dk_42 (dk_at dksX2_restore_1 18 rfl rfl)
theorem dX2_restore_43 : decode cX2_restore 43 = .ok (.getfield 16, 3) := dk_180 0 16 (dk_at dksX2_restore_1 19 rfl rfl)
theorem dX2_restore_46 : decode cX2_restore 46 = .ok (.sipush 138, 3) := dk_17 0 138 (dk_at dksX2_restore_2 0 rfl rfl)
theorem dX2_restore_49 : decode cX2_restore 49 = .ok (.iload_n 1, 1) := dk_27 (dk_at dksX2_restore_2 3 rfl rfl)
theorem dX2_restore_50 : decode cX2_restore 50 = .ok (.imul, 1) := dk_104 (dk_at dksX2_restore_2 4 rfl rfl)
theorem dX2_restore_51 : decode cX2_restore 51 = .ok (.iload_n 2, 1) := dk_28 (dk_at dksX2_restore_2 5 rfl rfl)
theorem dX2_restore_52 : decode cX2_restore 52 = .ok (.iadd, 1) := dk_96 (dk_at dksX2_restore_2 6 rfl rfl)
theorem dX2_restore_53 : decode cX2_restore 53 = .ok (.laload, 1) := dk_47 (dk_at dksX2_restore_2 7 rfl rfl)
theorem dX2_restore_54 : decode cX2_restore 54 = .ok (.lastore, 1) := dk_80 (dk_at dksX2_restore_2 8 rfl rfl)
theorem dX2_restore_55 : decode cX2_restore 55 = .ok (.iinc 2 1, 3) := dk_132 2 1 (dk_at dksX2_restore_2 9 rfl rfl)
theorem dX2_restore_58 : decode cX2_restore 58 = .ok (.goto (-28), 3) := dk_167 255 228 (dk_at dksX2_restore_2 12 rfl rfl)
theorem dX2_restore_61 : decode cX2_restore 61 = .ok (.aload_n 0, 1) := dk_42 (dk_at dksX2_restore_2 15 rfl rfl)
theorem dX2_restore_62 : decode cX2_restore 62 = .ok (.bipush 7, 2) := dk_16 7 (dk_at dksX2_restore_2 16 rfl rfl)
theorem dX2_restore_64 : decode cX2_restore 64 = .ok (.invokevirtual 37, 3) := dk_182 0 37 (dk_at dksX2_restore_2 18 rfl rfl)
theorem dX2_restore_67 : decode cX2_restore 67 = .ok (.ireturn, 1) := dk_172 (dk_at dksX2_restore_2 21 rfl rfl)
theorem q82 : (Jvm.Cond.initialized "EnergyDiscsModel") ∈ lw_all := lw_g (lw_at lw_m1 10 rfl) rfl
theorem q391 : (Jvm.Cond.selects "EnergyDiscsModel" ({ cls := "java/lang/Object", name := "getClass", desc := "()Ljava/lang/Class;" } : Jvm.MethodName) ({ cls := "java/lang/Object", name := "getClass", desc := "()Ljava/lang/Class;" } : Jvm.MethodName)) ∈ lw_all := lw_g (lw_at lw_m2 79 rfl) rfl
theorem q1242 : (Jvm.Cond.instantiable "EnergyDiscsModel" (7 : Nat)) ∈ lw_all := lw_g (lw_at lw_m5 210 rfl) rfl
theorem q1244 : (Jvm.Cond.instanceMethod ({ cls := "EnergyDiscsModel", name := "<init>", desc := "()V" } : Jvm.MethodName)) ∈ lw_all := lw_g (lw_at lw_m5 212 rfl) rfl
theorem q1245 : (Jvm.Cond.code ({ cls := "EnergyDiscsModel", name := "<init>", desc := "()V" } : Jvm.MethodName) prog_10_method_1_code (1 : Nat) (Option.none : Option Jvm.ClassFile.FieldType)) ∈ lw_all := lw_g (lw_at lw_m5 213 rfl) rfl
theorem q1246 : (Jvm.Cond.methodLink "EnergyDiscsModel" (1 : Nat) ({ cls := "java/lang/Object", name := "<init>", desc := "()V" } : Jvm.MethodName)) ∈ lw_all := lw_g (lw_at lw_m5 214 rfl) rfl
theorem q1247 : (Jvm.Cond.constantLong "EnergyDiscsModel" (27 : Nat) (15 : Int64)) ∈ lw_all := lw_g (lw_at lw_m5 215 rfl) rfl
theorem q1248 : (Jvm.Cond.constantLong "EnergyDiscsModel" (29 : Nat) (2 : Int64)) ∈ lw_all := lw_g (lw_at lw_m5 216 rfl) rfl
theorem q1249 : (Jvm.Cond.constantLong "EnergyDiscsModel" (31 : Nat) (1000 : Int64)) ∈ lw_all := lw_g (lw_at lw_m5 217 rfl) rfl
theorem q1250 : (Jvm.Cond.constantLong "EnergyDiscsModel" (33 : Nat) (9 : Int64)) ∈ lw_all := lw_g (lw_at lw_m5 218 rfl) rfl
theorem q1251 : (Jvm.Cond.constantLong "EnergyDiscsModel" (35 : Nat) (5 : Int64)) ∈ lw_all := lw_g (lw_at lw_m5 219 rfl) rfl
theorem q1252 : (Jvm.Cond.fieldLink "EnergyDiscsModel" (7 : Nat) "EnergyDiscsModel" "s" "[J") ∈ lw_all := lw_g (lw_at lw_m5 220 rfl) rfl
theorem q1253 : (Jvm.Cond.fieldLink "EnergyDiscsModel" (13 : Nat) "EnergyDiscsModel" "past" "[J") ∈ lw_all := lw_g (lw_at lw_m5 221 rfl) rfl
theorem q1254 : (Jvm.Cond.fieldLink "EnergyDiscsModel" (49 : Nat) "EnergyDiscsModel" "known" "I") ∈ lw_all := lw_g (lw_at lw_m5 222 rfl) rfl
theorem q1255 : (Jvm.Cond.fieldLink "EnergyDiscsModel" (16 : Nat) "EnergyDiscsModel" "slots" "[J") ∈ lw_all := lw_g (lw_at lw_m5 223 rfl) rfl
theorem q1256 : (Jvm.Cond.fieldLink "EnergyDiscsModel" (19 : Nat) "EnergyDiscsModel" "isSaved" "[Z") ∈ lw_all := lw_g (lw_at lw_m5 224 rfl) rfl
theorem q1257 : (Jvm.Cond.fieldLink "EnergyDiscsModel" (23 : Nat) "EnergyDiscsModel" "pad" "[I") ∈ lw_all := lw_g (lw_at lw_m5 225 rfl) rfl
theorem q1258 : (Jvm.Cond.fieldLink "EnergyDiscsModel" (135 : Nat) "EnergyDiscsModel" "length" "I") ∈ lw_all := lw_g (lw_at lw_m5 226 rfl) rfl
theorem q1259 : (Jvm.Cond.laysFinal "EnergyDiscsModel" "EnergyDiscsModel" "s" "[J") ∈ lw_all := lw_g (lw_at lw_m5 227 rfl) rfl
theorem q1260 : (Jvm.Cond.soleField "EnergyDiscsModel" "s") ∈ lw_all := lw_g (lw_at lw_m5 228 rfl) rfl
theorem q1261 : (Jvm.Cond.laysFinal "EnergyDiscsModel" "EnergyDiscsModel" "past" "[J") ∈ lw_all := lw_g (lw_at lw_m5 229 rfl) rfl
theorem q1262 : (Jvm.Cond.soleField "EnergyDiscsModel" "past") ∈ lw_all := lw_g (lw_at lw_m5 230 rfl) rfl
theorem q1263 : (Jvm.Cond.lays "EnergyDiscsModel" "EnergyDiscsModel" "known" "I") ∈ lw_all := lw_g (lw_at lw_m5 231 rfl) rfl
theorem q1264 : (Jvm.Cond.soleField "EnergyDiscsModel" "known") ∈ lw_all := lw_g (lw_at lw_m5 232 rfl) rfl
theorem q1265 : (Jvm.Cond.laysFinal "EnergyDiscsModel" "EnergyDiscsModel" "slots" "[J") ∈ lw_all := lw_g (lw_at lw_m5 233 rfl) rfl
theorem q1266 : (Jvm.Cond.soleField "EnergyDiscsModel" "slots") ∈ lw_all := lw_g (lw_at lw_m5 234 rfl) rfl
theorem q1267 : (Jvm.Cond.laysFinal "EnergyDiscsModel" "EnergyDiscsModel" "isSaved" "[Z") ∈ lw_all := lw_g (lw_at lw_m5 235 rfl) rfl
theorem q1268 : (Jvm.Cond.soleField "EnergyDiscsModel" "isSaved") ∈ lw_all := lw_g (lw_at lw_m5 236 rfl) rfl
theorem q1269 : (Jvm.Cond.laysFinal "EnergyDiscsModel" "EnergyDiscsModel" "pad" "[I") ∈ lw_all := lw_g (lw_at lw_m5 237 rfl) rfl
theorem q1270 : (Jvm.Cond.soleField "EnergyDiscsModel" "pad") ∈ lw_all := lw_g (lw_at lw_m5 238 rfl) rfl
theorem q1271 : (Jvm.Cond.lays "EnergyDiscsModel" "EnergyDiscsModel" "length" "I") ∈ lw_all := lw_g (lw_at lw_m5 239 rfl) rfl
theorem q1272 : (Jvm.Cond.soleField "EnergyDiscsModel" "length") ∈ lw_all := lw_g (lw_at lw_m6 0 rfl) rfl
theorem q1273 : (Jvm.Cond.superclass "EnergyDiscsModel" "java/lang/Object") ∈ lw_all := lw_g (lw_at lw_m6 1 rfl) rfl
theorem q1277 : (Jvm.Cond.instanceMethod ({ cls := "EnergyDiscsModel", name := "set", desc := "(II)I" } : Jvm.MethodName)) ∈ lw_all := lw_g (lw_at lw_m6 5 rfl) rfl
theorem q1278 : (Jvm.Cond.selects "EnergyDiscsModel" ({ cls := "EnergyDiscsModel", name := "set", desc := "(II)I" } : Jvm.MethodName) ({ cls := "EnergyDiscsModel", name := "set", desc := "(II)I" } : Jvm.MethodName)) ∈ lw_all := lw_g (lw_at lw_m6 6 rfl) rfl
theorem q1279 : (Jvm.Cond.code ({ cls := "EnergyDiscsModel", name := "set", desc := "(II)I" } : Jvm.MethodName) prog_10_method_18_code (4 : Nat) (Option.some Jvm.ClassFile.FieldType.int)) ∈ lw_all := lw_g (lw_at lw_m6 7 rfl) rfl
theorem q1280 : (Jvm.Cond.methodLink "EnergyDiscsModel" (41 : Nat) ({ cls := "EnergyDiscsModel", name := "in", desc := "(III)Z" } : Jvm.MethodName)) ∈ lw_all := lw_g (lw_at lw_m6 8 rfl) rfl
theorem q1281 : (Jvm.Cond.static ({ cls := "EnergyDiscsModel", name := "in", desc := "(III)Z" } : Jvm.MethodName)) ∈ lw_all := lw_g (lw_at lw_m6 9 rfl) rfl
theorem q1282 : (Jvm.Cond.code ({ cls := "EnergyDiscsModel", name := "in", desc := "(III)Z" } : Jvm.MethodName) prog_10_method_3_code (3 : Nat) (Option.some Jvm.ClassFile.FieldType.boolean)) ∈ lw_all := lw_g (lw_at lw_m6 10 rfl) rfl
theorem q1283 : (Jvm.Cond.methodLink "EnergyDiscsModel" (86 : Nat) ({ cls := "EnergyDiscsModel", name := "lowOf", desc := "(I)I" } : Jvm.MethodName)) ∈ lw_all := lw_g (lw_at lw_m6 11 rfl) rfl
theorem q1284 : (Jvm.Cond.static ({ cls := "EnergyDiscsModel", name := "lowOf", desc := "(I)I" } : Jvm.MethodName)) ∈ lw_all := lw_g (lw_at lw_m6 12 rfl) rfl
theorem q1285 : (Jvm.Cond.code ({ cls := "EnergyDiscsModel", name := "lowOf", desc := "(I)I" } : Jvm.MethodName) prog_10_method_16_code (1 : Nat) (Option.some Jvm.ClassFile.FieldType.int)) ∈ lw_all := lw_g (lw_at lw_m6 13 rfl) rfl
theorem q1286 : (Jvm.Cond.methodLink "EnergyDiscsModel" (89 : Nat) ({ cls := "EnergyDiscsModel", name := "highOf", desc := "(I)I" } : Jvm.MethodName)) ∈ lw_all := lw_g (lw_at lw_m6 14 rfl) rfl
theorem q1287 : (Jvm.Cond.static ({ cls := "EnergyDiscsModel", name := "highOf", desc := "(I)I" } : Jvm.MethodName)) ∈ lw_all := lw_g (lw_at lw_m6 15 rfl) rfl
theorem q1288 : (Jvm.Cond.code ({ cls := "EnergyDiscsModel", name := "highOf", desc := "(I)I" } : Jvm.MethodName) prog_10_method_17_code (1 : Nat) (Option.some Jvm.ClassFile.FieldType.int)) ∈ lw_all := lw_g (lw_at lw_m6 16 rfl) rfl
theorem q1289 : (Jvm.Cond.methodLink "EnergyDiscsModel" (92 : Nat) ({ cls := "EnergyDiscsModel", name := "remembers", desc := "()V" } : Jvm.MethodName)) ∈ lw_all := lw_g (lw_at lw_m6 17 rfl) rfl
theorem q1290 : (Jvm.Cond.privateMethod ({ cls := "EnergyDiscsModel", name := "remembers", desc := "()V" } : Jvm.MethodName)) ∈ lw_tbl := lw_at lw_m6 18 rfl
theorem q1291 : (Jvm.Cond.instanceMethod ({ cls := "EnergyDiscsModel", name := "remembers", desc := "()V" } : Jvm.MethodName)) ∈ lw_all := lw_g (lw_at lw_m6 19 rfl) rfl
theorem q1292 : (Jvm.Cond.code ({ cls := "EnergyDiscsModel", name := "remembers", desc := "()V" } : Jvm.MethodName) prog_10_method_8_code (2 : Nat) (Option.none : Option Jvm.ClassFile.FieldType)) ∈ lw_all := lw_g (lw_at lw_m6 20 rfl) rfl
theorem q1293 : (Jvm.Cond.methodLink "EnergyDiscsModel" (37 : Nat) ({ cls := "EnergyDiscsModel", name := "num", desc := "(I)I" } : Jvm.MethodName)) ∈ lw_all := lw_g (lw_at lw_m6 21 rfl) rfl
theorem q1294 : (Jvm.Cond.privateMethod ({ cls := "EnergyDiscsModel", name := "num", desc := "(I)I" } : Jvm.MethodName)) ∈ lw_tbl := lw_at lw_m6 22 rfl
theorem q1295 : (Jvm.Cond.instanceMethod ({ cls := "EnergyDiscsModel", name := "num", desc := "(I)I" } : Jvm.MethodName)) ∈ lw_all := lw_g (lw_at lw_m6 23 rfl) rfl
theorem q1296 : (Jvm.Cond.code ({ cls := "EnergyDiscsModel", name := "num", desc := "(I)I" } : Jvm.MethodName) prog_10_method_4_code (2 : Nat) (Option.some Jvm.ClassFile.FieldType.int)) ∈ lw_all := lw_g (lw_at lw_m6 24 rfl) rfl
theorem q1298 : (Jvm.Cond.instanceMethod ({ cls := "EnergyDiscsModel", name := "meter", desc := "(I)I" } : Jvm.MethodName)) ∈ lw_all := lw_g (lw_at lw_m6 26 rfl) rfl
theorem q1299 : (Jvm.Cond.selects "EnergyDiscsModel" ({ cls := "EnergyDiscsModel", name := "meter", desc := "(I)I" } : Jvm.MethodName) ({ cls := "EnergyDiscsModel", name := "meter", desc := "(I)I" } : Jvm.MethodName)) ∈ lw_all := lw_g (lw_at lw_m6 27 rfl) rfl
theorem q1300 : (Jvm.Cond.code ({ cls := "EnergyDiscsModel", name := "meter", desc := "(I)I" } : Jvm.MethodName) prog_10_method_21_code (3 : Nat) (Option.some Jvm.ClassFile.FieldType.int)) ∈ lw_all := lw_g (lw_at lw_m6 28 rfl) rfl
theorem q1301 : (Jvm.Cond.methodLink "EnergyDiscsModel" (101 : Nat) ({ cls := "EnergyDiscsModel", name := "whyNotMeter", desc := "(I)I" } : Jvm.MethodName)) ∈ lw_all := lw_g (lw_at lw_m6 29 rfl) rfl
theorem q1302 : (Jvm.Cond.privateMethod ({ cls := "EnergyDiscsModel", name := "whyNotMeter", desc := "(I)I" } : Jvm.MethodName)) ∈ lw_tbl := lw_at lw_m6 30 rfl
theorem q1303 : (Jvm.Cond.instanceMethod ({ cls := "EnergyDiscsModel", name := "whyNotMeter", desc := "(I)I" } : Jvm.MethodName)) ∈ lw_all := lw_g (lw_at lw_m6 31 rfl) rfl
theorem q1304 : (Jvm.Cond.code ({ cls := "EnergyDiscsModel", name := "whyNotMeter", desc := "(I)I" } : Jvm.MethodName) prog_10_method_19_code (2 : Nat) (Option.some Jvm.ClassFile.FieldType.int)) ∈ lw_all := lw_g (lw_at lw_m6 32 rfl) rfl
theorem q1305 : (Jvm.Cond.methodLink "EnergyDiscsModel" (95 : Nat) ({ cls := "EnergyDiscsModel", name := "isMeter", desc := "(I)Z" } : Jvm.MethodName)) ∈ lw_all := lw_g (lw_at lw_m6 33 rfl) rfl
theorem q1306 : (Jvm.Cond.privateMethod ({ cls := "EnergyDiscsModel", name := "isMeter", desc := "(I)Z" } : Jvm.MethodName)) ∈ lw_tbl := lw_at lw_m6 34 rfl
theorem q1307 : (Jvm.Cond.instanceMethod ({ cls := "EnergyDiscsModel", name := "isMeter", desc := "(I)Z" } : Jvm.MethodName)) ∈ lw_all := lw_g (lw_at lw_m6 35 rfl) rfl
theorem q1308 : (Jvm.Cond.code ({ cls := "EnergyDiscsModel", name := "isMeter", desc := "(I)Z" } : Jvm.MethodName) prog_10_method_5_code (2 : Nat) (Option.some Jvm.ClassFile.FieldType.boolean)) ∈ lw_all := lw_g (lw_at lw_m6 36 rfl) rfl
theorem q1309 : (Jvm.Cond.methodLink "EnergyDiscsModel" (104 : Nat) ({ cls := "EnergyDiscsModel", name := "comes", desc := "(I)I" } : Jvm.MethodName)) ∈ lw_all := lw_g (lw_at lw_m6 37 rfl) rfl
theorem q1310 : (Jvm.Cond.privateMethod ({ cls := "EnergyDiscsModel", name := "comes", desc := "(I)I" } : Jvm.MethodName)) ∈ lw_tbl := lw_at lw_m6 38 rfl
theorem q1311 : (Jvm.Cond.instanceMethod ({ cls := "EnergyDiscsModel", name := "comes", desc := "(I)I" } : Jvm.MethodName)) ∈ lw_all := lw_g (lw_at lw_m6 39 rfl) rfl
theorem q1312 : (Jvm.Cond.code ({ cls := "EnergyDiscsModel", name := "comes", desc := "(I)I" } : Jvm.MethodName) prog_10_method_20_code (4 : Nat) (Option.some Jvm.ClassFile.FieldType.int)) ∈ lw_all := lw_g (lw_at lw_m6 40 rfl) rfl
theorem q1313 : (Jvm.Cond.methodLink "EnergyDiscsModel" (45 : Nat) ({ cls := "EnergyDiscsModel", name := "at", desc := "(II)I" } : Jvm.MethodName)) ∈ lw_all := lw_g (lw_at lw_m6 41 rfl) rfl
theorem q1314 : (Jvm.Cond.static ({ cls := "EnergyDiscsModel", name := "at", desc := "(II)I" } : Jvm.MethodName)) ∈ lw_all := lw_g (lw_at lw_m6 42 rfl) rfl
theorem q1315 : (Jvm.Cond.code ({ cls := "EnergyDiscsModel", name := "at", desc := "(II)I" } : Jvm.MethodName) prog_10_method_6_code (2 : Nat) (Option.some Jvm.ClassFile.FieldType.int)) ∈ lw_all := lw_g (lw_at lw_m6 43 rfl) rfl
theorem q1316 : (Jvm.Cond.constantLong "EnergyDiscsModel" (99 : Nat) (-1 : Int64)) ∈ lw_all := lw_g (lw_at lw_m6 44 rfl) rfl
theorem q1317 : (Jvm.Cond.constantLong "EnergyDiscsModel" (66 : Nat) (100 : Int64)) ∈ lw_all := lw_g (lw_at lw_m6 45 rfl) rfl
theorem q1319 : (Jvm.Cond.instanceMethod ({ cls := "EnergyDiscsModel", name := "load", desc := "(II)I" } : Jvm.MethodName)) ∈ lw_all := lw_g (lw_at lw_m6 47 rfl) rfl
theorem q1320 : (Jvm.Cond.selects "EnergyDiscsModel" ({ cls := "EnergyDiscsModel", name := "load", desc := "(II)I" } : Jvm.MethodName) ({ cls := "EnergyDiscsModel", name := "load", desc := "(II)I" } : Jvm.MethodName)) ∈ lw_all := lw_g (lw_at lw_m6 48 rfl) rfl
theorem q1321 : (Jvm.Cond.code ({ cls := "EnergyDiscsModel", name := "load", desc := "(II)I" } : Jvm.MethodName) prog_10_method_24_code (4 : Nat) (Option.some Jvm.ClassFile.FieldType.int)) ∈ lw_all := lw_g (lw_at lw_m6 49 rfl) rfl
theorem q1322 : (Jvm.Cond.methodLink "EnergyDiscsModel" (107 : Nat) ({ cls := "EnergyDiscsModel", name := "whyNotLoad", desc := "(II)I" } : Jvm.MethodName)) ∈ lw_all := lw_g (lw_at lw_m6 50 rfl) rfl
theorem q1323 : (Jvm.Cond.privateMethod ({ cls := "EnergyDiscsModel", name := "whyNotLoad", desc := "(II)I" } : Jvm.MethodName)) ∈ lw_tbl := lw_at lw_m6 51 rfl
theorem q1324 : (Jvm.Cond.instanceMethod ({ cls := "EnergyDiscsModel", name := "whyNotLoad", desc := "(II)I" } : Jvm.MethodName)) ∈ lw_all := lw_g (lw_at lw_m6 52 rfl) rfl
theorem q1325 : (Jvm.Cond.code ({ cls := "EnergyDiscsModel", name := "whyNotLoad", desc := "(II)I" } : Jvm.MethodName) prog_10_method_22_code (3 : Nat) (Option.some Jvm.ClassFile.FieldType.int)) ∈ lw_all := lw_g (lw_at lw_m6 53 rfl) rfl
theorem q1326 : (Jvm.Cond.methodLink "EnergyDiscsModel" (110 : Nat) ({ cls := "EnergyDiscsModel", name := "loads", desc := "(II)I" } : Jvm.MethodName)) ∈ lw_all := lw_g (lw_at lw_m6 54 rfl) rfl
theorem q1327 : (Jvm.Cond.privateMethod ({ cls := "EnergyDiscsModel", name := "loads", desc := "(II)I" } : Jvm.MethodName)) ∈ lw_tbl := lw_at lw_m6 55 rfl
theorem q1328 : (Jvm.Cond.instanceMethod ({ cls := "EnergyDiscsModel", name := "loads", desc := "(II)I" } : Jvm.MethodName)) ∈ lw_all := lw_g (lw_at lw_m6 56 rfl) rfl
theorem q1329 : (Jvm.Cond.code ({ cls := "EnergyDiscsModel", name := "loads", desc := "(II)I" } : Jvm.MethodName) prog_10_method_23_code (4 : Nat) (Option.some Jvm.ClassFile.FieldType.int)) ∈ lw_all := lw_g (lw_at lw_m6 57 rfl) rfl
theorem q1331 : (Jvm.Cond.instanceMethod ({ cls := "EnergyDiscsModel", name := "turn", desc := "(I)I" } : Jvm.MethodName)) ∈ lw_all := lw_g (lw_at lw_m6 59 rfl) rfl
theorem q1332 : (Jvm.Cond.selects "EnergyDiscsModel" ({ cls := "EnergyDiscsModel", name := "turn", desc := "(I)I" } : Jvm.MethodName) ({ cls := "EnergyDiscsModel", name := "turn", desc := "(I)I" } : Jvm.MethodName)) ∈ lw_all := lw_g (lw_at lw_m6 60 rfl) rfl
theorem q1333 : (Jvm.Cond.code ({ cls := "EnergyDiscsModel", name := "turn", desc := "(I)I" } : Jvm.MethodName) prog_10_method_27_code (2 : Nat) (Option.some Jvm.ClassFile.FieldType.int)) ∈ lw_all := lw_g (lw_at lw_m6 61 rfl) rfl
theorem q1334 : (Jvm.Cond.methodLink "EnergyDiscsModel" (113 : Nat) ({ cls := "EnergyDiscsModel", name := "isLoad", desc := "(I)Z" } : Jvm.MethodName)) ∈ lw_all := lw_g (lw_at lw_m6 62 rfl) rfl
theorem q1335 : (Jvm.Cond.privateMethod ({ cls := "EnergyDiscsModel", name := "isLoad", desc := "(I)Z" } : Jvm.MethodName)) ∈ lw_tbl := lw_at lw_m6 63 rfl
theorem q1336 : (Jvm.Cond.instanceMethod ({ cls := "EnergyDiscsModel", name := "isLoad", desc := "(I)Z" } : Jvm.MethodName)) ∈ lw_all := lw_g (lw_at lw_m6 64 rfl) rfl
theorem q1337 : (Jvm.Cond.code ({ cls := "EnergyDiscsModel", name := "isLoad", desc := "(I)Z" } : Jvm.MethodName) prog_10_method_25_code (2 : Nat) (Option.some Jvm.ClassFile.FieldType.boolean)) ∈ lw_all := lw_g (lw_at lw_m6 65 rfl) rfl
theorem q1338 : (Jvm.Cond.methodLink "EnergyDiscsModel" (116 : Nat) ({ cls := "EnergyDiscsModel", name := "turns", desc := "(I)I" } : Jvm.MethodName)) ∈ lw_all := lw_g (lw_at lw_m6 66 rfl) rfl
theorem q1339 : (Jvm.Cond.privateMethod ({ cls := "EnergyDiscsModel", name := "turns", desc := "(I)I" } : Jvm.MethodName)) ∈ lw_tbl := lw_at lw_m6 67 rfl
theorem q1340 : (Jvm.Cond.instanceMethod ({ cls := "EnergyDiscsModel", name := "turns", desc := "(I)I" } : Jvm.MethodName)) ∈ lw_all := lw_g (lw_at lw_m6 68 rfl) rfl
theorem q1341 : (Jvm.Cond.code ({ cls := "EnergyDiscsModel", name := "turns", desc := "(I)I" } : Jvm.MethodName) prog_10_method_26_code (3 : Nat) (Option.some Jvm.ClassFile.FieldType.int)) ∈ lw_all := lw_g (lw_at lw_m6 69 rfl) rfl
theorem q1343 : (Jvm.Cond.instanceMethod ({ cls := "EnergyDiscsModel", name := "tamper", desc := "(I)I" } : Jvm.MethodName)) ∈ lw_all := lw_g (lw_at lw_m6 71 rfl) rfl
theorem q1344 : (Jvm.Cond.selects "EnergyDiscsModel" ({ cls := "EnergyDiscsModel", name := "tamper", desc := "(I)I" } : Jvm.MethodName) ({ cls := "EnergyDiscsModel", name := "tamper", desc := "(I)I" } : Jvm.MethodName)) ∈ lw_all := lw_g (lw_at lw_m6 72 rfl) rfl
theorem q1345 : (Jvm.Cond.code ({ cls := "EnergyDiscsModel", name := "tamper", desc := "(I)I" } : Jvm.MethodName) prog_10_method_29_code (3 : Nat) (Option.some Jvm.ClassFile.FieldType.int)) ∈ lw_all := lw_g (lw_at lw_m6 73 rfl) rfl
theorem q1346 : (Jvm.Cond.methodLink "EnergyDiscsModel" (119 : Nat) ({ cls := "EnergyDiscsModel", name := "whyNotTamper", desc := "(I)I" } : Jvm.MethodName)) ∈ lw_all := lw_g (lw_at lw_m6 74 rfl) rfl
theorem q1347 : (Jvm.Cond.privateMethod ({ cls := "EnergyDiscsModel", name := "whyNotTamper", desc := "(I)I" } : Jvm.MethodName)) ∈ lw_tbl := lw_at lw_m6 75 rfl
theorem q1348 : (Jvm.Cond.instanceMethod ({ cls := "EnergyDiscsModel", name := "whyNotTamper", desc := "(I)I" } : Jvm.MethodName)) ∈ lw_all := lw_g (lw_at lw_m6 76 rfl) rfl
theorem q1349 : (Jvm.Cond.code ({ cls := "EnergyDiscsModel", name := "whyNotTamper", desc := "(I)I" } : Jvm.MethodName) prog_10_method_28_code (2 : Nat) (Option.some Jvm.ClassFile.FieldType.int)) ∈ lw_all := lw_g (lw_at lw_m6 77 rfl) rfl
theorem q1350 : (Jvm.Cond.methodLink "EnergyDiscsModel" (53 : Nat) ({ cls := "EnergyDiscsModel", name := "its", desc := "(II)I" } : Jvm.MethodName)) ∈ lw_all := lw_g (lw_at lw_m6 78 rfl) rfl
theorem q1351 : (Jvm.Cond.privateMethod ({ cls := "EnergyDiscsModel", name := "its", desc := "(II)I" } : Jvm.MethodName)) ∈ lw_tbl := lw_at lw_m6 79 rfl
theorem q1352 : (Jvm.Cond.instanceMethod ({ cls := "EnergyDiscsModel", name := "its", desc := "(II)I" } : Jvm.MethodName)) ∈ lw_all := lw_g (lw_at lw_m6 80 rfl) rfl
theorem q1353 : (Jvm.Cond.code ({ cls := "EnergyDiscsModel", name := "its", desc := "(II)I" } : Jvm.MethodName) prog_10_method_7_code (3 : Nat) (Option.some Jvm.ClassFile.FieldType.int)) ∈ lw_all := lw_g (lw_at lw_m6 81 rfl) rfl
theorem q1355 : (Jvm.Cond.instanceMethod ({ cls := "EnergyDiscsModel", name := "visit", desc := "(I)I" } : Jvm.MethodName)) ∈ lw_all := lw_g (lw_at lw_m6 83 rfl) rfl
theorem q1356 : (Jvm.Cond.selects "EnergyDiscsModel" ({ cls := "EnergyDiscsModel", name := "visit", desc := "(I)I" } : Jvm.MethodName) ({ cls := "EnergyDiscsModel", name := "visit", desc := "(I)I" } : Jvm.MethodName)) ∈ lw_all := lw_g (lw_at lw_m6 84 rfl) rfl
theorem q1357 : (Jvm.Cond.code ({ cls := "EnergyDiscsModel", name := "visit", desc := "(I)I" } : Jvm.MethodName) prog_10_method_32_code (2 : Nat) (Option.some Jvm.ClassFile.FieldType.int)) ∈ lw_all := lw_g (lw_at lw_m6 85 rfl) rfl
theorem q1358 : (Jvm.Cond.methodLink "EnergyDiscsModel" (125 : Nat) ({ cls := "EnergyDiscsModel", name := "visits", desc := "(I)I" } : Jvm.MethodName)) ∈ lw_all := lw_g (lw_at lw_m6 86 rfl) rfl
theorem q1359 : (Jvm.Cond.privateMethod ({ cls := "EnergyDiscsModel", name := "visits", desc := "(I)I" } : Jvm.MethodName)) ∈ lw_tbl := lw_at lw_m6 87 rfl
theorem q1360 : (Jvm.Cond.instanceMethod ({ cls := "EnergyDiscsModel", name := "visits", desc := "(I)I" } : Jvm.MethodName)) ∈ lw_all := lw_g (lw_at lw_m6 88 rfl) rfl
theorem q1361 : (Jvm.Cond.code ({ cls := "EnergyDiscsModel", name := "visits", desc := "(I)I" } : Jvm.MethodName) prog_10_method_31_code (4 : Nat) (Option.some Jvm.ClassFile.FieldType.int)) ∈ lw_all := lw_g (lw_at lw_m6 89 rfl) rfl
theorem q1362 : (Jvm.Cond.methodLink "EnergyDiscsModel" (122 : Nat) ({ cls := "EnergyDiscsModel", name := "billOf", desc := "(I)I" } : Jvm.MethodName)) ∈ lw_all := lw_g (lw_at lw_m6 90 rfl) rfl
theorem q1363 : (Jvm.Cond.privateMethod ({ cls := "EnergyDiscsModel", name := "billOf", desc := "(I)I" } : Jvm.MethodName)) ∈ lw_tbl := lw_at lw_m6 91 rfl
theorem q1364 : (Jvm.Cond.instanceMethod ({ cls := "EnergyDiscsModel", name := "billOf", desc := "(I)I" } : Jvm.MethodName)) ∈ lw_all := lw_g (lw_at lw_m6 92 rfl) rfl
theorem q1365 : (Jvm.Cond.code ({ cls := "EnergyDiscsModel", name := "billOf", desc := "(I)I" } : Jvm.MethodName) prog_10_method_30_code (3 : Nat) (Option.some Jvm.ClassFile.FieldType.int)) ∈ lw_all := lw_g (lw_at lw_m6 93 rfl) rfl
theorem q1367 : (Jvm.Cond.instanceMethod ({ cls := "EnergyDiscsModel", name := "pass", desc := "(I)I" } : Jvm.MethodName)) ∈ lw_all := lw_g (lw_at lw_m6 95 rfl) rfl
theorem q1368 : (Jvm.Cond.selects "EnergyDiscsModel" ({ cls := "EnergyDiscsModel", name := "pass", desc := "(I)I" } : Jvm.MethodName) ({ cls := "EnergyDiscsModel", name := "pass", desc := "(I)I" } : Jvm.MethodName)) ∈ lw_all := lw_g (lw_at lw_m6 96 rfl) rfl
theorem q1369 : (Jvm.Cond.code ({ cls := "EnergyDiscsModel", name := "pass", desc := "(I)I" } : Jvm.MethodName) prog_10_method_34_code (3 : Nat) (Option.some Jvm.ClassFile.FieldType.int)) ∈ lw_all := lw_g (lw_at lw_m6 97 rfl) rfl
theorem q1370 : (Jvm.Cond.methodLink "EnergyDiscsModel" (129 : Nat) ({ cls := "EnergyDiscsModel", name := "whyNotPass", desc := "(I)I" } : Jvm.MethodName)) ∈ lw_all := lw_g (lw_at lw_m6 98 rfl) rfl
theorem q1371 : (Jvm.Cond.privateMethod ({ cls := "EnergyDiscsModel", name := "whyNotPass", desc := "(I)I" } : Jvm.MethodName)) ∈ lw_tbl := lw_at lw_m6 99 rfl
theorem q1372 : (Jvm.Cond.instanceMethod ({ cls := "EnergyDiscsModel", name := "whyNotPass", desc := "(I)I" } : Jvm.MethodName)) ∈ lw_all := lw_g (lw_at lw_m6 100 rfl) rfl
theorem q1373 : (Jvm.Cond.code ({ cls := "EnergyDiscsModel", name := "whyNotPass", desc := "(I)I" } : Jvm.MethodName) prog_10_method_33_code (2 : Nat) (Option.some Jvm.ClassFile.FieldType.int)) ∈ lw_all := lw_g (lw_at lw_m6 101 rfl) rfl
theorem q1374 : (Jvm.Cond.constant "EnergyDiscsModel" (128 : Nat) (99999 : Int32)) ∈ lw_all := lw_g (lw_at lw_m6 102 rfl) rfl
theorem q1375 : (Jvm.Cond.methodLink "EnergyDiscsModel" (132 : Nat) ({ cls := "EnergyDiscsModel", name := "passes", desc := "(II)I" } : Jvm.MethodName)) ∈ lw_all := lw_g (lw_at lw_m6 103 rfl) rfl
theorem q1376 : (Jvm.Cond.privateMethod ({ cls := "EnergyDiscsModel", name := "passes", desc := "(II)I" } : Jvm.MethodName)) ∈ lw_tbl := lw_at lw_m6 104 rfl
theorem q1377 : (Jvm.Cond.instanceMethod ({ cls := "EnergyDiscsModel", name := "passes", desc := "(II)I" } : Jvm.MethodName)) ∈ lw_all := lw_g (lw_at lw_m6 105 rfl) rfl
theorem q1378 : (Jvm.Cond.code ({ cls := "EnergyDiscsModel", name := "passes", desc := "(II)I" } : Jvm.MethodName) prog_10_method_15_code (6 : Nat) (Option.some Jvm.ClassFile.FieldType.int)) ∈ lw_all := lw_g (lw_at lw_m6 106 rfl) rfl
theorem q1379 : (Jvm.Cond.methodLink "EnergyDiscsModel" (83 : Nat) ({ cls := "EnergyDiscsModel", name := "passesOne", desc := "(II)I" } : Jvm.MethodName)) ∈ lw_all := lw_g (lw_at lw_m6 107 rfl) rfl
theorem q1380 : (Jvm.Cond.privateMethod ({ cls := "EnergyDiscsModel", name := "passesOne", desc := "(II)I" } : Jvm.MethodName)) ∈ lw_tbl := lw_at lw_m6 108 rfl
theorem q1381 : (Jvm.Cond.instanceMethod ({ cls := "EnergyDiscsModel", name := "passesOne", desc := "(II)I" } : Jvm.MethodName)) ∈ lw_all := lw_g (lw_at lw_m6 109 rfl) rfl
theorem q1382 : (Jvm.Cond.code ({ cls := "EnergyDiscsModel", name := "passesOne", desc := "(II)I" } : Jvm.MethodName) prog_10_method_14_code (9 : Nat) (Option.some Jvm.ClassFile.FieldType.int)) ∈ lw_all := lw_g (lw_at lw_m6 110 rfl) rfl
theorem q1383 : (Jvm.Cond.methodLink "EnergyDiscsModel" (70 : Nat) ({ cls := "EnergyDiscsModel", name := "power", desc := "(I)I" } : Jvm.MethodName)) ∈ lw_all := lw_g (lw_at lw_m6 111 rfl) rfl
theorem q1384 : (Jvm.Cond.privateMethod ({ cls := "EnergyDiscsModel", name := "power", desc := "(I)I" } : Jvm.MethodName)) ∈ lw_tbl := lw_at lw_m6 112 rfl
theorem q1385 : (Jvm.Cond.instanceMethod ({ cls := "EnergyDiscsModel", name := "power", desc := "(I)I" } : Jvm.MethodName)) ∈ lw_all := lw_g (lw_at lw_m6 113 rfl) rfl
theorem q1386 : (Jvm.Cond.code ({ cls := "EnergyDiscsModel", name := "power", desc := "(I)I" } : Jvm.MethodName) prog_10_method_11_code (5 : Nat) (Option.some Jvm.ClassFile.FieldType.int)) ∈ lw_all := lw_g (lw_at lw_m6 114 rfl) rfl
theorem q1387 : (Jvm.Cond.methodLink "EnergyDiscsModel" (56 : Nat) ({ cls := "EnergyDiscsModel", name := "isThrough", desc := "(II)Z" } : Jvm.MethodName)) ∈ lw_all := lw_g (lw_at lw_m6 115 rfl) rfl
theorem q1388 : (Jvm.Cond.privateMethod ({ cls := "EnergyDiscsModel", name := "isThrough", desc := "(II)Z" } : Jvm.MethodName)) ∈ lw_tbl := lw_at lw_m6 116 rfl
theorem q1389 : (Jvm.Cond.instanceMethod ({ cls := "EnergyDiscsModel", name := "isThrough", desc := "(II)Z" } : Jvm.MethodName)) ∈ lw_all := lw_g (lw_at lw_m6 117 rfl) rfl
theorem q1390 : (Jvm.Cond.code ({ cls := "EnergyDiscsModel", name := "isThrough", desc := "(II)Z" } : Jvm.MethodName) prog_10_method_10_code (4 : Nat) (Option.some Jvm.ClassFile.FieldType.boolean)) ∈ lw_all := lw_g (lw_at lw_m6 118 rfl) rfl
theorem q1391 : (Jvm.Cond.methodLink "EnergyDiscsModel" (73 : Nat) ({ cls := "EnergyDiscsModel", name := "goes", desc := "(III)J" } : Jvm.MethodName)) ∈ lw_all := lw_g (lw_at lw_m6 119 rfl) rfl
theorem q1392 : (Jvm.Cond.privateMethod ({ cls := "EnergyDiscsModel", name := "goes", desc := "(III)J" } : Jvm.MethodName)) ∈ lw_tbl := lw_at lw_m6 120 rfl
theorem q1393 : (Jvm.Cond.instanceMethod ({ cls := "EnergyDiscsModel", name := "goes", desc := "(III)J" } : Jvm.MethodName)) ∈ lw_all := lw_g (lw_at lw_m6 121 rfl) rfl
theorem q1394 : (Jvm.Cond.code ({ cls := "EnergyDiscsModel", name := "goes", desc := "(III)J" } : Jvm.MethodName) prog_10_method_13_code (9 : Nat) (Option.some Jvm.ClassFile.FieldType.long)) ∈ lw_all := lw_g (lw_at lw_m6 122 rfl) rfl
theorem q1395 : (Jvm.Cond.constantLong "EnergyDiscsModel" (68 : Nat) (6000 : Int64)) ∈ lw_all := lw_g (lw_at lw_m6 123 rfl) rfl
theorem q1396 : (Jvm.Cond.methodLink "EnergyDiscsModel" (77 : Nat) ({ cls := "EnergyDiscsModel", name := "isNight", desc := "(J)Z" } : Jvm.MethodName)) ∈ lw_all := lw_g (lw_at lw_m6 124 rfl) rfl
theorem q1397 : (Jvm.Cond.static ({ cls := "EnergyDiscsModel", name := "isNight", desc := "(J)Z" } : Jvm.MethodName)) ∈ lw_all := lw_g (lw_at lw_m6 125 rfl) rfl
theorem q1398 : (Jvm.Cond.code ({ cls := "EnergyDiscsModel", name := "isNight", desc := "(J)Z" } : Jvm.MethodName) prog_10_method_12_code (4 : Nat) (Option.some Jvm.ClassFile.FieldType.boolean)) ∈ lw_all := lw_g (lw_at lw_m6 126 rfl) rfl
theorem q1399 : (Jvm.Cond.constantLong "EnergyDiscsModel" (60 : Nat) (1440 : Int64)) ∈ lw_all := lw_g (lw_at lw_m6 127 rfl) rfl
theorem q1400 : (Jvm.Cond.constantLong "EnergyDiscsModel" (62 : Nat) (1320 : Int64)) ∈ lw_all := lw_g (lw_at lw_m6 128 rfl) rfl
theorem q1401 : (Jvm.Cond.constantLong "EnergyDiscsModel" (64 : Nat) (360 : Int64)) ∈ lw_all := lw_g (lw_at lw_m6 129 rfl) rfl
theorem q1402 : (Jvm.Cond.constantLong "EnergyDiscsModel" (81 : Nat) (160 : Int64)) ∈ lw_all := lw_g (lw_at lw_m6 130 rfl) rfl
theorem q1404 : (Jvm.Cond.instanceMethod ({ cls := "EnergyDiscsModel", name := "write", desc := "(I)I" } : Jvm.MethodName)) ∈ lw_all := lw_g (lw_at lw_m6 132 rfl) rfl
theorem q1405 : (Jvm.Cond.selects "EnergyDiscsModel" ({ cls := "EnergyDiscsModel", name := "write", desc := "(I)I" } : Jvm.MethodName) ({ cls := "EnergyDiscsModel", name := "write", desc := "(I)I" } : Jvm.MethodName)) ∈ lw_all := lw_g (lw_at lw_m6 133 rfl) rfl
theorem q1406 : (Jvm.Cond.code ({ cls := "EnergyDiscsModel", name := "write", desc := "(I)I" } : Jvm.MethodName) prog_10_method_37_code (2 : Nat) (Option.some Jvm.ClassFile.FieldType.int)) ∈ lw_all := lw_g (lw_at lw_m6 134 rfl) rfl
theorem q1407 : (Jvm.Cond.methodLink "EnergyDiscsModel" (138 : Nat) ({ cls := "EnergyDiscsModel", name := "types", desc := "(I)V" } : Jvm.MethodName)) ∈ lw_all := lw_g (lw_at lw_m6 135 rfl) rfl
theorem q1408 : (Jvm.Cond.privateMethod ({ cls := "EnergyDiscsModel", name := "types", desc := "(I)V" } : Jvm.MethodName)) ∈ lw_tbl := lw_at lw_m6 136 rfl
theorem q1409 : (Jvm.Cond.instanceMethod ({ cls := "EnergyDiscsModel", name := "types", desc := "(I)V" } : Jvm.MethodName)) ∈ lw_all := lw_g (lw_at lw_m6 137 rfl) rfl
theorem q1410 : (Jvm.Cond.code ({ cls := "EnergyDiscsModel", name := "types", desc := "(I)V" } : Jvm.MethodName) prog_10_method_35_code (2 : Nat) (Option.none : Option Jvm.ClassFile.FieldType)) ∈ lw_all := lw_g (lw_at lw_m6 138 rfl) rfl
theorem q1411 : (Jvm.Cond.methodLink "EnergyDiscsModel" (142 : Nat) ({ cls := "EnergyDiscsModel", name := "typesNumber", desc := "(I)V" } : Jvm.MethodName)) ∈ lw_all := lw_g (lw_at lw_m6 139 rfl) rfl
theorem q1412 : (Jvm.Cond.privateMethod ({ cls := "EnergyDiscsModel", name := "typesNumber", desc := "(I)V" } : Jvm.MethodName)) ∈ lw_tbl := lw_at lw_m6 140 rfl
theorem q1413 : (Jvm.Cond.instanceMethod ({ cls := "EnergyDiscsModel", name := "typesNumber", desc := "(I)V" } : Jvm.MethodName)) ∈ lw_all := lw_g (lw_at lw_m6 141 rfl) rfl
theorem q1414 : (Jvm.Cond.code ({ cls := "EnergyDiscsModel", name := "typesNumber", desc := "(I)V" } : Jvm.MethodName) prog_10_method_36_code (3 : Nat) (Option.none : Option Jvm.ClassFile.FieldType)) ∈ lw_all := lw_g (lw_at lw_m6 142 rfl) rfl
theorem q1416 : (Jvm.Cond.instanceMethod ({ cls := "EnergyDiscsModel", name := "sign", desc := "(I)I" } : Jvm.MethodName)) ∈ lw_all := lw_g (lw_at lw_m6 144 rfl) rfl
theorem q1417 : (Jvm.Cond.selects "EnergyDiscsModel" ({ cls := "EnergyDiscsModel", name := "sign", desc := "(I)I" } : Jvm.MethodName) ({ cls := "EnergyDiscsModel", name := "sign", desc := "(I)I" } : Jvm.MethodName)) ∈ lw_all := lw_g (lw_at lw_m6 145 rfl) rfl
theorem q1418 : (Jvm.Cond.code ({ cls := "EnergyDiscsModel", name := "sign", desc := "(I)I" } : Jvm.MethodName) prog_10_method_38_code (2 : Nat) (Option.some Jvm.ClassFile.FieldType.int)) ∈ lw_all := lw_g (lw_at lw_m6 146 rfl) rfl
theorem q1420 : (Jvm.Cond.instanceMethod ({ cls := "EnergyDiscsModel", name := "of", desc := "(II)I" } : Jvm.MethodName)) ∈ lw_all := lw_g (lw_at lw_m6 148 rfl) rfl
theorem q1421 : (Jvm.Cond.selects "EnergyDiscsModel" ({ cls := "EnergyDiscsModel", name := "of", desc := "(II)I" } : Jvm.MethodName) ({ cls := "EnergyDiscsModel", name := "of", desc := "(II)I" } : Jvm.MethodName)) ∈ lw_all := lw_g (lw_at lw_m6 149 rfl) rfl
theorem q1422 : (Jvm.Cond.code ({ cls := "EnergyDiscsModel", name := "of", desc := "(II)I" } : Jvm.MethodName) prog_10_method_40_code (3 : Nat) (Option.some Jvm.ClassFile.FieldType.int)) ∈ lw_all := lw_g (lw_at lw_m6 150 rfl) rfl
theorem q1423 : (Jvm.Cond.methodLink "EnergyDiscsModel" (145 : Nat) ({ cls := "EnergyDiscsModel", name := "untilWeaker", desc := "(I)I" } : Jvm.MethodName)) ∈ lw_all := lw_g (lw_at lw_m6 151 rfl) rfl
theorem q1424 : (Jvm.Cond.privateMethod ({ cls := "EnergyDiscsModel", name := "untilWeaker", desc := "(I)I" } : Jvm.MethodName)) ∈ lw_tbl := lw_at lw_m6 152 rfl
theorem q1425 : (Jvm.Cond.instanceMethod ({ cls := "EnergyDiscsModel", name := "untilWeaker", desc := "(I)I" } : Jvm.MethodName)) ∈ lw_all := lw_g (lw_at lw_m6 153 rfl) rfl
theorem q1426 : (Jvm.Cond.code ({ cls := "EnergyDiscsModel", name := "untilWeaker", desc := "(I)I" } : Jvm.MethodName) prog_10_method_39_code (3 : Nat) (Option.some Jvm.ClassFile.FieldType.int)) ∈ lw_all := lw_g (lw_at lw_m6 154 rfl) rfl
theorem q1428 : (Jvm.Cond.instanceMethod ({ cls := "EnergyDiscsModel", name := "ofLoad", desc := "(II)I" } : Jvm.MethodName)) ∈ lw_all := lw_g (lw_at lw_m6 156 rfl) rfl
theorem q1429 : (Jvm.Cond.selects "EnergyDiscsModel" ({ cls := "EnergyDiscsModel", name := "ofLoad", desc := "(II)I" } : Jvm.MethodName) ({ cls := "EnergyDiscsModel", name := "ofLoad", desc := "(II)I" } : Jvm.MethodName)) ∈ lw_all := lw_g (lw_at lw_m6 157 rfl) rfl
theorem q1430 : (Jvm.Cond.code ({ cls := "EnergyDiscsModel", name := "ofLoad", desc := "(II)I" } : Jvm.MethodName) prog_10_method_41_code (3 : Nat) (Option.some Jvm.ClassFile.FieldType.int)) ∈ lw_all := lw_g (lw_at lw_m6 158 rfl) rfl
theorem q1432 : (Jvm.Cond.instanceMethod ({ cls := "EnergyDiscsModel", name := "misses", desc := "(I)J" } : Jvm.MethodName)) ∈ lw_all := lw_g (lw_at lw_m6 160 rfl) rfl
theorem q1433 : (Jvm.Cond.selects "EnergyDiscsModel" ({ cls := "EnergyDiscsModel", name := "misses", desc := "(I)J" } : Jvm.MethodName) ({ cls := "EnergyDiscsModel", name := "misses", desc := "(I)J" } : Jvm.MethodName)) ∈ lw_all := lw_g (lw_at lw_m6 161 rfl) rfl
theorem q1434 : (Jvm.Cond.code ({ cls := "EnergyDiscsModel", name := "misses", desc := "(I)J" } : Jvm.MethodName) prog_10_method_43_code (2 : Nat) (Option.some Jvm.ClassFile.FieldType.long)) ∈ lw_all := lw_g (lw_at lw_m6 162 rfl) rfl
theorem q1435 : (Jvm.Cond.methodLink "EnergyDiscsModel" (148 : Nat) ({ cls := "EnergyDiscsModel", name := "turnsOf", desc := "(I)I" } : Jvm.MethodName)) ∈ lw_all := lw_g (lw_at lw_m6 163 rfl) rfl
theorem q1436 : (Jvm.Cond.privateMethod ({ cls := "EnergyDiscsModel", name := "turnsOf", desc := "(I)I" } : Jvm.MethodName)) ∈ lw_tbl := lw_at lw_m6 164 rfl
theorem q1437 : (Jvm.Cond.instanceMethod ({ cls := "EnergyDiscsModel", name := "turnsOf", desc := "(I)I" } : Jvm.MethodName)) ∈ lw_all := lw_g (lw_at lw_m6 165 rfl) rfl
theorem q1438 : (Jvm.Cond.code ({ cls := "EnergyDiscsModel", name := "turnsOf", desc := "(I)I" } : Jvm.MethodName) prog_10_method_42_code (2 : Nat) (Option.some Jvm.ClassFile.FieldType.int)) ∈ lw_all := lw_g (lw_at lw_m6 166 rfl) rfl
theorem q1439 : (Jvm.Cond.constantLong "EnergyDiscsModel" (151 : Nat) (10000000000 : Int64)) ∈ lw_all := lw_g (lw_at lw_m6 167 rfl) rfl
theorem q1441 : (Jvm.Cond.instanceMethod ({ cls := "EnergyDiscsModel", name := "fed", desc := "(I)I" } : Jvm.MethodName)) ∈ lw_all := lw_g (lw_at lw_m6 169 rfl) rfl
theorem q1442 : (Jvm.Cond.selects "EnergyDiscsModel" ({ cls := "EnergyDiscsModel", name := "fed", desc := "(I)I" } : Jvm.MethodName) ({ cls := "EnergyDiscsModel", name := "fed", desc := "(I)I" } : Jvm.MethodName)) ∈ lw_all := lw_g (lw_at lw_m6 170 rfl) rfl
theorem q1443 : (Jvm.Cond.code ({ cls := "EnergyDiscsModel", name := "fed", desc := "(I)I" } : Jvm.MethodName) prog_10_method_44_code (4 : Nat) (Option.some Jvm.ClassFile.FieldType.int)) ∈ lw_all := lw_g (lw_at lw_m6 171 rfl) rfl
theorem q1445 : (Jvm.Cond.instanceMethod ({ cls := "EnergyDiscsModel", name := "count", desc := "(I)I" } : Jvm.MethodName)) ∈ lw_all := lw_g (lw_at lw_m6 173 rfl) rfl
theorem q1446 : (Jvm.Cond.selects "EnergyDiscsModel" ({ cls := "EnergyDiscsModel", name := "count", desc := "(I)I" } : Jvm.MethodName) ({ cls := "EnergyDiscsModel", name := "count", desc := "(I)I" } : Jvm.MethodName)) ∈ lw_all := lw_g (lw_at lw_m6 174 rfl) rfl
theorem q1447 : (Jvm.Cond.code ({ cls := "EnergyDiscsModel", name := "count", desc := "(I)I" } : Jvm.MethodName) prog_10_method_46_code (2 : Nat) (Option.some Jvm.ClassFile.FieldType.int)) ∈ lw_all := lw_g (lw_at lw_m6 175 rfl) rfl
theorem q1448 : (Jvm.Cond.methodLink "EnergyDiscsModel" (153 : Nat) ({ cls := "EnergyDiscsModel", name := "ofAll", desc := "(I)I" } : Jvm.MethodName)) ∈ lw_all := lw_g (lw_at lw_m6 176 rfl) rfl
theorem q1449 : (Jvm.Cond.privateMethod ({ cls := "EnergyDiscsModel", name := "ofAll", desc := "(I)I" } : Jvm.MethodName)) ∈ lw_tbl := lw_at lw_m6 177 rfl
theorem q1450 : (Jvm.Cond.instanceMethod ({ cls := "EnergyDiscsModel", name := "ofAll", desc := "(I)I" } : Jvm.MethodName)) ∈ lw_all := lw_g (lw_at lw_m6 178 rfl) rfl
theorem q1451 : (Jvm.Cond.code ({ cls := "EnergyDiscsModel", name := "ofAll", desc := "(I)I" } : Jvm.MethodName) prog_10_method_45_code (4 : Nat) (Option.some Jvm.ClassFile.FieldType.int)) ∈ lw_all := lw_g (lw_at lw_m6 179 rfl) rfl
theorem q1453 : (Jvm.Cond.instanceMethod ({ cls := "EnergyDiscsModel", name := "bill", desc := "(I)I" } : Jvm.MethodName)) ∈ lw_all := lw_g (lw_at lw_m6 181 rfl) rfl
theorem q1454 : (Jvm.Cond.selects "EnergyDiscsModel" ({ cls := "EnergyDiscsModel", name := "bill", desc := "(I)I" } : Jvm.MethodName) ({ cls := "EnergyDiscsModel", name := "bill", desc := "(I)I" } : Jvm.MethodName)) ∈ lw_all := lw_g (lw_at lw_m6 182 rfl) rfl
theorem q1455 : (Jvm.Cond.code ({ cls := "EnergyDiscsModel", name := "bill", desc := "(I)I" } : Jvm.MethodName) prog_10_method_47_code (2 : Nat) (Option.some Jvm.ClassFile.FieldType.int)) ∈ lw_all := lw_g (lw_at lw_m6 183 rfl) rfl
theorem q1457 : (Jvm.Cond.instanceMethod ({ cls := "EnergyDiscsModel", name := "turnsIn", desc := "(I)I" } : Jvm.MethodName)) ∈ lw_all := lw_g (lw_at lw_m6 185 rfl) rfl
theorem q1458 : (Jvm.Cond.selects "EnergyDiscsModel" ({ cls := "EnergyDiscsModel", name := "turnsIn", desc := "(I)I" } : Jvm.MethodName) ({ cls := "EnergyDiscsModel", name := "turnsIn", desc := "(I)I" } : Jvm.MethodName)) ∈ lw_all := lw_g (lw_at lw_m6 186 rfl) rfl
theorem q1459 : (Jvm.Cond.code ({ cls := "EnergyDiscsModel", name := "turnsIn", desc := "(I)I" } : Jvm.MethodName) prog_10_method_48_code (4 : Nat) (Option.some Jvm.ClassFile.FieldType.int)) ∈ lw_all := lw_g (lw_at lw_m6 187 rfl) rfl
theorem q1460 : (Jvm.Cond.methodLink "EnergyDiscsModel" (156 : Nat) ({ cls := "EnergyDiscsModel", name := "copies", desc := "()V" } : Jvm.MethodName)) ∈ lw_all := lw_g (lw_at lw_m6 188 rfl) rfl
theorem q1461 : (Jvm.Cond.privateMethod ({ cls := "EnergyDiscsModel", name := "copies", desc := "()V" } : Jvm.MethodName)) ∈ lw_tbl := lw_at lw_m6 189 rfl
theorem q1462 : (Jvm.Cond.instanceMethod ({ cls := "EnergyDiscsModel", name := "copies", desc := "()V" } : Jvm.MethodName)) ∈ lw_all := lw_g (lw_at lw_m6 190 rfl) rfl
theorem q1463 : (Jvm.Cond.code ({ cls := "EnergyDiscsModel", name := "copies", desc := "()V" } : Jvm.MethodName) prog_10_method_9_code (2 : Nat) (Option.none : Option Jvm.ClassFile.FieldType)) ∈ lw_all := lw_g (lw_at lw_m6 191 rfl) rfl
theorem q1465 : (Jvm.Cond.instanceMethod ({ cls := "EnergyDiscsModel", name := "wouldTurn", desc := "(III)I" } : Jvm.MethodName)) ∈ lw_all := lw_g (lw_at lw_m6 193 rfl) rfl
theorem q1466 : (Jvm.Cond.selects "EnergyDiscsModel" ({ cls := "EnergyDiscsModel", name := "wouldTurn", desc := "(III)I" } : Jvm.MethodName) ({ cls := "EnergyDiscsModel", name := "wouldTurn", desc := "(III)I" } : Jvm.MethodName)) ∈ lw_all := lw_g (lw_at lw_m6 194 rfl) rfl
theorem q1467 : (Jvm.Cond.code ({ cls := "EnergyDiscsModel", name := "wouldTurn", desc := "(III)I" } : Jvm.MethodName) prog_10_method_49_code (7 : Nat) (Option.some Jvm.ClassFile.FieldType.int)) ∈ lw_all := lw_g (lw_at lw_m6 195 rfl) rfl
theorem q1469 : (Jvm.Cond.instanceMethod ({ cls := "EnergyDiscsModel", name := "worst", desc := "()I" } : Jvm.MethodName)) ∈ lw_all := lw_g (lw_at lw_m6 197 rfl) rfl
theorem q1470 : (Jvm.Cond.selects "EnergyDiscsModel" ({ cls := "EnergyDiscsModel", name := "worst", desc := "()I" } : Jvm.MethodName) ({ cls := "EnergyDiscsModel", name := "worst", desc := "()I" } : Jvm.MethodName)) ∈ lw_all := lw_g (lw_at lw_m6 198 rfl) rfl
theorem q1471 : (Jvm.Cond.code ({ cls := "EnergyDiscsModel", name := "worst", desc := "()I" } : Jvm.MethodName) prog_10_method_50_code (3 : Nat) (Option.some Jvm.ClassFile.FieldType.int)) ∈ lw_all := lw_g (lw_at lw_m6 199 rfl) rfl
theorem q1472 : (Jvm.Cond.methodLink "EnergyDiscsModel" (159 : Nat) ({ cls := "EnergyDiscsModel", name := "misses", desc := "(I)J" } : Jvm.MethodName)) ∈ lw_all := lw_g (lw_at lw_m6 200 rfl) rfl
theorem q1474 : (Jvm.Cond.instanceMethod ({ cls := "EnergyDiscsModel", name := "lags", desc := "(I)I" } : Jvm.MethodName)) ∈ lw_all := lw_g (lw_at lw_m6 202 rfl) rfl
theorem q1475 : (Jvm.Cond.selects "EnergyDiscsModel" ({ cls := "EnergyDiscsModel", name := "lags", desc := "(I)I" } : Jvm.MethodName) ({ cls := "EnergyDiscsModel", name := "lags", desc := "(I)I" } : Jvm.MethodName)) ∈ lw_all := lw_g (lw_at lw_m6 203 rfl) rfl
theorem q1476 : (Jvm.Cond.code ({ cls := "EnergyDiscsModel", name := "lags", desc := "(I)I" } : Jvm.MethodName) prog_10_method_51_code (4 : Nat) (Option.some Jvm.ClassFile.FieldType.int)) ∈ lw_all := lw_g (lw_at lw_m6 204 rfl) rfl
theorem q1477 : (Jvm.Cond.constant "EnergyDiscsModel" (163 : Nat) (10000000 : Int32)) ∈ lw_all := lw_g (lw_at lw_m6 205 rfl) rfl
theorem q1479 : (Jvm.Cond.instanceMethod ({ cls := "EnergyDiscsModel", name := "put", desc := "(J)I" } : Jvm.MethodName)) ∈ lw_all := lw_g (lw_at lw_m6 207 rfl) rfl
theorem q1480 : (Jvm.Cond.selects "EnergyDiscsModel" ({ cls := "EnergyDiscsModel", name := "put", desc := "(J)I" } : Jvm.MethodName) ({ cls := "EnergyDiscsModel", name := "put", desc := "(J)I" } : Jvm.MethodName)) ∈ lw_all := lw_g (lw_at lw_m6 208 rfl) rfl
theorem q1481 : (Jvm.Cond.code ({ cls := "EnergyDiscsModel", name := "put", desc := "(J)I" } : Jvm.MethodName) prog_10_method_52_code (8 : Nat) (Option.some Jvm.ClassFile.FieldType.int)) ∈ lw_all := lw_g (lw_at lw_m6 209 rfl) rfl
theorem q1482 : (Jvm.Cond.constantLong "EnergyDiscsModel" (164 : Nat) (255 : Int64)) ∈ lw_all := lw_g (lw_at lw_m6 210 rfl) rfl
theorem q1484 : (Jvm.Cond.instanceMethod ({ cls := "EnergyDiscsModel", name := "wipe", desc := "()I" } : Jvm.MethodName)) ∈ lw_all := lw_g (lw_at lw_m6 212 rfl) rfl
theorem q1485 : (Jvm.Cond.selects "EnergyDiscsModel" ({ cls := "EnergyDiscsModel", name := "wipe", desc := "()I" } : Jvm.MethodName) ({ cls := "EnergyDiscsModel", name := "wipe", desc := "()I" } : Jvm.MethodName)) ∈ lw_all := lw_g (lw_at lw_m6 213 rfl) rfl
theorem q1486 : (Jvm.Cond.code ({ cls := "EnergyDiscsModel", name := "wipe", desc := "()I" } : Jvm.MethodName) prog_10_method_53_code (2 : Nat) (Option.some Jvm.ClassFile.FieldType.int)) ∈ lw_all := lw_g (lw_at lw_m6 214 rfl) rfl
theorem q1488 : (Jvm.Cond.instanceMethod ({ cls := "EnergyDiscsModel", name := "fault", desc := "()I" } : Jvm.MethodName)) ∈ lw_all := lw_g (lw_at lw_m6 216 rfl) rfl
theorem q1489 : (Jvm.Cond.selects "EnergyDiscsModel" ({ cls := "EnergyDiscsModel", name := "fault", desc := "()I" } : Jvm.MethodName) ({ cls := "EnergyDiscsModel", name := "fault", desc := "()I" } : Jvm.MethodName)) ∈ lw_all := lw_g (lw_at lw_m6 217 rfl) rfl
theorem q1490 : (Jvm.Cond.code ({ cls := "EnergyDiscsModel", name := "fault", desc := "()I" } : Jvm.MethodName) prog_10_method_59_code (4 : Nat) (Option.some Jvm.ClassFile.FieldType.int)) ∈ lw_all := lw_g (lw_at lw_m6 218 rfl) rfl
theorem q1491 : (Jvm.Cond.methodLink "EnergyDiscsModel" (175 : Nat) ({ cls := "EnergyDiscsModel", name := "orderEnd", desc := "(I)I" } : Jvm.MethodName)) ∈ lw_all := lw_g (lw_at lw_m6 219 rfl) rfl
theorem q1492 : (Jvm.Cond.privateMethod ({ cls := "EnergyDiscsModel", name := "orderEnd", desc := "(I)I" } : Jvm.MethodName)) ∈ lw_tbl := lw_at lw_m6 220 rfl
theorem q1493 : (Jvm.Cond.instanceMethod ({ cls := "EnergyDiscsModel", name := "orderEnd", desc := "(I)I" } : Jvm.MethodName)) ∈ lw_all := lw_g (lw_at lw_m6 221 rfl) rfl
theorem q1494 : (Jvm.Cond.code ({ cls := "EnergyDiscsModel", name := "orderEnd", desc := "(I)I" } : Jvm.MethodName) prog_10_method_58_code (2 : Nat) (Option.some Jvm.ClassFile.FieldType.int)) ∈ lw_all := lw_g (lw_at lw_m6 222 rfl) rfl
theorem q1495 : (Jvm.Cond.methodLink "EnergyDiscsModel" (172 : Nat) ({ cls := "EnergyDiscsModel", name := "code", desc := "(I)I" } : Jvm.MethodName)) ∈ lw_all := lw_g (lw_at lw_m6 223 rfl) rfl
theorem q1496 : (Jvm.Cond.privateMethod ({ cls := "EnergyDiscsModel", name := "code", desc := "(I)I" } : Jvm.MethodName)) ∈ lw_tbl := lw_at lw_m6 224 rfl
theorem q1497 : (Jvm.Cond.instanceMethod ({ cls := "EnergyDiscsModel", name := "code", desc := "(I)I" } : Jvm.MethodName)) ∈ lw_all := lw_g (lw_at lw_m6 225 rfl) rfl
theorem q1498 : (Jvm.Cond.code ({ cls := "EnergyDiscsModel", name := "code", desc := "(I)I" } : Jvm.MethodName) prog_10_method_55_code (2 : Nat) (Option.some Jvm.ClassFile.FieldType.int)) ∈ lw_all := lw_g (lw_at lw_m6 226 rfl) rfl
theorem q1499 : (Jvm.Cond.methodLink "EnergyDiscsModel" (166 : Nat) ({ cls := "EnergyDiscsModel", name := "digit", desc := "(I)I" } : Jvm.MethodName)) ∈ lw_all := lw_g (lw_at lw_m6 227 rfl) rfl
theorem q1500 : (Jvm.Cond.privateMethod ({ cls := "EnergyDiscsModel", name := "digit", desc := "(I)I" } : Jvm.MethodName)) ∈ lw_tbl := lw_at lw_m6 228 rfl
theorem q1501 : (Jvm.Cond.instanceMethod ({ cls := "EnergyDiscsModel", name := "digit", desc := "(I)I" } : Jvm.MethodName)) ∈ lw_all := lw_g (lw_at lw_m6 229 rfl) rfl
theorem q1502 : (Jvm.Cond.code ({ cls := "EnergyDiscsModel", name := "digit", desc := "(I)I" } : Jvm.MethodName) prog_10_method_54_code (2 : Nat) (Option.some Jvm.ClassFile.FieldType.int)) ∈ lw_all := lw_g (lw_at lw_m6 230 rfl) rfl
theorem q1503 : (Jvm.Cond.methodLink "EnergyDiscsModel" (169 : Nat) ({ cls := "EnergyDiscsModel", name := "numberEnd", desc := "(I)I" } : Jvm.MethodName)) ∈ lw_all := lw_g (lw_at lw_m6 231 rfl) rfl
theorem q1504 : (Jvm.Cond.privateMethod ({ cls := "EnergyDiscsModel", name := "numberEnd", desc := "(I)I" } : Jvm.MethodName)) ∈ lw_tbl := lw_at lw_m6 232 rfl
theorem q1505 : (Jvm.Cond.instanceMethod ({ cls := "EnergyDiscsModel", name := "numberEnd", desc := "(I)I" } : Jvm.MethodName)) ∈ lw_all := lw_g (lw_at lw_m6 233 rfl) rfl
theorem q1506 : (Jvm.Cond.code ({ cls := "EnergyDiscsModel", name := "numberEnd", desc := "(I)I" } : Jvm.MethodName) prog_10_method_56_code (3 : Nat) (Option.some Jvm.ClassFile.FieldType.int)) ∈ lw_all := lw_g (lw_at lw_m6 234 rfl) rfl
theorem q1508 : (Jvm.Cond.instanceMethod ({ cls := "EnergyDiscsModel", name := "carryOut", desc := "()I" } : Jvm.MethodName)) ∈ lw_all := lw_g (lw_at lw_m6 236 rfl) rfl
theorem q1509 : (Jvm.Cond.selects "EnergyDiscsModel" ({ cls := "EnergyDiscsModel", name := "carryOut", desc := "()I" } : Jvm.MethodName) ({ cls := "EnergyDiscsModel", name := "carryOut", desc := "()I" } : Jvm.MethodName)) ∈ lw_all := lw_g (lw_at lw_m6 237 rfl) rfl
theorem q1510 : (Jvm.Cond.code ({ cls := "EnergyDiscsModel", name := "carryOut", desc := "()I" } : Jvm.MethodName) prog_10_method_62_code (4 : Nat) (Option.some Jvm.ClassFile.FieldType.int)) ∈ lw_all := lw_g (lw_at lw_m6 238 rfl) rfl
theorem q1511 : (Jvm.Cond.methodLink "EnergyDiscsModel" (181 : Nat) ({ cls := "EnergyDiscsModel", name := "fault", desc := "()I" } : Jvm.MethodName)) ∈ lw_all := lw_g (lw_at lw_m6 239 rfl) rfl
theorem q1512 : (Jvm.Cond.methodLink "EnergyDiscsModel" (185 : Nat) ({ cls := "EnergyDiscsModel", name := "whyNot", desc := "(I)I" } : Jvm.MethodName)) ∈ lw_all := lw_g (lw_at lw_m7 0 rfl) rfl
theorem q1513 : (Jvm.Cond.privateMethod ({ cls := "EnergyDiscsModel", name := "whyNot", desc := "(I)I" } : Jvm.MethodName)) ∈ lw_tbl := lw_at lw_m7 1 rfl
theorem q1514 : (Jvm.Cond.instanceMethod ({ cls := "EnergyDiscsModel", name := "whyNot", desc := "(I)I" } : Jvm.MethodName)) ∈ lw_all := lw_g (lw_at lw_m7 2 rfl) rfl
theorem q1515 : (Jvm.Cond.code ({ cls := "EnergyDiscsModel", name := "whyNot", desc := "(I)I" } : Jvm.MethodName) prog_10_method_60_code (3 : Nat) (Option.some Jvm.ClassFile.FieldType.int)) ∈ lw_all := lw_g (lw_at lw_m7 3 rfl) rfl
theorem q1516 : (Jvm.Cond.methodLink "EnergyDiscsModel" (178 : Nat) ({ cls := "EnergyDiscsModel", name := "numberAt", desc := "(I)I" } : Jvm.MethodName)) ∈ lw_all := lw_g (lw_at lw_m7 4 rfl) rfl
theorem q1517 : (Jvm.Cond.privateMethod ({ cls := "EnergyDiscsModel", name := "numberAt", desc := "(I)I" } : Jvm.MethodName)) ∈ lw_tbl := lw_at lw_m7 5 rfl
theorem q1518 : (Jvm.Cond.instanceMethod ({ cls := "EnergyDiscsModel", name := "numberAt", desc := "(I)I" } : Jvm.MethodName)) ∈ lw_all := lw_g (lw_at lw_m7 6 rfl) rfl
theorem q1519 : (Jvm.Cond.code ({ cls := "EnergyDiscsModel", name := "numberAt", desc := "(I)I" } : Jvm.MethodName) prog_10_method_57_code (4 : Nat) (Option.some Jvm.ClassFile.FieldType.int)) ∈ lw_all := lw_g (lw_at lw_m7 7 rfl) rfl
theorem q1520 : (Jvm.Cond.methodLink "EnergyDiscsModel" (188 : Nat) ({ cls := "EnergyDiscsModel", name := "does", desc := "(I)I" } : Jvm.MethodName)) ∈ lw_all := lw_g (lw_at lw_m7 8 rfl) rfl
theorem q1521 : (Jvm.Cond.privateMethod ({ cls := "EnergyDiscsModel", name := "does", desc := "(I)I" } : Jvm.MethodName)) ∈ lw_tbl := lw_at lw_m7 9 rfl
theorem q1522 : (Jvm.Cond.instanceMethod ({ cls := "EnergyDiscsModel", name := "does", desc := "(I)I" } : Jvm.MethodName)) ∈ lw_all := lw_g (lw_at lw_m7 10 rfl) rfl
theorem q1523 : (Jvm.Cond.code ({ cls := "EnergyDiscsModel", name := "does", desc := "(I)I" } : Jvm.MethodName) prog_10_method_61_code (3 : Nat) (Option.some Jvm.ClassFile.FieldType.int)) ∈ lw_all := lw_g (lw_at lw_m7 11 rfl) rfl
theorem q1525 : (Jvm.Cond.instanceMethod ({ cls := "EnergyDiscsModel", name := "undo", desc := "()I" } : Jvm.MethodName)) ∈ lw_all := lw_g (lw_at lw_m7 13 rfl) rfl
theorem q1526 : (Jvm.Cond.selects "EnergyDiscsModel" ({ cls := "EnergyDiscsModel", name := "undo", desc := "()I" } : Jvm.MethodName) ({ cls := "EnergyDiscsModel", name := "undo", desc := "()I" } : Jvm.MethodName)) ∈ lw_all := lw_g (lw_at lw_m7 14 rfl) rfl
theorem q1527 : (Jvm.Cond.code ({ cls := "EnergyDiscsModel", name := "undo", desc := "()I" } : Jvm.MethodName) prog_10_method_63_code (2 : Nat) (Option.some Jvm.ClassFile.FieldType.int)) ∈ lw_all := lw_g (lw_at lw_m7 15 rfl) rfl
theorem q1529 : (Jvm.Cond.instanceMethod ({ cls := "EnergyDiscsModel", name := "save", desc := "(I)I" } : Jvm.MethodName)) ∈ lw_all := lw_g (lw_at lw_m7 17 rfl) rfl
theorem q1530 : (Jvm.Cond.selects "EnergyDiscsModel" ({ cls := "EnergyDiscsModel", name := "save", desc := "(I)I" } : Jvm.MethodName) ({ cls := "EnergyDiscsModel", name := "save", desc := "(I)I" } : Jvm.MethodName)) ∈ lw_all := lw_g (lw_at lw_m7 18 rfl) rfl
theorem q1531 : (Jvm.Cond.code ({ cls := "EnergyDiscsModel", name := "save", desc := "(I)I" } : Jvm.MethodName) prog_10_method_64_code (3 : Nat) (Option.some Jvm.ClassFile.FieldType.int)) ∈ lw_all := lw_g (lw_at lw_m7 19 rfl) rfl
theorem q1533 : (Jvm.Cond.instanceMethod ({ cls := "EnergyDiscsModel", name := "restore", desc := "(I)I" } : Jvm.MethodName)) ∈ lw_all := lw_g (lw_at lw_m7 21 rfl) rfl
theorem q1534 : (Jvm.Cond.selects "EnergyDiscsModel" ({ cls := "EnergyDiscsModel", name := "restore", desc := "(I)I" } : Jvm.MethodName) ({ cls := "EnergyDiscsModel", name := "restore", desc := "(I)I" } : Jvm.MethodName)) ∈ lw_all := lw_g (lw_at lw_m7 22 rfl) rfl
theorem q1535 : (Jvm.Cond.code ({ cls := "EnergyDiscsModel", name := "restore", desc := "(I)I" } : Jvm.MethodName) prog_10_method_65_code (3 : Nat) (Option.some Jvm.ClassFile.FieldType.int)) ∈ lw_all := lw_g (lw_at lw_m7 23 rfl) rfl
theorem q1554 : (Jvm.Cond.castable "EnergyDiscsModel" "java/lang/Object") ∈ lw_tbl := lw_at lw_m7 42 rfl
theorem in_X2 : ∀ w ∈ wsX20, w ∈ lw_all := lw_in wsX20 [1259, 1261, 1263, 1265, 1267, 1269, 1271] (by decide +kernel) (by decide +kernel)
