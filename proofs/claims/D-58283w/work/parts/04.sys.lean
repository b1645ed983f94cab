/-! EnergyDiscs -/
set_option maxRecDepth 100000
def RX0 : String := "EnergyDiscs"
def TX0 : u_T := fun k => match k with
  | 0 => ("EnergyDiscs", "now", "LEnergyDiscs$House;", false)
  | 1 => ("EnergyDiscs", "past", "Ljava/util/List;", true)
  | 2 => ("EnergyDiscs", "saved", "[LEnergyDiscs$House;", true)
  | _ => ("EnergyDiscs", "pad", "Ljava/lang/StringBuilder;", true)
def tyX0 : Nat → FieldType := fun k => match k with
  | 0 => .object "EnergyDiscs$House"
  | 1 => .object "java/util/List"
  | 2 => .array (.object "EnergyDiscs$House")
  | _ => .object "java/lang/StringBuilder"
abbrev wsX00 : List Cond := u_ws RX0 TX0 4
theorem nmX0 : ∀ a, a < 4 → ∀ b, b < 4 → a ≠ b → (TX0 a).2.1 ≠ (TX0 b).2.1 := by decide +kernel
theorem tyX0_ok : ∀ k, k < 4 → parseFieldDescriptor (TX0 k).2.2.1 = some (tyX0 k) := by decide +kernel
abbrev cX0_init : ByteArray := prog_1_method_3_code
def yX0_init : MethodName := ⟨RX0, "<init>", "()V"⟩
def dkwX0_init_1 : List UInt8 := [181, 0, 19, 42, 5, 189, 0, 9, 181, 0, 23, 42, 187, 0, 27, 89, 183, 0, 29, 181, 0, 30, 177]
abbrev dktX0_init_1 : List UInt8 := dkwX0_init_1 ++ []
def dkwX0_init_0 : List UInt8 := [42, 183, 0, 3, 42, 187, 0, 9, 89, 183, 0, 11, 181, 0, 12, 42, 187, 0, 16, 89, 183, 0, 18]
abbrev dktX0_init_0 : List UInt8 := dkwX0_init_0 ++ dktX0_init_1
theorem dksX0_init_0 : cX0_init.data.toList.drop 0 = dktX0_init_0 := by decide +kernel
theorem dksX0_init_1 : cX0_init.data.toList.drop 23 = dktX0_init_1 := dk_seg dksX0_init_0 23 rfl rfl
theorem dX0_init_0 : decode cX0_init 0 = .ok (.aload_n 0, 1) := dk_42 (dk_at dksX0_init_0 0 rfl rfl)
theorem dX0_init_1 : decode cX0_init 1 = .ok (.invokespecial 3, 3) := dk_183 0 3 (dk_at dksX0_init_0 1 rfl rfl)
theorem dX0_init_4 : decode cX0_init 4 = .ok (.aload_n 0, 1) := dk_42 (dk_at dksX0_init_0 4 rfl rfl)
theorem dX0_init_5 : decode cX0_init 5 = .ok (.new 9, 3) := dk_187 0 9 (dk_at dksX0_init_0 5 rfl rfl)
theorem dX0_init_8 : decode cX0_init 8 = .ok (.dup, 1) := dk_89 (dk_at dksX0_init_0 8 rfl rfl)
theorem dX0_init_9 : decode cX0_init 9 = .ok (.invokespecial 11, 3) := dk_183 0 11 (dk_at dksX0_init_0 9 rfl rfl)
theorem dX0_init_12 : decode cX0_init 12 = .ok (.putfield 12, 3) := dk_181 0 12 (dk_at dksX0_init_0 12 rfl rfl)
theorem dX0_init_15 : decode cX0_init 15 = .ok (.aload_n 0, 1) := dk_42 (dk_at dksX0_init_0 15 rfl rfl)
theorem dX0_init_16 : decode cX0_init 16 = .ok (.new 16, 3) := dk_187 0 16 (dk_at dksX0_init_0 16 rfl rfl)
theorem dX0_init_19 : decode cX0_init 19 = .ok (.dup, 1) := dk_89 (dk_at dksX0_init_0 19 rfl rfl)
theorem dX0_init_20 : decode cX0_init 20 = .ok (.invokespecial 18, 3) := dk_183 0 18 (dk_at dksX0_init_0 20 rfl rfl)
theorem dX0_init_23 : decode cX0_init 23 = .ok (.putfield 19, 3) := dk_181 0 19 (dk_at dksX0_init_1 0 rfl rfl)
theorem dX0_init_26 : decode cX0_init 26 = .ok (.aload_n 0, 1) := dk_42 (dk_at dksX0_init_1 3 rfl rfl)
theorem dX0_init_27 : decode cX0_init 27 = .ok (.iconst 2, 1) := dk_5 (dk_at dksX0_init_1 4 rfl rfl)
theorem dX0_init_28 : decode cX0_init 28 = .ok (.anewarray 9, 3) := dk_189 0 9 (dk_at dksX0_init_1 5 rfl rfl)
theorem dX0_init_31 : decode cX0_init 31 = .ok (.putfield 23, 3) := dk_181 0 23 (dk_at dksX0_init_1 8 rfl rfl)
theorem dX0_init_34 : decode cX0_init 34 = .ok (.aload_n 0, 1) := dk_42 (dk_at dksX0_init_1 11 rfl rfl)
theorem dX0_init_35 : decode cX0_init 35 = .ok (.new 27, 3) := dk_187 0 27 (dk_at dksX0_init_1 12 rfl rfl)
theorem dX0_init_38 : decode cX0_init 38 = .ok (.dup, 1) := dk_89 (dk_at dksX0_init_1 15 rfl rfl)
theorem dX0_init_39 : decode cX0_init 39 = .ok (.invokespecial 29, 3) := dk_183 0 29 (dk_at dksX0_init_1 16 rfl rfl)
theorem dX0_init_42 : decode cX0_init 42 = .ok (.putfield 30, 3) := dk_181 0 30 (dk_at dksX0_init_1 19 rfl rfl)
theorem dX0_init_45 : decode cX0_init 45 = .ok (.return_, 1) := dk_177 (dk_at dksX0_init_1 22 rfl rfl)
abbrev cX0_set : ByteArray := prog_1_method_14_code
def yX0_set : MethodName := ⟨RX0, "set", "(II)I"⟩
def dkwX0_set_3 : List UInt8 := [180, 0, 12, 180, 0, 107, 27, 28, 79, 21, 5, 172]
abbrev dktX0_set_3 : List UInt8 := dkwX0_set_3 ++ []
def dkwX0_set_2 : List UInt8 := [54, 4, 21, 4, 156, 0, 6, 21, 4, 172, 42, 180, 0, 12, 180, 0, 107, 27, 46, 54, 5, 42]
abbrev dktX0_set_2 : List UInt8 := dkwX0_set_2 ++ dktX0_set_3
def dkwX0_set_1 : List UInt8 := [153, 0, 7, 4, 167, 0, 4, 3, 62, 42, 29, 153, 0, 7, 3, 167, 0, 5, 16, 254, 4, 182, 0, 103]
abbrev dktX0_set_1 : List UInt8 := dkwX0_set_1 ++ dktX0_set_2
def dkwX0_set_0 : List UInt8 := [27, 3, 8, 184, 0, 60, 153, 0, 24, 28, 178, 0, 96, 27, 46, 178, 0, 100, 27, 46, 184, 0, 60]
abbrev dktX0_set_0 : List UInt8 := dkwX0_set_0 ++ dktX0_set_1
theorem dksX0_set_0 : cX0_set.data.toList.drop 0 = dktX0_set_0 := by decide +kernel
theorem dksX0_set_1 : cX0_set.data.toList.drop 23 = dktX0_set_1 := dk_seg dksX0_set_0 23 rfl rfl
theorem dksX0_set_2 : cX0_set.data.toList.drop 47 = dktX0_set_2 := dk_seg dksX0_set_1 24 rfl rfl
theorem dksX0_set_3 : cX0_set.data.toList.drop 69 = dktX0_set_3 := dk_seg dksX0_set_2 22 rfl rfl
theorem dX0_set_0 : decode cX0_set 0 = .ok (.iload_n 1, 1) := dk_27 (dk_at dksX0_set_0 0 rfl rfl)
theorem dX0_set_1 : decode cX0_set 1 = .ok (.iconst 0, 1) := dk_3 (dk_at dksX0_set_0 1 rfl rfl)
theorem dX0_set_2 : decode cX0_set 2 = .ok (.iconst 5, 1) := dk_8 (dk_at dksX0_set_0 2 rfl rfl)
theorem dX0_set_3 : decode cX0_set 3 = .ok (.invokestatic 60, 3) := dk_184 0 60 (dk_at dksX0_set_0 3 rfl rfl)
theorem dX0_set_6 : decode cX0_set 6 = .ok (.ifCond .eq 24, 3) := dk_153 0 24 (dk_at dksX0_set_0 6 rfl rfl)
theorem dX0_set_9 : decode cX0_set 9 = .ok (.iload_n 2, 1) := dk_28 (dk_at dksX0_set_0 9 rfl rfl)
theorem dX0_set_10 : decode cX0_set 10 = .ok (.getstatic 96, 3) := dk_178 0 96 (dk_at dksX0_set_0 10 rfl rfl)
theorem dX0_set_13 : decode cX0_set 13 = .ok (.iload_n 1, 1) := dk_27 (dk_at dksX0_set_0 13 rfl rfl)
theorem dX0_set_14 : decode cX0_set 14 = .ok (.iaload, 1) := dk_46 (dk_at dksX0_set_0 14 rfl rfl)
theorem dX0_set_15 : decode cX0_set 15 = .ok (.getstatic 100, 3) := dk_178 0 100 (dk_at dksX0_set_0 15 rfl rfl)
theorem dX0_set_18 : decode cX0_set 18 = .ok (.iload_n 1, 1) := dk_27 (dk_at dksX0_set_0 18 rfl rfl)
theorem dX0_set_19 : decode cX0_set 19 = .ok (.iaload, 1) := dk_46 (dk_at dksX0_set_0 19 rfl rfl)
theorem dX0_set_20 : decode cX0_set 20 = .ok (.invokestatic 60, 3) := dk_184 0 60 (dk_at dksX0_set_0 20 rfl rfl)
theorem dX0_set_23 : decode cX0_set 23 = .ok (.ifCond .eq 7, 3) := dk_153 0 7 (dk_at dksX0_set_1 0 rfl rfl)
theorem dX0_set_26 : decode cX0_set 26 = .ok (.iconst 1, 1) := dk_4 (dk_at dksX0_set_1 3 rfl rfl)
theorem dX0_set_27 : decode cX0_set 27 = .ok (.goto 4, 3) := dk_167 0 4 (dk_at dksX0_set_1 4 rfl rfl)
theorem dX0_set_30 : decode cX0_set 30 = .ok (.iconst 0, 1) := dk_3 (dk_at dksX0_set_1 7 rfl rfl)
theorem dX0_set_31 : decode cX0_set 31 = .ok (.istore_n 3, 1) := dk_62 (dk_at dksX0_set_1 8 rfl rfl)
theorem dX0_set_32 : decode cX0_set 32 = .ok (.aload_n 0, 1) := dk_42 (dk_at dksX0_set_1 9 rfl rfl)
theorem dX0_set_33 : decode cX0_set 33 = .ok (.iload_n 3, 1) := dk_29 (dk_at dksX0_set_1 10 rfl rfl)
theorem dX0_set_34 : decode cX0_set 34 = .ok (.ifCond .eq 7, 3) := dk_153 0 7 (dk_at dksX0_set_1 11 rfl rfl)
theorem dX0_set_37 : decode cX0_set 37 = .ok (.iconst 0, 1) := dk_3 (dk_at dksX0_set_1 14 rfl rfl)
theorem dX0_set_38 : decode cX0_set 38 = .ok (.goto 5, 3) := dk_167 0 5 (dk_at dksX0_set_1 15 rfl rfl)
theorem dX0_set_41 : decode cX0_set 41 = .ok (.bipush (-2), 2) := dk_16 254 (dk_at dksX0_set_1 18 rfl rfl)
theorem dX0_set_43 : decode cX0_set 43 = .ok (.iconst 1, 1) := dk_4 (dk_at dksX0_set_1 20 rfl rfl)
theorem dX0_set_44 : decode cX0_set 44 = .ok (.invokevirtual 103, 3) := dk_182 0 103 (dk_at dksX0_set_1 21 rfl rfl)
theorem dX0_set_47 : decode cX0_set 47 = .ok (.istore 4, 2) := dk_54 4 (dk_at dksX0_set_2 0 rfl rfl)
theorem dX0_set_49 : decode cX0_set 49 = .ok (.iload 4, 2) := dk_21 4 (dk_at dksX0_set_2 2 rfl rfl)
theorem dX0_set_51 : decode cX0_set 51 = .ok (.ifCond .ge 6, 3) := dk_156 0 6 (dk_at dksX0_set_2 4 rfl rfl)
theorem dX0_set_54 : decode cX0_set 54 = .ok (.iload 4, 2) := dk_21 4 (dk_at dksX0_set_2 7 rfl rfl)
theorem dX0_set_56 : decode cX0_set 56 = .ok (.ireturn, 1) := dk_172 (dk_at dksX0_set_2 9 rfl rfl)
theorem dX0_set_57 : decode cX0_set 57 = .ok (.aload_n 0, 1) := dk_42 (dk_at dksX0_set_2 10 rfl rfl)
theorem dX0_set_58 : decode cX0_set 58 = .ok (.getfield 12, 3) := dk_180 0 12 (dk_at dksX0_set_2 11 rfl rfl)
theorem dX0_set_61 : decode cX0_set 61 = .ok (.getfield 107, 3) := dk_180 0 107 (dk_at dksX0_set_2 14 rfl rfl)
theorem dX0_set_64 : decode cX0_set 64 = .ok (.iload_n 1, 1) := dk_27 (dk_at dksX0_set_2 17 rfl rfl)
theorem dX0_set_65 : decode cX0_set 65 = .ok (.iaload, 1) := dk_46 (dk_at dksX0_set_2 18 rfl rfl)
theorem dX0_set_66 : decode cX0_set 66 = .ok (.istore 5, 2) := dk_54 5 (dk_at dksX0_set_2 19 rfl rfl)
theorem dX0_set_68 : decode cX0_set 68 = .ok (.aload_n 0, 1) := dk_42 (dk_at dksX0_set_2 21 rfl rfl)
theorem dX0_set_69 : decode cX0_set 69 = .ok (.getfield 12, 3) := dk_180 0 12 (dk_at dksX0_set_3 0 rfl rfl)
theorem dX0_set_72 : decode cX0_set 72 = .ok (.getfield 107, 3) := dk_180 0 107 (dk_at dksX0_set_3 3 rfl rfl)
theorem dX0_set_75 : decode cX0_set 75 = .ok (.iload_n 1, 1) := dk_27 (dk_at dksX0_set_3 6 rfl rfl)
theorem dX0_set_76 : decode cX0_set 76 = .ok (.iload_n 2, 1) := dk_28 (dk_at dksX0_set_3 7 rfl rfl)
theorem dX0_set_77 : decode cX0_set 77 = .ok (.iastore, 1) := dk_79 (dk_at dksX0_set_3 8 rfl rfl)
theorem dX0_set_78 : decode cX0_set 78 = .ok (.iload 5, 2) := dk_21 5 (dk_at dksX0_set_3 9 rfl rfl)
theorem dX0_set_80 : decode cX0_set 80 = .ok (.ireturn, 1) := dk_172 (dk_at dksX0_set_3 11 rfl rfl)
abbrev cX0_isIn : ByteArray := prog_1_method_1_code
def yX0_isIn : MethodName := ⟨RX0, "isIn", "(III)Z"⟩
def dkwX0_isIn_0 : List UInt8 := [26, 27, 161, 0, 12, 26, 28, 163, 0, 7, 4, 167, 0, 4, 3, 172]
abbrev dktX0_isIn_0 : List UInt8 := dkwX0_isIn_0 ++ []
theorem dksX0_isIn_0 : cX0_isIn.data.toList.drop 0 = dktX0_isIn_0 := by decide +kernel
theorem dX0_isIn_0 : decode cX0_isIn 0 = .ok (.iload_n 0, 1) := dk_26 (dk_at dksX0_isIn_0 0 rfl rfl)
theorem dX0_isIn_1 : decode cX0_isIn 1 = .ok (.iload_n 1, 1) := dk_27 (dk_at dksX0_isIn_0 1 rfl rfl)
theorem dX0_isIn_2 : decode cX0_isIn 2 = .ok (.if_icmp .lt 12, 3) := dk_161 0 12 (dk_at dksX0_isIn_0 2 rfl rfl)
theorem dX0_isIn_5 : decode cX0_isIn 5 = .ok (.iload_n 0, 1) := dk_26 (dk_at dksX0_isIn_0 5 rfl rfl)
theorem dX0_isIn_6 : decode cX0_isIn 6 = .ok (.iload_n 2, 1) := dk_28 (dk_at dksX0_isIn_0 6 rfl rfl)
theorem dX0_isIn_7 : decode cX0_isIn 7 = .ok (.if_icmp .gt 7, 3) := dk_163 0 7 (dk_at dksX0_isIn_0 7 rfl rfl)
theorem dX0_isIn_10 : decode cX0_isIn 10 = .ok (.iconst 1, 1) := dk_4 (dk_at dksX0_isIn_0 10 rfl rfl)
theorem dX0_isIn_11 : decode cX0_isIn 11 = .ok (.goto 4, 3) := dk_167 0 4 (dk_at dksX0_isIn_0 11 rfl rfl)
theorem dX0_isIn_14 : decode cX0_isIn 14 = .ok (.iconst 0, 1) := dk_3 (dk_at dksX0_isIn_0 14 rfl rfl)
theorem dX0_isIn_15 : decode cX0_isIn 15 = .ok (.ireturn, 1) := dk_172 (dk_at dksX0_isIn_0 15 rfl rfl)
abbrev cX0_begun : ByteArray := prog_1_method_9_code
def yX0_begun : MethodName := ⟨RX0, "begun", "(IZ)I"⟩
def dkwX0_begun_0 : List UInt8 := [27, 154, 0, 11, 28, 153, 0, 7, 42, 182, 0, 72, 27, 172]
abbrev dktX0_begun_0 : List UInt8 := dkwX0_begun_0 ++ []
theorem dksX0_begun_0 : cX0_begun.data.toList.drop 0 = dktX0_begun_0 := by decide +kernel
theorem dX0_begun_0 : decode cX0_begun 0 = .ok (.iload_n 1, 1) := dk_27 (dk_at dksX0_begun_0 0 rfl rfl)
theorem dX0_begun_1 : decode cX0_begun 1 = .ok (.ifCond .ne 11, 3) := dk_154 0 11 (dk_at dksX0_begun_0 1 rfl rfl)
theorem dX0_begun_4 : decode cX0_begun 4 = .ok (.iload_n 2, 1) := dk_28 (dk_at dksX0_begun_0 4 rfl rfl)
theorem dX0_begun_5 : decode cX0_begun 5 = .ok (.ifCond .eq 7, 3) := dk_153 0 7 (dk_at dksX0_begun_0 5 rfl rfl)
theorem dX0_begun_8 : decode cX0_begun 8 = .ok (.aload_n 0, 1) := dk_42 (dk_at dksX0_begun_0 8 rfl rfl)
theorem dX0_begun_9 : decode cX0_begun 9 = .ok (.invokevirtual 72, 3) := dk_182 0 72 (dk_at dksX0_begun_0 9 rfl rfl)
theorem dX0_begun_12 : decode cX0_begun 12 = .ok (.iload_n 1, 1) := dk_27 (dk_at dksX0_begun_0 12 rfl rfl)
theorem dX0_begun_13 : decode cX0_begun 13 = .ok (.ireturn, 1) := dk_172 (dk_at dksX0_begun_0 13 rfl rfl)
abbrev cX0_record : ByteArray := prog_1_method_4_code
def yX0_record : MethodName := ⟨RX0, "record", "()V"⟩
def dkwX0_record_1 : List UInt8 := [87, 42, 180, 0, 19, 42, 180, 0, 12, 182, 0, 44, 185, 0, 48, 2, 0, 87, 177]
abbrev dktX0_record_1 : List UInt8 := dkwX0_record_1 ++ []
def dkwX0_record_0 : List UInt8 := [42, 180, 0, 19, 185, 0, 34, 1, 0, 16, 6, 160, 0, 14, 42, 180, 0, 19, 3, 185, 0, 40, 2, 0]
abbrev dktX0_record_0 : List UInt8 := dkwX0_record_0 ++ dktX0_record_1
theorem dksX0_record_0 : cX0_record.data.toList.drop 0 = dktX0_record_0 := by decide +kernel
theorem dksX0_record_1 : cX0_record.data.toList.drop 24 = dktX0_record_1 := dk_seg dksX0_record_0 24 rfl rfl
theorem dX0_record_0 : decode cX0_record 0 = .ok (.aload_n 0, 1) := dk_42 (dk_at dksX0_record_0 0 rfl rfl)
theorem dX0_record_1 : decode cX0_record 1 = .ok (.getfield 19, 3) := dk_180 0 19 (dk_at dksX0_record_0 1 rfl rfl)
theorem dX0_record_4 : decode cX0_record 4 = .ok (.invokeinterface 34 1, 5) := by decide +kernel
theorem dX0_record_9 : decode cX0_record 9 = .ok (.bipush 6, 2) := dk_16 6 (dk_at dksX0_record_0 9 rfl rfl)
theorem dX0_record_11 : decode cX0_record 11 = .ok (.if_icmp .ne 14, 3) := dk_160 0 14 (dk_at dksX0_record_0 11 rfl rfl)
theorem dX0_record_14 : decode cX0_record 14 = .ok (.aload_n 0, 1) := dk_42 (dk_at dksX0_record_0 14 rfl rfl)
theorem dX0_record_15 : decode cX0_record 15 = .ok (.getfield 19, 3) := dk_180 0 19 (dk_at dksX0_record_0 15 rfl rfl)
theorem dX0_record_18 : decode cX0_record 18 = .ok (.iconst 0, 1) := dk_3 (dk_at dksX0_record_0 18 rfl rfl)
theorem dX0_record_19 : decode cX0_record 19 = .ok (.invokeinterface 40 2, 5) := by decide +kernel
theorem dX0_record_24 : decode cX0_record 24 = .ok (.pop, 1) := dk_87 (dk_at dksX0_record_1 0 rfl rfl)
theorem dX0_record_25 : decode cX0_record 25 = .ok (.aload_n 0, 1) := dk_42 (dk_at dksX0_record_1 1 rfl rfl)
theorem dX0_record_26 : decode cX0_record 26 = .ok (.getfield 19, 3) := dk_180 0 19 (dk_at dksX0_record_1 2 rfl rfl)
theorem dX0_record_29 : decode cX0_record 29 = .ok (.aload_n 0, 1) := dk_42 (dk_at dksX0_record_1 5 rfl rfl)
theorem dX0_record_30 : decode cX0_record 30 = .ok (.getfield 12, 3) := dk_180 0 12 (dk_at dksX0_record_1 6 rfl rfl)
theorem dX0_record_33 : decode cX0_record 33 = .ok (.invokevirtual 44, 3) := dk_182 0 44 (dk_at dksX0_record_1 9 rfl rfl)
theorem dX0_record_36 : decode cX0_record 36 = .ok (.invokeinterface 48 2, 5) := by decide +kernel
theorem dX0_record_41 : decode cX0_record 41 = .ok (.pop, 1) := dk_87 (dk_at dksX0_record_1 17 rfl rfl)
theorem dX0_record_42 : decode cX0_record 42 = .ok (.return_, 1) := dk_177 (dk_at dksX0_record_1 18 rfl rfl)
abbrev cX0_meter : ByteArray := prog_1_method_16_code
def yX0_meter : MethodName := ⟨RX0, "meter", "(I)I"⟩
def dkwX0_meter_0 : List UInt8 := [42, 27, 4, 182, 0, 117, 172]
abbrev dktX0_meter_0 : List UInt8 := dkwX0_meter_0 ++ []
theorem dksX0_meter_0 : cX0_meter.data.toList.drop 0 = dktX0_meter_0 := by decide +kernel
theorem dX0_meter_0 : decode cX0_meter 0 = .ok (.aload_n 0, 1) := dk_42 (dk_at dksX0_meter_0 0 rfl rfl)
theorem dX0_meter_1 : decode cX0_meter 1 = .ok (.iload_n 1, 1) := dk_27 (dk_at dksX0_meter_0 1 rfl rfl)
theorem dX0_meter_2 : decode cX0_meter 2 = .ok (.iconst 1, 1) := dk_4 (dk_at dksX0_meter_0 2 rfl rfl)
theorem dX0_meter_3 : decode cX0_meter 3 = .ok (.invokevirtual 117, 3) := dk_182 0 117 (dk_at dksX0_meter_0 3 rfl rfl)
theorem dX0_meter_6 : decode cX0_meter 6 = .ok (.ireturn, 1) := dk_172 (dk_at dksX0_meter_0 6 rfl rfl)
abbrev cX0_comes : ByteArray := prog_1_method_15_code
def yX0_comes : MethodName := ⟨RX0, "comes", "(IZ)I"⟩
def dkwX0_comes_1 : List UInt8 := [182, 0, 114, 172]
abbrev dktX0_comes_1 : List UInt8 := dkwX0_comes_1 ++ []
def dkwX0_comes_0 : List UInt8 := [42, 42, 27, 182, 0, 110, 28, 182, 0, 103, 62, 29, 156, 0, 7, 29, 167, 0, 11, 42, 180, 0, 12, 27]
abbrev dktX0_comes_0 : List UInt8 := dkwX0_comes_0 ++ dktX0_comes_1
theorem dksX0_comes_0 : cX0_comes.data.toList.drop 0 = dktX0_comes_0 := by decide +kernel
theorem dksX0_comes_1 : cX0_comes.data.toList.drop 24 = dktX0_comes_1 := dk_seg dksX0_comes_0 24 rfl rfl
theorem dX0_comes_0 : decode cX0_comes 0 = .ok (.aload_n 0, 1) := dk_42 (dk_at dksX0_comes_0 0 rfl rfl)
theorem dX0_comes_1 : decode cX0_comes 1 = .ok (.aload_n 0, 1) := dk_42 (dk_at dksX0_comes_0 1 rfl rfl)
theorem dX0_comes_2 : decode cX0_comes 2 = .ok (.iload_n 1, 1) := dk_27 (dk_at dksX0_comes_0 2 rfl rfl)
theorem dX0_comes_3 : decode cX0_comes 3 = .ok (.invokevirtual 110, 3) := dk_182 0 110 (dk_at dksX0_comes_0 3 rfl rfl)
theorem dX0_comes_6 : decode cX0_comes 6 = .ok (.iload_n 2, 1) := dk_28 (dk_at dksX0_comes_0 6 rfl rfl)
theorem dX0_comes_7 : decode cX0_comes 7 = .ok (.invokevirtual 103, 3) := dk_182 0 103 (dk_at dksX0_comes_0 7 rfl rfl)
theorem dX0_comes_10 : decode cX0_comes 10 = .ok (.istore_n 3, 1) := dk_62 (dk_at dksX0_comes_0 10 rfl rfl)
theorem dX0_comes_11 : decode cX0_comes 11 = .ok (.iload_n 3, 1) := dk_29 (dk_at dksX0_comes_0 11 rfl rfl)
theorem dX0_comes_12 : decode cX0_comes 12 = .ok (.ifCond .ge 7, 3) := dk_156 0 7 (dk_at dksX0_comes_0 12 rfl rfl)
theorem dX0_comes_15 : decode cX0_comes 15 = .ok (.iload_n 3, 1) := dk_29 (dk_at dksX0_comes_0 15 rfl rfl)
theorem dX0_comes_16 : decode cX0_comes 16 = .ok (.goto 11, 3) := dk_167 0 11 (dk_at dksX0_comes_0 16 rfl rfl)
theorem dX0_comes_19 : decode cX0_comes 19 = .ok (.aload_n 0, 1) := dk_42 (dk_at dksX0_comes_0 19 rfl rfl)
theorem dX0_comes_20 : decode cX0_comes 20 = .ok (.getfield 12, 3) := dk_180 0 12 (dk_at dksX0_comes_0 20 rfl rfl)
theorem dX0_comes_23 : decode cX0_comes 23 = .ok (.iload_n 1, 1) := dk_27 (dk_at dksX0_comes_0 23 rfl rfl)
theorem dX0_comes_24 : decode cX0_comes 24 = .ok (.invokevirtual 114, 3) := dk_182 0 114 (dk_at dksX0_comes_1 0 rfl rfl)
theorem dX0_comes_27 : decode cX0_comes 27 = .ok (.ireturn, 1) := dk_172 (dk_at dksX0_comes_1 3 rfl rfl)
abbrev cX0_whyNotMeter : ByteArray := prog_1_method_10_code
def yX0_whyNotMeter : MethodName := ⟨RX0, "whyNotMeter", "(I)I"⟩
def dkwX0_whyNotMeter_2 : List UInt8 := [167, 0, 4, 3, 172]
abbrev dktX0_whyNotMeter_2 : List UInt8 := dkwX0_whyNotMeter_2 ++ []
def dkwX0_whyNotMeter_1 : List UInt8 := [167, 0, 26, 42, 180, 0, 12, 180, 0, 57, 185, 0, 34, 1, 0, 16, 7, 160, 0, 8, 16, 252]
abbrev dktX0_whyNotMeter_1 : List UInt8 := dkwX0_whyNotMeter_1 ++ dktX0_whyNotMeter_2
def dkwX0_whyNotMeter_0 : List UInt8 := [42, 180, 0, 12, 180, 0, 57, 185, 0, 75, 1, 0, 154, 0, 15, 42, 27, 182, 0, 79, 154, 0, 7, 2]
abbrev dktX0_whyNotMeter_0 : List UInt8 := dkwX0_whyNotMeter_0 ++ dktX0_whyNotMeter_1
theorem dksX0_whyNotMeter_0 : cX0_whyNotMeter.data.toList.drop 0 = dktX0_whyNotMeter_0 := by decide +kernel
theorem dksX0_whyNotMeter_1 : cX0_whyNotMeter.data.toList.drop 24 = dktX0_whyNotMeter_1 := dk_seg dksX0_whyNotMeter_0 24 rfl rfl
theorem dksX0_whyNotMeter_2 : cX0_whyNotMeter.data.toList.drop 46 = dktX0_whyNotMeter_2 := dk_seg dksX0_whyNotMeter_1 22 rfl rfl
theorem dX0_whyNotMeter_0 : decode cX0_whyNotMeter 0 = .ok (.aload_n 0, 1) := dk_42 (dk_at dksX0_whyNotMeter_0 0 rfl rfl)
theorem dX0_whyNotMeter_1 : decode cX0_whyNotMeter 1 = .ok (.getfield 12, 3) := dk_180 0 12 (dk_at dksX0_whyNotMeter_0 1 rfl rfl)
theorem dX0_whyNotMeter_4 : decode cX0_whyNotMeter 4 = .ok (.getfield 57, 3) := dk_180 0 57 (dk_at dksX0_whyNotMeter_0 4 rfl rfl)
theorem dX0_whyNotMeter_7 : decode cX0_whyNotMeter 7 = .ok (.invokeinterface 75 1, 5) := by decide +kernel
theorem dX0_whyNotMeter_12 : decode cX0_whyNotMeter 12 = .ok (.ifCond .ne 15, 3) := dk_154 0 15 (dk_at dksX0_whyNotMeter_0 12 rfl rfl)
theorem dX0_whyNotMeter_15 : decode cX0_whyNotMeter 15 = .ok (.aload_n 0, 1) := dk_42 (dk_at dksX0_whyNotMeter_0 15 rfl rfl)
theorem dX0_whyNotMeter_16 : decode cX0_whyNotMeter 16 = .ok (.iload_n 1, 1) := dk_27 (dk_at dksX0_whyNotMeter_0 16 rfl rfl)
theorem dX0_whyNotMeter_17 : decode cX0_whyNotMeter 17 = .ok (.invokevirtual 79, 3) := dk_182 0 79 (dk_at dksX0_whyNotMeter_0 17 rfl rfl)
theorem dX0_whyNotMeter_20 : decode cX0_whyNotMeter 20 = .ok (.ifCond .ne 7, 3) := dk_154 0 7 (dk_at dksX0_whyNotMeter_0 20 rfl rfl)
theorem dX0_whyNotMeter_23 : decode cX0_whyNotMeter 23 = .ok (.iconst (-1), 1) := dk_2 (dk_at dksX0_whyNotMeter_0 23 rfl rfl)
theorem dX0_whyNotMeter_24 : decode cX0_whyNotMeter 24 = .ok (.goto 26, 3) := dk_167 0 26 (dk_at dksX0_whyNotMeter_1 0 rfl rfl)
theorem dX0_whyNotMeter_27 : decode cX0_whyNotMeter 27 = .ok (.aload_n 0, 1) := dk_42 (dk_at dksX0_whyNotMeter_1 3 rfl rfl)
theorem dX0_whyNotMeter_28 : decode cX0_whyNotMeter 28 = .ok (.getfield 12, 3) := dk_180 0 12 (dk_at dksX0_whyNotMeter_1 4 rfl rfl)
theorem dX0_whyNotMeter_31 : decode cX0_whyNotMeter 31 = .ok (.getfield 57, 3) := dk_180 0 57 (dk_at dksX0_whyNotMeter_1 7 rfl rfl)
theorem dX0_whyNotMeter_34 : decode cX0_whyNotMeter 34 = .ok (.invokeinterface 34 1, 5) := by decide +kernel
theorem dX0_whyNotMeter_39 : decode cX0_whyNotMeter 39 = .ok (.bipush 7, 2) := dk_16 7 (dk_at dksX0_whyNotMeter_1 15 rfl rfl)
theorem dX0_whyNotMeter_41 : decode cX0_whyNotMeter 41 = .ok (.if_icmp .ne 8, 3) := dk_160 0 8 (dk_at dksX0_whyNotMeter_1 17 rfl rfl)
theorem dX0_whyNotMeter_44 : decode cX0_whyNotMeter 44 = .ok (.bipush (-4), 2) := dk_16 252 (dk_at dksX0_whyNotMeter_1 20 rfl rfl)
theorem dX0_whyNotMeter_46 : decode cX0_whyNotMeter 46 = .ok (.goto 4, 3) := dk_167 0 4 (dk_at dksX0_whyNotMeter_2 0 rfl rfl)
theorem dX0_whyNotMeter_49 : decode cX0_whyNotMeter 49 = .ok (.iconst 0, 1) := dk_3 (dk_at dksX0_whyNotMeter_2 3 rfl rfl)
theorem dX0_whyNotMeter_50 : decode cX0_whyNotMeter 50 = .ok (.ireturn, 1) := dk_172 (dk_at dksX0_whyNotMeter_2 4 rfl rfl)
abbrev cX0_isMeter : ByteArray := prog_1_method_6_code
def yX0_isMeter : MethodName := ⟨RX0, "isMeter", "(I)Z"⟩
def dkwX0_isMeter_0 : List UInt8 := [27, 3, 42, 180, 0, 12, 180, 0, 57, 185, 0, 34, 1, 0, 4, 100, 184, 0, 60, 172]
abbrev dktX0_isMeter_0 : List UInt8 := dkwX0_isMeter_0 ++ []
theorem dksX0_isMeter_0 : cX0_isMeter.data.toList.drop 0 = dktX0_isMeter_0 := by decide +kernel
theorem dX0_isMeter_0 : decode cX0_isMeter 0 = .ok (.iload_n 1, 1) := dk_27 (dk_at dksX0_isMeter_0 0 rfl rfl)
theorem dX0_isMeter_1 : decode cX0_isMeter 1 = .ok (.iconst 0, 1) := dk_3 (dk_at dksX0_isMeter_0 1 rfl rfl)
theorem dX0_isMeter_2 : decode cX0_isMeter 2 = .ok (.aload_n 0, 1) := dk_42 (dk_at dksX0_isMeter_0 2 rfl rfl)
theorem dX0_isMeter_3 : decode cX0_isMeter 3 = .ok (.getfield 12, 3) := dk_180 0 12 (dk_at dksX0_isMeter_0 3 rfl rfl)
theorem dX0_isMeter_6 : decode cX0_isMeter 6 = .ok (.getfield 57, 3) := dk_180 0 57 (dk_at dksX0_isMeter_0 6 rfl rfl)
theorem dX0_isMeter_9 : decode cX0_isMeter 9 = .ok (.invokeinterface 34 1, 5) := by decide +kernel
theorem dX0_isMeter_14 : decode cX0_isMeter 14 = .ok (.iconst 1, 1) := dk_4 (dk_at dksX0_isMeter_0 14 rfl rfl)
theorem dX0_isMeter_15 : decode cX0_isMeter 15 = .ok (.isub, 1) := dk_100 (dk_at dksX0_isMeter_0 15 rfl rfl)
theorem dX0_isMeter_16 : decode cX0_isMeter 16 = .ok (.invokestatic 60, 3) := dk_184 0 60 (dk_at dksX0_isMeter_0 16 rfl rfl)
theorem dX0_isMeter_19 : decode cX0_isMeter 19 = .ok (.ireturn, 1) := dk_172 (dk_at dksX0_isMeter_0 19 rfl rfl)
abbrev cX0_load : ByteArray := prog_1_method_18_code
def yX0_load : MethodName := ⟨RX0, "load", "(II)I"⟩
def dkwX0_load_0 : List UInt8 := [42, 27, 28, 4, 182, 0, 133, 172]
abbrev dktX0_load_0 : List UInt8 := dkwX0_load_0 ++ []
theorem dksX0_load_0 : cX0_load.data.toList.drop 0 = dktX0_load_0 := by decide +kernel
theorem dX0_load_0 : decode cX0_load 0 = .ok (.aload_n 0, 1) := dk_42 (dk_at dksX0_load_0 0 rfl rfl)
theorem dX0_load_1 : decode cX0_load 1 = .ok (.iload_n 1, 1) := dk_27 (dk_at dksX0_load_0 1 rfl rfl)
theorem dX0_load_2 : decode cX0_load 2 = .ok (.iload_n 2, 1) := dk_28 (dk_at dksX0_load_0 2 rfl rfl)
theorem dX0_load_3 : decode cX0_load 3 = .ok (.iconst 1, 1) := dk_4 (dk_at dksX0_load_0 3 rfl rfl)
theorem dX0_load_4 : decode cX0_load 4 = .ok (.invokevirtual 133, 3) := dk_182 0 133 (dk_at dksX0_load_0 4 rfl rfl)
theorem dX0_load_7 : decode cX0_load 7 = .ok (.ireturn, 1) := dk_172 (dk_at dksX0_load_0 7 rfl rfl)
abbrev cX0_connects : ByteArray := prog_1_method_17_code
def yX0_connects : MethodName := ⟨RX0, "connects", "(IIZ)I"⟩
def dkwX0_connects_1 : List UInt8 := [180, 0, 12, 187, 0, 124, 89, 27, 28, 183, 0, 126, 182, 0, 129, 172]
abbrev dktX0_connects_1 : List UInt8 := dkwX0_connects_1 ++ []
def dkwX0_connects_0 : List UInt8 := [42, 42, 27, 28, 182, 0, 120, 29, 182, 0, 103, 54, 4, 21, 4, 156, 0, 8, 21, 4, 167, 0, 19, 42]
abbrev dktX0_connects_0 : List UInt8 := dkwX0_connects_0 ++ dktX0_connects_1
theorem dksX0_connects_0 : cX0_connects.data.toList.drop 0 = dktX0_connects_0 := by decide +kernel
theorem dksX0_connects_1 : cX0_connects.data.toList.drop 24 = dktX0_connects_1 := dk_seg dksX0_connects_0 24 rfl rfl
theorem dX0_connects_0 : decode cX0_connects 0 = .ok (.aload_n 0, 1) := dk_42 (dk_at dksX0_connects_0 0 rfl rfl)
theorem dX0_connects_1 : decode cX0_connects 1 = .ok (.aload_n 0, 1) := dk_42 (dk_at dksX0_connects_0 1 rfl rfl)
theorem dX0_connects_2 : decode cX0_connects 2 = .ok (.iload_n 1, 1) := dk_27 (dk_at dksX0_connects_0 2 rfl rfl)
theorem dX0_connects_3 : decode cX0_connects 3 = .ok (.iload_n 2, 1) := dk_28 (dk_at dksX0_connects_0 3 rfl rfl)
theorem dX0_connects_4 : decode cX0_connects 4 = .ok (.invokevirtual 120, 3) := dk_182 0 120 (dk_at dksX0_connects_0 4 rfl rfl)
theorem dX0_connects_7 : decode cX0_connects 7 = .ok (.iload_n 3, 1) := dk_29 (dk_at dksX0_connects_0 7 rfl rfl)
theorem dX0_connects_8 : decode cX0_connects 8 = .ok (.invokevirtual 103, 3) := dk_182 0 103 (dk_at dksX0_connects_0 8 rfl rfl)
theorem dX0_connects_11 : decode cX0_connects 11 = .ok (.istore 4, 2) := dk_54 4 (dk_at dksX0_connects_0 11 rfl rfl)
theorem dX0_connects_13 : decode cX0_connects 13 = .ok (.iload 4, 2) := dk_21 4 (dk_at dksX0_connects_0 13 rfl rfl)
theorem dX0_connects_15 : decode cX0_connects 15 = .ok (.ifCond .ge 8, 3) := dk_156 0 8 (dk_at dksX0_connects_0 15 rfl rfl)
theorem dX0_connects_18 : decode cX0_connects 18 = .ok (.iload 4, 2) := dk_21 4 (dk_at dksX0_connects_0 18 rfl rfl)
theorem dX0_connects_20 : decode cX0_connects 20 = .ok (.goto 19, 3) := dk_167 0 19 (dk_at dksX0_connects_0 20 rfl rfl)
theorem dX0_connects_23 : decode cX0_connects 23 = .ok (.aload_n 0, 1) := dk_42 (dk_at dksX0_connects_0 23 rfl rfl)
theorem dX0_connects_24 : decode cX0_connects 24 = .ok (.getfield 12, 3) := dk_180 0 12 (dk_at dksX0_connects_1 0 rfl rfl)
theorem dX0_connects_27 : decode cX0_connects 27 = .ok (.new 124, 3) := dk_187 0 124 (dk_at dksX0_connects_1 3 rfl rfl)
theorem dX0_connects_30 : decode cX0_connects 30 = .ok (.dup, 1) := dk_89 (dk_at dksX0_connects_1 6 rfl rfl)
theorem dX0_connects_31 : decode cX0_connects 31 = .ok (.iload_n 1, 1) := dk_27 (dk_at dksX0_connects_1 7 rfl rfl)
theorem dX0_connects_32 : decode cX0_connects 32 = .ok (.iload_n 2, 1) := dk_28 (dk_at dksX0_connects_1 8 rfl rfl)
theorem dX0_connects_33 : decode cX0_connects 33 = .ok (.invokespecial 126, 3) := dk_183 0 126 (dk_at dksX0_connects_1 9 rfl rfl)
theorem dX0_connects_36 : decode cX0_connects 36 = .ok (.invokevirtual 129, 3) := dk_182 0 129 (dk_at dksX0_connects_1 12 rfl rfl)
theorem dX0_connects_39 : decode cX0_connects 39 = .ok (.ireturn, 1) := dk_172 (dk_at dksX0_connects_1 15 rfl rfl)
abbrev cX0_whyNotLoad : ByteArray := prog_1_method_11_code
def yX0_whyNotLoad : MethodName := ⟨RX0, "whyNotLoad", "(II)I"⟩
def dkwX0_whyNotLoad_2 : List UInt8 := [167, 0, 4, 3, 172]
abbrev dktX0_whyNotLoad_2 : List UInt8 := dkwX0_whyNotLoad_2 ++ []
def dkwX0_whyNotLoad_1 : List UInt8 := [16, 254, 167, 0, 26, 42, 180, 0, 12, 180, 0, 64, 185, 0, 34, 1, 0, 16, 12, 160, 0, 8, 16, 252]
abbrev dktX0_whyNotLoad_1 : List UInt8 := dkwX0_whyNotLoad_1 ++ dktX0_whyNotLoad_2
def dkwX0_whyNotLoad_0 : List UInt8 := [42, 27, 182, 0, 79, 154, 0, 7, 2, 167, 0, 42, 28, 4, 17, 15, 160, 184, 0, 60, 154, 0, 8]
abbrev dktX0_whyNotLoad_0 : List UInt8 := dkwX0_whyNotLoad_0 ++ dktX0_whyNotLoad_1
theorem dksX0_whyNotLoad_0 : cX0_whyNotLoad.data.toList.drop 0 = dktX0_whyNotLoad_0 := by decide +kernel
theorem dksX0_whyNotLoad_1 : cX0_whyNotLoad.data.toList.drop 23 = dktX0_whyNotLoad_1 := dk_seg dksX0_whyNotLoad_0 23 rfl rfl
theorem dksX0_whyNotLoad_2 : cX0_whyNotLoad.data.toList.drop 47 = dktX0_whyNotLoad_2 := dk_seg dksX0_whyNotLoad_1 24 rfl rfl
theorem dX0_whyNotLoad_0 : decode cX0_whyNotLoad 0 = .ok (.aload_n 0, 1) := dk_42 (dk_at dksX0_whyNotLoad_0 0 rfl rfl)
theorem dX0_whyNotLoad_1 : decode cX0_whyNotLoad 1 = .ok (.iload_n 1, 1) := dk_27 (dk_at dksX0_whyNotLoad_0 1 rfl rfl)
theorem dX0_whyNotLoad_2 : decode cX0_whyNotLoad 2 = .ok (.invokevirtual 79, 3) := dk_182 0 79 (dk_at dksX0_whyNotLoad_0 2 rfl rfl)
theorem dX0_whyNotLoad_5 : decode cX0_whyNotLoad 5 = .ok (.ifCond .ne 7, 3) := dk_154 0 7 (dk_at dksX0_whyNotLoad_0 5 rfl rfl)
theorem dX0_whyNotLoad_8 : decode cX0_whyNotLoad 8 = .ok (.iconst (-1), 1) := dk_2 (dk_at dksX0_whyNotLoad_0 8 rfl rfl)
theorem dX0_whyNotLoad_9 : decode cX0_whyNotLoad 9 = .ok (.goto 42, 3) := dk_167 0 42 (dk_at dksX0_whyNotLoad_0 9 rfl rfl)
theorem dX0_whyNotLoad_12 : decode cX0_whyNotLoad 12 = .ok (.iload_n 2, 1) := dk_28 (dk_at dksX0_whyNotLoad_0 12 rfl rfl)
theorem dX0_whyNotLoad_13 : decode cX0_whyNotLoad 13 = .ok (.iconst 1, 1) := dk_4 (dk_at dksX0_whyNotLoad_0 13 rfl rfl)
theorem dX0_whyNotLoad_14 : decode cX0_whyNotLoad 14 = .ok (.sipush 4000, 3) := dk_17 15 160 (dk_at dksX0_whyNotLoad_0 14 rfl rfl)
theorem dX0_whyNotLoad_17 : decode cX0_whyNotLoad 17 = .ok (.invokestatic 60, 3) := dk_184 0 60 (dk_at dksX0_whyNotLoad_0 17 rfl rfl)
theorem dX0_whyNotLoad_20 : decode cX0_whyNotLoad 20 = .ok (.ifCond .ne 8, 3) := dk_154 0 8 (dk_at dksX0_whyNotLoad_0 20 rfl rfl)
theorem dX0_whyNotLoad_23 : decode cX0_whyNotLoad 23 = .ok (.bipush (-2), 2) := dk_16 254 (dk_at dksX0_whyNotLoad_1 0 rfl rfl)
theorem dX0_whyNotLoad_25 : decode cX0_whyNotLoad 25 = .ok (.goto 26, 3) := dk_167 0 26 (dk_at dksX0_whyNotLoad_1 2 rfl rfl)
theorem dX0_whyNotLoad_28 : decode cX0_whyNotLoad 28 = .ok (.aload_n 0, 1) := dk_42 (dk_at dksX0_whyNotLoad_1 5 rfl rfl)
theorem dX0_whyNotLoad_29 : decode cX0_whyNotLoad 29 = .ok (.getfield 12, 3) := dk_180 0 12 (dk_at dksX0_whyNotLoad_1 6 rfl rfl)
theorem dX0_whyNotLoad_32 : decode cX0_whyNotLoad 32 = .ok (.getfield 64, 3) := dk_180 0 64 (dk_at dksX0_whyNotLoad_1 9 rfl rfl)
theorem dX0_whyNotLoad_35 : decode cX0_whyNotLoad 35 = .ok (.invokeinterface 34 1, 5) := by decide +kernel
theorem dX0_whyNotLoad_40 : decode cX0_whyNotLoad 40 = .ok (.bipush 12, 2) := dk_16 12 (dk_at dksX0_whyNotLoad_1 17 rfl rfl)
theorem dX0_whyNotLoad_42 : decode cX0_whyNotLoad 42 = .ok (.if_icmp .ne 8, 3) := dk_160 0 8 (dk_at dksX0_whyNotLoad_1 19 rfl rfl)
theorem dX0_whyNotLoad_45 : decode cX0_whyNotLoad 45 = .ok (.bipush (-4), 2) := dk_16 252 (dk_at dksX0_whyNotLoad_1 22 rfl rfl)
theorem dX0_whyNotLoad_47 : decode cX0_whyNotLoad 47 = .ok (.goto 4, 3) := dk_167 0 4 (dk_at dksX0_whyNotLoad_2 0 rfl rfl)
theorem dX0_whyNotLoad_50 : decode cX0_whyNotLoad 50 = .ok (.iconst 0, 1) := dk_3 (dk_at dksX0_whyNotLoad_2 3 rfl rfl)
theorem dX0_whyNotLoad_51 : decode cX0_whyNotLoad 51 = .ok (.ireturn, 1) := dk_172 (dk_at dksX0_whyNotLoad_2 4 rfl rfl)
abbrev cX0_turn : ByteArray := prog_1_method_20_code
def yX0_turn : MethodName := ⟨RX0, "turn", "(I)I"⟩
def dkwX0_turn_0 : List UInt8 := [42, 27, 4, 182, 0, 143, 172]
abbrev dktX0_turn_0 : List UInt8 := dkwX0_turn_0 ++ []
theorem dksX0_turn_0 : cX0_turn.data.toList.drop 0 = dktX0_turn_0 := by decide +kernel
theorem dX0_turn_0 : decode cX0_turn 0 = .ok (.aload_n 0, 1) := dk_42 (dk_at dksX0_turn_0 0 rfl rfl)
theorem dX0_turn_1 : decode cX0_turn 1 = .ok (.iload_n 1, 1) := dk_27 (dk_at dksX0_turn_0 1 rfl rfl)
theorem dX0_turn_2 : decode cX0_turn 2 = .ok (.iconst 1, 1) := dk_4 (dk_at dksX0_turn_0 2 rfl rfl)
theorem dX0_turn_3 : decode cX0_turn 3 = .ok (.invokevirtual 143, 3) := dk_182 0 143 (dk_at dksX0_turn_0 3 rfl rfl)
theorem dX0_turn_6 : decode cX0_turn 6 = .ok (.ireturn, 1) := dk_172 (dk_at dksX0_turn_0 6 rfl rfl)
abbrev cX0_turns : ByteArray := prog_1_method_19_code
def yX0_turns : MethodName := ⟨RX0, "turns", "(IZ)I"⟩
def dkwX0_turns_4 : List UInt8 := [167, 0, 4, 3, 172]
abbrev dktX0_turns_4 : List UInt8 := dkwX0_turns_4 ++ []
def dkwX0_turns_3 : List UInt8 := [180, 0, 12, 180, 0, 64, 27, 185, 0, 67, 2, 0, 192, 0, 124, 180, 0, 140, 153, 0, 7, 4]
abbrev dktX0_turns_3 : List UInt8 := dkwX0_turns_3 ++ dktX0_turns_4
def dkwX0_turns_2 : List UInt8 := [27, 185, 0, 67, 2, 0, 192, 0, 124, 180, 0, 140, 154, 0, 7, 4, 167, 0, 4, 3, 181, 0, 140, 42]
abbrev dktX0_turns_2 : List UInt8 := dkwX0_turns_2 ++ dktX0_turns_3
def dkwX0_turns_1 : List UInt8 := [172, 42, 180, 0, 12, 180, 0, 64, 27, 185, 0, 67, 2, 0, 192, 0, 124, 42, 180, 0, 12, 180, 0, 64]
abbrev dktX0_turns_1 : List UInt8 := dkwX0_turns_1 ++ dktX0_turns_2
def dkwX0_turns_0 : List UInt8 := [42, 42, 27, 182, 0, 137, 153, 0, 7, 3, 167, 0, 4, 2, 28, 182, 0, 103, 62, 29, 156, 0, 5, 29]
abbrev dktX0_turns_0 : List UInt8 := dkwX0_turns_0 ++ dktX0_turns_1
theorem dksX0_turns_0 : cX0_turns.data.toList.drop 0 = dktX0_turns_0 := by decide +kernel
theorem dksX0_turns_1 : cX0_turns.data.toList.drop 24 = dktX0_turns_1 := dk_seg dksX0_turns_0 24 rfl rfl
theorem dksX0_turns_2 : cX0_turns.data.toList.drop 48 = dktX0_turns_2 := dk_seg dksX0_turns_1 24 rfl rfl
theorem dksX0_turns_3 : cX0_turns.data.toList.drop 72 = dktX0_turns_3 := dk_seg dksX0_turns_2 24 rfl rfl
theorem dksX0_turns_4 : cX0_turns.data.toList.drop 94 = dktX0_turns_4 := dk_seg dksX0_turns_3 22 rfl rfl
theorem dX0_turns_0 : decode cX0_turns 0 = .ok (.aload_n 0, 1) := dk_42 (dk_at dksX0_turns_0 0 rfl rfl)
theorem dX0_turns_1 : decode cX0_turns 1 = .ok (.aload_n 0, 1) := dk_42 (dk_at dksX0_turns_0 1 rfl rfl)
theorem dX0_turns_2 : decode cX0_turns 2 = .ok (.iload_n 1, 1) := dk_27 (dk_at dksX0_turns_0 2 rfl rfl)
theorem dX0_turns_3 : decode cX0_turns 3 = .ok (.invokevirtual 137, 3) := dk_182 0 137 (dk_at dksX0_turns_0 3 rfl rfl)
theorem dX0_turns_6 : decode cX0_turns 6 = .ok (.ifCond .eq 7, 3) := dk_153 0 7 (dk_at dksX0_turns_0 6 rfl rfl)
theorem dX0_turns_9 : decode cX0_turns 9 = .ok (.iconst 0, 1) := dk_3 (dk_at dksX0_turns_0 9 rfl rfl)
theorem dX0_turns_10 : decode cX0_turns 10 = .ok (.goto 4, 3) := dk_167 0 4 (dk_at dksX0_turns_0 10 rfl rfl)
theorem dX0_turns_13 : decode cX0_turns 13 = .ok (.iconst (-1), 1) := dk_2 (dk_at dksX0_turns_0 13 rfl rfl)
theorem dX0_turns_14 : decode cX0_turns 14 = .ok (.iload_n 2, 1) := dk_28 (dk_at dksX0_turns_0 14 rfl rfl)
theorem dX0_turns_15 : decode cX0_turns 15 = .ok (.invokevirtual 103, 3) := dk_182 0 103 (dk_at dksX0_turns_0 15 rfl rfl)
theorem dX0_turns_18 : decode cX0_turns 18 = .ok (.istore_n 3, 1) := dk_62 (dk_at dksX0_turns_0 18 rfl rfl)
theorem dX0_turns_19 : decode cX0_turns 19 = .ok (.iload_n 3, 1) := dk_29 (dk_at dksX0_turns_0 19 rfl rfl)
theorem dX0_turns_20 : decode cX0_turns 20 = .ok (.ifCond .ge 5, 3) := dk_156 0 5 (dk_at dksX0_turns_0 20 rfl rfl)
theorem dX0_turns_23 : decode cX0_turns 23 = .ok (.iload_n 3, 1) := dk_29 (dk_at dksX0_turns_0 23 rfl rfl)
theorem dX0_turns_24 : decode cX0_turns 24 = .ok (.ireturn, 1) := dk_172 (dk_at dksX0_turns_1 0 rfl rfl)
theorem dX0_turns_25 : decode cX0_turns 25 = .ok (.aload_n 0, 1) := dk_42 (dk_at dksX0_turns_1 1 rfl rfl)
theorem dX0_turns_26 : decode cX0_turns 26 = .ok (.getfield 12, 3) := dk_180 0 12 (dk_at dksX0_turns_1 2 rfl rfl)
theorem dX0_turns_29 : decode cX0_turns 29 = .ok (.getfield 64, 3) := dk_180 0 64 (dk_at dksX0_turns_1 5 rfl rfl)
theorem dX0_turns_32 : decode cX0_turns 32 = .ok (.iload_n 1, 1) := dk_27 (dk_at dksX0_turns_1 8 rfl rfl)
theorem dX0_turns_33 : decode cX0_turns 33 = .ok (.invokeinterface 67 2, 5) := by decide +kernel
theorem dX0_turns_38 : decode cX0_turns 38 = .ok (.checkcast 124, 3) := dk_192 0 124 (dk_at dksX0_turns_1 14 rfl rfl)
theorem dX0_turns_41 : decode cX0_turns 41 = .ok (.aload_n 0, 1) := dk_42 (dk_at dksX0_turns_1 17 rfl rfl)
theorem dX0_turns_42 : decode cX0_turns 42 = .ok (.getfield 12, 3) := dk_180 0 12 (dk_at dksX0_turns_1 18 rfl rfl)
theorem dX0_turns_45 : decode cX0_turns 45 = .ok (.getfield 64, 3) := dk_180 0 64 (dk_at dksX0_turns_1 21 rfl rfl)
theorem dX0_turns_48 : decode cX0_turns 48 = .ok (.iload_n 1, 1) := dk_27 (dk_at dksX0_turns_2 0 rfl rfl)
theorem dX0_turns_49 : decode cX0_turns 49 = .ok (.invokeinterface 67 2, 5) := by decide +kernel
theorem dX0_turns_54 : decode cX0_turns 54 = .ok (.checkcast 124, 3) := dk_192 0 124 (dk_at dksX0_turns_2 6 rfl rfl)
theorem dX0_turns_57 : decode cX0_turns 57 = .ok (.getfield 140, 3) := dk_180 0 140 (dk_at dksX0_turns_2 9 rfl rfl)
theorem dX0_turns_60 : decode cX0_turns 60 = .ok (.ifCond .ne 7, 3) := dk_154 0 7 (dk_at dksX0_turns_2 12 rfl rfl)
theorem dX0_turns_63 : decode cX0_turns 63 = .ok (.iconst 1, 1) := dk_4 (dk_at dksX0_turns_2 15 rfl rfl)
theorem dX0_turns_64 : decode cX0_turns 64 = .ok (.goto 4, 3) := dk_167 0 4 (dk_at dksX0_turns_2 16 rfl rfl)
theorem dX0_turns_67 : decode cX0_turns 67 = .ok (.iconst 0, 1) := dk_3 (dk_at dksX0_turns_2 19 rfl rfl)
theorem dX0_turns_68 : decode cX0_turns 68 = .ok (.putfield 140, 3) := dk_181 0 140 (dk_at dksX0_turns_2 20 rfl rfl)
theorem dX0_turns_71 : decode cX0_turns 71 = .ok (.aload_n 0, 1) := dk_42 (dk_at dksX0_turns_2 23 rfl rfl)
theorem dX0_turns_72 : decode cX0_turns 72 = .ok (.getfield 12, 3) := dk_180 0 12 (dk_at dksX0_turns_3 0 rfl rfl)
theorem dX0_turns_75 : decode cX0_turns 75 = .ok (.getfield 64, 3) := dk_180 0 64 (dk_at dksX0_turns_3 3 rfl rfl)
theorem dX0_turns_78 : decode cX0_turns 78 = .ok (.iload_n 1, 1) := dk_27 (dk_at dksX0_turns_3 6 rfl rfl)
theorem dX0_turns_79 : decode cX0_turns 79 = .ok (.invokeinterface 67 2, 5) := by decide +kernel
theorem dX0_turns_84 : decode cX0_turns 84 = .ok (.checkcast 124, 3) := dk_192 0 124 (dk_at dksX0_turns_3 12 rfl rfl)
theorem dX0_turns_87 : decode cX0_turns 87 = .ok (.getfield 140, 3) := dk_180 0 140 (dk_at dksX0_turns_3 15 rfl rfl)
theorem dX0_turns_90 : decode cX0_turns 90 = .ok (.ifCond .eq 7, 3) := dk_153 0 7 (dk_at dksX0_turns_3 18 rfl rfl)
theorem dX0_turns_93 : decode cX0_turns 93 = .ok (.iconst 1, 1) := dk_4 (dk_at dksX0_turns_3 21 rfl rfl)
theorem dX0_turns_94 : decode cX0_turns 94 = .ok (.goto 4, 3) := dk_167 0 4 (dk_at dksX0_turns_4 0 rfl rfl)
theorem dX0_turns_97 : decode cX0_turns 97 = .ok (.iconst 0, 1) := dk_3 (dk_at dksX0_turns_4 3 rfl rfl)
theorem dX0_turns_98 : decode cX0_turns 98 = .ok (.ireturn, 1) := dk_172 (dk_at dksX0_turns_4 4 rfl rfl)
abbrev cX0_isLoad : ByteArray := prog_1_method_7_code
def yX0_isLoad : MethodName := ⟨RX0, "isLoad", "(I)Z"⟩
def dkwX0_isLoad_0 : List UInt8 := [27, 3, 42, 180, 0, 12, 180, 0, 64, 185, 0, 34, 1, 0, 4, 100, 184, 0, 60, 172]
abbrev dktX0_isLoad_0 : List UInt8 := dkwX0_isLoad_0 ++ []
theorem dksX0_isLoad_0 : cX0_isLoad.data.toList.drop 0 = dktX0_isLoad_0 := by decide +kernel
theorem dX0_isLoad_0 : decode cX0_isLoad 0 = .ok (.iload_n 1, 1) := dk_27 (dk_at dksX0_isLoad_0 0 rfl rfl)
theorem dX0_isLoad_1 : decode cX0_isLoad 1 = .ok (.iconst 0, 1) := dk_3 (dk_at dksX0_isLoad_0 1 rfl rfl)
theorem dX0_isLoad_2 : decode cX0_isLoad 2 = .ok (.aload_n 0, 1) := dk_42 (dk_at dksX0_isLoad_0 2 rfl rfl)
theorem dX0_isLoad_3 : decode cX0_isLoad 3 = .ok (.getfield 12, 3) := dk_180 0 12 (dk_at dksX0_isLoad_0 3 rfl rfl)
theorem dX0_isLoad_6 : decode cX0_isLoad 6 = .ok (.getfield 64, 3) := dk_180 0 64 (dk_at dksX0_isLoad_0 6 rfl rfl)
theorem dX0_isLoad_9 : decode cX0_isLoad 9 = .ok (.invokeinterface 34 1, 5) := by decide +kernel
theorem dX0_isLoad_14 : decode cX0_isLoad 14 = .ok (.iconst 1, 1) := dk_4 (dk_at dksX0_isLoad_0 14 rfl rfl)
theorem dX0_isLoad_15 : decode cX0_isLoad 15 = .ok (.isub, 1) := dk_100 (dk_at dksX0_isLoad_0 15 rfl rfl)
theorem dX0_isLoad_16 : decode cX0_isLoad 16 = .ok (.invokestatic 60, 3) := dk_184 0 60 (dk_at dksX0_isLoad_0 16 rfl rfl)
theorem dX0_isLoad_19 : decode cX0_isLoad 19 = .ok (.ireturn, 1) := dk_172 (dk_at dksX0_isLoad_0 19 rfl rfl)
abbrev cX0_tamper : ByteArray := prog_1_method_22_code
def yX0_tamper : MethodName := ⟨RX0, "tamper", "(I)I"⟩
def dkwX0_tamper_0 : List UInt8 := [42, 27, 4, 182, 0, 152, 172]
abbrev dktX0_tamper_0 : List UInt8 := dkwX0_tamper_0 ++ []
theorem dksX0_tamper_0 : cX0_tamper.data.toList.drop 0 = dktX0_tamper_0 := by decide +kernel
theorem dX0_tamper_0 : decode cX0_tamper 0 = .ok (.aload_n 0, 1) := dk_42 (dk_at dksX0_tamper_0 0 rfl rfl)
theorem dX0_tamper_1 : decode cX0_tamper 1 = .ok (.iload_n 1, 1) := dk_27 (dk_at dksX0_tamper_0 1 rfl rfl)
theorem dX0_tamper_2 : decode cX0_tamper 2 = .ok (.iconst 1, 1) := dk_4 (dk_at dksX0_tamper_0 2 rfl rfl)
theorem dX0_tamper_3 : decode cX0_tamper 3 = .ok (.invokevirtual 152, 3) := dk_182 0 152 (dk_at dksX0_tamper_0 3 rfl rfl)
theorem dX0_tamper_6 : decode cX0_tamper 6 = .ok (.ireturn, 1) := dk_172 (dk_at dksX0_tamper_0 6 rfl rfl)
abbrev cX0_tampers : ByteArray := prog_1_method_21_code
def yX0_tampers : MethodName := ⟨RX0, "tampers", "(IZ)I"⟩
def dkwX0_tampers_1 : List UInt8 := [181, 0, 87, 42, 27, 182, 0, 83, 180, 0, 149, 172]
abbrev dktX0_tampers_1 : List UInt8 := dkwX0_tampers_1 ++ []
def dkwX0_tampers_0 : List UInt8 := [42, 42, 27, 182, 0, 146, 28, 182, 0, 103, 62, 29, 156, 0, 5, 29, 172, 42, 27, 182, 0, 83, 4]
abbrev dktX0_tampers_0 : List UInt8 := dkwX0_tampers_0 ++ dktX0_tampers_1
theorem dksX0_tampers_0 : cX0_tampers.data.toList.drop 0 = dktX0_tampers_0 := by decide +kernel
theorem dksX0_tampers_1 : cX0_tampers.data.toList.drop 23 = dktX0_tampers_1 := dk_seg dksX0_tampers_0 23 rfl rfl
theorem dX0_tampers_0 : decode cX0_tampers 0 = .ok (.aload_n 0, 1) := dk_42 (dk_at dksX0_tampers_0 0 rfl rfl)
theorem dX0_tampers_1 : decode cX0_tampers 1 = .ok (.aload_n 0, 1) := dk_42 (dk_at dksX0_tampers_0 1 rfl rfl)
theorem dX0_tampers_2 : decode cX0_tampers 2 = .ok (.iload_n 1, 1) := dk_27 (dk_at dksX0_tampers_0 2 rfl rfl)
theorem dX0_tampers_3 : decode cX0_tampers 3 = .ok (.invokevirtual 146, 3) := dk_182 0 146 (dk_at dksX0_tampers_0 3 rfl rfl)
theorem dX0_tampers_6 : decode cX0_tampers 6 = .ok (.iload_n 2, 1) := dk_28 (dk_at dksX0_tampers_0 6 rfl rfl)
theorem dX0_tampers_7 : decode cX0_tampers 7 = .ok (.invokevirtual 103, 3) := dk_182 0 103 (dk_at dksX0_tampers_0 7 rfl rfl)
theorem dX0_tampers_10 : decode cX0_tampers 10 = .ok (.istore_n 3, 1) := dk_62 (dk_at dksX0_tampers_0 10 rfl rfl)
theorem dX0_tampers_11 : decode cX0_tampers 11 = .ok (.iload_n 3, 1) := dk_29 (dk_at dksX0_tampers_0 11 rfl rfl)
theorem dX0_tampers_12 : decode cX0_tampers 12 = .ok (.ifCond .ge 5, 3) := dk_156 0 5 (dk_at dksX0_tampers_0 12 rfl rfl)
theorem dX0_tampers_15 : decode cX0_tampers 15 = .ok (.iload_n 3, 1) := dk_29 (dk_at dksX0_tampers_0 15 rfl rfl)
theorem dX0_tampers_16 : decode cX0_tampers 16 = .ok (.ireturn, 1) := dk_172 (dk_at dksX0_tampers_0 16 rfl rfl)
theorem dX0_tampers_17 : decode cX0_tampers 17 = .ok (.aload_n 0, 1) := dk_42 (dk_at dksX0_tampers_0 17 rfl rfl)
theorem dX0_tampers_18 : decode cX0_tampers 18 = .ok (.iload_n 1, 1) := dk_27 (dk_at dksX0_tampers_0 18 rfl rfl)
theorem dX0_tampers_19 : decode cX0_tampers 19 = .ok (.invokevirtual 83, 3) := dk_182 0 83 (dk_at dksX0_tampers_0 19 rfl rfl)
theorem dX0_tampers_22 : decode cX0_tampers 22 = .ok (.iconst 1, 1) := dk_4 (dk_at dksX0_tampers_0 22 rfl rfl)
theorem dX0_tampers_23 : decode cX0_tampers 23 = .ok (.putfield 87, 3) := dk_181 0 87 (dk_at dksX0_tampers_1 0 rfl rfl)
theorem dX0_tampers_26 : decode cX0_tampers 26 = .ok (.aload_n 0, 1) := dk_42 (dk_at dksX0_tampers_1 3 rfl rfl)
theorem dX0_tampers_27 : decode cX0_tampers 27 = .ok (.iload_n 1, 1) := dk_27 (dk_at dksX0_tampers_1 4 rfl rfl)
theorem dX0_tampers_28 : decode cX0_tampers 28 = .ok (.invokevirtual 83, 3) := dk_182 0 83 (dk_at dksX0_tampers_1 5 rfl rfl)
theorem dX0_tampers_31 : decode cX0_tampers 31 = .ok (.getfield 149, 3) := dk_180 0 149 (dk_at dksX0_tampers_1 8 rfl rfl)
theorem dX0_tampers_34 : decode cX0_tampers 34 = .ok (.ireturn, 1) := dk_172 (dk_at dksX0_tampers_1 11 rfl rfl)
abbrev cX0_whyNotTamper : ByteArray := prog_1_method_12_code
def yX0_whyNotTamper : MethodName := ⟨RX0, "whyNotTamper", "(I)I"⟩
def dkwX0_whyNotTamper_1 : List UInt8 := [16, 251, 167, 0, 4, 3, 172]
abbrev dktX0_whyNotTamper_1 : List UInt8 := dkwX0_whyNotTamper_1 ++ []
def dkwX0_whyNotTamper_0 : List UInt8 := [42, 27, 182, 0, 79, 154, 0, 7, 2, 167, 0, 20, 42, 27, 182, 0, 83, 180, 0, 87, 153, 0, 8]
abbrev dktX0_whyNotTamper_0 : List UInt8 := dkwX0_whyNotTamper_0 ++ dktX0_whyNotTamper_1
theorem dksX0_whyNotTamper_0 : cX0_whyNotTamper.data.toList.drop 0 = dktX0_whyNotTamper_0 := by decide +kernel
theorem dksX0_whyNotTamper_1 : cX0_whyNotTamper.data.toList.drop 23 = dktX0_whyNotTamper_1 := dk_seg dksX0_whyNotTamper_0 23 rfl rfl
theorem dX0_whyNotTamper_0 : decode cX0_whyNotTamper 0 = .ok (.aload_n 0, 1) := dk_42 (dk_at dksX0_whyNotTamper_0 0 rfl rfl)
theorem dX0_whyNotTamper_1 : decode cX0_whyNotTamper 1 = .ok (.iload_n 1, 1) := dk_27 (dk_at dksX0_whyNotTamper_0 1 rfl rfl)
theorem dX0_whyNotTamper_2 : decode cX0_whyNotTamper 2 = .ok (.invokevirtual 79, 3) := dk_182 0 79 (dk_at dksX0_whyNotTamper_0 2 rfl rfl)
theorem dX0_whyNotTamper_5 : decode cX0_whyNotTamper 5 = .ok (.ifCond .ne 7, 3) := dk_154 0 7 (dk_at dksX0_whyNotTamper_0 5 rfl rfl)
theorem dX0_whyNotTamper_8 : decode cX0_whyNotTamper 8 = .ok (.iconst (-1), 1) := dk_2 (dk_at dksX0_whyNotTamper_0 8 rfl rfl)
theorem dX0_whyNotTamper_9 : decode cX0_whyNotTamper 9 = .ok (.goto 20, 3) := dk_167 0 20 (dk_at dksX0_whyNotTamper_0 9 rfl rfl)
theorem dX0_whyNotTamper_12 : decode cX0_whyNotTamper 12 = .ok (.aload_n 0, 1) := dk_42 (dk_at dksX0_whyNotTamper_0 12 rfl rfl)
theorem dX0_whyNotTamper_13 : decode cX0_whyNotTamper 13 = .ok (.iload_n 1, 1) := dk_27 (dk_at dksX0_whyNotTamper_0 13 rfl rfl)
theorem dX0_whyNotTamper_14 : decode cX0_whyNotTamper 14 = .ok (.invokevirtual 83, 3) := dk_182 0 83 (dk_at dksX0_whyNotTamper_0 14 rfl rfl)
theorem dX0_whyNotTamper_17 : decode cX0_whyNotTamper 17 = .ok (.getfield 87, 3) := dk_180 0 87 (dk_at dksX0_whyNotTamper_0 17 rfl rfl)
theorem dX0_whyNotTamper_20 : decode cX0_whyNotTamper 20 = .ok (.ifCond .eq 8, 3) := dk_153 0 8 (dk_at dksX0_whyNotTamper_0 20 rfl rfl)
theorem dX0_whyNotTamper_23 : decode cX0_whyNotTamper 23 = .ok (.bipush (-5), 2) := dk_16 251 (dk_at dksX0_whyNotTamper_1 0 rfl rfl)
theorem dX0_whyNotTamper_25 : decode cX0_whyNotTamper 25 = .ok (.goto 4, 3) := dk_167 0 4 (dk_at dksX0_whyNotTamper_1 2 rfl rfl)
theorem dX0_whyNotTamper_28 : decode cX0_whyNotTamper 28 = .ok (.iconst 0, 1) := dk_3 (dk_at dksX0_whyNotTamper_1 5 rfl rfl)
theorem dX0_whyNotTamper_29 : decode cX0_whyNotTamper 29 = .ok (.ireturn, 1) := dk_172 (dk_at dksX0_whyNotTamper_1 6 rfl rfl)
abbrev cX0_meterAt : ByteArray := prog_1_method_8_code
def yX0_meterAt : MethodName := ⟨RX0, "meterAt", "(I)LEnergyDiscs$Meter;"⟩
def dkwX0_meterAt_0 : List UInt8 := [42, 180, 0, 12, 180, 0, 57, 27, 185, 0, 67, 2, 0, 192, 0, 70, 176]
abbrev dktX0_meterAt_0 : List UInt8 := dkwX0_meterAt_0 ++ []
theorem dksX0_meterAt_0 : cX0_meterAt.data.toList.drop 0 = dktX0_meterAt_0 := by decide +kernel
theorem dX0_meterAt_0 : decode cX0_meterAt 0 = .ok (.aload_n 0, 1) := dk_42 (dk_at dksX0_meterAt_0 0 rfl rfl)
theorem dX0_meterAt_1 : decode cX0_meterAt 1 = .ok (.getfield 12, 3) := dk_180 0 12 (dk_at dksX0_meterAt_0 1 rfl rfl)
theorem dX0_meterAt_4 : decode cX0_meterAt 4 = .ok (.getfield 57, 3) := dk_180 0 57 (dk_at dksX0_meterAt_0 4 rfl rfl)
theorem dX0_meterAt_7 : decode cX0_meterAt 7 = .ok (.iload_n 1, 1) := dk_27 (dk_at dksX0_meterAt_0 7 rfl rfl)
theorem dX0_meterAt_8 : decode cX0_meterAt 8 = .ok (.invokeinterface 67 2, 5) := by decide +kernel
theorem dX0_meterAt_13 : decode cX0_meterAt 13 = .ok (.checkcast 70, 3) := dk_192 0 70 (dk_at dksX0_meterAt_0 13 rfl rfl)
theorem dX0_meterAt_16 : decode cX0_meterAt 16 = .ok (.areturn, 1) := dk_176 (dk_at dksX0_meterAt_0 16 rfl rfl)
abbrev cX0_visit : ByteArray := prog_1_method_24_code
def yX0_visit : MethodName := ⟨RX0, "visit", "(I)I"⟩
def dkwX0_visit_0 : List UInt8 := [42, 27, 4, 182, 0, 159, 172]
abbrev dktX0_visit_0 : List UInt8 := dkwX0_visit_0 ++ []
theorem dksX0_visit_0 : cX0_visit.data.toList.drop 0 = dktX0_visit_0 := by decide +kernel
theorem dX0_visit_0 : decode cX0_visit 0 = .ok (.aload_n 0, 1) := dk_42 (dk_at dksX0_visit_0 0 rfl rfl)
theorem dX0_visit_1 : decode cX0_visit 1 = .ok (.iload_n 1, 1) := dk_27 (dk_at dksX0_visit_0 1 rfl rfl)
theorem dX0_visit_2 : decode cX0_visit 2 = .ok (.iconst 1, 1) := dk_4 (dk_at dksX0_visit_0 2 rfl rfl)
theorem dX0_visit_3 : decode cX0_visit 3 = .ok (.invokevirtual 159, 3) := dk_182 0 159 (dk_at dksX0_visit_0 3 rfl rfl)
theorem dX0_visit_6 : decode cX0_visit 6 = .ok (.ireturn, 1) := dk_172 (dk_at dksX0_visit_0 6 rfl rfl)
abbrev cX0_visits : ByteArray := prog_1_method_23_code
def yX0_visits : MethodName := ⟨RX0, "visits", "(IZ)I"⟩
def dkwX0_visits_1 : List UInt8 := [167, 0, 15, 42, 180, 0, 12, 42, 27, 182, 0, 83, 182, 0, 155, 172]
abbrev dktX0_visits_1 : List UInt8 := dkwX0_visits_1 ++ []
def dkwX0_visits_0 : List UInt8 := [42, 42, 27, 182, 0, 79, 153, 0, 7, 3, 167, 0, 4, 2, 28, 182, 0, 103, 62, 29, 156, 0, 7, 29]
abbrev dktX0_visits_0 : List UInt8 := dkwX0_visits_0 ++ dktX0_visits_1
theorem dksX0_visits_0 : cX0_visits.data.toList.drop 0 = dktX0_visits_0 := by decide +kernel
theorem dksX0_visits_1 : cX0_visits.data.toList.drop 24 = dktX0_visits_1 := dk_seg dksX0_visits_0 24 rfl rfl
theorem dX0_visits_0 : decode cX0_visits 0 = .ok (.aload_n 0, 1) := dk_42 (dk_at dksX0_visits_0 0 rfl rfl)
theorem dX0_visits_1 : decode cX0_visits 1 = .ok (.aload_n 0, 1) := dk_42 (dk_at dksX0_visits_0 1 rfl rfl)
theorem dX0_visits_2 : decode cX0_visits 2 = .ok (.iload_n 1, 1) := dk_27 (dk_at dksX0_visits_0 2 rfl rfl)
theorem dX0_visits_3 : decode cX0_visits 3 = .ok (.invokevirtual 79, 3) := dk_182 0 79 (dk_at dksX0_visits_0 3 rfl rfl)
theorem dX0_visits_6 : decode cX0_visits 6 = .ok (.ifCond .eq 7, 3) := dk_153 0 7 (dk_at dksX0_visits_0 6 rfl rfl)
theorem dX0_visits_9 : decode cX0_visits 9 = .ok (.iconst 0, 1) := dk_3 (dk_at dksX0_visits_0 9 rfl rfl)
theorem dX0_visits_10 : decode cX0_visits 10 = .ok (.goto 4, 3) := dk_167 0 4 (dk_at dksX0_visits_0 10 rfl rfl)
theorem dX0_visits_13 : decode cX0_visits 13 = .ok (.iconst (-1), 1) := dk_2 (dk_at dksX0_visits_0 13 rfl rfl)
theorem dX0_visits_14 : decode cX0_visits 14 = .ok (.iload_n 2, 1) := dk_28 (dk_at dksX0_visits_0 14 rfl rfl)
theorem dX0_visits_15 : decode cX0_visits 15 = .ok (.invokevirtual 103, 3) := dk_182 0 103 (dk_at dksX0_visits_0 15 rfl rfl)
theorem dX0_visits_18 : decode cX0_visits 18 = .ok (.istore_n 3, 1) := dk_62 (dk_at dksX0_visits_0 18 rfl rfl)
theorem dX0_visits_19 : decode cX0_visits 19 = .ok (.iload_n 3, 1) := dk_29 (dk_at dksX0_visits_0 19 rfl rfl)
theorem dX0_visits_20 : decode cX0_visits 20 = .ok (.ifCond .ge 7, 3) := dk_156 0 7 (dk_at dksX0_visits_0 20 rfl rfl)
theorem dX0_visits_23 : decode cX0_visits 23 = .ok (.iload_n 3, 1) := dk_29 (dk_at dksX0_visits_0 23 rfl rfl)
theorem dX0_visits_24 : decode cX0_visits 24 = .ok (.goto 15, 3) := dk_167 0 15 (dk_at dksX0_visits_1 0 rfl rfl)
theorem dX0_visits_27 : decode cX0_visits 27 = .ok (.aload_n 0, 1) := dk_42 (dk_at dksX0_visits_1 3 rfl rfl)
theorem dX0_visits_28 : decode cX0_visits 28 = .ok (.getfield 12, 3) := dk_180 0 12 (dk_at dksX0_visits_1 4 rfl rfl)
theorem dX0_visits_31 : decode cX0_visits 31 = .ok (.aload_n 0, 1) := dk_42 (dk_at dksX0_visits_1 7 rfl rfl)
theorem dX0_visits_32 : decode cX0_visits 32 = .ok (.iload_n 1, 1) := dk_27 (dk_at dksX0_visits_1 8 rfl rfl)
theorem dX0_visits_33 : decode cX0_visits 33 = .ok (.invokevirtual 83, 3) := dk_182 0 83 (dk_at dksX0_visits_1 9 rfl rfl)
theorem dX0_visits_36 : decode cX0_visits 36 = .ok (.invokevirtual 155, 3) := dk_182 0 155 (dk_at dksX0_visits_1 12 rfl rfl)
theorem dX0_visits_39 : decode cX0_visits 39 = .ok (.ireturn, 1) := dk_172 (dk_at dksX0_visits_1 15 rfl rfl)
abbrev cX0_pass : ByteArray := prog_1_method_26_code
def yX0_pass : MethodName := ⟨RX0, "pass", "(I)I"⟩
def dkwX0_pass_0 : List UInt8 := [42, 27, 4, 182, 0, 168, 172]
abbrev dktX0_pass_0 : List UInt8 := dkwX0_pass_0 ++ []
theorem dksX0_pass_0 : cX0_pass.data.toList.drop 0 = dktX0_pass_0 := by decide +kernel
theorem dX0_pass_0 : decode cX0_pass 0 = .ok (.aload_n 0, 1) := dk_42 (dk_at dksX0_pass_0 0 rfl rfl)
theorem dX0_pass_1 : decode cX0_pass 1 = .ok (.iload_n 1, 1) := dk_27 (dk_at dksX0_pass_0 1 rfl rfl)
theorem dX0_pass_2 : decode cX0_pass 2 = .ok (.iconst 1, 1) := dk_4 (dk_at dksX0_pass_0 2 rfl rfl)
theorem dX0_pass_3 : decode cX0_pass 3 = .ok (.invokevirtual 168, 3) := dk_182 0 168 (dk_at dksX0_pass_0 3 rfl rfl)
theorem dX0_pass_6 : decode cX0_pass 6 = .ok (.ireturn, 1) := dk_172 (dk_at dksX0_pass_0 6 rfl rfl)
abbrev cX0_passes : ByteArray := prog_1_method_25_code
def yX0_passes : MethodName := ⟨RX0, "passes", "(IZ)I"⟩
def dkwX0_passes_1 : List UInt8 := [182, 0, 165, 172]
abbrev dktX0_passes_1 : List UInt8 := dkwX0_passes_1 ++ []
def dkwX0_passes_0 : List UInt8 := [42, 42, 27, 182, 0, 162, 28, 182, 0, 103, 62, 29, 156, 0, 7, 29, 167, 0, 11, 42, 180, 0, 12, 27]
abbrev dktX0_passes_0 : List UInt8 := dkwX0_passes_0 ++ dktX0_passes_1
theorem dksX0_passes_0 : cX0_passes.data.toList.drop 0 = dktX0_passes_0 := by decide +kernel
theorem dksX0_passes_1 : cX0_passes.data.toList.drop 24 = dktX0_passes_1 := dk_seg dksX0_passes_0 24 rfl rfl
theorem dX0_passes_0 : decode cX0_passes 0 = .ok (.aload_n 0, 1) := dk_42 (dk_at dksX0_passes_0 0 rfl rfl)
theorem dX0_passes_1 : decode cX0_passes 1 = .ok (.aload_n 0, 1) := dk_42 (dk_at dksX0_passes_0 1 rfl rfl)
theorem dX0_passes_2 : decode cX0_passes 2 = .ok (.iload_n 1, 1) := dk_27 (dk_at dksX0_passes_0 2 rfl rfl)
theorem dX0_passes_3 : decode cX0_passes 3 = .ok (.invokevirtual 162, 3) := dk_182 0 162 (dk_at dksX0_passes_0 3 rfl rfl)
theorem dX0_passes_6 : decode cX0_passes 6 = .ok (.iload_n 2, 1) := dk_28 (dk_at dksX0_passes_0 6 rfl rfl)
theorem dX0_passes_7 : decode cX0_passes 7 = .ok (.invokevirtual 103, 3) := dk_182 0 103 (dk_at dksX0_passes_0 7 rfl rfl)
theorem dX0_passes_10 : decode cX0_passes 10 = .ok (.istore_n 3, 1) := dk_62 (dk_at dksX0_passes_0 10 rfl rfl)
theorem dX0_passes_11 : decode cX0_passes 11 = .ok (.iload_n 3, 1) := dk_29 (dk_at dksX0_passes_0 11 rfl rfl)
theorem dX0_passes_12 : decode cX0_passes 12 = .ok (.ifCond .ge 7, 3) := dk_156 0 7 (dk_at dksX0_passes_0 12 rfl rfl)
theorem dX0_passes_15 : decode cX0_passes 15 = .ok (.iload_n 3, 1) := dk_29 (dk_at dksX0_passes_0 15 rfl rfl)
theorem dX0_passes_16 : decode cX0_passes 16 = .ok (.goto 11, 3) := dk_167 0 11 (dk_at dksX0_passes_0 16 rfl rfl)
theorem dX0_passes_19 : decode cX0_passes 19 = .ok (.aload_n 0, 1) := dk_42 (dk_at dksX0_passes_0 19 rfl rfl)
theorem dX0_passes_20 : decode cX0_passes 20 = .ok (.getfield 12, 3) := dk_180 0 12 (dk_at dksX0_passes_0 20 rfl rfl)
theorem dX0_passes_23 : decode cX0_passes 23 = .ok (.iload_n 1, 1) := dk_27 (dk_at dksX0_passes_0 23 rfl rfl)
theorem dX0_passes_24 : decode cX0_passes 24 = .ok (.invokevirtual 165, 3) := dk_182 0 165 (dk_at dksX0_passes_1 0 rfl rfl)
theorem dX0_passes_27 : decode cX0_passes 27 = .ok (.ireturn, 1) := dk_172 (dk_at dksX0_passes_1 3 rfl rfl)
abbrev cX0_whyNotPass : ByteArray := prog_1_method_13_code
def yX0_whyNotPass : MethodName := ⟨RX0, "whyNotPass", "(I)I"⟩
def dkwX0_whyNotPass_1 : List UInt8 := [96, 18, 95, 164, 0, 8, 16, 251, 167, 0, 4, 3, 172]
abbrev dktX0_whyNotPass_1 : List UInt8 := dkwX0_whyNotPass_1 ++ []
def dkwX0_whyNotPass_0 : List UInt8 := [27, 4, 17, 5, 160, 184, 0, 60, 154, 0, 8, 16, 254, 167, 0, 23, 42, 180, 0, 12, 180, 0, 91, 27]
abbrev dktX0_whyNotPass_0 : List UInt8 := dkwX0_whyNotPass_0 ++ dktX0_whyNotPass_1
theorem dksX0_whyNotPass_0 : cX0_whyNotPass.data.toList.drop 0 = dktX0_whyNotPass_0 := by decide +kernel
theorem dksX0_whyNotPass_1 : cX0_whyNotPass.data.toList.drop 24 = dktX0_whyNotPass_1 := dk_seg dksX0_whyNotPass_0 24 rfl rfl
theorem dX0_whyNotPass_0 : decode cX0_whyNotPass 0 = .ok (.iload_n 1, 1) := dk_27 (dk_at dksX0_whyNotPass_0 0 rfl rfl)
theorem dX0_whyNotPass_1 : decode cX0_whyNotPass 1 = .ok (.iconst 1, 1) := dk_4 (dk_at dksX0_whyNotPass_0 1 rfl rfl)
theorem dX0_whyNotPass_2 : decode cX0_whyNotPass 2 = .ok (.sipush 1440, 3) := dk_17 5 160 (dk_at dksX0_whyNotPass_0 2 rfl rfl)
theorem dX0_whyNotPass_5 : decode cX0_whyNotPass 5 = .ok (.invokestatic 60, 3) := dk_184 0 60 (dk_at dksX0_whyNotPass_0 5 rfl rfl)
theorem dX0_whyNotPass_8 : decode cX0_whyNotPass 8 = .ok (.ifCond .ne 8, 3) := dk_154 0 8 (dk_at dksX0_whyNotPass_0 8 rfl rfl)
theorem dX0_whyNotPass_11 : decode cX0_whyNotPass 11 = .ok (.bipush (-2), 2) := dk_16 254 (dk_at dksX0_whyNotPass_0 11 rfl rfl)
theorem dX0_whyNotPass_13 : decode cX0_whyNotPass 13 = .ok (.goto 23, 3) := dk_167 0 23 (dk_at dksX0_whyNotPass_0 13 rfl rfl)
theorem dX0_whyNotPass_16 : decode cX0_whyNotPass 16 = .ok (.aload_n 0, 1) := dk_42 (dk_at dksX0_whyNotPass_0 16 rfl rfl)
theorem dX0_whyNotPass_17 : decode cX0_whyNotPass 17 = .ok (.getfield 12, 3) := dk_180 0 12 (dk_at dksX0_whyNotPass_0 17 rfl rfl)
theorem dX0_whyNotPass_20 : decode cX0_whyNotPass 20 = .ok (.getfield 91, 3) := dk_180 0 91 (dk_at dksX0_whyNotPass_0 20 rfl rfl)
theorem dX0_whyNotPass_23 : decode cX0_whyNotPass 23 = .ok (.iload_n 1, 1) := dk_27 (dk_at dksX0_whyNotPass_0 23 rfl rfl)
theorem dX0_whyNotPass_24 : decode cX0_whyNotPass 24 = .ok (.iadd, 1) := dk_96 (dk_at dksX0_whyNotPass_1 0 rfl rfl)
theorem dX0_whyNotPass_25 : decode cX0_whyNotPass 25 = .ok (.ldc 95, 2) := dk_18 95 (dk_at dksX0_whyNotPass_1 1 rfl rfl)
theorem dX0_whyNotPass_27 : decode cX0_whyNotPass 27 = .ok (.if_icmp .le 8, 3) := dk_164 0 8 (dk_at dksX0_whyNotPass_1 3 rfl rfl)
theorem dX0_whyNotPass_30 : decode cX0_whyNotPass 30 = .ok (.bipush (-5), 2) := dk_16 251 (dk_at dksX0_whyNotPass_1 6 rfl rfl)
theorem dX0_whyNotPass_32 : decode cX0_whyNotPass 32 = .ok (.goto 4, 3) := dk_167 0 4 (dk_at dksX0_whyNotPass_1 8 rfl rfl)
theorem dX0_whyNotPass_35 : decode cX0_whyNotPass 35 = .ok (.iconst 0, 1) := dk_3 (dk_at dksX0_whyNotPass_1 11 rfl rfl)
theorem dX0_whyNotPass_36 : decode cX0_whyNotPass 36 = .ok (.ireturn, 1) := dk_172 (dk_at dksX0_whyNotPass_1 12 rfl rfl)
abbrev cX0_isNight : ByteArray := prog_1_method_2_code
def yX0_isNight : MethodName := ⟨RX0, "isNight", "(I)Z"⟩
def dkwX0_isNight_1 : List UInt8 := [3, 172]
abbrev dktX0_isNight_1 : List UInt8 := dkwX0_isNight_1 ++ []
def dkwX0_isNight_0 : List UInt8 := [26, 17, 5, 160, 112, 60, 27, 17, 5, 40, 162, 0, 10, 27, 17, 1, 104, 162, 0, 7, 4, 167, 0, 4]
abbrev dktX0_isNight_0 : List UInt8 := dkwX0_isNight_0 ++ dktX0_isNight_1
theorem dksX0_isNight_0 : cX0_isNight.data.toList.drop 0 = dktX0_isNight_0 := by decide +kernel
theorem dksX0_isNight_1 : cX0_isNight.data.toList.drop 24 = dktX0_isNight_1 := dk_seg dksX0_isNight_0 24 rfl rfl
theorem dX0_isNight_0 : decode cX0_isNight 0 = .ok (.iload_n 0, 1) := dk_26 (dk_at dksX0_isNight_0 0 rfl rfl)
theorem dX0_isNight_1 : decode cX0_isNight 1 = .ok (.sipush 1440, 3) := dk_17 5 160 (dk_at dksX0_isNight_0 1 rfl rfl)
theorem dX0_isNight_4 : decode cX0_isNight 4 = .ok (.irem, 1) := dk_112 (dk_at dksX0_isNight_0 4 rfl rfl)
theorem dX0_isNight_5 : decode cX0_isNight 5 = .ok (.istore_n 1, 1) := dk_60 (dk_at dksX0_isNight_0 5 rfl rfl)
theorem dX0_isNight_6 : decode cX0_isNight 6 = .ok (.iload_n 1, 1) := dk_27 (dk_at dksX0_isNight_0 6 rfl rfl)
theorem dX0_isNight_7 : decode cX0_isNight 7 = .ok (.sipush 1320, 3) := dk_17 5 40 (dk_at dksX0_isNight_0 7 rfl rfl)
theorem dX0_isNight_10 : decode cX0_isNight 10 = .ok (.if_icmp .ge 10, 3) := dk_162 0 10 (dk_at dksX0_isNight_0 10 rfl rfl)
theorem dX0_isNight_13 : decode cX0_isNight 13 = .ok (.iload_n 1, 1) := dk_27 (dk_at dksX0_isNight_0 13 rfl rfl)
theorem dX0_isNight_14 : decode cX0_isNight 14 = .ok (.sipush 360, 3) := dk_17 1 104 (dk_at dksX0_isNight_0 14 rfl rfl)
theorem dX0_isNight_17 : decode cX0_isNight 17 = .ok (.if_icmp .ge 7, 3) := dk_162 0 7 (dk_at dksX0_isNight_0 17 rfl rfl)
theorem dX0_isNight_20 : decode cX0_isNight 20 = .ok (.iconst 1, 1) := dk_4 (dk_at dksX0_isNight_0 20 rfl rfl)
theorem dX0_isNight_21 : decode cX0_isNight 21 = .ok (.goto 4, 3) := dk_167 0 4 (dk_at dksX0_isNight_0 21 rfl rfl)
theorem dX0_isNight_24 : decode cX0_isNight 24 = .ok (.iconst 0, 1) := dk_3 (dk_at dksX0_isNight_1 0 rfl rfl)
theorem dX0_isNight_25 : decode cX0_isNight 25 = .ok (.ireturn, 1) := dk_172 (dk_at dksX0_isNight_1 1 rfl rfl)
abbrev cX0_write : ByteArray := prog_1_method_27_code
def yX0_write : MethodName := ⟨RX0, "write", "(I)I"⟩
def dkwX0_write_4 : List UInt8 := [172]
abbrev dktX0_write_4 : List UInt8 := dkwX0_write_4 ++ []
def dkwX0_write_3 : List UInt8 := [180, 0, 87, 153, 0, 8, 18, 188, 167, 0, 5, 18, 190, 182, 0, 192, 87, 42, 180, 0, 30, 182, 0, 195]
abbrev dktX0_write_3 : List UInt8 := dkwX0_write_3 ++ dktX0_write_4
def dkwX0_write_2 : List UInt8 := [180, 0, 185, 182, 0, 182, 16, 35, 182, 0, 175, 44, 180, 0, 149, 182, 0, 182, 87, 42, 180, 0, 30, 44]
abbrev dktX0_write_2 : List UInt8 := dkwX0_write_2 ++ dktX0_write_3
def dkwX0_write_1 : List UInt8 := [42, 180, 0, 30, 16, 100, 182, 0, 175, 44, 180, 0, 179, 182, 0, 182, 16, 110, 182, 0, 175, 44]
abbrev dktX0_write_1 : List UInt8 := dkwX0_write_1 ++ dktX0_write_2
def dkwX0_write_0 : List UInt8 := [42, 27, 182, 0, 79, 154, 0, 5, 2, 172, 42, 27, 182, 0, 83, 77, 42, 180, 0, 30, 3, 182, 0, 171]
abbrev dktX0_write_0 : List UInt8 := dkwX0_write_0 ++ dktX0_write_1
theorem dksX0_write_0 : cX0_write.data.toList.drop 0 = dktX0_write_0 := by decide +kernel
theorem dksX0_write_1 : cX0_write.data.toList.drop 24 = dktX0_write_1 := dk_seg dksX0_write_0 24 rfl rfl
theorem dksX0_write_2 : cX0_write.data.toList.drop 46 = dktX0_write_2 := dk_seg dksX0_write_1 22 rfl rfl
theorem dksX0_write_3 : cX0_write.data.toList.drop 70 = dktX0_write_3 := dk_seg dksX0_write_2 24 rfl rfl
theorem dksX0_write_4 : cX0_write.data.toList.drop 94 = dktX0_write_4 := dk_seg dksX0_write_3 24 rfl rfl
theorem dX0_write_0 : decode cX0_write 0 = .ok (.aload_n 0, 1) := dk_42 (dk_at dksX0_write_0 0 rfl rfl)
theorem dX0_write_1 : decode cX0_write 1 = .ok (.iload_n 1, 1) := dk_27 (dk_at dksX0_write_0 1 rfl rfl)
theorem dX0_write_2 : decode cX0_write 2 = .ok (.invokevirtual 79, 3) := dk_182 0 79 (dk_at dksX0_write_0 2 rfl rfl)
theorem dX0_write_5 : decode cX0_write 5 = .ok (.ifCond .ne 5, 3) := dk_154 0 5 (dk_at dksX0_write_0 5 rfl rfl)
theorem dX0_write_8 : decode cX0_write 8 = .ok (.iconst (-1), 1) := dk_2 (dk_at dksX0_write_0 8 rfl rfl)
theorem dX0_write_9 : decode cX0_write 9 = .ok (.ireturn, 1) := dk_172 (dk_at dksX0_write_0 9 rfl rfl)
theorem dX0_write_10 : decode cX0_write 10 = .ok (.aload_n 0, 1) := dk_42 (dk_at dksX0_write_0 10 rfl rfl)
theorem dX0_write_11 : decode cX0_write 11 = .ok (.iload_n 1, 1) := dk_27 (dk_at dksX0_write_0 11 rfl rfl)
theorem dX0_write_12 : decode cX0_write 12 = .ok (.invokevirtual 83, 3) := dk_182 0 83 (dk_at dksX0_write_0 12 rfl rfl)
theorem dX0_write_15 : decode cX0_write 15 = .ok (.astore_n 2, 1) := dk_77 (dk_at dksX0_write_0 15 rfl rfl)
theorem dX0_write_16 : decode cX0_write 16 = .ok (.aload_n 0, 1) := dk_42 (dk_at dksX0_write_0 16 rfl rfl)
theorem dX0_write_17 : decode cX0_write 17 = .ok (.getfield 30, 3) := dk_180 0 30 (dk_at dksX0_write_0 17 rfl rfl)
theorem dX0_write_20 : decode cX0_write 20 = .ok (.iconst 0, 1) := dk_3 (dk_at dksX0_write_0 20 rfl rfl)
theorem dX0_write_21 : decode cX0_write 21 = .ok (.invokevirtual 171, 3) := dk_182 0 171 (dk_at dksX0_write_0 21 rfl rfl)
theorem dX0_write_24 : decode cX0_write 24 = .ok (.aload_n 0, 1) := dk_42 (dk_at dksX0_write_1 0 rfl rfl)
theorem dX0_write_25 : decode cX0_write 25 = .ok (.getfield 30, 3) := dk_180 0 30 (dk_at dksX0_write_1 1 rfl rfl)
theorem dX0_write_28 : decode cX0_write 28 = .ok (.bipush 100, 2) := dk_16 100 (dk_at dksX0_write_1 4 rfl rfl)
theorem dX0_write_30 : decode cX0_write 30 = .ok (.invokevirtual 175, 3) := dk_182 0 175 (dk_at dksX0_write_1 6 rfl rfl)
theorem dX0_write_33 : decode cX0_write 33 = .ok (.aload_n 2, 1) := dk_44 (dk_at dksX0_write_1 9 rfl rfl)
theorem dX0_write_34 : decode cX0_write 34 = .ok (.getfield 179, 3) := dk_180 0 179 (dk_at dksX0_write_1 10 rfl rfl)
theorem dX0_write_37 : decode cX0_write 37 = .ok (.invokevirtual 182, 3) := dk_182 0 182 (dk_at dksX0_write_1 13 rfl rfl)
theorem dX0_write_40 : decode cX0_write 40 = .ok (.bipush 110, 2) := dk_16 110 (dk_at dksX0_write_1 16 rfl rfl)
theorem dX0_write_42 : decode cX0_write 42 = .ok (.invokevirtual 175, 3) := dk_182 0 175 (dk_at dksX0_write_1 18 rfl rfl)
theorem dX0_write_45 : decode cX0_write 45 = .ok (.aload_n 2, 1) := dk_44 (dk_at dksX0_write_1 21 rfl rfl)
theorem dX0_write_46 : decode cX0_write 46 = .ok (.getfield 185, 3) := dk_180 0 185 (dk_at dksX0_write_2 0 rfl rfl)
theorem dX0_write_49 : decode cX0_write 49 = .ok (.invokevirtual 182, 3) := dk_182 0 182 (dk_at dksX0_write_2 3 rfl rfl)
theorem dX0_write_52 : decode cX0_write 52 = .ok (.bipush 35, 2) := dk_16 35 (dk_at dksX0_write_2 6 rfl rfl)
theorem dX0_write_54 : decode cX0_write 54 = .ok (.invokevirtual 175, 3) := dk_182 0 175 (dk_at dksX0_write_2 8 rfl rfl)
theorem dX0_write_57 : decode cX0_write 57 = .ok (.aload_n 2, 1) := dk_44 (dk_at dksX0_write_2 11 rfl rfl)
theorem dX0_write_58 : decode cX0_write 58 = .ok (.getfield 149, 3) := dk_180 0 149 (dk_at dksX0_write_2 12 rfl rfl)
theorem dX0_write_61 : decode cX0_write 61 = .ok (.invokevirtual 182, 3) := dk_182 0 182 (dk_at dksX0_write_2 15 rfl rfl)
theorem dX0_write_64 : decode cX0_write 64 = .ok (.pop, 1) := dk_87 (dk_at dksX0_write_2 18 rfl rfl)
theorem dX0_write_65 : decode cX0_write 65 = .ok (.aload_n 0, 1) := dk_42 (dk_at dksX0_write_2 19 rfl rfl)
theorem dX0_write_66 : decode cX0_write 66 = .ok (.getfield 30, 3) := dk_180 0 30 (dk_at dksX0_write_2 20 rfl rfl)
theorem dX0_write_69 : decode cX0_write 69 = .ok (.aload_n 2, 1) := dk_44 (dk_at dksX0_write_2 23 rfl rfl)
theorem dX0_write_70 : decode cX0_write 70 = .ok (.getfield 87, 3) := dk_180 0 87 (dk_at dksX0_write_3 0 rfl rfl)
theorem dX0_write_73 : decode cX0_write 73 = .ok (.ifCond .eq 8, 3) := dk_153 0 8 (dk_at dksX0_write_3 3 rfl rfl)
theorem dX0_write_76 : decode cX0_write 76 = .ok (.ldc 188, 2) := dk_18 188 (dk_at dksX0_write_3 6 rfl rfl)
theorem dX0_write_78 : decode cX0_write 78 = .ok (.goto 5, 3) := dk_167 0 5 (dk_at dksX0_write_3 8 rfl rfl)
theorem dX0_write_81 : decode cX0_write 81 = .ok (.ldc 190, 2) := dk_18 190 (dk_at dksX0_write_3 11 rfl rfl)
theorem dX0_write_83 : decode cX0_write 83 = .ok (.invokevirtual 192, 3) := dk_182 0 192 (dk_at dksX0_write_3 13 rfl rfl)
theorem dX0_write_86 : decode cX0_write 86 = .ok (.pop, 1) := dk_87 (dk_at dksX0_write_3 16 rfl rfl)
theorem dX0_write_87 : decode cX0_write 87 = .ok (.aload_n 0, 1) := dk_42 (dk_at dksX0_write_3 17 rfl rfl)
theorem dX0_write_88 : decode cX0_write 88 = .ok (.getfield 30, 3) := dk_180 0 30 (dk_at dksX0_write_3 18 rfl rfl)
theorem dX0_write_91 : decode cX0_write 91 = .ok (.invokevirtual 195, 3) := dk_182 0 195 (dk_at dksX0_write_3 21 rfl rfl)
theorem dX0_write_94 : decode cX0_write 94 = .ok (.ireturn, 1) := dk_172 (dk_at dksX0_write_4 0 rfl rfl)
abbrev cX0_sign : ByteArray := prog_1_method_28_code
def yX0_sign : MethodName := ⟨RX0, "sign", "(I)I"⟩
def dkwX0_sign_1 : List UInt8 := [182, 0, 198, 167, 0, 4, 2, 172]
abbrev dktX0_sign_1 : List UInt8 := dkwX0_sign_1 ++ []
def dkwX0_sign_0 : List UInt8 := [27, 3, 42, 180, 0, 30, 182, 0, 195, 4, 100, 184, 0, 60, 153, 0, 14, 42, 180, 0, 30, 27]
abbrev dktX0_sign_0 : List UInt8 := dkwX0_sign_0 ++ dktX0_sign_1
theorem dksX0_sign_0 : cX0_sign.data.toList.drop 0 = dktX0_sign_0 := by decide +kernel
theorem dksX0_sign_1 : cX0_sign.data.toList.drop 22 = dktX0_sign_1 := dk_seg dksX0_sign_0 22 rfl rfl
theorem dX0_sign_0 : decode cX0_sign 0 = .ok (.iload_n 1, 1) := dk_27 (dk_at dksX0_sign_0 0 rfl rfl)
theorem dX0_sign_1 : decode cX0_sign 1 = .ok (.iconst 0, 1) := dk_3 (dk_at dksX0_sign_0 1 rfl rfl)
theorem dX0_sign_2 : decode cX0_sign 2 = .ok (.aload_n 0, 1) := dk_42 (dk_at dksX0_sign_0 2 rfl rfl)
theorem dX0_sign_3 : decode cX0_sign 3 = .ok (.getfield 30, 3) := dk_180 0 30 (dk_at dksX0_sign_0 3 rfl rfl)
theorem dX0_sign_6 : decode cX0_sign 6 = .ok (.invokevirtual 195, 3) := dk_182 0 195 (dk_at dksX0_sign_0 6 rfl rfl)
theorem dX0_sign_9 : decode cX0_sign 9 = .ok (.iconst 1, 1) := dk_4 (dk_at dksX0_sign_0 9 rfl rfl)
theorem dX0_sign_10 : decode cX0_sign 10 = .ok (.isub, 1) := dk_100 (dk_at dksX0_sign_0 10 rfl rfl)
theorem dX0_sign_11 : decode cX0_sign 11 = .ok (.invokestatic 60, 3) := dk_184 0 60 (dk_at dksX0_sign_0 11 rfl rfl)
theorem dX0_sign_14 : decode cX0_sign 14 = .ok (.ifCond .eq 14, 3) := dk_153 0 14 (dk_at dksX0_sign_0 14 rfl rfl)
theorem dX0_sign_17 : decode cX0_sign 17 = .ok (.aload_n 0, 1) := dk_42 (dk_at dksX0_sign_0 17 rfl rfl)
theorem dX0_sign_18 : decode cX0_sign 18 = .ok (.getfield 30, 3) := dk_180 0 30 (dk_at dksX0_sign_0 18 rfl rfl)
theorem dX0_sign_21 : decode cX0_sign 21 = .ok (.iload_n 1, 1) := dk_27 (dk_at dksX0_sign_0 21 rfl rfl)
theorem dX0_sign_22 : decode cX0_sign 22 = .ok (.invokevirtual 198, 3) := dk_182 0 198 (dk_at dksX0_sign_1 0 rfl rfl)
theorem dX0_sign_25 : decode cX0_sign 25 = .ok (.goto 4, 3) := dk_167 0 4 (dk_at dksX0_sign_1 3 rfl rfl)
theorem dX0_sign_28 : decode cX0_sign 28 = .ok (.iconst (-1), 1) := dk_2 (dk_at dksX0_sign_1 6 rfl rfl)
theorem dX0_sign_29 : decode cX0_sign 29 = .ok (.ireturn, 1) := dk_172 (dk_at dksX0_sign_1 7 rfl rfl)
abbrev cX0_of : ByteArray := prog_1_method_30_code
def yX0_of : MethodName := ⟨RX0, "of", "(II)I"⟩
def dkwX0_of_4 : List UInt8 := [182, 0, 229, 172]
abbrev dktX0_of_4 : List UInt8 := dkwX0_of_4 ++ []
def dkwX0_of_3 : List UInt8 := [172, 45, 180, 0, 226, 172, 45, 180, 0, 202, 172, 45, 180, 0, 179, 172, 45, 180, 0, 185, 172, 42, 45, 28]
abbrev dktX0_of_3 : List UInt8 := dkwX0_of_3 ++ dktX0_of_4
def dkwX0_of_2 : List UInt8 := [45, 180, 0, 216, 199, 0, 8, 16, 250, 167, 0, 10, 45, 180, 0, 216, 180, 0, 220, 172, 45, 180, 0, 223]
abbrev dktX0_of_2 : List UInt8 := dkwX0_of_2 ++ dktX0_of_3
def dkwX0_of_1 : List UInt8 := [170, 0, 0, 0, 0, 0, 0, 85, 0, 0, 0, 0, 0, 0, 0, 5, 0, 0, 0, 40, 0, 0, 0, 60, 0, 0, 0, 65, 0, 0, 0, 70, 0, 0, 0, 75, 0, 0, 0, 80]
abbrev dktX0_of_1 : List UInt8 := dkwX0_of_1 ++ dktX0_of_2
def dkwX0_of_0 : List UInt8 := [42, 27, 182, 0, 79, 154, 0, 5, 2, 172, 42, 180, 0, 12, 182, 0, 213, 42, 27, 182, 0, 83, 78, 28]
abbrev dktX0_of_0 : List UInt8 := dkwX0_of_0 ++ dktX0_of_1
theorem dksX0_of_0 : cX0_of.data.toList.drop 0 = dktX0_of_0 := by decide +kernel
theorem dksX0_of_1 : cX0_of.data.toList.drop 24 = dktX0_of_1 := dk_seg dksX0_of_0 24 rfl rfl
theorem dksX0_of_2 : cX0_of.data.toList.drop 64 = dktX0_of_2 := dk_seg dksX0_of_1 40 rfl rfl
theorem dksX0_of_3 : cX0_of.data.toList.drop 88 = dktX0_of_3 := dk_seg dksX0_of_2 24 rfl rfl
theorem dksX0_of_4 : cX0_of.data.toList.drop 112 = dktX0_of_4 := dk_seg dksX0_of_3 24 rfl rfl
theorem dX0_of_0 : decode cX0_of 0 = .ok (.aload_n 0, 1) := dk_42 (dk_at dksX0_of_0 0 rfl rfl)
theorem dX0_of_1 : decode cX0_of 1 = .ok (.iload_n 1, 1) := dk_27 (dk_at dksX0_of_0 1 rfl rfl)
theorem dX0_of_2 : decode cX0_of 2 = .ok (.invokevirtual 79, 3) := dk_182 0 79 (dk_at dksX0_of_0 2 rfl rfl)
theorem dX0_of_5 : decode cX0_of 5 = .ok (.ifCond .ne 5, 3) := dk_154 0 5 (dk_at dksX0_of_0 5 rfl rfl)
theorem dX0_of_8 : decode cX0_of 8 = .ok (.iconst (-1), 1) := dk_2 (dk_at dksX0_of_0 8 rfl rfl)
theorem dX0_of_9 : decode cX0_of 9 = .ok (.ireturn, 1) := dk_172 (dk_at dksX0_of_0 9 rfl rfl)
theorem dX0_of_10 : decode cX0_of 10 = .ok (.aload_n 0, 1) := dk_42 (dk_at dksX0_of_0 10 rfl rfl)
theorem dX0_of_11 : decode cX0_of 11 = .ok (.getfield 12, 3) := dk_180 0 12 (dk_at dksX0_of_0 11 rfl rfl)
theorem dX0_of_14 : decode cX0_of 14 = .ok (.invokevirtual 213, 3) := dk_182 0 213 (dk_at dksX0_of_0 14 rfl rfl)
theorem dX0_of_17 : decode cX0_of 17 = .ok (.aload_n 0, 1) := dk_42 (dk_at dksX0_of_0 17 rfl rfl)
theorem dX0_of_18 : decode cX0_of 18 = .ok (.iload_n 1, 1) := dk_27 (dk_at dksX0_of_0 18 rfl rfl)
theorem dX0_of_19 : decode cX0_of 19 = .ok (.invokevirtual 83, 3) := dk_182 0 83 (dk_at dksX0_of_0 19 rfl rfl)
theorem dX0_of_22 : decode cX0_of 22 = .ok (.astore_n 3, 1) := dk_78 (dk_at dksX0_of_0 22 rfl rfl)
theorem dX0_of_23 : decode cX0_of 23 = .ok (.iload_n 2, 1) := dk_28 (dk_at dksX0_of_0 23 rfl rfl)
theorem dX0_of_24 : decode cX0_of 24 = .ok (.tableswitch 85 0 5 #[40, 60, 65, 70, 75, 80], 40) := by decide +kernel
theorem dX0_of_64 : decode cX0_of 64 = .ok (.aload_n 3, 1) := dk_45 (dk_at dksX0_of_2 0 rfl rfl)
theorem dX0_of_65 : decode cX0_of 65 = .ok (.getfield 216, 3) := dk_180 0 216 (dk_at dksX0_of_2 1 rfl rfl)
theorem dX0_of_68 : decode cX0_of 68 = .ok (.ifnonnull 8, 3) := dk_199 0 8 (dk_at dksX0_of_2 4 rfl rfl)
theorem dX0_of_71 : decode cX0_of 71 = .ok (.bipush (-6), 2) := dk_16 250 (dk_at dksX0_of_2 7 rfl rfl)
theorem dX0_of_73 : decode cX0_of 73 = .ok (.goto 10, 3) := dk_167 0 10 (dk_at dksX0_of_2 9 rfl rfl)
theorem dX0_of_76 : decode cX0_of 76 = .ok (.aload_n 3, 1) := dk_45 (dk_at dksX0_of_2 12 rfl rfl)
theorem dX0_of_77 : decode cX0_of 77 = .ok (.getfield 216, 3) := dk_180 0 216 (dk_at dksX0_of_2 13 rfl rfl)
theorem dX0_of_80 : decode cX0_of 80 = .ok (.getfield 220, 3) := dk_180 0 220 (dk_at dksX0_of_2 16 rfl rfl)
theorem dX0_of_83 : decode cX0_of 83 = .ok (.ireturn, 1) := dk_172 (dk_at dksX0_of_2 19 rfl rfl)
theorem dX0_of_84 : decode cX0_of 84 = .ok (.aload_n 3, 1) := dk_45 (dk_at dksX0_of_2 20 rfl rfl)
theorem dX0_of_85 : decode cX0_of 85 = .ok (.getfield 223, 3) := dk_180 0 223 (dk_at dksX0_of_2 21 rfl rfl)
theorem dX0_of_88 : decode cX0_of 88 = .ok (.ireturn, 1) := dk_172 (dk_at dksX0_of_3 0 rfl rfl)
theorem dX0_of_89 : decode cX0_of 89 = .ok (.aload_n 3, 1) := dk_45 (dk_at dksX0_of_3 1 rfl rfl)
theorem dX0_of_90 : decode cX0_of 90 = .ok (.getfield 226, 3) := dk_180 0 226 (dk_at dksX0_of_3 2 rfl rfl)
theorem dX0_of_93 : decode cX0_of 93 = .ok (.ireturn, 1) := dk_172 (dk_at dksX0_of_3 5 rfl rfl)
theorem dX0_of_94 : decode cX0_of 94 = .ok (.aload_n 3, 1) := dk_45 (dk_at dksX0_of_3 6 rfl rfl)
theorem dX0_of_95 : decode cX0_of 95 = .ok (.getfield 202, 3) := dk_180 0 202 (dk_at dksX0_of_3 7 rfl rfl)
theorem dX0_of_98 : decode cX0_of 98 = .ok (.ireturn, 1) := dk_172 (dk_at dksX0_of_3 10 rfl rfl)
theorem dX0_of_99 : decode cX0_of 99 = .ok (.aload_n 3, 1) := dk_45 (dk_at dksX0_of_3 11 rfl rfl)
theorem dX0_of_100 : decode cX0_of 100 = .ok (.getfield 179, 3) := dk_180 0 179 (dk_at dksX0_of_3 12 rfl rfl)
theorem dX0_of_103 : decode cX0_of 103 = .ok (.ireturn, 1) := dk_172 (dk_at dksX0_of_3 15 rfl rfl)
theorem dX0_of_104 : decode cX0_of 104 = .ok (.aload_n 3, 1) := dk_45 (dk_at dksX0_of_3 16 rfl rfl)
theorem dX0_of_105 : decode cX0_of 105 = .ok (.getfield 185, 3) := dk_180 0 185 (dk_at dksX0_of_3 17 rfl rfl)
theorem dX0_of_108 : decode cX0_of 108 = .ok (.ireturn, 1) := dk_172 (dk_at dksX0_of_3 20 rfl rfl)
theorem dX0_of_109 : decode cX0_of 109 = .ok (.aload_n 0, 1) := dk_42 (dk_at dksX0_of_3 21 rfl rfl)
theorem dX0_of_110 : decode cX0_of 110 = .ok (.aload_n 3, 1) := dk_45 (dk_at dksX0_of_3 22 rfl rfl)
theorem dX0_of_111 : decode cX0_of 111 = .ok (.iload_n 2, 1) := dk_28 (dk_at dksX0_of_3 23 rfl rfl)
theorem dX0_of_112 : decode cX0_of 112 = .ok (.invokevirtual 229, 3) := dk_182 0 229 (dk_at dksX0_of_4 0 rfl rfl)
theorem dX0_of_115 : decode cX0_of 115 = .ok (.ireturn, 1) := dk_172 (dk_at dksX0_of_4 3 rfl rfl)
abbrev cX0_ofMore : ByteArray := prog_1_method_31_code
def yX0_ofMore : MethodName := ⟨RX0, "ofMore", "(LEnergyDiscs$Meter;I)I"⟩
def dkwX0_ofMore_3 : List UInt8 := [167, 0, 4, 3, 172, 43, 180, 0, 239, 172, 42, 43, 182, 0, 242, 172, 43, 180, 0, 245, 172, 16, 254, 172]
abbrev dktX0_ofMore_3 : List UInt8 := dkwX0_ofMore_3 ++ []
def dkwX0_ofMore_2 : List UInt8 := [43, 180, 0, 233, 20, 0, 237, 109, 136, 172, 43, 180, 0, 149, 172, 43, 180, 0, 87, 153, 0, 7, 4]
abbrev dktX0_ofMore_2 : List UInt8 := dkwX0_ofMore_2 ++ dktX0_ofMore_3
def dkwX0_ofMore_1 : List UInt8 := [170, 0, 0, 0, 0, 0, 83, 0, 0, 0, 6, 0, 0, 0, 11, 0, 0, 0, 39, 0, 0, 0, 49, 0, 0, 0, 54, 0, 0, 0, 67, 0, 0, 0, 72, 0, 0, 0, 78]
abbrev dktX0_ofMore_1 : List UInt8 := dkwX0_ofMore_1 ++ dktX0_ofMore_2
def dkwX0_ofMore_0 : List UInt8 := [28]
abbrev dktX0_ofMore_0 : List UInt8 := dkwX0_ofMore_0 ++ dktX0_ofMore_1
theorem dksX0_ofMore_0 : cX0_ofMore.data.toList.drop 0 = dktX0_ofMore_0 := by decide +kernel
theorem dksX0_ofMore_1 : cX0_ofMore.data.toList.drop 1 = dktX0_ofMore_1 := dk_seg dksX0_ofMore_0 1 rfl rfl
theorem dksX0_ofMore_2 : cX0_ofMore.data.toList.drop 40 = dktX0_ofMore_2 := dk_seg dksX0_ofMore_1 39 rfl rfl
theorem dksX0_ofMore_3 : cX0_ofMore.data.toList.drop 63 = dktX0_ofMore_3 := dk_seg dksX0_ofMore_2 23 rfl rfl
theorem dX0_ofMore_0 : decode cX0_ofMore 0 = .ok (.iload_n 2, 1) := dk_28 (dk_at dksX0_ofMore_0 0 rfl rfl)
theorem dX0_ofMore_1 : decode cX0_ofMore 1 = .ok (.tableswitch 83 6 11 #[39, 49, 54, 67, 72, 78], 39) := by decide +kernel
theorem dX0_ofMore_40 : decode cX0_ofMore 40 = .ok (.aload_n 1, 1) := dk_43 (dk_at dksX0_ofMore_2 0 rfl rfl)
theorem dX0_ofMore_41 : decode cX0_ofMore 41 = .ok (.getfield 233, 3) := dk_180 0 233 (dk_at dksX0_ofMore_2 1 rfl rfl)
theorem dX0_ofMore_44 : decode cX0_ofMore 44 = .ok (.ldc2_w 237, 3) := dk_20 0 237 (dk_at dksX0_ofMore_2 4 rfl rfl)
theorem dX0_ofMore_47 : decode cX0_ofMore 47 = .ok (.ldiv, 1) := dk_109 (dk_at dksX0_ofMore_2 7 rfl rfl)
theorem dX0_ofMore_48 : decode cX0_ofMore 48 = .ok (.l2i, 1) := dk_136 (dk_at dksX0_ofMore_2 8 rfl rfl)
theorem dX0_ofMore_49 : decode cX0_ofMore 49 = .ok (.ireturn, 1) := dk_172 (dk_at dksX0_ofMore_2 9 rfl rfl)
theorem dX0_ofMore_50 : decode cX0_ofMore 50 = .ok (.aload_n 1, 1) := dk_43 (dk_at dksX0_ofMore_2 10 rfl rfl)
theorem dX0_ofMore_51 : decode cX0_ofMore 51 = .ok (.getfield 149, 3) := dk_180 0 149 (dk_at dksX0_ofMore_2 11 rfl rfl)
theorem dX0_ofMore_54 : decode cX0_ofMore 54 = .ok (.ireturn, 1) := dk_172 (dk_at dksX0_ofMore_2 14 rfl rfl)
theorem dX0_ofMore_55 : decode cX0_ofMore 55 = .ok (.aload_n 1, 1) := dk_43 (dk_at dksX0_ofMore_2 15 rfl rfl)
theorem dX0_ofMore_56 : decode cX0_ofMore 56 = .ok (.getfield 87, 3) := dk_180 0 87 (dk_at dksX0_ofMore_2 16 rfl rfl)
theorem dX0_ofMore_59 : decode cX0_ofMore 59 = .ok (.ifCond .eq 7, 3) := dk_153 0 7 (dk_at dksX0_ofMore_2 19 rfl rfl)
theorem dX0_ofMore_62 : decode cX0_ofMore 62 = .ok (.iconst 1, 1) := dk_4 (dk_at dksX0_ofMore_2 22 rfl rfl)
theorem dX0_ofMore_63 : decode cX0_ofMore 63 = .ok (.goto 4, 3) := dk_167 0 4 (dk_at dksX0_ofMore_3 0 rfl rfl)
theorem dX0_ofMore_66 : decode cX0_ofMore 66 = .ok (.iconst 0, 1) := dk_3 (dk_at dksX0_ofMore_3 3 rfl rfl)
theorem dX0_ofMore_67 : decode cX0_ofMore 67 = .ok (.ireturn, 1) := dk_172 (dk_at dksX0_ofMore_3 4 rfl rfl)
theorem dX0_ofMore_68 : decode cX0_ofMore 68 = .ok (.aload_n 1, 1) := dk_43 (dk_at dksX0_ofMore_3 5 rfl rfl)
theorem dX0_ofMore_69 : decode cX0_ofMore 69 = .ok (.getfield 239, 3) := dk_180 0 239 (dk_at dksX0_ofMore_3 6 rfl rfl)
theorem dX0_ofMore_72 : decode cX0_ofMore 72 = .ok (.ireturn, 1) := dk_172 (dk_at dksX0_ofMore_3 9 rfl rfl)
theorem dX0_ofMore_73 : decode cX0_ofMore 73 = .ok (.aload_n 0, 1) := dk_42 (dk_at dksX0_ofMore_3 10 rfl rfl)
theorem dX0_ofMore_74 : decode cX0_ofMore 74 = .ok (.aload_n 1, 1) := dk_43 (dk_at dksX0_ofMore_3 11 rfl rfl)
theorem dX0_ofMore_75 : decode cX0_ofMore 75 = .ok (.invokevirtual 242, 3) := dk_182 0 242 (dk_at dksX0_ofMore_3 12 rfl rfl)
theorem dX0_ofMore_78 : decode cX0_ofMore 78 = .ok (.ireturn, 1) := dk_172 (dk_at dksX0_ofMore_3 15 rfl rfl)
theorem dX0_ofMore_79 : decode cX0_ofMore 79 = .ok (.aload_n 1, 1) := dk_43 (dk_at dksX0_ofMore_3 16 rfl rfl)
theorem dX0_ofMore_80 : decode cX0_ofMore 80 = .ok (.getfield 245, 3) := dk_180 0 245 (dk_at dksX0_ofMore_3 17 rfl rfl)
theorem dX0_ofMore_83 : decode cX0_ofMore 83 = .ok (.ireturn, 1) := dk_172 (dk_at dksX0_ofMore_3 20 rfl rfl)
theorem dX0_ofMore_84 : decode cX0_ofMore 84 = .ok (.bipush (-2), 2) := dk_16 254 (dk_at dksX0_ofMore_3 21 rfl rfl)
theorem dX0_ofMore_86 : decode cX0_ofMore 86 = .ok (.ireturn, 1) := dk_172 (dk_at dksX0_ofMore_3 23 rfl rfl)
abbrev cX0_untilWeaker : ByteArray := prog_1_method_29_code
def yX0_untilWeaker : MethodName := ⟨RX0, "untilWeaker", "(LEnergyDiscs$Meter;)I"⟩
def dkwX0_untilWeaker_1 : List UInt8 := [46, 43, 180, 0, 205, 100, 184, 0, 208, 172]
abbrev dktX0_untilWeaker_1 : List UInt8 := dkwX0_untilWeaker_1 ++ []
def dkwX0_untilWeaker_0 : List UInt8 := [43, 180, 0, 202, 17, 0, 160, 160, 0, 8, 16, 250, 167, 0, 21, 4, 42, 180, 0, 12, 180, 0, 107, 6]
abbrev dktX0_untilWeaker_0 : List UInt8 := dkwX0_untilWeaker_0 ++ dktX0_untilWeaker_1
theorem dksX0_untilWeaker_0 : cX0_untilWeaker.data.toList.drop 0 = dktX0_untilWeaker_0 := by decide +kernel
theorem dksX0_untilWeaker_1 : cX0_untilWeaker.data.toList.drop 24 = dktX0_untilWeaker_1 := dk_seg dksX0_untilWeaker_0 24 rfl rfl
theorem dX0_untilWeaker_0 : decode cX0_untilWeaker 0 = .ok (.aload_n 1, 1) := dk_43 (dk_at dksX0_untilWeaker_0 0 rfl rfl)
theorem dX0_untilWeaker_1 : decode cX0_untilWeaker 1 = .ok (.getfield 202, 3) := dk_180 0 202 (dk_at dksX0_untilWeaker_0 1 rfl rfl)
theorem dX0_untilWeaker_4 : decode cX0_untilWeaker 4 = .ok (.sipush 160, 3) := dk_17 0 160 (dk_at dksX0_untilWeaker_0 4 rfl rfl)
theorem dX0_untilWeaker_7 : decode cX0_untilWeaker 7 = .ok (.if_icmp .ne 8, 3) := dk_160 0 8 (dk_at dksX0_untilWeaker_0 7 rfl rfl)
theorem dX0_untilWeaker_10 : decode cX0_untilWeaker 10 = .ok (.bipush (-6), 2) := dk_16 250 (dk_at dksX0_untilWeaker_0 10 rfl rfl)
theorem dX0_untilWeaker_12 : decode cX0_untilWeaker 12 = .ok (.goto 21, 3) := dk_167 0 21 (dk_at dksX0_untilWeaker_0 12 rfl rfl)
theorem dX0_untilWeaker_15 : decode cX0_untilWeaker 15 = .ok (.iconst 1, 1) := dk_4 (dk_at dksX0_untilWeaker_0 15 rfl rfl)
theorem dX0_untilWeaker_16 : decode cX0_untilWeaker 16 = .ok (.aload_n 0, 1) := dk_42 (dk_at dksX0_untilWeaker_0 16 rfl rfl)
theorem dX0_untilWeaker_17 : decode cX0_untilWeaker 17 = .ok (.getfield 12, 3) := dk_180 0 12 (dk_at dksX0_untilWeaker_0 17 rfl rfl)
theorem dX0_untilWeaker_20 : decode cX0_untilWeaker 20 = .ok (.getfield 107, 3) := dk_180 0 107 (dk_at dksX0_untilWeaker_0 20 rfl rfl)
theorem dX0_untilWeaker_23 : decode cX0_untilWeaker 23 = .ok (.iconst 3, 1) := dk_6 (dk_at dksX0_untilWeaker_0 23 rfl rfl)
theorem dX0_untilWeaker_24 : decode cX0_untilWeaker 24 = .ok (.iaload, 1) := dk_46 (dk_at dksX0_untilWeaker_1 0 rfl rfl)
theorem dX0_untilWeaker_25 : decode cX0_untilWeaker 25 = .ok (.aload_n 1, 1) := dk_43 (dk_at dksX0_untilWeaker_1 1 rfl rfl)
theorem dX0_untilWeaker_26 : decode cX0_untilWeaker 26 = .ok (.getfield 205, 3) := dk_180 0 205 (dk_at dksX0_untilWeaker_1 2 rfl rfl)
theorem dX0_untilWeaker_29 : decode cX0_untilWeaker 29 = .ok (.isub, 1) := dk_100 (dk_at dksX0_untilWeaker_1 5 rfl rfl)
theorem dX0_untilWeaker_30 : decode cX0_untilWeaker 30 = .ok (.invokestatic 208, 3) := dk_184 0 208 (dk_at dksX0_untilWeaker_1 6 rfl rfl)
theorem dX0_untilWeaker_33 : decode cX0_untilWeaker 33 = .ok (.ireturn, 1) := dk_172 (dk_at dksX0_untilWeaker_1 9 rfl rfl)
abbrev cX0_ofLoad : ByteArray := prog_1_method_32_code
def yX0_ofLoad : MethodName := ⟨RX0, "ofLoad", "(II)I"⟩
def dkwX0_ofLoad_3 : List UInt8 := [16, 254, 172]
abbrev dktX0_ofLoad_3 : List UInt8 := dkwX0_ofLoad_3 ++ []
def dkwX0_ofLoad_2 : List UInt8 := [167, 0, 25, 28, 5, 160, 0, 18, 45, 180, 0, 140, 153, 0, 7, 4, 167, 0, 9, 3, 167, 0, 5]
abbrev dktX0_ofLoad_2 : List UInt8 := dkwX0_ofLoad_2 ++ dktX0_ofLoad_3
def dkwX0_ofLoad_1 : List UInt8 := [192, 0, 124, 78, 28, 154, 0, 10, 45, 180, 0, 247, 167, 0, 37, 28, 4, 160, 0, 10, 45, 180, 0, 250]
abbrev dktX0_ofLoad_1 : List UInt8 := dkwX0_ofLoad_1 ++ dktX0_ofLoad_2
def dkwX0_ofLoad_0 : List UInt8 := [42, 27, 182, 0, 137, 154, 0, 5, 2, 172, 42, 180, 0, 12, 180, 0, 64, 27, 185, 0, 67, 2, 0]
abbrev dktX0_ofLoad_0 : List UInt8 := dkwX0_ofLoad_0 ++ dktX0_ofLoad_1
theorem dksX0_ofLoad_0 : cX0_ofLoad.data.toList.drop 0 = dktX0_ofLoad_0 := by decide +kernel
theorem dksX0_ofLoad_1 : cX0_ofLoad.data.toList.drop 23 = dktX0_ofLoad_1 := dk_seg dksX0_ofLoad_0 23 rfl rfl
theorem dksX0_ofLoad_2 : cX0_ofLoad.data.toList.drop 47 = dktX0_ofLoad_2 := dk_seg dksX0_ofLoad_1 24 rfl rfl
theorem dksX0_ofLoad_3 : cX0_ofLoad.data.toList.drop 70 = dktX0_ofLoad_3 := dk_seg dksX0_ofLoad_2 23 rfl rfl
theorem dX0_ofLoad_0 : decode cX0_ofLoad 0 = .ok (.aload_n 0, 1) := dk_42 (dk_at dksX0_ofLoad_0 0 rfl rfl)
theorem dX0_ofLoad_1 : decode cX0_ofLoad 1 = .ok (.iload_n 1, 1) := dk_27 (dk_at dksX0_ofLoad_0 1 rfl rfl)
theorem dX0_ofLoad_2 : decode cX0_ofLoad 2 = .ok (.invokevirtual 137, 3) := dk_182 0 137 (dk_at dksX0_ofLoad_0 2 rfl rfl)
theorem dX0_ofLoad_5 : decode cX0_ofLoad 5 = .ok (.ifCond .ne 5, 3) := dk_154 0 5 (dk_at dksX0_ofLoad_0 5 rfl rfl)
theorem dX0_ofLoad_8 : decode cX0_ofLoad 8 = .ok (.iconst (-1), 1) := dk_2 (dk_at dksX0_ofLoad_0 8 rfl rfl)
theorem dX0_ofLoad_9 : decode cX0_ofLoad 9 = .ok (.ireturn, 1) := dk_172 (dk_at dksX0_ofLoad_0 9 rfl rfl)
theorem dX0_ofLoad_10 : decode cX0_ofLoad 10 = .ok (.aload_n 0, 1) := dk_42 (dk_at dksX0_ofLoad_0 10 rfl rfl)
theorem dX0_ofLoad_11 : decode cX0_ofLoad 11 = .ok (.getfield 12, 3) := dk_180 0 12 (dk_at dksX0_ofLoad_0 11 rfl rfl)
theorem dX0_ofLoad_14 : decode cX0_ofLoad 14 = .ok (.getfield 64, 3) := dk_180 0 64 (dk_at dksX0_ofLoad_0 14 rfl rfl)
theorem dX0_ofLoad_17 : decode cX0_ofLoad 17 = .ok (.iload_n 1, 1) := dk_27 (dk_at dksX0_ofLoad_0 17 rfl rfl)
theorem dX0_ofLoad_18 : decode cX0_ofLoad 18 = .ok (.invokeinterface 67 2, 5) := by decide +kernel
theorem dX0_ofLoad_23 : decode cX0_ofLoad 23 = .ok (.checkcast 124, 3) := dk_192 0 124 (dk_at dksX0_ofLoad_1 0 rfl rfl)
theorem dX0_ofLoad_26 : decode cX0_ofLoad 26 = .ok (.astore_n 3, 1) := dk_78 (dk_at dksX0_ofLoad_1 3 rfl rfl)
theorem dX0_ofLoad_27 : decode cX0_ofLoad 27 = .ok (.iload_n 2, 1) := dk_28 (dk_at dksX0_ofLoad_1 4 rfl rfl)
theorem dX0_ofLoad_28 : decode cX0_ofLoad 28 = .ok (.ifCond .ne 10, 3) := dk_154 0 10 (dk_at dksX0_ofLoad_1 5 rfl rfl)
theorem dX0_ofLoad_31 : decode cX0_ofLoad 31 = .ok (.aload_n 3, 1) := dk_45 (dk_at dksX0_ofLoad_1 8 rfl rfl)
theorem dX0_ofLoad_32 : decode cX0_ofLoad 32 = .ok (.getfield 247, 3) := dk_180 0 247 (dk_at dksX0_ofLoad_1 9 rfl rfl)
theorem dX0_ofLoad_35 : decode cX0_ofLoad 35 = .ok (.goto 37, 3) := dk_167 0 37 (dk_at dksX0_ofLoad_1 12 rfl rfl)
theorem dX0_ofLoad_38 : decode cX0_ofLoad 38 = .ok (.iload_n 2, 1) := dk_28 (dk_at dksX0_ofLoad_1 15 rfl rfl)
theorem dX0_ofLoad_39 : decode cX0_ofLoad 39 = .ok (.iconst 1, 1) := dk_4 (dk_at dksX0_ofLoad_1 16 rfl rfl)
theorem dX0_ofLoad_40 : decode cX0_ofLoad 40 = .ok (.if_icmp .ne 10, 3) := dk_160 0 10 (dk_at dksX0_ofLoad_1 17 rfl rfl)
theorem dX0_ofLoad_43 : decode cX0_ofLoad 43 = .ok (.aload_n 3, 1) := dk_45 (dk_at dksX0_ofLoad_1 20 rfl rfl)
theorem dX0_ofLoad_44 : decode cX0_ofLoad 44 = .ok (.getfield 250, 3) := dk_180 0 250 (dk_at dksX0_ofLoad_1 21 rfl rfl)
theorem dX0_ofLoad_47 : decode cX0_ofLoad 47 = .ok (.goto 25, 3) := dk_167 0 25 (dk_at dksX0_ofLoad_2 0 rfl rfl)
theorem dX0_ofLoad_50 : decode cX0_ofLoad 50 = .ok (.iload_n 2, 1) := dk_28 (dk_at dksX0_ofLoad_2 3 rfl rfl)
theorem dX0_ofLoad_51 : decode cX0_ofLoad 51 = .ok (.iconst 2, 1) := dk_5 (dk_at dksX0_ofLoad_2 4 rfl rfl)
theorem dX0_ofLoad_52 : decode cX0_ofLoad 52 = .ok (.if_icmp .ne 18, 3) := dk_160 0 18 (dk_at dksX0_ofLoad_2 5 rfl rfl)
theorem dX0_ofLoad_55 : decode cX0_ofLoad 55 = .ok (.aload_n 3, 1) := dk_45 (dk_at dksX0_ofLoad_2 8 rfl rfl)
theorem dX0_ofLoad_56 : decode cX0_ofLoad 56 = .ok (.getfield 140, 3) := dk_180 0 140 (dk_at dksX0_ofLoad_2 9 rfl rfl)
theorem dX0_ofLoad_59 : decode cX0_ofLoad 59 = .ok (.ifCond .eq 7, 3) := dk_153 0 7 (dk_at dksX0_ofLoad_2 12 rfl rfl)
theorem dX0_ofLoad_62 : decode cX0_ofLoad 62 = .ok (.iconst 1, 1) := dk_4 (dk_at dksX0_ofLoad_2 15 rfl rfl)
theorem dX0_ofLoad_63 : decode cX0_ofLoad 63 = .ok (.goto 9, 3) := dk_167 0 9 (dk_at dksX0_ofLoad_2 16 rfl rfl)
theorem dX0_ofLoad_66 : decode cX0_ofLoad 66 = .ok (.iconst 0, 1) := dk_3 (dk_at dksX0_ofLoad_2 19 rfl rfl)
theorem dX0_ofLoad_67 : decode cX0_ofLoad 67 = .ok (.goto 5, 3) := dk_167 0 5 (dk_at dksX0_ofLoad_2 20 rfl rfl)
theorem dX0_ofLoad_70 : decode cX0_ofLoad 70 = .ok (.bipush (-2), 2) := dk_16 254 (dk_at dksX0_ofLoad_3 0 rfl rfl)
theorem dX0_ofLoad_72 : decode cX0_ofLoad 72 = .ok (.ireturn, 1) := dk_172 (dk_at dksX0_ofLoad_3 2 rfl rfl)
abbrev cX0_misses : ByteArray := prog_1_method_33_code
def yX0_misses : MethodName := ⟨RX0, "misses", "(I)J"⟩
def dkwX0_misses_1 : List UInt8 := [20, 1, 1, 173]
abbrev dktX0_misses_1 : List UInt8 := dkwX0_misses_1 ++ []
def dkwX0_misses_0 : List UInt8 := [42, 27, 182, 0, 79, 153, 0, 18, 20, 0, 251, 42, 27, 182, 0, 83, 182, 0, 253, 97, 167, 0, 6]
abbrev dktX0_misses_0 : List UInt8 := dkwX0_misses_0 ++ dktX0_misses_1
theorem dksX0_misses_0 : cX0_misses.data.toList.drop 0 = dktX0_misses_0 := by decide +kernel
theorem dksX0_misses_1 : cX0_misses.data.toList.drop 23 = dktX0_misses_1 := dk_seg dksX0_misses_0 23 rfl rfl
theorem dX0_misses_0 : decode cX0_misses 0 = .ok (.aload_n 0, 1) := dk_42 (dk_at dksX0_misses_0 0 rfl rfl)
theorem dX0_misses_1 : decode cX0_misses 1 = .ok (.iload_n 1, 1) := dk_27 (dk_at dksX0_misses_0 1 rfl rfl)
theorem dX0_misses_2 : decode cX0_misses 2 = .ok (.invokevirtual 79, 3) := dk_182 0 79 (dk_at dksX0_misses_0 2 rfl rfl)
theorem dX0_misses_5 : decode cX0_misses 5 = .ok (.ifCond .eq 18, 3) := dk_153 0 18 (dk_at dksX0_misses_0 5 rfl rfl)
theorem dX0_misses_8 : decode cX0_misses 8 = .ok (.ldc2_w 251, 3) := dk_20 0 251 (dk_at dksX0_misses_0 8 rfl rfl)
theorem dX0_misses_11 : decode cX0_misses 11 = .ok (.aload_n 0, 1) := dk_42 (dk_at dksX0_misses_0 11 rfl rfl)
theorem dX0_misses_12 : decode cX0_misses 12 = .ok (.iload_n 1, 1) := dk_27 (dk_at dksX0_misses_0 12 rfl rfl)
theorem dX0_misses_13 : decode cX0_misses 13 = .ok (.invokevirtual 83, 3) := dk_182 0 83 (dk_at dksX0_misses_0 13 rfl rfl)
theorem dX0_misses_16 : decode cX0_misses 16 = .ok (.invokevirtual 253, 3) := dk_182 0 253 (dk_at dksX0_misses_0 16 rfl rfl)
theorem dX0_misses_19 : decode cX0_misses 19 = .ok (.ladd, 1) := dk_97 (dk_at dksX0_misses_0 19 rfl rfl)
theorem dX0_misses_20 : decode cX0_misses 20 = .ok (.goto 6, 3) := dk_167 0 6 (dk_at dksX0_misses_0 20 rfl rfl)
theorem dX0_misses_23 : decode cX0_misses 23 = .ok (.ldc2_w 257, 3) := dk_20 1 1 (dk_at dksX0_misses_1 0 rfl rfl)
theorem dX0_misses_26 : decode cX0_misses 26 = .ok (.lreturn, 1) := dk_173 (dk_at dksX0_misses_1 3 rfl rfl)
abbrev cX0_fed : ByteArray := prog_1_method_34_code
def yX0_fed : MethodName := ⟨RX0, "fed", "(I)I"⟩
def dkwX0_fed_0 : List UInt8 := [42, 27, 182, 0, 79, 153, 0, 14, 42, 27, 182, 0, 83, 182, 1, 3, 167, 0, 4, 2, 172]
abbrev dktX0_fed_0 : List UInt8 := dkwX0_fed_0 ++ []
theorem dksX0_fed_0 : cX0_fed.data.toList.drop 0 = dktX0_fed_0 := by decide +kernel
theorem dX0_fed_0 : decode cX0_fed 0 = .ok (.aload_n 0, 1) := dk_42 (dk_at dksX0_fed_0 0 rfl rfl)
theorem dX0_fed_1 : decode cX0_fed 1 = .ok (.iload_n 1, 1) := dk_27 (dk_at dksX0_fed_0 1 rfl rfl)
theorem dX0_fed_2 : decode cX0_fed 2 = .ok (.invokevirtual 79, 3) := dk_182 0 79 (dk_at dksX0_fed_0 2 rfl rfl)
theorem dX0_fed_5 : decode cX0_fed 5 = .ok (.ifCond .eq 14, 3) := dk_153 0 14 (dk_at dksX0_fed_0 5 rfl rfl)
theorem dX0_fed_8 : decode cX0_fed 8 = .ok (.aload_n 0, 1) := dk_42 (dk_at dksX0_fed_0 8 rfl rfl)
theorem dX0_fed_9 : decode cX0_fed 9 = .ok (.iload_n 1, 1) := dk_27 (dk_at dksX0_fed_0 9 rfl rfl)
theorem dX0_fed_10 : decode cX0_fed 10 = .ok (.invokevirtual 83, 3) := dk_182 0 83 (dk_at dksX0_fed_0 10 rfl rfl)
theorem dX0_fed_13 : decode cX0_fed 13 = .ok (.invokevirtual 259, 3) := dk_182 1 3 (dk_at dksX0_fed_0 13 rfl rfl)
theorem dX0_fed_16 : decode cX0_fed 16 = .ok (.goto 4, 3) := dk_167 0 4 (dk_at dksX0_fed_0 16 rfl rfl)
theorem dX0_fed_19 : decode cX0_fed 19 = .ok (.iconst (-1), 1) := dk_2 (dk_at dksX0_fed_0 19 rfl rfl)
theorem dX0_fed_20 : decode cX0_fed 20 = .ok (.ireturn, 1) := dk_172 (dk_at dksX0_fed_0 20 rfl rfl)
abbrev cX0_count : ByteArray := prog_1_method_37_code
def yX0_count : MethodName := ⟨RX0, "count", "(I)I"⟩
def dkwX0_count_6 : List UInt8 := [180, 0, 30, 182, 0, 195, 172, 42, 180, 0, 19, 185, 0, 34, 1, 0, 172, 16, 254, 172]
abbrev dktX0_count_6 : List UInt8 := dkwX0_count_6 ++ []
def dkwX0_count_5 : List UInt8 := [180, 0, 64, 185, 0, 34, 1, 0, 172, 42, 182, 1, 27, 172, 42, 180, 0, 12, 180, 1, 30, 172, 42]
abbrev dktX0_count_5 : List UInt8 := dkwX0_count_5 ++ dktX0_count_6
def dkwX0_count_4 : List UInt8 := [167, 0, 4, 3, 172, 42, 180, 0, 12, 180, 0, 57, 185, 0, 34, 1, 0, 172, 42, 180, 0, 12]
abbrev dktX0_count_4 : List UInt8 := dkwX0_count_4 ++ dktX0_count_5
def dkwX0_count_3 : List UInt8 := [42, 180, 0, 12, 180, 0, 91, 172, 42, 180, 0, 12, 180, 0, 91, 184, 1, 24, 153, 0, 7, 4]
abbrev dktX0_count_3 : List UInt8 := dkwX0_count_3 ++ dktX0_count_4
def dkwX0_count_2 : List UInt8 := [170, 0, 0, 0, 165, 0, 0, 0, 0, 0, 0, 0, 16, 0, 0, 0, 81, 0, 0, 0, 89, 0, 0, 0, 108, 0, 0, 0, 121, 0, 0, 0, 134, 0, 0, 0, 165, 0, 0, 0, 165, 0, 0, 0, 165, 0, 0, 0, 139, 0, 0, 0, 165, 0, 0, 0, 165, 0, 0, 0, 165, 0, 0, 0, 165, 0, 0, 0, 165, 0, 0, 0, 165, 0, 0, 0, 147, 0, 0, 0, 155]
abbrev dktX0_count_2 : List UInt8 := dkwX0_count_2 ++ dktX0_count_3
def dkwX0_count_1 : List UInt8 := [184, 0, 60, 153, 0, 16, 42, 180, 0, 12, 180, 0, 107, 27, 16, 9, 100, 46, 172, 27]
abbrev dktX0_count_1 : List UInt8 := dkwX0_count_1 ++ dktX0_count_2
def dkwX0_count_0 : List UInt8 := [27, 8, 16, 7, 184, 0, 60, 153, 0, 11, 42, 27, 8, 100, 182, 1, 21, 172, 27, 16, 9, 16, 14]
abbrev dktX0_count_0 : List UInt8 := dkwX0_count_0 ++ dktX0_count_1
theorem dksX0_count_0 : cX0_count.data.toList.drop 0 = dktX0_count_0 := by decide +kernel
theorem dksX0_count_1 : cX0_count.data.toList.drop 23 = dktX0_count_1 := dk_seg dksX0_count_0 23 rfl rfl
theorem dksX0_count_2 : cX0_count.data.toList.drop 43 = dktX0_count_2 := dk_seg dksX0_count_1 20 rfl rfl
theorem dksX0_count_3 : cX0_count.data.toList.drop 124 = dktX0_count_3 := dk_seg dksX0_count_2 81 rfl rfl
theorem dksX0_count_4 : cX0_count.data.toList.drop 146 = dktX0_count_4 := dk_seg dksX0_count_3 22 rfl rfl
theorem dksX0_count_5 : cX0_count.data.toList.drop 168 = dktX0_count_5 := dk_seg dksX0_count_4 22 rfl rfl
theorem dksX0_count_6 : cX0_count.data.toList.drop 191 = dktX0_count_6 := dk_seg dksX0_count_5 23 rfl rfl
theorem dX0_count_0 : decode cX0_count 0 = .ok (.iload_n 1, 1) := dk_27 (dk_at dksX0_count_0 0 rfl rfl)
theorem dX0_count_1 : decode cX0_count 1 = .ok (.iconst 5, 1) := dk_8 (dk_at dksX0_count_0 1 rfl rfl)
theorem dX0_count_2 : decode cX0_count 2 = .ok (.bipush 7, 2) := dk_16 7 (dk_at dksX0_count_0 2 rfl rfl)
theorem dX0_count_4 : decode cX0_count 4 = .ok (.invokestatic 60, 3) := dk_184 0 60 (dk_at dksX0_count_0 4 rfl rfl)
theorem dX0_count_7 : decode cX0_count 7 = .ok (.ifCond .eq 11, 3) := dk_153 0 11 (dk_at dksX0_count_0 7 rfl rfl)
theorem dX0_count_10 : decode cX0_count 10 = .ok (.aload_n 0, 1) := dk_42 (dk_at dksX0_count_0 10 rfl rfl)
theorem dX0_count_11 : decode cX0_count 11 = .ok (.iload_n 1, 1) := dk_27 (dk_at dksX0_count_0 11 rfl rfl)
theorem dX0_count_12 : decode cX0_count 12 = .ok (.iconst 5, 1) := dk_8 (dk_at dksX0_count_0 12 rfl rfl)
theorem dX0_count_13 : decode cX0_count 13 = .ok (.isub, 1) := dk_100 (dk_at dksX0_count_0 13 rfl rfl)
theorem dX0_count_14 : decode cX0_count 14 = .ok (.invokevirtual 277, 3) := dk_182 1 21 (dk_at dksX0_count_0 14 rfl rfl)
theorem dX0_count_17 : decode cX0_count 17 = .ok (.ireturn, 1) := dk_172 (dk_at dksX0_count_0 17 rfl rfl)
theorem dX0_count_18 : decode cX0_count 18 = .ok (.iload_n 1, 1) := dk_27 (dk_at dksX0_count_0 18 rfl rfl)
theorem dX0_count_19 : decode cX0_count 19 = .ok (.bipush 9, 2) := dk_16 9 (dk_at dksX0_count_0 19 rfl rfl)
theorem dX0_count_21 : decode cX0_count 21 = .ok (.bipush 14, 2) := dk_16 14 (dk_at dksX0_count_0 21 rfl rfl)
theorem dX0_count_23 : decode cX0_count 23 = .ok (.invokestatic 60, 3) := dk_184 0 60 (dk_at dksX0_count_1 0 rfl rfl)
theorem dX0_count_26 : decode cX0_count 26 = .ok (.ifCond .eq 16, 3) := dk_153 0 16 (dk_at dksX0_count_1 3 rfl rfl)
theorem dX0_count_29 : decode cX0_count 29 = .ok (.aload_n 0, 1) := dk_42 (dk_at dksX0_count_1 6 rfl rfl)
theorem dX0_count_30 : decode cX0_count 30 = .ok (.getfield 12, 3) := dk_180 0 12 (dk_at dksX0_count_1 7 rfl rfl)
theorem dX0_count_33 : decode cX0_count 33 = .ok (.getfield 107, 3) := dk_180 0 107 (dk_at dksX0_count_1 10 rfl rfl)
theorem dX0_count_36 : decode cX0_count 36 = .ok (.iload_n 1, 1) := dk_27 (dk_at dksX0_count_1 13 rfl rfl)
theorem dX0_count_37 : decode cX0_count 37 = .ok (.bipush 9, 2) := dk_16 9 (dk_at dksX0_count_1 14 rfl rfl)
theorem dX0_count_39 : decode cX0_count 39 = .ok (.isub, 1) := dk_100 (dk_at dksX0_count_1 16 rfl rfl)
theorem dX0_count_40 : decode cX0_count 40 = .ok (.iaload, 1) := dk_46 (dk_at dksX0_count_1 17 rfl rfl)
theorem dX0_count_41 : decode cX0_count 41 = .ok (.ireturn, 1) := dk_172 (dk_at dksX0_count_1 18 rfl rfl)
theorem dX0_count_42 : decode cX0_count 42 = .ok (.iload_n 1, 1) := dk_27 (dk_at dksX0_count_1 19 rfl rfl)
theorem dX0_count_43 : decode cX0_count 43 = .ok (.tableswitch 165 0 16 #[81, 89, 108, 121, 134, 165, 165, 165, 139, 165, 165, 165, 165, 165, 165, 147, 155], 81) := by decide +kernel
theorem dX0_count_124 : decode cX0_count 124 = .ok (.aload_n 0, 1) := dk_42 (dk_at dksX0_count_3 0 rfl rfl)
theorem dX0_count_125 : decode cX0_count 125 = .ok (.getfield 12, 3) := dk_180 0 12 (dk_at dksX0_count_3 1 rfl rfl)
theorem dX0_count_128 : decode cX0_count 128 = .ok (.getfield 91, 3) := dk_180 0 91 (dk_at dksX0_count_3 4 rfl rfl)
theorem dX0_count_131 : decode cX0_count 131 = .ok (.ireturn, 1) := dk_172 (dk_at dksX0_count_3 7 rfl rfl)
theorem dX0_count_132 : decode cX0_count 132 = .ok (.aload_n 0, 1) := dk_42 (dk_at dksX0_count_3 8 rfl rfl)
theorem dX0_count_133 : decode cX0_count 133 = .ok (.getfield 12, 3) := dk_180 0 12 (dk_at dksX0_count_3 9 rfl rfl)
theorem dX0_count_136 : decode cX0_count 136 = .ok (.getfield 91, 3) := dk_180 0 91 (dk_at dksX0_count_3 12 rfl rfl)
theorem dX0_count_139 : decode cX0_count 139 = .ok (.invokestatic 280, 3) := dk_184 1 24 (dk_at dksX0_count_3 15 rfl rfl)
theorem dX0_count_142 : decode cX0_count 142 = .ok (.ifCond .eq 7, 3) := dk_153 0 7 (dk_at dksX0_count_3 18 rfl rfl)
theorem dX0_count_145 : decode cX0_count 145 = .ok (.iconst 1, 1) := dk_4 (dk_at dksX0_count_3 21 rfl rfl)
theorem dX0_count_146 : decode cX0_count 146 = .ok (.goto 4, 3) := dk_167 0 4 (dk_at dksX0_count_4 0 rfl rfl)
theorem dX0_count_149 : decode cX0_count 149 = .ok (.iconst 0, 1) := dk_3 (dk_at dksX0_count_4 3 rfl rfl)
theorem dX0_count_150 : decode cX0_count 150 = .ok (.ireturn, 1) := dk_172 (dk_at dksX0_count_4 4 rfl rfl)
theorem dX0_count_151 : decode cX0_count 151 = .ok (.aload_n 0, 1) := dk_42 (dk_at dksX0_count_4 5 rfl rfl)
theorem dX0_count_152 : decode cX0_count 152 = .ok (.getfield 12, 3) := dk_180 0 12 (dk_at dksX0_count_4 6 rfl rfl)
theorem dX0_count_155 : decode cX0_count 155 = .ok (.getfield 57, 3) := dk_180 0 57 (dk_at dksX0_count_4 9 rfl rfl)
theorem dX0_count_158 : decode cX0_count 158 = .ok (.invokeinterface 34 1, 5) := by decide +kernel
theorem dX0_count_163 : decode cX0_count 163 = .ok (.ireturn, 1) := dk_172 (dk_at dksX0_count_4 17 rfl rfl)
theorem dX0_count_164 : decode cX0_count 164 = .ok (.aload_n 0, 1) := dk_42 (dk_at dksX0_count_4 18 rfl rfl)
theorem dX0_count_165 : decode cX0_count 165 = .ok (.getfield 12, 3) := dk_180 0 12 (dk_at dksX0_count_4 19 rfl rfl)
theorem dX0_count_168 : decode cX0_count 168 = .ok (.getfield 64, 3) := dk_180 0 64 (dk_at dksX0_count_5 0 rfl rfl)
theorem dX0_count_171 : decode cX0_count 171 = .ok (.invokeinterface 34 1, 5) := by decide +kernel
theorem dX0_count_176 : decode cX0_count 176 = .ok (.ireturn, 1) := dk_172 (dk_at dksX0_count_5 8 rfl rfl)
theorem dX0_count_177 : decode cX0_count 177 = .ok (.aload_n 0, 1) := dk_42 (dk_at dksX0_count_5 9 rfl rfl)
theorem dX0_count_178 : decode cX0_count 178 = .ok (.invokevirtual 283, 3) := dk_182 1 27 (dk_at dksX0_count_5 10 rfl rfl)
theorem dX0_count_181 : decode cX0_count 181 = .ok (.ireturn, 1) := dk_172 (dk_at dksX0_count_5 13 rfl rfl)
theorem dX0_count_182 : decode cX0_count 182 = .ok (.aload_n 0, 1) := dk_42 (dk_at dksX0_count_5 14 rfl rfl)
theorem dX0_count_183 : decode cX0_count 183 = .ok (.getfield 12, 3) := dk_180 0 12 (dk_at dksX0_count_5 15 rfl rfl)
theorem dX0_count_186 : decode cX0_count 186 = .ok (.getfield 286, 3) := dk_180 1 30 (dk_at dksX0_count_5 18 rfl rfl)
theorem dX0_count_189 : decode cX0_count 189 = .ok (.ireturn, 1) := dk_172 (dk_at dksX0_count_5 21 rfl rfl)
theorem dX0_count_190 : decode cX0_count 190 = .ok (.aload_n 0, 1) := dk_42 (dk_at dksX0_count_5 22 rfl rfl)
theorem dX0_count_191 : decode cX0_count 191 = .ok (.getfield 30, 3) := dk_180 0 30 (dk_at dksX0_count_6 0 rfl rfl)
theorem dX0_count_194 : decode cX0_count 194 = .ok (.invokevirtual 195, 3) := dk_182 0 195 (dk_at dksX0_count_6 3 rfl rfl)
theorem dX0_count_197 : decode cX0_count 197 = .ok (.ireturn, 1) := dk_172 (dk_at dksX0_count_6 6 rfl rfl)
theorem dX0_count_198 : decode cX0_count 198 = .ok (.aload_n 0, 1) := dk_42 (dk_at dksX0_count_6 7 rfl rfl)
theorem dX0_count_199 : decode cX0_count 199 = .ok (.getfield 19, 3) := dk_180 0 19 (dk_at dksX0_count_6 8 rfl rfl)
theorem dX0_count_202 : decode cX0_count 202 = .ok (.invokeinterface 34 1, 5) := by decide +kernel
theorem dX0_count_207 : decode cX0_count 207 = .ok (.ireturn, 1) := dk_172 (dk_at dksX0_count_6 16 rfl rfl)
theorem dX0_count_208 : decode cX0_count 208 = .ok (.bipush (-2), 2) := dk_16 254 (dk_at dksX0_count_6 17 rfl rfl)
theorem dX0_count_210 : decode cX0_count 210 = .ok (.ireturn, 1) := dk_172 (dk_at dksX0_count_6 19 rfl rfl)
abbrev cX0_all : ByteArray := prog_1_method_36_code
def yX0_all : MethodName := ⟨RX0, "all", "(I)I"⟩
def dkwX0_all_3 : List UInt8 := [167, 0, 8, 25, 4, 180, 0, 239, 96, 61, 167, 255, 189, 28, 172]
abbrev dktX0_all_3 : List UInt8 := dkwX0_all_3 ++ []
def dkwX0_all_2 : List UInt8 := [4, 25, 4, 180, 0, 220, 120, 167, 0, 25, 3, 167, 0, 21, 27, 4, 160, 0, 11, 25, 4, 182, 1, 19]
abbrev dktX0_all_2 : List UInt8 := dkwX0_all_2 ++ dktX0_all_3
def dkwX0_all_1 : List UInt8 := [45, 185, 1, 15, 1, 0, 192, 0, 70, 58, 4, 28, 27, 154, 0, 25, 25, 4, 180, 0, 87, 153, 0, 13]
abbrev dktX0_all_1 : List UInt8 := dkwX0_all_1 ++ dktX0_all_2
def dkwX0_all_0 : List UInt8 := [3, 61, 42, 180, 0, 12, 180, 0, 57, 185, 1, 6, 1, 0, 78, 45, 185, 1, 10, 1, 0, 153, 0, 64]
abbrev dktX0_all_0 : List UInt8 := dkwX0_all_0 ++ dktX0_all_1
theorem dksX0_all_0 : cX0_all.data.toList.drop 0 = dktX0_all_0 := by decide +kernel
theorem dksX0_all_1 : cX0_all.data.toList.drop 24 = dktX0_all_1 := dk_seg dksX0_all_0 24 rfl rfl
theorem dksX0_all_2 : cX0_all.data.toList.drop 48 = dktX0_all_2 := dk_seg dksX0_all_1 24 rfl rfl
theorem dksX0_all_3 : cX0_all.data.toList.drop 72 = dktX0_all_3 := dk_seg dksX0_all_2 24 rfl rfl
theorem dX0_all_0 : decode cX0_all 0 = .ok (.iconst 0, 1) := dk_3 (dk_at dksX0_all_0 0 rfl rfl)
theorem dX0_all_1 : decode cX0_all 1 = .ok (.istore_n 2, 1) := dk_61 (dk_at dksX0_all_0 1 rfl rfl)
theorem dX0_all_2 : decode cX0_all 2 = .ok (.aload_n 0, 1) := dk_42 (dk_at dksX0_all_0 2 rfl rfl)
theorem dX0_all_3 : decode cX0_all 3 = .ok (.getfield 12, 3) := dk_180 0 12 (dk_at dksX0_all_0 3 rfl rfl)
theorem dX0_all_6 : decode cX0_all 6 = .ok (.getfield 57, 3) := dk_180 0 57 (dk_at dksX0_all_0 6 rfl rfl)
theorem dX0_all_9 : decode cX0_all 9 = .ok (.invokeinterface 262 1, 5) := by decide +kernel
theorem dX0_all_14 : decode cX0_all 14 = .ok (.astore_n 3, 1) := dk_78 (dk_at dksX0_all_0 14 rfl rfl)
theorem dX0_all_15 : decode cX0_all 15 = .ok (.aload_n 3, 1) := dk_45 (dk_at dksX0_all_0 15 rfl rfl)
theorem dX0_all_16 : decode cX0_all 16 = .ok (.invokeinterface 266 1, 5) := by decide +kernel
theorem dX0_all_21 : decode cX0_all 21 = .ok (.ifCond .eq 64, 3) := dk_153 0 64 (dk_at dksX0_all_0 21 rfl rfl)
theorem dX0_all_24 : decode cX0_all 24 = .ok (.aload_n 3, 1) := dk_45 (dk_at dksX0_all_1 0 rfl rfl)
theorem dX0_all_25 : decode cX0_all 25 = .ok (.invokeinterface 271 1, 5) := by decide +kernel
theorem dX0_all_30 : decode cX0_all 30 = .ok (.checkcast 70, 3) := dk_192 0 70 (dk_at dksX0_all_1 6 rfl rfl)
theorem dX0_all_33 : decode cX0_all 33 = .ok (.astore 4, 2) := dk_58 4 (dk_at dksX0_all_1 9 rfl rfl)
theorem dX0_all_35 : decode cX0_all 35 = .ok (.iload_n 2, 1) := dk_28 (dk_at dksX0_all_1 11 rfl rfl)
theorem dX0_all_36 : decode cX0_all 36 = .ok (.iload_n 1, 1) := dk_27 (dk_at dksX0_all_1 12 rfl rfl)
theorem dX0_all_37 : decode cX0_all 37 = .ok (.ifCond .ne 25, 3) := dk_154 0 25 (dk_at dksX0_all_1 13 rfl rfl)
theorem dX0_all_40 : decode cX0_all 40 = .ok (.aload 4, 2) := dk_25 4 (dk_at dksX0_all_1 16 rfl rfl)
theorem dX0_all_42 : decode cX0_all 42 = .ok (.getfield 87, 3) := dk_180 0 87 (dk_at dksX0_all_1 18 rfl rfl)
theorem dX0_all_45 : decode cX0_all 45 = .ok (.ifCond .eq 13, 3) := dk_153 0 13 (dk_at dksX0_all_1 21 rfl rfl)
theorem dX0_all_48 : decode cX0_all 48 = .ok (.iconst 1, 1) := dk_4 (dk_at dksX0_all_2 0 rfl rfl)
theorem dX0_all_49 : decode cX0_all 49 = .ok (.aload 4, 2) := dk_25 4 (dk_at dksX0_all_2 1 rfl rfl)
theorem dX0_all_51 : decode cX0_all 51 = .ok (.getfield 220, 3) := dk_180 0 220 (dk_at dksX0_all_2 3 rfl rfl)
theorem dX0_all_54 : decode cX0_all 54 = .ok (.ishl, 1) := dk_120 (dk_at dksX0_all_2 6 rfl rfl)
theorem dX0_all_55 : decode cX0_all 55 = .ok (.goto 25, 3) := dk_167 0 25 (dk_at dksX0_all_2 7 rfl rfl)
theorem dX0_all_58 : decode cX0_all 58 = .ok (.iconst 0, 1) := dk_3 (dk_at dksX0_all_2 10 rfl rfl)
theorem dX0_all_59 : decode cX0_all 59 = .ok (.goto 21, 3) := dk_167 0 21 (dk_at dksX0_all_2 11 rfl rfl)
theorem dX0_all_62 : decode cX0_all 62 = .ok (.iload_n 1, 1) := dk_27 (dk_at dksX0_all_2 14 rfl rfl)
theorem dX0_all_63 : decode cX0_all 63 = .ok (.iconst 1, 1) := dk_4 (dk_at dksX0_all_2 15 rfl rfl)
theorem dX0_all_64 : decode cX0_all 64 = .ok (.if_icmp .ne 11, 3) := dk_160 0 11 (dk_at dksX0_all_2 16 rfl rfl)
theorem dX0_all_67 : decode cX0_all 67 = .ok (.aload 4, 2) := dk_25 4 (dk_at dksX0_all_2 19 rfl rfl)
theorem dX0_all_69 : decode cX0_all 69 = .ok (.invokevirtual 275, 3) := dk_182 1 19 (dk_at dksX0_all_2 21 rfl rfl)
theorem dX0_all_72 : decode cX0_all 72 = .ok (.goto 8, 3) := dk_167 0 8 (dk_at dksX0_all_3 0 rfl rfl)
theorem dX0_all_75 : decode cX0_all 75 = .ok (.aload 4, 2) := dk_25 4 (dk_at dksX0_all_3 3 rfl rfl)
theorem dX0_all_77 : decode cX0_all 77 = .ok (.getfield 239, 3) := dk_180 0 239 (dk_at dksX0_all_3 5 rfl rfl)
theorem dX0_all_80 : decode cX0_all 80 = .ok (.iadd, 1) := dk_96 (dk_at dksX0_all_3 8 rfl rfl)
theorem dX0_all_81 : decode cX0_all 81 = .ok (.istore_n 2, 1) := dk_61 (dk_at dksX0_all_3 9 rfl rfl)
theorem dX0_all_82 : decode cX0_all 82 = .ok (.goto (-67), 3) := dk_167 255 189 (dk_at dksX0_all_3 10 rfl rfl)
theorem dX0_all_85 : decode cX0_all 85 = .ok (.iload_n 2, 1) := dk_28 (dk_at dksX0_all_3 13 rfl rfl)
theorem dX0_all_86 : decode cX0_all 86 = .ok (.ireturn, 1) := dk_172 (dk_at dksX0_all_3 14 rfl rfl)
abbrev cX0_loadsOn : ByteArray := prog_1_method_35_code
def yX0_loadsOn : MethodName := ⟨RX0, "loadsOn", "()I"⟩
def dkwX0_loadsOn_2 : List UInt8 := [167, 0, 4, 3, 128, 60, 132, 2, 1, 167, 255, 205, 27, 172]
abbrev dktX0_loadsOn_2 : List UInt8 := dkwX0_loadsOn_2 ++ []
def dkwX0_loadsOn_1 : List UInt8 := [180, 0, 12, 180, 0, 64, 28, 185, 0, 67, 2, 0, 192, 0, 124, 180, 0, 140, 153, 0, 9, 4, 28, 120]
abbrev dktX0_loadsOn_1 : List UInt8 := dkwX0_loadsOn_1 ++ dktX0_loadsOn_2
def dkwX0_loadsOn_0 : List UInt8 := [3, 60, 3, 61, 28, 42, 180, 0, 12, 180, 0, 64, 185, 0, 34, 1, 0, 162, 0, 41, 27, 42]
abbrev dktX0_loadsOn_0 : List UInt8 := dkwX0_loadsOn_0 ++ dktX0_loadsOn_1
theorem dksX0_loadsOn_0 : cX0_loadsOn.data.toList.drop 0 = dktX0_loadsOn_0 := by decide +kernel
theorem dksX0_loadsOn_1 : cX0_loadsOn.data.toList.drop 22 = dktX0_loadsOn_1 := dk_seg dksX0_loadsOn_0 22 rfl rfl
theorem dksX0_loadsOn_2 : cX0_loadsOn.data.toList.drop 46 = dktX0_loadsOn_2 := dk_seg dksX0_loadsOn_1 24 rfl rfl
theorem dX0_loadsOn_0 : decode cX0_loadsOn 0 = .ok (.iconst 0, 1) := dk_3 (dk_at dksX0_loadsOn_0 0 rfl rfl)
theorem dX0_loadsOn_1 : decode cX0_loadsOn 1 = .ok (.istore_n 1, 1) := dk_60 (dk_at dksX0_loadsOn_0 1 rfl rfl)
theorem dX0_loadsOn_2 : decode cX0_loadsOn 2 = .ok (.iconst 0, 1) := dk_3 (dk_at dksX0_loadsOn_0 2 rfl rfl)
theorem dX0_loadsOn_3 : decode cX0_loadsOn 3 = .ok (.istore_n 2, 1) := dk_61 (dk_at dksX0_loadsOn_0 3 rfl rfl)
theorem dX0_loadsOn_4 : decode cX0_loadsOn 4 = .ok (.iload_n 2, 1) := dk_28 (dk_at dksX0_loadsOn_0 4 rfl rfl)
theorem dX0_loadsOn_5 : decode cX0_loadsOn 5 = .ok (.aload_n 0, 1) := dk_42 (dk_at dksX0_loadsOn_0 5 rfl rfl)
theorem dX0_loadsOn_6 : decode cX0_loadsOn 6 = .ok (.getfield 12, 3) := dk_180 0 12 (dk_at dksX0_loadsOn_0 6 rfl rfl)
theorem dX0_loadsOn_9 : decode cX0_loadsOn 9 = .ok (.getfield 64, 3) := dk_180 0 64 (dk_at dksX0_loadsOn_0 9 rfl rfl)
theorem dX0_loadsOn_12 : decode cX0_loadsOn 12 = .ok (.invokeinterface 34 1, 5) := by decide +kernel
theorem dX0_loadsOn_17 : decode cX0_loadsOn 17 = .ok (.if_icmp .ge 41, 3) := dk_162 0 41 (dk_at dksX0_loadsOn_0 17 rfl rfl)
theorem dX0_loadsOn_20 : decode cX0_loadsOn 20 = .ok (.iload_n 1, 1) := dk_27 (dk_at dksX0_loadsOn_0 20 rfl rfl)
theorem dX0_loadsOn_21 : decode cX0_loadsOn 21 = .ok (.aload_n 0, 1) := dk_42 (dk_at dksX0_loadsOn_0 21 rfl rfl)
theorem dX0_loadsOn_22 : decode cX0_loadsOn 22 = .ok (.getfield 12, 3) := dk_180 0 12 (dk_at dksX0_loadsOn_1 0 rfl rfl)
theorem dX0_loadsOn_25 : decode cX0_loadsOn 25 = .ok (.getfield 64, 3) := dk_180 0 64 (dk_at dksX0_loadsOn_1 3 rfl rfl)
theorem dX0_loadsOn_28 : decode cX0_loadsOn 28 = .ok (.iload_n 2, 1) := dk_28 (dk_at dksX0_loadsOn_1 6 rfl rfl)
theorem dX0_loadsOn_29 : decode cX0_loadsOn 29 = .ok (.invokeinterface 67 2, 5) := by decide +kernel
theorem dX0_loadsOn_34 : decode cX0_loadsOn 34 = .ok (.checkcast 124, 3) := dk_192 0 124 (dk_at dksX0_loadsOn_1 12 rfl rfl)
theorem dX0_loadsOn_37 : decode cX0_loadsOn 37 = .ok (.getfield 140, 3) := dk_180 0 140 (dk_at dksX0_loadsOn_1 15 rfl rfl)
theorem dX0_loadsOn_40 : decode cX0_loadsOn 40 = .ok (.ifCond .eq 9, 3) := dk_153 0 9 (dk_at dksX0_loadsOn_1 18 rfl rfl)
theorem dX0_loadsOn_43 : decode cX0_loadsOn 43 = .ok (.iconst 1, 1) := dk_4 (dk_at dksX0_loadsOn_1 21 rfl rfl)
theorem dX0_loadsOn_44 : decode cX0_loadsOn 44 = .ok (.iload_n 2, 1) := dk_28 (dk_at dksX0_loadsOn_1 22 rfl rfl)
theorem dX0_loadsOn_45 : decode cX0_loadsOn 45 = .ok (.ishl, 1) := dk_120 (dk_at dksX0_loadsOn_1 23 rfl rfl)
theorem dX0_loadsOn_46 : decode cX0_loadsOn 46 = .ok (.goto 4, 3) := dk_167 0 4 (dk_at dksX0_loadsOn_2 0 rfl rfl)
theorem dX0_loadsOn_49 : decode cX0_loadsOn 49 = .ok (.iconst 0, 1) := dk_3 (dk_at dksX0_loadsOn_2 3 rfl rfl)
theorem dX0_loadsOn_50 : decode cX0_loadsOn 50 = .ok (.ior, 1) := dk_128 (dk_at dksX0_loadsOn_2 4 rfl rfl)
theorem dX0_loadsOn_51 : decode cX0_loadsOn 51 = .ok (.istore_n 1, 1) := dk_60 (dk_at dksX0_loadsOn_2 5 rfl rfl)
theorem dX0_loadsOn_52 : decode cX0_loadsOn 52 = .ok (.iinc 2 1, 3) := dk_132 2 1 (dk_at dksX0_loadsOn_2 6 rfl rfl)
theorem dX0_loadsOn_55 : decode cX0_loadsOn 55 = .ok (.goto (-51), 3) := dk_167 255 205 (dk_at dksX0_loadsOn_2 9 rfl rfl)
theorem dX0_loadsOn_58 : decode cX0_loadsOn 58 = .ok (.iload_n 1, 1) := dk_27 (dk_at dksX0_loadsOn_2 12 rfl rfl)
theorem dX0_loadsOn_59 : decode cX0_loadsOn 59 = .ok (.ireturn, 1) := dk_172 (dk_at dksX0_loadsOn_2 13 rfl rfl)
abbrev cX0_bill : ByteArray := prog_1_method_38_code
def yX0_bill : MethodName := ⟨RX0, "bill", "(I)I"⟩
def dkwX0_bill_1 : List UInt8 := [172]
abbrev dktX0_bill_1 : List UInt8 := dkwX0_bill_1 ++ []
def dkwX0_bill_0 : List UInt8 := [42, 27, 182, 0, 79, 153, 0, 18, 42, 180, 0, 12, 42, 27, 182, 0, 83, 182, 1, 33, 167, 0, 4, 2]
abbrev dktX0_bill_0 : List UInt8 := dkwX0_bill_0 ++ dktX0_bill_1
theorem dksX0_bill_0 : cX0_bill.data.toList.drop 0 = dktX0_bill_0 := by decide +kernel
theorem dksX0_bill_1 : cX0_bill.data.toList.drop 24 = dktX0_bill_1 := dk_seg dksX0_bill_0 24 rfl rfl
theorem dX0_bill_0 : decode cX0_bill 0 = .ok (.aload_n 0, 1) := dk_42 (dk_at dksX0_bill_0 0 rfl rfl)
theorem dX0_bill_1 : decode cX0_bill 1 = .ok (.iload_n 1, 1) := dk_27 (dk_at dksX0_bill_0 1 rfl rfl)
theorem dX0_bill_2 : decode cX0_bill 2 = .ok (.invokevirtual 79, 3) := dk_182 0 79 (dk_at dksX0_bill_0 2 rfl rfl)
theorem dX0_bill_5 : decode cX0_bill 5 = .ok (.ifCond .eq 18, 3) := dk_153 0 18 (dk_at dksX0_bill_0 5 rfl rfl)
theorem dX0_bill_8 : decode cX0_bill 8 = .ok (.aload_n 0, 1) := dk_42 (dk_at dksX0_bill_0 8 rfl rfl)
theorem dX0_bill_9 : decode cX0_bill 9 = .ok (.getfield 12, 3) := dk_180 0 12 (dk_at dksX0_bill_0 9 rfl rfl)
theorem dX0_bill_12 : decode cX0_bill 12 = .ok (.aload_n 0, 1) := dk_42 (dk_at dksX0_bill_0 12 rfl rfl)
theorem dX0_bill_13 : decode cX0_bill 13 = .ok (.iload_n 1, 1) := dk_27 (dk_at dksX0_bill_0 13 rfl rfl)
theorem dX0_bill_14 : decode cX0_bill 14 = .ok (.invokevirtual 83, 3) := dk_182 0 83 (dk_at dksX0_bill_0 14 rfl rfl)
theorem dX0_bill_17 : decode cX0_bill 17 = .ok (.invokevirtual 289, 3) := dk_182 1 33 (dk_at dksX0_bill_0 17 rfl rfl)
theorem dX0_bill_20 : decode cX0_bill 20 = .ok (.goto 4, 3) := dk_167 0 4 (dk_at dksX0_bill_0 20 rfl rfl)
theorem dX0_bill_23 : decode cX0_bill 23 = .ok (.iconst (-1), 1) := dk_2 (dk_at dksX0_bill_0 23 rfl rfl)
theorem dX0_bill_24 : decode cX0_bill 24 = .ok (.ireturn, 1) := dk_172 (dk_at dksX0_bill_1 0 rfl rfl)
abbrev cX0_turnsIn : ByteArray := prog_1_method_40_code
def yX0_turnsIn : MethodName := ⟨RX0, "turnsIn", "(I)I"⟩
def dkwX0_turnsIn_0 : List UInt8 := [42, 27, 182, 0, 79, 153, 0, 17, 42, 42, 27, 186, 1, 39, 0, 0, 182, 1, 42, 167, 0, 4, 2, 172]
abbrev dktX0_turnsIn_0 : List UInt8 := dkwX0_turnsIn_0 ++ []
theorem dksX0_turnsIn_0 : cX0_turnsIn.data.toList.drop 0 = dktX0_turnsIn_0 := by decide +kernel
theorem dX0_turnsIn_0 : decode cX0_turnsIn 0 = .ok (.aload_n 0, 1) := dk_42 (dk_at dksX0_turnsIn_0 0 rfl rfl)
theorem dX0_turnsIn_1 : decode cX0_turnsIn 1 = .ok (.iload_n 1, 1) := dk_27 (dk_at dksX0_turnsIn_0 1 rfl rfl)
theorem dX0_turnsIn_2 : decode cX0_turnsIn 2 = .ok (.invokevirtual 79, 3) := dk_182 0 79 (dk_at dksX0_turnsIn_0 2 rfl rfl)
theorem dX0_turnsIn_5 : decode cX0_turnsIn 5 = .ok (.ifCond .eq 17, 3) := dk_153 0 17 (dk_at dksX0_turnsIn_0 5 rfl rfl)
theorem dX0_turnsIn_8 : decode cX0_turnsIn 8 = .ok (.aload_n 0, 1) := dk_42 (dk_at dksX0_turnsIn_0 8 rfl rfl)
theorem dX0_turnsIn_9 : decode cX0_turnsIn 9 = .ok (.aload_n 0, 1) := dk_42 (dk_at dksX0_turnsIn_0 9 rfl rfl)
theorem dX0_turnsIn_10 : decode cX0_turnsIn 10 = .ok (.iload_n 1, 1) := dk_27 (dk_at dksX0_turnsIn_0 10 rfl rfl)
theorem dX0_turnsIn_11 : decode cX0_turnsIn 11 = .ok (.invokedynamic 295, 5) := by decide +kernel
theorem dX0_turnsIn_16 : decode cX0_turnsIn 16 = .ok (.invokevirtual 298, 3) := dk_182 1 42 (dk_at dksX0_turnsIn_0 16 rfl rfl)
theorem dX0_turnsIn_19 : decode cX0_turnsIn 19 = .ok (.goto 4, 3) := dk_167 0 4 (dk_at dksX0_turnsIn_0 19 rfl rfl)
theorem dX0_turnsIn_22 : decode cX0_turnsIn 22 = .ok (.iconst (-1), 1) := dk_2 (dk_at dksX0_turnsIn_0 22 rfl rfl)
theorem dX0_turnsIn_23 : decode cX0_turnsIn 23 = .ok (.ireturn, 1) := dk_172 (dk_at dksX0_turnsIn_0 23 rfl rfl)
abbrev cX0_lambda_turnsIn_0 : ByteArray := prog_1_method_54_code
def yX0_lambda_turnsIn_0 : MethodName := ⟨RX0, "lambda$turnsIn$0", "(I)I"⟩
def dkwX0_lambda_turnsIn_0_0 : List UInt8 := [42, 27, 182, 1, 107, 172]
abbrev dktX0_lambda_turnsIn_0_0 : List UInt8 := dkwX0_lambda_turnsIn_0_0 ++ []
theorem dksX0_lambda_turnsIn_0_0 : cX0_lambda_turnsIn_0.data.toList.drop 0 = dktX0_lambda_turnsIn_0_0 := by decide +kernel
theorem dX0_lambda_turnsIn_0_0 : decode cX0_lambda_turnsIn_0 0 = .ok (.aload_n 0, 1) := dk_42 (dk_at dksX0_lambda_turnsIn_0_0 0 rfl rfl)
theorem dX0_lambda_turnsIn_0_1 : decode cX0_lambda_turnsIn_0 1 = .ok (.iload_n 1, 1) := dk_27 (dk_at dksX0_lambda_turnsIn_0_0 1 rfl rfl)
theorem dX0_lambda_turnsIn_0_2 : decode cX0_lambda_turnsIn_0 2 = .ok (.invokevirtual 363, 3) := dk_182 1 107 (dk_at dksX0_lambda_turnsIn_0_0 2 rfl rfl)
theorem dX0_lambda_turnsIn_0_5 : decode cX0_lambda_turnsIn_0 5 = .ok (.ireturn, 1) := dk_172 (dk_at dksX0_lambda_turnsIn_0_0 5 rfl rfl)
abbrev cX0_untilTurn : ByteArray := prog_1_method_39_code
def yX0_untilTurn : MethodName := ⟨RX0, "untilTurn", "(I)I"⟩
def dkwX0_untilTurn_3 : List UInt8 := [172]
abbrev dktX0_untilTurn_3 : List UInt8 := dkwX0_untilTurn_3 ++ []
def dkwX0_untilTurn_2 : List UInt8 := [132, 3, 1, 167, 255, 225, 42, 27, 182, 0, 83, 182, 1, 19, 28, 160, 0, 8, 16, 250, 167, 0, 4, 29]
abbrev dktX0_untilTurn_2 : List UInt8 := dkwX0_untilTurn_2 ++ dktX0_untilTurn_3
def dkwX0_untilTurn_1 : List UInt8 := [162, 0, 30, 42, 27, 182, 0, 83, 182, 1, 19, 28, 160, 0, 18, 42, 180, 0, 12, 182, 1, 36, 54, 4]
abbrev dktX0_untilTurn_1 : List UInt8 := dkwX0_untilTurn_1 ++ dktX0_untilTurn_2
def dkwX0_untilTurn_0 : List UInt8 := [42, 27, 182, 0, 83, 182, 1, 19, 61, 42, 180, 0, 12, 182, 0, 213, 3, 62, 29, 17, 11, 184]
abbrev dktX0_untilTurn_0 : List UInt8 := dkwX0_untilTurn_0 ++ dktX0_untilTurn_1
theorem dksX0_untilTurn_0 : cX0_untilTurn.data.toList.drop 0 = dktX0_untilTurn_0 := by decide +kernel
theorem dksX0_untilTurn_1 : cX0_untilTurn.data.toList.drop 22 = dktX0_untilTurn_1 := dk_seg dksX0_untilTurn_0 22 rfl rfl
theorem dksX0_untilTurn_2 : cX0_untilTurn.data.toList.drop 46 = dktX0_untilTurn_2 := dk_seg dksX0_untilTurn_1 24 rfl rfl
theorem dksX0_untilTurn_3 : cX0_untilTurn.data.toList.drop 70 = dktX0_untilTurn_3 := dk_seg dksX0_untilTurn_2 24 rfl rfl
theorem dX0_untilTurn_0 : decode cX0_untilTurn 0 = .ok (.aload_n 0, 1) := dk_42 (dk_at dksX0_untilTurn_0 0 rfl rfl)
theorem dX0_untilTurn_1 : decode cX0_untilTurn 1 = .ok (.iload_n 1, 1) := dk_27 (dk_at dksX0_untilTurn_0 1 rfl rfl)
theorem dX0_untilTurn_2 : decode cX0_untilTurn 2 = .ok (.invokevirtual 83, 3) := dk_182 0 83 (dk_at dksX0_untilTurn_0 2 rfl rfl)
theorem dX0_untilTurn_5 : decode cX0_untilTurn 5 = .ok (.invokevirtual 275, 3) := dk_182 1 19 (dk_at dksX0_untilTurn_0 5 rfl rfl)
theorem dX0_untilTurn_8 : decode cX0_untilTurn 8 = .ok (.istore_n 2, 1) := dk_61 (dk_at dksX0_untilTurn_0 8 rfl rfl)
theorem dX0_untilTurn_9 : decode cX0_untilTurn 9 = .ok (.aload_n 0, 1) := dk_42 (dk_at dksX0_untilTurn_0 9 rfl rfl)
theorem dX0_untilTurn_10 : decode cX0_untilTurn 10 = .ok (.getfield 12, 3) := dk_180 0 12 (dk_at dksX0_untilTurn_0 10 rfl rfl)
theorem dX0_untilTurn_13 : decode cX0_untilTurn 13 = .ok (.invokevirtual 213, 3) := dk_182 0 213 (dk_at dksX0_untilTurn_0 13 rfl rfl)
theorem dX0_untilTurn_16 : decode cX0_untilTurn 16 = .ok (.iconst 0, 1) := dk_3 (dk_at dksX0_untilTurn_0 16 rfl rfl)
theorem dX0_untilTurn_17 : decode cX0_untilTurn 17 = .ok (.istore_n 3, 1) := dk_62 (dk_at dksX0_untilTurn_0 17 rfl rfl)
theorem dX0_untilTurn_18 : decode cX0_untilTurn 18 = .ok (.iload_n 3, 1) := dk_29 (dk_at dksX0_untilTurn_0 18 rfl rfl)
theorem dX0_untilTurn_19 : decode cX0_untilTurn 19 = .ok (.sipush 3000, 3) := dk_17 11 184 (dk_at dksX0_untilTurn_0 19 rfl rfl)
theorem dX0_untilTurn_22 : decode cX0_untilTurn 22 = .ok (.if_icmp .ge 30, 3) := dk_162 0 30 (dk_at dksX0_untilTurn_1 0 rfl rfl)
theorem dX0_untilTurn_25 : decode cX0_untilTurn 25 = .ok (.aload_n 0, 1) := dk_42 (dk_at dksX0_untilTurn_1 3 rfl rfl)
theorem dX0_untilTurn_26 : decode cX0_untilTurn 26 = .ok (.iload_n 1, 1) := dk_27 (dk_at dksX0_untilTurn_1 4 rfl rfl)
theorem dX0_untilTurn_27 : decode cX0_untilTurn 27 = .ok (.invokevirtual 83, 3) := dk_182 0 83 (dk_at dksX0_untilTurn_1 5 rfl rfl)
theorem dX0_untilTurn_30 : decode cX0_untilTurn 30 = .ok (.invokevirtual 275, 3) := dk_182 1 19 (dk_at dksX0_untilTurn_1 8 rfl rfl)
theorem dX0_untilTurn_33 : decode cX0_untilTurn 33 = .ok (.iload_n 2, 1) := dk_28 (dk_at dksX0_untilTurn_1 11 rfl rfl)
theorem dX0_untilTurn_34 : decode cX0_untilTurn 34 = .ok (.if_icmp .ne 18, 3) := dk_160 0 18 (dk_at dksX0_untilTurn_1 12 rfl rfl)
theorem dX0_untilTurn_37 : decode cX0_untilTurn 37 = .ok (.aload_n 0, 1) := dk_42 (dk_at dksX0_untilTurn_1 15 rfl rfl)
theorem dX0_untilTurn_38 : decode cX0_untilTurn 38 = .ok (.getfield 12, 3) := dk_180 0 12 (dk_at dksX0_untilTurn_1 16 rfl rfl)
theorem dX0_untilTurn_41 : decode cX0_untilTurn 41 = .ok (.invokevirtual 292, 3) := dk_182 1 36 (dk_at dksX0_untilTurn_1 19 rfl rfl)
theorem dX0_untilTurn_44 : decode cX0_untilTurn 44 = .ok (.istore 4, 2) := dk_54 4 (dk_at dksX0_untilTurn_1 22 rfl rfl)
theorem dX0_untilTurn_46 : decode cX0_untilTurn 46 = .ok (.iinc 3 1, 3) := dk_132 3 1 (dk_at dksX0_untilTurn_2 0 rfl rfl)
theorem dX0_untilTurn_49 : decode cX0_untilTurn 49 = .ok (.goto (-31), 3) := dk_167 255 225 (dk_at dksX0_untilTurn_2 3 rfl rfl)
theorem dX0_untilTurn_52 : decode cX0_untilTurn 52 = .ok (.aload_n 0, 1) := dk_42 (dk_at dksX0_untilTurn_2 6 rfl rfl)
theorem dX0_untilTurn_53 : decode cX0_untilTurn 53 = .ok (.iload_n 1, 1) := dk_27 (dk_at dksX0_untilTurn_2 7 rfl rfl)
theorem dX0_untilTurn_54 : decode cX0_untilTurn 54 = .ok (.invokevirtual 83, 3) := dk_182 0 83 (dk_at dksX0_untilTurn_2 8 rfl rfl)
theorem dX0_untilTurn_57 : decode cX0_untilTurn 57 = .ok (.invokevirtual 275, 3) := dk_182 1 19 (dk_at dksX0_untilTurn_2 11 rfl rfl)
theorem dX0_untilTurn_60 : decode cX0_untilTurn 60 = .ok (.iload_n 2, 1) := dk_28 (dk_at dksX0_untilTurn_2 14 rfl rfl)
theorem dX0_untilTurn_61 : decode cX0_untilTurn 61 = .ok (.if_icmp .ne 8, 3) := dk_160 0 8 (dk_at dksX0_untilTurn_2 15 rfl rfl)
theorem dX0_untilTurn_64 : decode cX0_untilTurn 64 = .ok (.bipush (-6), 2) := dk_16 250 (dk_at dksX0_untilTurn_2 18 rfl rfl)
theorem dX0_untilTurn_66 : decode cX0_untilTurn 66 = .ok (.goto 4, 3) := dk_167 0 4 (dk_at dksX0_untilTurn_2 20 rfl rfl)
theorem dX0_untilTurn_69 : decode cX0_untilTurn 69 = .ok (.iload_n 3, 1) := dk_29 (dk_at dksX0_untilTurn_2 23 rfl rfl)
theorem dX0_untilTurn_70 : decode cX0_untilTurn 70 = .ok (.ireturn, 1) := dk_172 (dk_at dksX0_untilTurn_3 0 rfl rfl)
abbrev cX0_tried : ByteArray := prog_1_method_5_code
def yX0_tried : MethodName := ⟨RX0, "tried", "(LEnergyDiscs$Ask;)I"⟩
def dkwX0_tried_1 : List UInt8 := [181, 0, 12, 29, 172, 58, 4, 42, 44, 181, 0, 12, 25, 4, 191]
abbrev dktX0_tried_1 : List UInt8 := dkwX0_tried_1 ++ []
def dkwX0_tried_0 : List UInt8 := [42, 180, 0, 12, 77, 42, 44, 182, 0, 44, 181, 0, 12, 43, 185, 0, 52, 1, 0, 62, 42, 44]
abbrev dktX0_tried_0 : List UInt8 := dkwX0_tried_0 ++ dktX0_tried_1
theorem dksX0_tried_0 : cX0_tried.data.toList.drop 0 = dktX0_tried_0 := by decide +kernel
theorem dksX0_tried_1 : cX0_tried.data.toList.drop 22 = dktX0_tried_1 := dk_seg dksX0_tried_0 22 rfl rfl
theorem dX0_tried_0 : decode cX0_tried 0 = .ok (.aload_n 0, 1) := dk_42 (dk_at dksX0_tried_0 0 rfl rfl)
theorem dX0_tried_1 : decode cX0_tried 1 = .ok (.getfield 12, 3) := dk_180 0 12 (dk_at dksX0_tried_0 1 rfl rfl)
theorem dX0_tried_4 : decode cX0_tried 4 = .ok (.astore_n 2, 1) := dk_77 (dk_at dksX0_tried_0 4 rfl rfl)
theorem dX0_tried_5 : decode cX0_tried 5 = .ok (.aload_n 0, 1) := dk_42 (dk_at dksX0_tried_0 5 rfl rfl)
theorem dX0_tried_6 : decode cX0_tried 6 = .ok (.aload_n 2, 1) := dk_44 (dk_at dksX0_tried_0 6 rfl rfl)
theorem dX0_tried_7 : decode cX0_tried 7 = .ok (.invokevirtual 44, 3) := dk_182 0 44 (dk_at dksX0_tried_0 7 rfl rfl)
theorem dX0_tried_10 : decode cX0_tried 10 = .ok (.putfield 12, 3) := dk_181 0 12 (dk_at dksX0_tried_0 10 rfl rfl)
theorem dX0_tried_13 : decode cX0_tried 13 = .ok (.aload_n 1, 1) := dk_43 (dk_at dksX0_tried_0 13 rfl rfl)
theorem dX0_tried_14 : decode cX0_tried 14 = .ok (.invokeinterface 52 1, 5) := by decide +kernel
theorem dX0_tried_19 : decode cX0_tried 19 = .ok (.istore_n 3, 1) := dk_62 (dk_at dksX0_tried_0 19 rfl rfl)
theorem dX0_tried_20 : decode cX0_tried 20 = .ok (.aload_n 0, 1) := dk_42 (dk_at dksX0_tried_0 20 rfl rfl)
theorem dX0_tried_21 : decode cX0_tried 21 = .ok (.aload_n 2, 1) := dk_44 (dk_at dksX0_tried_0 21 rfl rfl)
theorem dX0_tried_22 : decode cX0_tried 22 = .ok (.putfield 12, 3) := dk_181 0 12 (dk_at dksX0_tried_1 0 rfl rfl)
theorem dX0_tried_25 : decode cX0_tried 25 = .ok (.iload_n 3, 1) := dk_29 (dk_at dksX0_tried_1 3 rfl rfl)
theorem dX0_tried_26 : decode cX0_tried 26 = .ok (.ireturn, 1) := dk_172 (dk_at dksX0_tried_1 4 rfl rfl)
theorem dX0_tried_27 : decode cX0_tried 27 = .ok (.astore 4, 2) := dk_58 4 (dk_at dksX0_tried_1 5 rfl rfl)
theorem dX0_tried_29 : decode cX0_tried 29 = .ok (.aload_n 0, 1) := dk_42 (dk_at dksX0_tried_1 7 rfl rfl)
theorem dX0_tried_30 : decode cX0_tried 30 = .ok (.aload_n 2, 1) := dk_44 (dk_at dksX0_tried_1 8 rfl rfl)
theorem dX0_tried_31 : decode cX0_tried 31 = .ok (.putfield 12, 3) := dk_181 0 12 (dk_at dksX0_tried_1 9 rfl rfl)
theorem dX0_tried_34 : decode cX0_tried 34 = .ok (.aload 4, 2) := dk_25 4 (dk_at dksX0_tried_1 12 rfl rfl)
theorem dX0_tried_36 : decode cX0_tried 36 = .ok (.athrow, 1) := dk_191 (dk_at dksX0_tried_1 14 rfl rfl)
abbrev cX0_wouldTurn : ByteArray := prog_1_method_42_code
def yX0_wouldTurn : MethodName := ⟨RX0, "wouldTurn", "(III)I"⟩
def dkwX0_wouldTurn_2 : List UInt8 := [186, 1, 46, 0, 0, 182, 1, 42, 167, 0, 5, 16, 254, 172]
abbrev dktX0_wouldTurn_2 : List UInt8 := dkwX0_wouldTurn_2 ++ []
def dkwX0_wouldTurn_1 : List UInt8 := [184, 0, 60, 153, 0, 7, 4, 167, 0, 4, 3, 54, 4, 21, 4, 153, 0, 19, 42, 42, 27, 28, 29]
abbrev dktX0_wouldTurn_1 : List UInt8 := dkwX0_wouldTurn_1 ++ dktX0_wouldTurn_2
def dkwX0_wouldTurn_0 : List UInt8 := [42, 27, 182, 0, 79, 154, 0, 5, 2, 172, 28, 4, 17, 5, 160, 184, 0, 60, 153, 0, 16, 29, 3, 4]
abbrev dktX0_wouldTurn_0 : List UInt8 := dkwX0_wouldTurn_0 ++ dktX0_wouldTurn_1
theorem dksX0_wouldTurn_0 : cX0_wouldTurn.data.toList.drop 0 = dktX0_wouldTurn_0 := by decide +kernel
theorem dksX0_wouldTurn_1 : cX0_wouldTurn.data.toList.drop 24 = dktX0_wouldTurn_1 := dk_seg dksX0_wouldTurn_0 24 rfl rfl
theorem dksX0_wouldTurn_2 : cX0_wouldTurn.data.toList.drop 47 = dktX0_wouldTurn_2 := dk_seg dksX0_wouldTurn_1 23 rfl rfl
theorem dX0_wouldTurn_0 : decode cX0_wouldTurn 0 = .ok (.aload_n 0, 1) := dk_42 (dk_at dksX0_wouldTurn_0 0 rfl rfl)
theorem dX0_wouldTurn_1 : decode cX0_wouldTurn 1 = .ok (.iload_n 1, 1) := dk_27 (dk_at dksX0_wouldTurn_0 1 rfl rfl)
theorem dX0_wouldTurn_2 : decode cX0_wouldTurn 2 = .ok (.invokevirtual 79, 3) := dk_182 0 79 (dk_at dksX0_wouldTurn_0 2 rfl rfl)
theorem dX0_wouldTurn_5 : decode cX0_wouldTurn 5 = .ok (.ifCond .ne 5, 3) := dk_154 0 5 (dk_at dksX0_wouldTurn_0 5 rfl rfl)
theorem dX0_wouldTurn_8 : decode cX0_wouldTurn 8 = .ok (.iconst (-1), 1) := dk_2 (dk_at dksX0_wouldTurn_0 8 rfl rfl)
theorem dX0_wouldTurn_9 : decode cX0_wouldTurn 9 = .ok (.ireturn, 1) := dk_172 (dk_at dksX0_wouldTurn_0 9 rfl rfl)
theorem dX0_wouldTurn_10 : decode cX0_wouldTurn 10 = .ok (.iload_n 2, 1) := dk_28 (dk_at dksX0_wouldTurn_0 10 rfl rfl)
theorem dX0_wouldTurn_11 : decode cX0_wouldTurn 11 = .ok (.iconst 1, 1) := dk_4 (dk_at dksX0_wouldTurn_0 11 rfl rfl)
theorem dX0_wouldTurn_12 : decode cX0_wouldTurn 12 = .ok (.sipush 1440, 3) := dk_17 5 160 (dk_at dksX0_wouldTurn_0 12 rfl rfl)
theorem dX0_wouldTurn_15 : decode cX0_wouldTurn 15 = .ok (.invokestatic 60, 3) := dk_184 0 60 (dk_at dksX0_wouldTurn_0 15 rfl rfl)
theorem dX0_wouldTurn_18 : decode cX0_wouldTurn 18 = .ok (.ifCond .eq 16, 3) := dk_153 0 16 (dk_at dksX0_wouldTurn_0 18 rfl rfl)
theorem dX0_wouldTurn_21 : decode cX0_wouldTurn 21 = .ok (.iload_n 3, 1) := dk_29 (dk_at dksX0_wouldTurn_0 21 rfl rfl)
theorem dX0_wouldTurn_22 : decode cX0_wouldTurn 22 = .ok (.iconst 0, 1) := dk_3 (dk_at dksX0_wouldTurn_0 22 rfl rfl)
theorem dX0_wouldTurn_23 : decode cX0_wouldTurn 23 = .ok (.iconst 1, 1) := dk_4 (dk_at dksX0_wouldTurn_0 23 rfl rfl)
theorem dX0_wouldTurn_24 : decode cX0_wouldTurn 24 = .ok (.invokestatic 60, 3) := dk_184 0 60 (dk_at dksX0_wouldTurn_1 0 rfl rfl)
theorem dX0_wouldTurn_27 : decode cX0_wouldTurn 27 = .ok (.ifCond .eq 7, 3) := dk_153 0 7 (dk_at dksX0_wouldTurn_1 3 rfl rfl)
theorem dX0_wouldTurn_30 : decode cX0_wouldTurn 30 = .ok (.iconst 1, 1) := dk_4 (dk_at dksX0_wouldTurn_1 6 rfl rfl)
theorem dX0_wouldTurn_31 : decode cX0_wouldTurn 31 = .ok (.goto 4, 3) := dk_167 0 4 (dk_at dksX0_wouldTurn_1 7 rfl rfl)
theorem dX0_wouldTurn_34 : decode cX0_wouldTurn 34 = .ok (.iconst 0, 1) := dk_3 (dk_at dksX0_wouldTurn_1 10 rfl rfl)
theorem dX0_wouldTurn_35 : decode cX0_wouldTurn 35 = .ok (.istore 4, 2) := dk_54 4 (dk_at dksX0_wouldTurn_1 11 rfl rfl)
theorem dX0_wouldTurn_37 : decode cX0_wouldTurn 37 = .ok (.iload 4, 2) := dk_21 4 (dk_at dksX0_wouldTurn_1 13 rfl rfl)
theorem dX0_wouldTurn_39 : decode cX0_wouldTurn 39 = .ok (.ifCond .eq 19, 3) := dk_153 0 19 (dk_at dksX0_wouldTurn_1 15 rfl rfl)
theorem dX0_wouldTurn_42 : decode cX0_wouldTurn 42 = .ok (.aload_n 0, 1) := dk_42 (dk_at dksX0_wouldTurn_1 18 rfl rfl)
theorem dX0_wouldTurn_43 : decode cX0_wouldTurn 43 = .ok (.aload_n 0, 1) := dk_42 (dk_at dksX0_wouldTurn_1 19 rfl rfl)
theorem dX0_wouldTurn_44 : decode cX0_wouldTurn 44 = .ok (.iload_n 1, 1) := dk_27 (dk_at dksX0_wouldTurn_1 20 rfl rfl)
theorem dX0_wouldTurn_45 : decode cX0_wouldTurn 45 = .ok (.iload_n 2, 1) := dk_28 (dk_at dksX0_wouldTurn_1 21 rfl rfl)
theorem dX0_wouldTurn_46 : decode cX0_wouldTurn 46 = .ok (.iload_n 3, 1) := dk_29 (dk_at dksX0_wouldTurn_1 22 rfl rfl)
theorem dX0_wouldTurn_47 : decode cX0_wouldTurn 47 = .ok (.invokedynamic 302, 5) := by decide +kernel
theorem dX0_wouldTurn_52 : decode cX0_wouldTurn 52 = .ok (.invokevirtual 298, 3) := dk_182 1 42 (dk_at dksX0_wouldTurn_2 5 rfl rfl)
theorem dX0_wouldTurn_55 : decode cX0_wouldTurn 55 = .ok (.goto 5, 3) := dk_167 0 5 (dk_at dksX0_wouldTurn_2 8 rfl rfl)
theorem dX0_wouldTurn_58 : decode cX0_wouldTurn 58 = .ok (.bipush (-2), 2) := dk_16 254 (dk_at dksX0_wouldTurn_2 11 rfl rfl)
theorem dX0_wouldTurn_60 : decode cX0_wouldTurn 60 = .ok (.ireturn, 1) := dk_172 (dk_at dksX0_wouldTurn_2 13 rfl rfl)
abbrev cX0_lambda_wouldTurn_1 : ByteArray := prog_1_method_53_code
def yX0_lambda_wouldTurn_1 : MethodName := ⟨RX0, "lambda$wouldTurn$1", "(III)I"⟩
def dkwX0_lambda_wouldTurn_1_0 : List UInt8 := [42, 27, 28, 29, 4, 160, 0, 7, 4, 167, 0, 4, 3, 182, 1, 104, 172]
abbrev dktX0_lambda_wouldTurn_1_0 : List UInt8 := dkwX0_lambda_wouldTurn_1_0 ++ []
theorem dksX0_lambda_wouldTurn_1_0 : cX0_lambda_wouldTurn_1.data.toList.drop 0 = dktX0_lambda_wouldTurn_1_0 := by decide +kernel
theorem dX0_lambda_wouldTurn_1_0 : decode cX0_lambda_wouldTurn_1 0 = .ok (.aload_n 0, 1) := dk_42 (dk_at dksX0_lambda_wouldTurn_1_0 0 rfl rfl)
theorem dX0_lambda_wouldTurn_1_1 : decode cX0_lambda_wouldTurn_1 1 = .ok (.iload_n 1, 1) := dk_27 (dk_at dksX0_lambda_wouldTurn_1_0 1 rfl rfl)
theorem dX0_lambda_wouldTurn_1_2 : decode cX0_lambda_wouldTurn_1 2 = .ok (.iload_n 2, 1) := dk_28 (dk_at dksX0_lambda_wouldTurn_1_0 2 rfl rfl)
theorem dX0_lambda_wouldTurn_1_3 : decode cX0_lambda_wouldTurn_1 3 = .ok (.iload_n 3, 1) := dk_29 (dk_at dksX0_lambda_wouldTurn_1_0 3 rfl rfl)
theorem dX0_lambda_wouldTurn_1_4 : decode cX0_lambda_wouldTurn_1 4 = .ok (.iconst 1, 1) := dk_4 (dk_at dksX0_lambda_wouldTurn_1_0 4 rfl rfl)
theorem dX0_lambda_wouldTurn_1_5 : decode cX0_lambda_wouldTurn_1 5 = .ok (.if_icmp .ne 7, 3) := dk_160 0 7 (dk_at dksX0_lambda_wouldTurn_1_0 5 rfl rfl)
theorem dX0_lambda_wouldTurn_1_8 : decode cX0_lambda_wouldTurn_1 8 = .ok (.iconst 1, 1) := dk_4 (dk_at dksX0_lambda_wouldTurn_1_0 8 rfl rfl)
theorem dX0_lambda_wouldTurn_1_9 : decode cX0_lambda_wouldTurn_1 9 = .ok (.goto 4, 3) := dk_167 0 4 (dk_at dksX0_lambda_wouldTurn_1_0 9 rfl rfl)
theorem dX0_lambda_wouldTurn_1_12 : decode cX0_lambda_wouldTurn_1 12 = .ok (.iconst 0, 1) := dk_3 (dk_at dksX0_lambda_wouldTurn_1_0 12 rfl rfl)
theorem dX0_lambda_wouldTurn_1_13 : decode cX0_lambda_wouldTurn_1 13 = .ok (.invokevirtual 360, 3) := dk_182 1 104 (dk_at dksX0_lambda_wouldTurn_1_0 13 rfl rfl)
theorem dX0_lambda_wouldTurn_1_16 : decode cX0_lambda_wouldTurn_1 16 = .ok (.ireturn, 1) := dk_172 (dk_at dksX0_lambda_wouldTurn_1_0 16 rfl rfl)
abbrev cX0_turned : ByteArray := prog_1_method_41_code
def yX0_turned : MethodName := ⟨RX0, "turned", "(IIZ)I"⟩
def dkwX0_turned_2 : List UInt8 := [167, 0, 11, 42, 27, 182, 0, 83, 180, 0, 179, 21, 4, 100, 172]
abbrev dktX0_turned_2 : List UInt8 := dkwX0_turned_2 ++ []
def dkwX0_turned_1 : List UInt8 := [54, 4, 42, 180, 0, 12, 28, 182, 0, 165, 54, 5, 29, 153, 0, 14, 42, 27, 182, 0, 83, 180, 0, 185]
abbrev dktX0_turned_1 : List UInt8 := dkwX0_turned_1 ++ dktX0_turned_2
def dkwX0_turned_0 : List UInt8 := [29, 153, 0, 14, 42, 27, 182, 0, 83, 180, 0, 185, 167, 0, 11, 42, 27, 182, 0, 83, 180, 0, 179]
abbrev dktX0_turned_0 : List UInt8 := dkwX0_turned_0 ++ dktX0_turned_1
theorem dksX0_turned_0 : cX0_turned.data.toList.drop 0 = dktX0_turned_0 := by decide +kernel
theorem dksX0_turned_1 : cX0_turned.data.toList.drop 23 = dktX0_turned_1 := dk_seg dksX0_turned_0 23 rfl rfl
theorem dksX0_turned_2 : cX0_turned.data.toList.drop 47 = dktX0_turned_2 := dk_seg dksX0_turned_1 24 rfl rfl
theorem dX0_turned_0 : decode cX0_turned 0 = .ok (.iload_n 3, 1) := dk_29 (dk_at dksX0_turned_0 0 rfl rfl)
theorem dX0_turned_1 : decode cX0_turned 1 = .ok (.ifCond .eq 14, 3) := dk_153 0 14 (dk_at dksX0_turned_0 1 rfl rfl)
theorem dX0_turned_4 : decode cX0_turned 4 = .ok (.aload_n 0, 1) := dk_42 (dk_at dksX0_turned_0 4 rfl rfl)
theorem dX0_turned_5 : decode cX0_turned 5 = .ok (.iload_n 1, 1) := dk_27 (dk_at dksX0_turned_0 5 rfl rfl)
theorem dX0_turned_6 : decode cX0_turned 6 = .ok (.invokevirtual 83, 3) := dk_182 0 83 (dk_at dksX0_turned_0 6 rfl rfl)
theorem dX0_turned_9 : decode cX0_turned 9 = .ok (.getfield 185, 3) := dk_180 0 185 (dk_at dksX0_turned_0 9 rfl rfl)
theorem dX0_turned_12 : decode cX0_turned 12 = .ok (.goto 11, 3) := dk_167 0 11 (dk_at dksX0_turned_0 12 rfl rfl)
theorem dX0_turned_15 : decode cX0_turned 15 = .ok (.aload_n 0, 1) := dk_42 (dk_at dksX0_turned_0 15 rfl rfl)
theorem dX0_turned_16 : decode cX0_turned 16 = .ok (.iload_n 1, 1) := dk_27 (dk_at dksX0_turned_0 16 rfl rfl)
theorem dX0_turned_17 : decode cX0_turned 17 = .ok (.invokevirtual 83, 3) := dk_182 0 83 (dk_at dksX0_turned_0 17 rfl rfl)
theorem dX0_turned_20 : decode cX0_turned 20 = .ok (.getfield 179, 3) := dk_180 0 179 (dk_at dksX0_turned_0 20 rfl rfl)
theorem dX0_turned_23 : decode cX0_turned 23 = .ok (.istore 4, 2) := dk_54 4 (dk_at dksX0_turned_1 0 rfl rfl)
theorem dX0_turned_25 : decode cX0_turned 25 = .ok (.aload_n 0, 1) := dk_42 (dk_at dksX0_turned_1 2 rfl rfl)
theorem dX0_turned_26 : decode cX0_turned 26 = .ok (.getfield 12, 3) := dk_180 0 12 (dk_at dksX0_turned_1 3 rfl rfl)
theorem dX0_turned_29 : decode cX0_turned 29 = .ok (.iload_n 2, 1) := dk_28 (dk_at dksX0_turned_1 6 rfl rfl)
theorem dX0_turned_30 : decode cX0_turned 30 = .ok (.invokevirtual 165, 3) := dk_182 0 165 (dk_at dksX0_turned_1 7 rfl rfl)
theorem dX0_turned_33 : decode cX0_turned 33 = .ok (.istore 5, 2) := dk_54 5 (dk_at dksX0_turned_1 10 rfl rfl)
theorem dX0_turned_35 : decode cX0_turned 35 = .ok (.iload_n 3, 1) := dk_29 (dk_at dksX0_turned_1 12 rfl rfl)
theorem dX0_turned_36 : decode cX0_turned 36 = .ok (.ifCond .eq 14, 3) := dk_153 0 14 (dk_at dksX0_turned_1 13 rfl rfl)
theorem dX0_turned_39 : decode cX0_turned 39 = .ok (.aload_n 0, 1) := dk_42 (dk_at dksX0_turned_1 16 rfl rfl)
theorem dX0_turned_40 : decode cX0_turned 40 = .ok (.iload_n 1, 1) := dk_27 (dk_at dksX0_turned_1 17 rfl rfl)
theorem dX0_turned_41 : decode cX0_turned 41 = .ok (.invokevirtual 83, 3) := dk_182 0 83 (dk_at dksX0_turned_1 18 rfl rfl)
theorem dX0_turned_44 : decode cX0_turned 44 = .ok (.getfield 185, 3) := dk_180 0 185 (dk_at dksX0_turned_1 21 rfl rfl)
theorem dX0_turned_47 : decode cX0_turned 47 = .ok (.goto 11, 3) := dk_167 0 11 (dk_at dksX0_turned_2 0 rfl rfl)
theorem dX0_turned_50 : decode cX0_turned 50 = .ok (.aload_n 0, 1) := dk_42 (dk_at dksX0_turned_2 3 rfl rfl)
theorem dX0_turned_51 : decode cX0_turned 51 = .ok (.iload_n 1, 1) := dk_27 (dk_at dksX0_turned_2 4 rfl rfl)
theorem dX0_turned_52 : decode cX0_turned 52 = .ok (.invokevirtual 83, 3) := dk_182 0 83 (dk_at dksX0_turned_2 5 rfl rfl)
theorem dX0_turned_55 : decode cX0_turned 55 = .ok (.getfield 179, 3) := dk_180 0 179 (dk_at dksX0_turned_2 8 rfl rfl)
theorem dX0_turned_58 : decode cX0_turned 58 = .ok (.iload 4, 2) := dk_21 4 (dk_at dksX0_turned_2 11 rfl rfl)
theorem dX0_turned_60 : decode cX0_turned 60 = .ok (.isub, 1) := dk_100 (dk_at dksX0_turned_2 13 rfl rfl)
theorem dX0_turned_61 : decode cX0_turned 61 = .ok (.ireturn, 1) := dk_172 (dk_at dksX0_turned_2 14 rfl rfl)
abbrev cX0_worst : ByteArray := prog_1_method_43_code
def yX0_worst : MethodName := ⟨RX0, "worst", "()I"⟩
def dkwX0_worst_0 : List UInt8 := [42, 180, 0, 12, 182, 1, 49, 172]
abbrev dktX0_worst_0 : List UInt8 := dkwX0_worst_0 ++ []
theorem dksX0_worst_0 : cX0_worst.data.toList.drop 0 = dktX0_worst_0 := by decide +kernel
theorem dX0_worst_0 : decode cX0_worst 0 = .ok (.aload_n 0, 1) := dk_42 (dk_at dksX0_worst_0 0 rfl rfl)
theorem dX0_worst_1 : decode cX0_worst 1 = .ok (.getfield 12, 3) := dk_180 0 12 (dk_at dksX0_worst_0 1 rfl rfl)
theorem dX0_worst_4 : decode cX0_worst 4 = .ok (.invokevirtual 305, 3) := dk_182 1 49 (dk_at dksX0_worst_0 4 rfl rfl)
theorem dX0_worst_7 : decode cX0_worst 7 = .ok (.ireturn, 1) := dk_172 (dk_at dksX0_worst_0 7 rfl rfl)
abbrev cX0_lags : ByteArray := prog_1_method_44_code
def yX0_lags : MethodName := ⟨RX0, "lags", "(I)I"⟩
def dkwX0_lags_2 : List UInt8 := [185, 1, 15, 1, 0, 192, 0, 70, 58, 4, 28, 25, 4, 182, 1, 19, 96, 61, 167, 255, 228, 28, 172]
abbrev dktX0_lags_2 : List UInt8 := dkwX0_lags_2 ++ []
def dkwX0_lags_1 : List UInt8 := [27, 182, 0, 83, 180, 1, 53, 185, 1, 6, 1, 0, 78, 45, 185, 1, 10, 1, 0, 153, 0, 25, 45]
abbrev dktX0_lags_1 : List UInt8 := dkwX0_lags_1 ++ dktX0_lags_2
def dkwX0_lags_0 : List UInt8 := [42, 27, 182, 0, 79, 154, 0, 5, 2, 172, 19, 1, 52, 42, 27, 182, 0, 83, 182, 1, 19, 100, 61, 42]
abbrev dktX0_lags_0 : List UInt8 := dkwX0_lags_0 ++ dktX0_lags_1
theorem dksX0_lags_0 : cX0_lags.data.toList.drop 0 = dktX0_lags_0 := by decide +kernel
theorem dksX0_lags_1 : cX0_lags.data.toList.drop 24 = dktX0_lags_1 := dk_seg dksX0_lags_0 24 rfl rfl
theorem dksX0_lags_2 : cX0_lags.data.toList.drop 47 = dktX0_lags_2 := dk_seg dksX0_lags_1 23 rfl rfl
theorem dX0_lags_0 : decode cX0_lags 0 = .ok (.aload_n 0, 1) := dk_42 (dk_at dksX0_lags_0 0 rfl rfl)
theorem dX0_lags_1 : decode cX0_lags 1 = .ok (.iload_n 1, 1) := dk_27 (dk_at dksX0_lags_0 1 rfl rfl)
theorem dX0_lags_2 : decode cX0_lags 2 = .ok (.invokevirtual 79, 3) := dk_182 0 79 (dk_at dksX0_lags_0 2 rfl rfl)
theorem dX0_lags_5 : decode cX0_lags 5 = .ok (.ifCond .ne 5, 3) := dk_154 0 5 (dk_at dksX0_lags_0 5 rfl rfl)
theorem dX0_lags_8 : decode cX0_lags 8 = .ok (.iconst (-1), 1) := dk_2 (dk_at dksX0_lags_0 8 rfl rfl)
theorem dX0_lags_9 : decode cX0_lags 9 = .ok (.ireturn, 1) := dk_172 (dk_at dksX0_lags_0 9 rfl rfl)
theorem dX0_lags_10 : decode cX0_lags 10 = .ok (.ldc_w 308, 3) := dk_19 1 52 (dk_at dksX0_lags_0 10 rfl rfl)
theorem dX0_lags_13 : decode cX0_lags 13 = .ok (.aload_n 0, 1) := dk_42 (dk_at dksX0_lags_0 13 rfl rfl)
theorem dX0_lags_14 : decode cX0_lags 14 = .ok (.iload_n 1, 1) := dk_27 (dk_at dksX0_lags_0 14 rfl rfl)
theorem dX0_lags_15 : decode cX0_lags 15 = .ok (.invokevirtual 83, 3) := dk_182 0 83 (dk_at dksX0_lags_0 15 rfl rfl)
theorem dX0_lags_18 : decode cX0_lags 18 = .ok (.invokevirtual 275, 3) := dk_182 1 19 (dk_at dksX0_lags_0 18 rfl rfl)
theorem dX0_lags_21 : decode cX0_lags 21 = .ok (.isub, 1) := dk_100 (dk_at dksX0_lags_0 21 rfl rfl)
theorem dX0_lags_22 : decode cX0_lags 22 = .ok (.istore_n 2, 1) := dk_61 (dk_at dksX0_lags_0 22 rfl rfl)
theorem dX0_lags_23 : decode cX0_lags 23 = .ok (.aload_n 0, 1) := dk_42 (dk_at dksX0_lags_0 23 rfl rfl)
theorem dX0_lags_24 : decode cX0_lags 24 = .ok (.iload_n 1, 1) := dk_27 (dk_at dksX0_lags_1 0 rfl rfl)
theorem dX0_lags_25 : decode cX0_lags 25 = .ok (.invokevirtual 83, 3) := dk_182 0 83 (dk_at dksX0_lags_1 1 rfl rfl)
theorem dX0_lags_28 : decode cX0_lags 28 = .ok (.getfield 309, 3) := dk_180 1 53 (dk_at dksX0_lags_1 4 rfl rfl)
theorem dX0_lags_31 : decode cX0_lags 31 = .ok (.invokeinterface 262 1, 5) := by decide +kernel
theorem dX0_lags_36 : decode cX0_lags 36 = .ok (.astore_n 3, 1) := dk_78 (dk_at dksX0_lags_1 12 rfl rfl)
theorem dX0_lags_37 : decode cX0_lags 37 = .ok (.aload_n 3, 1) := dk_45 (dk_at dksX0_lags_1 13 rfl rfl)
theorem dX0_lags_38 : decode cX0_lags 38 = .ok (.invokeinterface 266 1, 5) := by decide +kernel
theorem dX0_lags_43 : decode cX0_lags 43 = .ok (.ifCond .eq 25, 3) := dk_153 0 25 (dk_at dksX0_lags_1 19 rfl rfl)
theorem dX0_lags_46 : decode cX0_lags 46 = .ok (.aload_n 3, 1) := dk_45 (dk_at dksX0_lags_1 22 rfl rfl)
theorem dX0_lags_47 : decode cX0_lags 47 = .ok (.invokeinterface 271 1, 5) := by decide +kernel
theorem dX0_lags_52 : decode cX0_lags 52 = .ok (.checkcast 70, 3) := dk_192 0 70 (dk_at dksX0_lags_2 5 rfl rfl)
theorem dX0_lags_55 : decode cX0_lags 55 = .ok (.astore 4, 2) := dk_58 4 (dk_at dksX0_lags_2 8 rfl rfl)
theorem dX0_lags_57 : decode cX0_lags 57 = .ok (.iload_n 2, 1) := dk_28 (dk_at dksX0_lags_2 10 rfl rfl)
theorem dX0_lags_58 : decode cX0_lags 58 = .ok (.aload 4, 2) := dk_25 4 (dk_at dksX0_lags_2 11 rfl rfl)
theorem dX0_lags_60 : decode cX0_lags 60 = .ok (.invokevirtual 275, 3) := dk_182 1 19 (dk_at dksX0_lags_2 13 rfl rfl)
theorem dX0_lags_63 : decode cX0_lags 63 = .ok (.iadd, 1) := dk_96 (dk_at dksX0_lags_2 16 rfl rfl)
theorem dX0_lags_64 : decode cX0_lags 64 = .ok (.istore_n 2, 1) := dk_61 (dk_at dksX0_lags_2 17 rfl rfl)
theorem dX0_lags_65 : decode cX0_lags 65 = .ok (.goto (-28), 3) := dk_167 255 228 (dk_at dksX0_lags_2 18 rfl rfl)
theorem dX0_lags_68 : decode cX0_lags 68 = .ok (.iload_n 2, 1) := dk_28 (dk_at dksX0_lags_2 21 rfl rfl)
theorem dX0_lags_69 : decode cX0_lags 69 = .ok (.ireturn, 1) := dk_172 (dk_at dksX0_lags_2 22 rfl rfl)
abbrev cX0_put : ByteArray := prog_1_method_45_code
def yX0_put : MethodName := ⟨RX0, "put", "(J)I"⟩
def dkwX0_put_5 : List UInt8 := [132, 6, 255, 167, 255, 227, 42, 180, 0, 30, 182, 0, 195, 172]
abbrev dktX0_put_5 : List UInt8 := dkwX0_put_5 ++ []
def dkwX0_put_4 : List UInt8 := [155, 0, 30, 42, 180, 0, 30, 31, 16, 8, 21, 6, 104, 123, 20, 1, 56, 127, 136, 146, 182, 0, 175, 87]
abbrev dktX0_put_4 : List UInt8 := dkwX0_put_4 ++ dktX0_put_5
def dkwX0_put_3 : List UInt8 := [180, 0, 30, 182, 0, 195, 29, 96, 16, 80, 164, 0, 6, 16, 252, 172, 29, 4, 100, 54, 6, 21, 6]
abbrev dktX0_put_3 : List UInt8 := dkwX0_put_3 ++ dktX0_put_4
def dkwX0_put_2 : List UInt8 := [16, 8, 125, 55, 4, 167, 255, 209, 29, 153, 0, 10, 22, 4, 9, 148, 153, 0, 6, 16, 254, 172, 42]
abbrev dktX0_put_2 : List UInt8 := dkwX0_put_2 ++ dktX0_put_3
def dkwX0_put_1 : List UInt8 := [20, 1, 56, 127, 136, 16, 33, 16, 126, 184, 0, 60, 154, 0, 6, 16, 254, 172, 132, 3, 1, 22, 4]
abbrev dktX0_put_1 : List UInt8 := dkwX0_put_1 ++ dktX0_put_2
def dkwX0_put_0 : List UInt8 := [3, 62, 31, 55, 4, 29, 16, 8, 162, 0, 47, 22, 4, 20, 1, 56, 127, 9, 148, 153, 0, 36, 22, 4]
abbrev dktX0_put_0 : List UInt8 := dkwX0_put_0 ++ dktX0_put_1
theorem dksX0_put_0 : cX0_put.data.toList.drop 0 = dktX0_put_0 := by decide +kernel
theorem dksX0_put_1 : cX0_put.data.toList.drop 24 = dktX0_put_1 := dk_seg dksX0_put_0 24 rfl rfl
theorem dksX0_put_2 : cX0_put.data.toList.drop 47 = dktX0_put_2 := dk_seg dksX0_put_1 23 rfl rfl
theorem dksX0_put_3 : cX0_put.data.toList.drop 70 = dktX0_put_3 := dk_seg dksX0_put_2 23 rfl rfl
theorem dksX0_put_4 : cX0_put.data.toList.drop 93 = dktX0_put_4 := dk_seg dksX0_put_3 23 rfl rfl
theorem dksX0_put_5 : cX0_put.data.toList.drop 117 = dktX0_put_5 := dk_seg dksX0_put_4 24 rfl rfl
theorem dX0_put_0 : decode cX0_put 0 = .ok (.iconst 0, 1) := dk_3 (dk_at dksX0_put_0 0 rfl rfl)
theorem dX0_put_1 : decode cX0_put 1 = .ok (.istore_n 3, 1) := dk_62 (dk_at dksX0_put_0 1 rfl rfl)
theorem dX0_put_2 : decode cX0_put 2 = .ok (.lload_n 1, 1) := dk_31 (dk_at dksX0_put_0 2 rfl rfl)
theorem dX0_put_3 : decode cX0_put 3 = .ok (.lstore 4, 2) := dk_55 4 (dk_at dksX0_put_0 3 rfl rfl)
theorem dX0_put_5 : decode cX0_put 5 = .ok (.iload_n 3, 1) := dk_29 (dk_at dksX0_put_0 5 rfl rfl)
theorem dX0_put_6 : decode cX0_put 6 = .ok (.bipush 8, 2) := dk_16 8 (dk_at dksX0_put_0 6 rfl rfl)
theorem dX0_put_8 : decode cX0_put 8 = .ok (.if_icmp .ge 47, 3) := dk_162 0 47 (dk_at dksX0_put_0 8 rfl rfl)
theorem dX0_put_11 : decode cX0_put 11 = .ok (.lload 4, 2) := dk_22 4 (dk_at dksX0_put_0 11 rfl rfl)
theorem dX0_put_13 : decode cX0_put 13 = .ok (.ldc2_w 312, 3) := dk_20 1 56 (dk_at dksX0_put_0 13 rfl rfl)
theorem dX0_put_16 : decode cX0_put 16 = .ok (.land, 1) := dk_127 (dk_at dksX0_put_0 16 rfl rfl)
theorem dX0_put_17 : decode cX0_put 17 = .ok (.lconst 0, 1) := dk_9 (dk_at dksX0_put_0 17 rfl rfl)
theorem dX0_put_18 : decode cX0_put 18 = .ok (.lcmp, 1) := dk_148 (dk_at dksX0_put_0 18 rfl rfl)
theorem dX0_put_19 : decode cX0_put 19 = .ok (.ifCond .eq 36, 3) := dk_153 0 36 (dk_at dksX0_put_0 19 rfl rfl)
theorem dX0_put_22 : decode cX0_put 22 = .ok (.lload 4, 2) := dk_22 4 (dk_at dksX0_put_0 22 rfl rfl)
theorem dX0_put_24 : decode cX0_put 24 = .ok (.ldc2_w 312, 3) := dk_20 1 56 (dk_at dksX0_put_1 0 rfl rfl)
theorem dX0_put_27 : decode cX0_put 27 = .ok (.land, 1) := dk_127 (dk_at dksX0_put_1 3 rfl rfl)
theorem dX0_put_28 : decode cX0_put 28 = .ok (.l2i, 1) := dk_136 (dk_at dksX0_put_1 4 rfl rfl)
theorem dX0_put_29 : decode cX0_put 29 = .ok (.bipush 33, 2) := dk_16 33 (dk_at dksX0_put_1 5 rfl rfl)
theorem dX0_put_31 : decode cX0_put 31 = .ok (.bipush 126, 2) := dk_16 126 (dk_at dksX0_put_1 7 rfl rfl)
theorem dX0_put_33 : decode cX0_put 33 = .ok (.invokestatic 60, 3) := dk_184 0 60 (dk_at dksX0_put_1 9 rfl rfl)
theorem dX0_put_36 : decode cX0_put 36 = .ok (.ifCond .ne 6, 3) := dk_154 0 6 (dk_at dksX0_put_1 12 rfl rfl)
theorem dX0_put_39 : decode cX0_put 39 = .ok (.bipush (-2), 2) := dk_16 254 (dk_at dksX0_put_1 15 rfl rfl)
theorem dX0_put_41 : decode cX0_put 41 = .ok (.ireturn, 1) := dk_172 (dk_at dksX0_put_1 17 rfl rfl)
theorem dX0_put_42 : decode cX0_put 42 = .ok (.iinc 3 1, 3) := dk_132 3 1 (dk_at dksX0_put_1 18 rfl rfl)
theorem dX0_put_45 : decode cX0_put 45 = .ok (.lload 4, 2) := dk_22 4 (dk_at dksX0_put_1 21 rfl rfl)
theorem dX0_put_47 : decode cX0_put 47 = .ok (.bipush 8, 2) := dk_16 8 (dk_at dksX0_put_2 0 rfl rfl)
theorem dX0_put_49 : decode cX0_put 49 = .ok (.lushr, 1) := dk_125 (dk_at dksX0_put_2 2 rfl rfl)
theorem dX0_put_50 : decode cX0_put 50 = .ok (.lstore 4, 2) := dk_55 4 (dk_at dksX0_put_2 3 rfl rfl)
theorem dX0_put_52 : decode cX0_put 52 = .ok (.goto (-47), 3) := dk_167 255 209 (dk_at dksX0_put_2 5 rfl rfl)
theorem dX0_put_55 : decode cX0_put 55 = .ok (.iload_n 3, 1) := dk_29 (dk_at dksX0_put_2 8 rfl rfl)
theorem dX0_put_56 : decode cX0_put 56 = .ok (.ifCond .eq 10, 3) := dk_153 0 10 (dk_at dksX0_put_2 9 rfl rfl)
theorem dX0_put_59 : decode cX0_put 59 = .ok (.lload 4, 2) := dk_22 4 (dk_at dksX0_put_2 12 rfl rfl)
theorem dX0_put_61 : decode cX0_put 61 = .ok (.lconst 0, 1) := dk_9 (dk_at dksX0_put_2 14 rfl rfl)
theorem dX0_put_62 : decode cX0_put 62 = .ok (.lcmp, 1) := dk_148 (dk_at dksX0_put_2 15 rfl rfl)
theorem dX0_put_63 : decode cX0_put 63 = .ok (.ifCond .eq 6, 3) := dk_153 0 6 (dk_at dksX0_put_2 16 rfl rfl)
theorem dX0_put_66 : decode cX0_put 66 = .ok (.bipush (-2), 2) := dk_16 254 (dk_at dksX0_put_2 19 rfl rfl)
theorem dX0_put_68 : decode cX0_put 68 = .ok (.ireturn, 1) := dk_172 (dk_at dksX0_put_2 21 rfl rfl)
theorem dX0_put_69 : decode cX0_put 69 = .ok (.aload_n 0, 1) := dk_42 (dk_at dksX0_put_2 22 rfl rfl)
theorem dX0_put_70 : decode cX0_put 70 = .ok (.getfield 30, 3) := dk_180 0 30 (dk_at dksX0_put_3 0 rfl rfl)
theorem dX0_put_73 : decode cX0_put 73 = .ok (.invokevirtual 195, 3) := dk_182 0 195 (dk_at dksX0_put_3 3 rfl rfl)
theorem dX0_put_76 : decode cX0_put 76 = .ok (.iload_n 3, 1) := dk_29 (dk_at dksX0_put_3 6 rfl rfl)
theorem dX0_put_77 : decode cX0_put 77 = .ok (.iadd, 1) := dk_96 (dk_at dksX0_put_3 7 rfl rfl)
theorem dX0_put_78 : decode cX0_put 78 = .ok (.bipush 80, 2) := dk_16 80 (dk_at dksX0_put_3 8 rfl rfl)
theorem dX0_put_80 : decode cX0_put 80 = .ok (.if_icmp .le 6, 3) := dk_164 0 6 (dk_at dksX0_put_3 10 rfl rfl)
theorem dX0_put_83 : decode cX0_put 83 = .ok (.bipush (-4), 2) := dk_16 252 (dk_at dksX0_put_3 13 rfl rfl)
theorem dX0_put_85 : decode cX0_put 85 = .ok (.ireturn, 1) := dk_172 (dk_at dksX0_put_3 15 rfl rfl)
theorem dX0_put_86 : decode cX0_put 86 = .ok (.iload_n 3, 1) := dk_29 (dk_at dksX0_put_3 16 rfl rfl)
theorem dX0_put_87 : decode cX0_put 87 = .ok (.iconst 1, 1) := dk_4 (dk_at dksX0_put_3 17 rfl rfl)
theorem dX0_put_88 : decode cX0_put 88 = .ok (.isub, 1) := dk_100 (dk_at dksX0_put_3 18 rfl rfl)
theorem dX0_put_89 : decode cX0_put 89 = .ok (.istore 6, 2) := dk_54 6 (dk_at dksX0_put_3 19 rfl rfl)
theorem dX0_put_91 : decode cX0_put 91 = .ok (.iload 6, 2) := dk_21 6 (dk_at dksX0_put_3 21 rfl rfl)
theorem dX0_put_93 : decode cX0_put 93 = .ok (.ifCond .lt 30, 3) := dk_155 0 30 (dk_at dksX0_put_4 0 rfl rfl)
theorem dX0_put_96 : decode cX0_put 96 = .ok (.aload_n 0, 1) := dk_42 (dk_at dksX0_put_4 3 rfl rfl)
theorem dX0_put_97 : decode cX0_put 97 = .ok (.getfield 30, 3) := dk_180 0 30 (dk_at dksX0_put_4 4 rfl rfl)
theorem dX0_put_100 : decode cX0_put 100 = .ok (.lload_n 1, 1) := dk_31 (dk_at dksX0_put_4 7 rfl rfl)
theorem dX0_put_101 : decode cX0_put 101 = .ok (.bipush 8, 2) := dk_16 8 (dk_at dksX0_put_4 8 rfl rfl)
theorem dX0_put_103 : decode cX0_put 103 = .ok (.iload 6, 2) := dk_21 6 (dk_at dksX0_put_4 10 rfl rfl)
theorem dX0_put_105 : decode cX0_put 105 = .ok (.imul, 1) := dk_104 (dk_at dksX0_put_4 12 rfl rfl)
theorem dX0_put_106 : decode cX0_put 106 = .ok (.lshr, 1) := dk_123 (dk_at dksX0_put_4 13 rfl rfl)
theorem dX0_put_107 : decode cX0_put 107 = .ok (.ldc2_w 312, 3) := dk_20 1 56 (dk_at dksX0_put_4 14 rfl rfl)
theorem dX0_put_110 : decode cX0_put 110 = .ok (.land, 1) := dk_127 (dk_at dksX0_put_4 17 rfl rfl)
theorem dX0_put_111 : decode cX0_put 111 = .ok (.l2i, 1) := dk_136 (dk_at dksX0_put_4 18 rfl rfl)
theorem dX0_put_112 : decode cX0_put 112 = .ok (.i2c, 1) := dk_146 (dk_at dksX0_put_4 19 rfl rfl)
theorem dX0_put_113 : decode cX0_put 113 = .ok (.invokevirtual 175, 3) := dk_182 0 175 (dk_at dksX0_put_4 20 rfl rfl)
theorem dX0_put_116 : decode cX0_put 116 = .ok (.pop, 1) := dk_87 (dk_at dksX0_put_4 23 rfl rfl)
theorem dX0_put_117 : decode cX0_put 117 = .ok (.iinc 6 (-1), 3) := dk_132 6 255 (dk_at dksX0_put_5 0 rfl rfl)
theorem dX0_put_120 : decode cX0_put 120 = .ok (.goto (-29), 3) := dk_167 255 227 (dk_at dksX0_put_5 3 rfl rfl)
theorem dX0_put_123 : decode cX0_put 123 = .ok (.aload_n 0, 1) := dk_42 (dk_at dksX0_put_5 6 rfl rfl)
theorem dX0_put_124 : decode cX0_put 124 = .ok (.getfield 30, 3) := dk_180 0 30 (dk_at dksX0_put_5 7 rfl rfl)
theorem dX0_put_127 : decode cX0_put 127 = .ok (.invokevirtual 195, 3) := dk_182 0 195 (dk_at dksX0_put_5 10 rfl rfl)
theorem dX0_put_130 : decode cX0_put 130 = .ok (.ireturn, 1) := dk_172 (dk_at dksX0_put_5 13 rfl rfl)
abbrev cX0_wipe : ByteArray := prog_1_method_46_code
def yX0_wipe : MethodName := ⟨RX0, "wipe", "()I"⟩
def dkwX0_wipe_0 : List UInt8 := [42, 180, 0, 30, 182, 0, 195, 60, 42, 180, 0, 30, 3, 182, 0, 171, 27, 172]
abbrev dktX0_wipe_0 : List UInt8 := dkwX0_wipe_0 ++ []
theorem dksX0_wipe_0 : cX0_wipe.data.toList.drop 0 = dktX0_wipe_0 := by decide +kernel
theorem dX0_wipe_0 : decode cX0_wipe 0 = .ok (.aload_n 0, 1) := dk_42 (dk_at dksX0_wipe_0 0 rfl rfl)
theorem dX0_wipe_1 : decode cX0_wipe 1 = .ok (.getfield 30, 3) := dk_180 0 30 (dk_at dksX0_wipe_0 1 rfl rfl)
theorem dX0_wipe_4 : decode cX0_wipe 4 = .ok (.invokevirtual 195, 3) := dk_182 0 195 (dk_at dksX0_wipe_0 4 rfl rfl)
theorem dX0_wipe_7 : decode cX0_wipe 7 = .ok (.istore_n 1, 1) := dk_60 (dk_at dksX0_wipe_0 7 rfl rfl)
theorem dX0_wipe_8 : decode cX0_wipe 8 = .ok (.aload_n 0, 1) := dk_42 (dk_at dksX0_wipe_0 8 rfl rfl)
theorem dX0_wipe_9 : decode cX0_wipe 9 = .ok (.getfield 30, 3) := dk_180 0 30 (dk_at dksX0_wipe_0 9 rfl rfl)
theorem dX0_wipe_12 : decode cX0_wipe 12 = .ok (.iconst 0, 1) := dk_3 (dk_at dksX0_wipe_0 12 rfl rfl)
theorem dX0_wipe_13 : decode cX0_wipe 13 = .ok (.invokevirtual 171, 3) := dk_182 0 171 (dk_at dksX0_wipe_0 13 rfl rfl)
theorem dX0_wipe_16 : decode cX0_wipe 16 = .ok (.iload_n 1, 1) := dk_27 (dk_at dksX0_wipe_0 16 rfl rfl)
theorem dX0_wipe_17 : decode cX0_wipe 17 = .ok (.ireturn, 1) := dk_172 (dk_at dksX0_wipe_0 17 rfl rfl)
abbrev cX0_fault : ByteArray := prog_1_method_47_code
def yX0_fault : MethodName := ⟨RX0, "fault", "()I"⟩
def dkwX0_fault_1 : List UInt8 := [16, 250, 172]
abbrev dktX0_fault_1 : List UInt8 := dkwX0_fault_1 ++ []
def dkwX0_fault_0 : List UInt8 := [187, 1, 58, 89, 42, 183, 1, 60, 76, 43, 180, 1, 63, 153, 0, 10, 43, 180, 1, 66, 167, 0, 5]
abbrev dktX0_fault_0 : List UInt8 := dkwX0_fault_0 ++ dktX0_fault_1
theorem dksX0_fault_0 : cX0_fault.data.toList.drop 0 = dktX0_fault_0 := by decide +kernel
theorem dksX0_fault_1 : cX0_fault.data.toList.drop 23 = dktX0_fault_1 := dk_seg dksX0_fault_0 23 rfl rfl
theorem dX0_fault_0 : decode cX0_fault 0 = .ok (.new 314, 3) := dk_187 1 58 (dk_at dksX0_fault_0 0 rfl rfl)
theorem dX0_fault_3 : decode cX0_fault 3 = .ok (.dup, 1) := dk_89 (dk_at dksX0_fault_0 3 rfl rfl)
theorem dX0_fault_4 : decode cX0_fault 4 = .ok (.aload_n 0, 1) := dk_42 (dk_at dksX0_fault_0 4 rfl rfl)
theorem dX0_fault_5 : decode cX0_fault 5 = .ok (.invokespecial 316, 3) := dk_183 1 60 (dk_at dksX0_fault_0 5 rfl rfl)
theorem dX0_fault_8 : decode cX0_fault 8 = .ok (.astore_n 1, 1) := dk_76 (dk_at dksX0_fault_0 8 rfl rfl)
theorem dX0_fault_9 : decode cX0_fault 9 = .ok (.aload_n 1, 1) := dk_43 (dk_at dksX0_fault_0 9 rfl rfl)
theorem dX0_fault_10 : decode cX0_fault 10 = .ok (.getfield 319, 3) := dk_180 1 63 (dk_at dksX0_fault_0 10 rfl rfl)
theorem dX0_fault_13 : decode cX0_fault 13 = .ok (.ifCond .eq 10, 3) := dk_153 0 10 (dk_at dksX0_fault_0 13 rfl rfl)
theorem dX0_fault_16 : decode cX0_fault 16 = .ok (.aload_n 1, 1) := dk_43 (dk_at dksX0_fault_0 16 rfl rfl)
theorem dX0_fault_17 : decode cX0_fault 17 = .ok (.getfield 322, 3) := dk_180 1 66 (dk_at dksX0_fault_0 17 rfl rfl)
theorem dX0_fault_20 : decode cX0_fault 20 = .ok (.goto 5, 3) := dk_167 0 5 (dk_at dksX0_fault_0 20 rfl rfl)
theorem dX0_fault_23 : decode cX0_fault 23 = .ok (.bipush (-6), 2) := dk_16 250 (dk_at dksX0_fault_1 0 rfl rfl)
theorem dX0_fault_25 : decode cX0_fault 25 = .ok (.ireturn, 1) := dk_172 (dk_at dksX0_fault_1 2 rfl rfl)
abbrev cX0_carryOut : ByteArray := prog_1_method_49_code
def yX0_carryOut : MethodName := ⟨RX0, "carryOut", "()I"⟩
def dkwX0_carryOut_3 : List UInt8 := [28, 172]
abbrev dktX0_carryOut_3 : List UInt8 := dkwX0_carryOut_3 ++ []
def dkwX0_carryOut_2 : List UInt8 := [180, 1, 97, 28, 185, 0, 67, 2, 0, 192, 1, 70, 182, 1, 100, 155, 0, 9, 132, 2, 1, 167, 255, 220]
abbrev dktX0_carryOut_2 : List UInt8 := dkwX0_carryOut_2 ++ dktX0_carryOut_3
def dkwX0_carryOut_1 : List UInt8 := [180, 0, 30, 3, 182, 0, 171, 3, 61, 28, 43, 180, 1, 97, 185, 0, 34, 1, 0, 162, 0, 29, 42, 43]
abbrev dktX0_carryOut_1 : List UInt8 := dkwX0_carryOut_1 ++ dktX0_carryOut_2
def dkwX0_carryOut_0 : List UInt8 := [187, 1, 58, 89, 42, 183, 1, 60, 76, 43, 180, 1, 63, 153, 0, 6, 16, 253, 172, 42, 182, 0, 72, 42]
abbrev dktX0_carryOut_0 : List UInt8 := dkwX0_carryOut_0 ++ dktX0_carryOut_1
theorem dksX0_carryOut_0 : cX0_carryOut.data.toList.drop 0 = dktX0_carryOut_0 := by decide +kernel
theorem dksX0_carryOut_1 : cX0_carryOut.data.toList.drop 24 = dktX0_carryOut_1 := dk_seg dksX0_carryOut_0 24 rfl rfl
theorem dksX0_carryOut_2 : cX0_carryOut.data.toList.drop 48 = dktX0_carryOut_2 := dk_seg dksX0_carryOut_1 24 rfl rfl
theorem dksX0_carryOut_3 : cX0_carryOut.data.toList.drop 72 = dktX0_carryOut_3 := dk_seg dksX0_carryOut_2 24 rfl rfl
theorem dX0_carryOut_0 : decode cX0_carryOut 0 = .ok (.new 314, 3) := dk_187 1 58 (dk_at dksX0_carryOut_0 0 rfl rfl)
theorem dX0_carryOut_3 : decode cX0_carryOut 3 = .ok (.dup, 1) := dk_89 (dk_at dksX0_carryOut_0 3 rfl rfl)
theorem dX0_carryOut_4 : decode cX0_carryOut 4 = .ok (.aload_n 0, 1) := dk_42 (dk_at dksX0_carryOut_0 4 rfl rfl)
theorem dX0_carryOut_5 : decode cX0_carryOut 5 = .ok (.invokespecial 316, 3) := dk_183 1 60 (dk_at dksX0_carryOut_0 5 rfl rfl)
theorem dX0_carryOut_8 : decode cX0_carryOut 8 = .ok (.astore_n 1, 1) := dk_76 (dk_at dksX0_carryOut_0 8 rfl rfl)
theorem dX0_carryOut_9 : decode cX0_carryOut 9 = .ok (.aload_n 1, 1) := dk_43 (dk_at dksX0_carryOut_0 9 rfl rfl)
theorem dX0_carryOut_10 : decode cX0_carryOut 10 = .ok (.getfield 319, 3) := dk_180 1 63 (dk_at dksX0_carryOut_0 10 rfl rfl)
theorem dX0_carryOut_13 : decode cX0_carryOut 13 = .ok (.ifCond .eq 6, 3) := dk_153 0 6 (dk_at dksX0_carryOut_0 13 rfl rfl)
theorem dX0_carryOut_16 : decode cX0_carryOut 16 = .ok (.bipush (-3), 2) := dk_16 253 (dk_at dksX0_carryOut_0 16 rfl rfl)
theorem dX0_carryOut_18 : decode cX0_carryOut 18 = .ok (.ireturn, 1) := dk_172 (dk_at dksX0_carryOut_0 18 rfl rfl)
theorem dX0_carryOut_19 : decode cX0_carryOut 19 = .ok (.aload_n 0, 1) := dk_42 (dk_at dksX0_carryOut_0 19 rfl rfl)
theorem dX0_carryOut_20 : decode cX0_carryOut 20 = .ok (.invokevirtual 72, 3) := dk_182 0 72 (dk_at dksX0_carryOut_0 20 rfl rfl)
theorem dX0_carryOut_23 : decode cX0_carryOut 23 = .ok (.aload_n 0, 1) := dk_42 (dk_at dksX0_carryOut_0 23 rfl rfl)
theorem dX0_carryOut_24 : decode cX0_carryOut 24 = .ok (.getfield 30, 3) := dk_180 0 30 (dk_at dksX0_carryOut_1 0 rfl rfl)
theorem dX0_carryOut_27 : decode cX0_carryOut 27 = .ok (.iconst 0, 1) := dk_3 (dk_at dksX0_carryOut_1 3 rfl rfl)
theorem dX0_carryOut_28 : decode cX0_carryOut 28 = .ok (.invokevirtual 171, 3) := dk_182 0 171 (dk_at dksX0_carryOut_1 4 rfl rfl)
theorem dX0_carryOut_31 : decode cX0_carryOut 31 = .ok (.iconst 0, 1) := dk_3 (dk_at dksX0_carryOut_1 7 rfl rfl)
theorem dX0_carryOut_32 : decode cX0_carryOut 32 = .ok (.istore_n 2, 1) := dk_61 (dk_at dksX0_carryOut_1 8 rfl rfl)
theorem dX0_carryOut_33 : decode cX0_carryOut 33 = .ok (.iload_n 2, 1) := dk_28 (dk_at dksX0_carryOut_1 9 rfl rfl)
theorem dX0_carryOut_34 : decode cX0_carryOut 34 = .ok (.aload_n 1, 1) := dk_43 (dk_at dksX0_carryOut_1 10 rfl rfl)
theorem dX0_carryOut_35 : decode cX0_carryOut 35 = .ok (.getfield 353, 3) := dk_180 1 97 (dk_at dksX0_carryOut_1 11 rfl rfl)
theorem dX0_carryOut_38 : decode cX0_carryOut 38 = .ok (.invokeinterface 34 1, 5) := by decide +kernel
theorem dX0_carryOut_43 : decode cX0_carryOut 43 = .ok (.if_icmp .ge 29, 3) := dk_162 0 29 (dk_at dksX0_carryOut_1 19 rfl rfl)
theorem dX0_carryOut_46 : decode cX0_carryOut 46 = .ok (.aload_n 0, 1) := dk_42 (dk_at dksX0_carryOut_1 22 rfl rfl)
theorem dX0_carryOut_47 : decode cX0_carryOut 47 = .ok (.aload_n 1, 1) := dk_43 (dk_at dksX0_carryOut_1 23 rfl rfl)
theorem dX0_carryOut_48 : decode cX0_carryOut 48 = .ok (.getfield 353, 3) := dk_180 1 97 (dk_at dksX0_carryOut_2 0 rfl rfl)
theorem dX0_carryOut_51 : decode cX0_carryOut 51 = .ok (.iload_n 2, 1) := dk_28 (dk_at dksX0_carryOut_2 3 rfl rfl)
theorem dX0_carryOut_52 : decode cX0_carryOut 52 = .ok (.invokeinterface 67 2, 5) := by decide +kernel
theorem dX0_carryOut_57 : decode cX0_carryOut 57 = .ok (.checkcast 326, 3) := dk_192 1 70 (dk_at dksX0_carryOut_2 9 rfl rfl)
theorem dX0_carryOut_60 : decode cX0_carryOut 60 = .ok (.invokevirtual 356, 3) := dk_182 1 100 (dk_at dksX0_carryOut_2 12 rfl rfl)
theorem dX0_carryOut_63 : decode cX0_carryOut 63 = .ok (.ifCond .lt 9, 3) := dk_155 0 9 (dk_at dksX0_carryOut_2 15 rfl rfl)
theorem dX0_carryOut_66 : decode cX0_carryOut 66 = .ok (.iinc 2 1, 3) := dk_132 2 1 (dk_at dksX0_carryOut_2 18 rfl rfl)
theorem dX0_carryOut_69 : decode cX0_carryOut 69 = .ok (.goto (-36), 3) := dk_167 255 220 (dk_at dksX0_carryOut_2 21 rfl rfl)
theorem dX0_carryOut_72 : decode cX0_carryOut 72 = .ok (.iload_n 2, 1) := dk_28 (dk_at dksX0_carryOut_3 0 rfl rfl)
theorem dX0_carryOut_73 : decode cX0_carryOut 73 = .ok (.ireturn, 1) := dk_172 (dk_at dksX0_carryOut_3 1 rfl rfl)
abbrev cX0_doIt : ByteArray := prog_1_method_48_code
def yX0_doIt : MethodName := ⟨RX0, "doIt", "(LEnergyDiscs$Order;)I"⟩
def dkwX0_doIt_10 : List UInt8 := [182, 0, 159, 172]
abbrev dktX0_doIt_10 : List UInt8 := dkwX0_doIt_10 ++ []
def dkwX0_doIt_9 : List UInt8 := [182, 0, 168, 167, 0, 24, 42, 43, 180, 1, 91, 3, 182, 0, 152, 167, 0, 12, 42, 43, 180, 1, 91, 3]
abbrev dktX0_doIt_9 : List UInt8 := dkwX0_doIt_9 ++ dktX0_doIt_10
def dkwX0_doIt_8 : List UInt8 := [182, 0, 133, 167, 0, 48, 42, 43, 180, 1, 91, 3, 182, 0, 143, 167, 0, 36, 42, 43, 180, 1, 91, 3]
abbrev dktX0_doIt_8 : List UInt8 := dkwX0_doIt_8 ++ dktX0_doIt_9
def dkwX0_doIt_7 : List UInt8 := [42, 43, 180, 1, 91, 3, 182, 0, 117, 167, 0, 64, 42, 43, 180, 1, 91, 43, 180, 1, 94, 3]
abbrev dktX0_doIt_7 : List UInt8 := dkwX0_doIt_7 ++ dktX0_doIt_8
def dkwX0_doIt_6 : List UInt8 := [170, 0, 0, 0, 0, 0, 99, 0, 0, 0, 0, 0, 0, 0, 4, 0, 0, 0, 35, 0, 0, 0, 47, 0, 0, 0, 63, 0, 0, 0, 75, 0, 0, 0, 87]
abbrev dktX0_doIt_6 : List UInt8 := dkwX0_doIt_6 ++ dktX0_doIt_7
def dkwX0_doIt_5 : List UInt8 := [7, 62, 29]
abbrev dktX0_doIt_5 : List UInt8 := dkwX0_doIt_5 ++ dktX0_doIt_6
def dkwX0_doIt_4 : List UInt8 := [19, 1, 88, 182, 1, 81, 153, 0, 20, 6, 62, 167, 0, 15, 44, 19, 1, 89, 182, 1, 81, 153, 0, 5]
abbrev dktX0_doIt_4 : List UInt8 := dkwX0_doIt_4 ++ dktX0_doIt_5
def dkwX0_doIt_3 : List UInt8 := [153, 0, 50, 4, 62, 167, 0, 45, 44, 19, 1, 86, 182, 1, 81, 153, 0, 35, 5, 62, 167, 0, 30, 44]
abbrev dktX0_doIt_3 : List UInt8 := dkwX0_doIt_3 ++ dktX0_doIt_4
def dkwX0_doIt_2 : List UInt8 := [44, 19, 1, 80, 182, 1, 81, 153, 0, 65, 3, 62, 167, 0, 60, 44, 19, 1, 84, 182, 1, 81]
abbrev dktX0_doIt_2 : List UInt8 := dkwX0_doIt_2 ++ dktX0_doIt_3
def dkwX0_doIt_1 : List UInt8 := [171, 0, 0, 0, 121, 0, 0, 0, 5, 203, 124, 77, 125, 0, 0, 0, 109, 0, 50, 196, 230, 0, 0, 0, 64, 0, 52, 100, 17, 0, 0, 0, 94, 0, 54, 128, 125, 0, 0, 0, 79, 6, 47, 171, 137, 0, 0, 0, 49]
abbrev dktX0_doIt_1 : List UInt8 := dkwX0_doIt_1 ++ dktX0_doIt_2
def dkwX0_doIt_0 : List UInt8 := [43, 180, 1, 69, 77, 2, 62, 44, 182, 1, 75]
abbrev dktX0_doIt_0 : List UInt8 := dkwX0_doIt_0 ++ dktX0_doIt_1
theorem dksX0_doIt_0 : cX0_doIt.data.toList.drop 0 = dktX0_doIt_0 := by decide +kernel
theorem dksX0_doIt_1 : cX0_doIt.data.toList.drop 11 = dktX0_doIt_1 := dk_seg dksX0_doIt_0 11 rfl rfl
theorem dksX0_doIt_2 : cX0_doIt.data.toList.drop 60 = dktX0_doIt_2 := dk_seg dksX0_doIt_1 49 rfl rfl
theorem dksX0_doIt_3 : cX0_doIt.data.toList.drop 82 = dktX0_doIt_3 := dk_seg dksX0_doIt_2 22 rfl rfl
theorem dksX0_doIt_4 : cX0_doIt.data.toList.drop 106 = dktX0_doIt_4 := dk_seg dksX0_doIt_3 24 rfl rfl
theorem dksX0_doIt_5 : cX0_doIt.data.toList.drop 130 = dktX0_doIt_5 := dk_seg dksX0_doIt_4 24 rfl rfl
theorem dksX0_doIt_6 : cX0_doIt.data.toList.drop 133 = dktX0_doIt_6 := dk_seg dksX0_doIt_5 3 rfl rfl
theorem dksX0_doIt_7 : cX0_doIt.data.toList.drop 168 = dktX0_doIt_7 := dk_seg dksX0_doIt_6 35 rfl rfl
theorem dksX0_doIt_8 : cX0_doIt.data.toList.drop 190 = dktX0_doIt_8 := dk_seg dksX0_doIt_7 22 rfl rfl
theorem dksX0_doIt_9 : cX0_doIt.data.toList.drop 214 = dktX0_doIt_9 := dk_seg dksX0_doIt_8 24 rfl rfl
theorem dksX0_doIt_10 : cX0_doIt.data.toList.drop 238 = dktX0_doIt_10 := dk_seg dksX0_doIt_9 24 rfl rfl
theorem dX0_doIt_0 : decode cX0_doIt 0 = .ok (.aload_n 1, 1) := dk_43 (dk_at dksX0_doIt_0 0 rfl rfl)
theorem dX0_doIt_1 : decode cX0_doIt 1 = .ok (.getfield 325, 3) := dk_180 1 69 (dk_at dksX0_doIt_0 1 rfl rfl)
theorem dX0_doIt_4 : decode cX0_doIt 4 = .ok (.astore_n 2, 1) := dk_77 (dk_at dksX0_doIt_0 4 rfl rfl)
theorem dX0_doIt_5 : decode cX0_doIt 5 = .ok (.iconst (-1), 1) := dk_2 (dk_at dksX0_doIt_0 5 rfl rfl)
theorem dX0_doIt_6 : decode cX0_doIt 6 = .ok (.istore_n 3, 1) := dk_62 (dk_at dksX0_doIt_0 6 rfl rfl)
theorem dX0_doIt_7 : decode cX0_doIt 7 = .ok (.aload_n 2, 1) := dk_44 (dk_at dksX0_doIt_0 7 rfl rfl)
theorem dX0_doIt_8 : decode cX0_doIt 8 = .ok (.invokevirtual 331, 3) := dk_182 1 75 (dk_at dksX0_doIt_0 8 rfl rfl)
theorem dX0_doIt_11 : decode cX0_doIt 11 = .ok (.lookupswitch 121 #[(-881046147, 109), (3327206, 64), (3433489, 94), (3571837, 79), (103787401, 49)], 49) := by decide +kernel
theorem dX0_doIt_60 : decode cX0_doIt 60 = .ok (.aload_n 2, 1) := dk_44 (dk_at dksX0_doIt_2 0 rfl rfl)
theorem dX0_doIt_61 : decode cX0_doIt 61 = .ok (.ldc_w 336, 3) := dk_19 1 80 (dk_at dksX0_doIt_2 1 rfl rfl)
theorem dX0_doIt_64 : decode cX0_doIt 64 = .ok (.invokevirtual 337, 3) := dk_182 1 81 (dk_at dksX0_doIt_2 4 rfl rfl)
theorem dX0_doIt_67 : decode cX0_doIt 67 = .ok (.ifCond .eq 65, 3) := dk_153 0 65 (dk_at dksX0_doIt_2 7 rfl rfl)
theorem dX0_doIt_70 : decode cX0_doIt 70 = .ok (.iconst 0, 1) := dk_3 (dk_at dksX0_doIt_2 10 rfl rfl)
theorem dX0_doIt_71 : decode cX0_doIt 71 = .ok (.istore_n 3, 1) := dk_62 (dk_at dksX0_doIt_2 11 rfl rfl)
theorem dX0_doIt_72 : decode cX0_doIt 72 = .ok (.goto 60, 3) := dk_167 0 60 (dk_at dksX0_doIt_2 12 rfl rfl)
theorem dX0_doIt_75 : decode cX0_doIt 75 = .ok (.aload_n 2, 1) := dk_44 (dk_at dksX0_doIt_2 15 rfl rfl)
theorem dX0_doIt_76 : decode cX0_doIt 76 = .ok (.ldc_w 340, 3) := dk_19 1 84 (dk_at dksX0_doIt_2 16 rfl rfl)
theorem dX0_doIt_79 : decode cX0_doIt 79 = .ok (.invokevirtual 337, 3) := dk_182 1 81 (dk_at dksX0_doIt_2 19 rfl rfl)
theorem dX0_doIt_82 : decode cX0_doIt 82 = .ok (.ifCond .eq 50, 3) := dk_153 0 50 (dk_at dksX0_doIt_3 0 rfl rfl)
theorem dX0_doIt_85 : decode cX0_doIt 85 = .ok (.iconst 1, 1) := dk_4 (dk_at dksX0_doIt_3 3 rfl rfl)
theorem dX0_doIt_86 : decode cX0_doIt 86 = .ok (.istore_n 3, 1) := dk_62 (dk_at dksX0_doIt_3 4 rfl rfl)
theorem dX0_doIt_87 : decode cX0_doIt 87 = .ok (.goto 45, 3) := dk_167 0 45 (dk_at dksX0_doIt_3 5 rfl rfl)
theorem dX0_doIt_90 : decode cX0_doIt 90 = .ok (.aload_n 2, 1) := dk_44 (dk_at dksX0_doIt_3 8 rfl rfl)
theorem dX0_doIt_91 : decode cX0_doIt 91 = .ok (.ldc_w 342, 3) := dk_19 1 86 (dk_at dksX0_doIt_3 9 rfl rfl)
theorem dX0_doIt_94 : decode cX0_doIt 94 = .ok (.invokevirtual 337, 3) := dk_182 1 81 (dk_at dksX0_doIt_3 12 rfl rfl)
theorem dX0_doIt_97 : decode cX0_doIt 97 = .ok (.ifCond .eq 35, 3) := dk_153 0 35 (dk_at dksX0_doIt_3 15 rfl rfl)
theorem dX0_doIt_100 : decode cX0_doIt 100 = .ok (.iconst 2, 1) := dk_5 (dk_at dksX0_doIt_3 18 rfl rfl)
theorem dX0_doIt_101 : decode cX0_doIt 101 = .ok (.istore_n 3, 1) := dk_62 (dk_at dksX0_doIt_3 19 rfl rfl)
theorem dX0_doIt_102 : decode cX0_doIt 102 = .ok (.goto 30, 3) := dk_167 0 30 (dk_at dksX0_doIt_3 20 rfl rfl)
theorem dX0_doIt_105 : decode cX0_doIt 105 = .ok (.aload_n 2, 1) := dk_44 (dk_at dksX0_doIt_3 23 rfl rfl)
theorem dX0_doIt_106 : decode cX0_doIt 106 = .ok (.ldc_w 344, 3) := dk_19 1 88 (dk_at dksX0_doIt_4 0 rfl rfl)
theorem dX0_doIt_109 : decode cX0_doIt 109 = .ok (.invokevirtual 337, 3) := dk_182 1 81 (dk_at dksX0_doIt_4 3 rfl rfl)
theorem dX0_doIt_112 : decode cX0_doIt 112 = .ok (.ifCond .eq 20, 3) := dk_153 0 20 (dk_at dksX0_doIt_4 6 rfl rfl)
theorem dX0_doIt_115 : decode cX0_doIt 115 = .ok (.iconst 3, 1) := dk_6 (dk_at dksX0_doIt_4 9 rfl rfl)
theorem dX0_doIt_116 : decode cX0_doIt 116 = .ok (.istore_n 3, 1) := dk_62 (dk_at dksX0_doIt_4 10 rfl rfl)
theorem dX0_doIt_117 : decode cX0_doIt 117 = .ok (.goto 15, 3) := dk_167 0 15 (dk_at dksX0_doIt_4 11 rfl rfl)
theorem dX0_doIt_120 : decode cX0_doIt 120 = .ok (.aload_n 2, 1) := dk_44 (dk_at dksX0_doIt_4 14 rfl rfl)
theorem dX0_doIt_121 : decode cX0_doIt 121 = .ok (.ldc_w 345, 3) := dk_19 1 89 (dk_at dksX0_doIt_4 15 rfl rfl)
theorem dX0_doIt_124 : decode cX0_doIt 124 = .ok (.invokevirtual 337, 3) := dk_182 1 81 (dk_at dksX0_doIt_4 18 rfl rfl)
theorem dX0_doIt_127 : decode cX0_doIt 127 = .ok (.ifCond .eq 5, 3) := dk_153 0 5 (dk_at dksX0_doIt_4 21 rfl rfl)
theorem dX0_doIt_130 : decode cX0_doIt 130 = .ok (.iconst 4, 1) := dk_7 (dk_at dksX0_doIt_5 0 rfl rfl)
theorem dX0_doIt_131 : decode cX0_doIt 131 = .ok (.istore_n 3, 1) := dk_62 (dk_at dksX0_doIt_5 1 rfl rfl)
theorem dX0_doIt_132 : decode cX0_doIt 132 = .ok (.iload_n 3, 1) := dk_29 (dk_at dksX0_doIt_5 2 rfl rfl)
theorem dX0_doIt_133 : decode cX0_doIt 133 = .ok (.tableswitch 99 0 4 #[35, 47, 63, 75, 87], 35) := by decide +kernel
theorem dX0_doIt_168 : decode cX0_doIt 168 = .ok (.aload_n 0, 1) := dk_42 (dk_at dksX0_doIt_7 0 rfl rfl)
theorem dX0_doIt_169 : decode cX0_doIt 169 = .ok (.aload_n 1, 1) := dk_43 (dk_at dksX0_doIt_7 1 rfl rfl)
theorem dX0_doIt_170 : decode cX0_doIt 170 = .ok (.getfield 347, 3) := dk_180 1 91 (dk_at dksX0_doIt_7 2 rfl rfl)
theorem dX0_doIt_173 : decode cX0_doIt 173 = .ok (.iconst 0, 1) := dk_3 (dk_at dksX0_doIt_7 5 rfl rfl)
theorem dX0_doIt_174 : decode cX0_doIt 174 = .ok (.invokevirtual 117, 3) := dk_182 0 117 (dk_at dksX0_doIt_7 6 rfl rfl)
theorem dX0_doIt_177 : decode cX0_doIt 177 = .ok (.goto 64, 3) := dk_167 0 64 (dk_at dksX0_doIt_7 9 rfl rfl)
theorem dX0_doIt_180 : decode cX0_doIt 180 = .ok (.aload_n 0, 1) := dk_42 (dk_at dksX0_doIt_7 12 rfl rfl)
theorem dX0_doIt_181 : decode cX0_doIt 181 = .ok (.aload_n 1, 1) := dk_43 (dk_at dksX0_doIt_7 13 rfl rfl)
theorem dX0_doIt_182 : decode cX0_doIt 182 = .ok (.getfield 347, 3) := dk_180 1 91 (dk_at dksX0_doIt_7 14 rfl rfl)
theorem dX0_doIt_185 : decode cX0_doIt 185 = .ok (.aload_n 1, 1) := dk_43 (dk_at dksX0_doIt_7 17 rfl rfl)
theorem dX0_doIt_186 : decode cX0_doIt 186 = .ok (.getfield 350, 3) := dk_180 1 94 (dk_at dksX0_doIt_7 18 rfl rfl)
theorem dX0_doIt_189 : decode cX0_doIt 189 = .ok (.iconst 0, 1) := dk_3 (dk_at dksX0_doIt_7 21 rfl rfl)
theorem dX0_doIt_190 : decode cX0_doIt 190 = .ok (.invokevirtual 133, 3) := dk_182 0 133 (dk_at dksX0_doIt_8 0 rfl rfl)
theorem dX0_doIt_193 : decode cX0_doIt 193 = .ok (.goto 48, 3) := dk_167 0 48 (dk_at dksX0_doIt_8 3 rfl rfl)
theorem dX0_doIt_196 : decode cX0_doIt 196 = .ok (.aload_n 0, 1) := dk_42 (dk_at dksX0_doIt_8 6 rfl rfl)
theorem dX0_doIt_197 : decode cX0_doIt 197 = .ok (.aload_n 1, 1) := dk_43 (dk_at dksX0_doIt_8 7 rfl rfl)
theorem dX0_doIt_198 : decode cX0_doIt 198 = .ok (.getfield 347, 3) := dk_180 1 91 (dk_at dksX0_doIt_8 8 rfl rfl)
theorem dX0_doIt_201 : decode cX0_doIt 201 = .ok (.iconst 0, 1) := dk_3 (dk_at dksX0_doIt_8 11 rfl rfl)
theorem dX0_doIt_202 : decode cX0_doIt 202 = .ok (.invokevirtual 143, 3) := dk_182 0 143 (dk_at dksX0_doIt_8 12 rfl rfl)
theorem dX0_doIt_205 : decode cX0_doIt 205 = .ok (.goto 36, 3) := dk_167 0 36 (dk_at dksX0_doIt_8 15 rfl rfl)
theorem dX0_doIt_208 : decode cX0_doIt 208 = .ok (.aload_n 0, 1) := dk_42 (dk_at dksX0_doIt_8 18 rfl rfl)
theorem dX0_doIt_209 : decode cX0_doIt 209 = .ok (.aload_n 1, 1) := dk_43 (dk_at dksX0_doIt_8 19 rfl rfl)
theorem dX0_doIt_210 : decode cX0_doIt 210 = .ok (.getfield 347, 3) := dk_180 1 91 (dk_at dksX0_doIt_8 20 rfl rfl)
theorem dX0_doIt_213 : decode cX0_doIt 213 = .ok (.iconst 0, 1) := dk_3 (dk_at dksX0_doIt_8 23 rfl rfl)
theorem dX0_doIt_214 : decode cX0_doIt 214 = .ok (.invokevirtual 168, 3) := dk_182 0 168 (dk_at dksX0_doIt_9 0 rfl rfl)
theorem dX0_doIt_217 : decode cX0_doIt 217 = .ok (.goto 24, 3) := dk_167 0 24 (dk_at dksX0_doIt_9 3 rfl rfl)
theorem dX0_doIt_220 : decode cX0_doIt 220 = .ok (.aload_n 0, 1) := dk_42 (dk_at dksX0_doIt_9 6 rfl rfl)
theorem dX0_doIt_221 : decode cX0_doIt 221 = .ok (.aload_n 1, 1) := dk_43 (dk_at dksX0_doIt_9 7 rfl rfl)
theorem dX0_doIt_222 : decode cX0_doIt 222 = .ok (.getfield 347, 3) := dk_180 1 91 (dk_at dksX0_doIt_9 8 rfl rfl)
theorem dX0_doIt_225 : decode cX0_doIt 225 = .ok (.iconst 0, 1) := dk_3 (dk_at dksX0_doIt_9 11 rfl rfl)
theorem dX0_doIt_226 : decode cX0_doIt 226 = .ok (.invokevirtual 152, 3) := dk_182 0 152 (dk_at dksX0_doIt_9 12 rfl rfl)
theorem dX0_doIt_229 : decode cX0_doIt 229 = .ok (.goto 12, 3) := dk_167 0 12 (dk_at dksX0_doIt_9 15 rfl rfl)
theorem dX0_doIt_232 : decode cX0_doIt 232 = .ok (.aload_n 0, 1) := dk_42 (dk_at dksX0_doIt_9 18 rfl rfl)
theorem dX0_doIt_233 : decode cX0_doIt 233 = .ok (.aload_n 1, 1) := dk_43 (dk_at dksX0_doIt_9 19 rfl rfl)
theorem dX0_doIt_234 : decode cX0_doIt 234 = .ok (.getfield 347, 3) := dk_180 1 91 (dk_at dksX0_doIt_9 20 rfl rfl)
theorem dX0_doIt_237 : decode cX0_doIt 237 = .ok (.iconst 0, 1) := dk_3 (dk_at dksX0_doIt_9 23 rfl rfl)
theorem dX0_doIt_238 : decode cX0_doIt 238 = .ok (.invokevirtual 159, 3) := dk_182 0 159 (dk_at dksX0_doIt_10 0 rfl rfl)
theorem dX0_doIt_241 : decode cX0_doIt 241 = .ok (.ireturn, 1) := dk_172 (dk_at dksX0_doIt_10 3 rfl rfl)
abbrev cX0_undo : ByteArray := prog_1_method_50_code
def yX0_undo : MethodName := ⟨RX0, "undo", "()I"⟩
def dkwX0_undo_2 : List UInt8 := [185, 0, 34, 1, 0, 172]
abbrev dktX0_undo_2 : List UInt8 := dkwX0_undo_2 ++ []
def dkwX0_undo_1 : List UInt8 := [185, 0, 34, 1, 0, 4, 100, 185, 0, 40, 2, 0, 192, 0, 9, 181, 0, 12, 42, 180, 0, 19]
abbrev dktX0_undo_1 : List UInt8 := dkwX0_undo_1 ++ dktX0_undo_2
def dkwX0_undo_0 : List UInt8 := [42, 180, 0, 19, 185, 0, 75, 1, 0, 153, 0, 6, 16, 251, 172, 42, 42, 180, 0, 19, 42, 180, 0, 19]
abbrev dktX0_undo_0 : List UInt8 := dkwX0_undo_0 ++ dktX0_undo_1
theorem dksX0_undo_0 : cX0_undo.data.toList.drop 0 = dktX0_undo_0 := by decide +kernel
theorem dksX0_undo_1 : cX0_undo.data.toList.drop 24 = dktX0_undo_1 := dk_seg dksX0_undo_0 24 rfl rfl
theorem dksX0_undo_2 : cX0_undo.data.toList.drop 46 = dktX0_undo_2 := dk_seg dksX0_undo_1 22 rfl rfl
theorem dX0_undo_0 : decode cX0_undo 0 = .ok (.aload_n 0, 1) := dk_42 (dk_at dksX0_undo_0 0 rfl rfl)
theorem dX0_undo_1 : decode cX0_undo 1 = .ok (.getfield 19, 3) := dk_180 0 19 (dk_at dksX0_undo_0 1 rfl rfl)
theorem dX0_undo_4 : decode cX0_undo 4 = .ok (.invokeinterface 75 1, 5) := by decide +kernel
theorem dX0_undo_9 : decode cX0_undo 9 = .ok (.ifCond .eq 6, 3) := dk_153 0 6 (dk_at dksX0_undo_0 9 rfl rfl)
theorem dX0_undo_12 : decode cX0_undo 12 = .ok (.bipush (-5), 2) := dk_16 251 (dk_at dksX0_undo_0 12 rfl rfl)
theorem dX0_undo_14 : decode cX0_undo 14 = .ok (.ireturn, 1) := dk_172 (dk_at dksX0_undo_0 14 rfl rfl)
theorem dX0_undo_15 : decode cX0_undo 15 = .ok (.aload_n 0, 1) := dk_42 (dk_at dksX0_undo_0 15 rfl rfl)
theorem dX0_undo_16 : decode cX0_undo 16 = .ok (.aload_n 0, 1) := dk_42 (dk_at dksX0_undo_0 16 rfl rfl)
theorem dX0_undo_17 : decode cX0_undo 17 = .ok (.getfield 19, 3) := dk_180 0 19 (dk_at dksX0_undo_0 17 rfl rfl)
theorem dX0_undo_20 : decode cX0_undo 20 = .ok (.aload_n 0, 1) := dk_42 (dk_at dksX0_undo_0 20 rfl rfl)
theorem dX0_undo_21 : decode cX0_undo 21 = .ok (.getfield 19, 3) := dk_180 0 19 (dk_at dksX0_undo_0 21 rfl rfl)
theorem dX0_undo_24 : decode cX0_undo 24 = .ok (.invokeinterface 34 1, 5) := by decide +kernel
theorem dX0_undo_29 : decode cX0_undo 29 = .ok (.iconst 1, 1) := dk_4 (dk_at dksX0_undo_1 5 rfl rfl)
theorem dX0_undo_30 : decode cX0_undo 30 = .ok (.isub, 1) := dk_100 (dk_at dksX0_undo_1 6 rfl rfl)
theorem dX0_undo_31 : decode cX0_undo 31 = .ok (.invokeinterface 40 2, 5) := by decide +kernel
theorem dX0_undo_36 : decode cX0_undo 36 = .ok (.checkcast 9, 3) := dk_192 0 9 (dk_at dksX0_undo_1 12 rfl rfl)
theorem dX0_undo_39 : decode cX0_undo 39 = .ok (.putfield 12, 3) := dk_181 0 12 (dk_at dksX0_undo_1 15 rfl rfl)
theorem dX0_undo_42 : decode cX0_undo 42 = .ok (.aload_n 0, 1) := dk_42 (dk_at dksX0_undo_1 18 rfl rfl)
theorem dX0_undo_43 : decode cX0_undo 43 = .ok (.getfield 19, 3) := dk_180 0 19 (dk_at dksX0_undo_1 19 rfl rfl)
theorem dX0_undo_46 : decode cX0_undo 46 = .ok (.invokeinterface 34 1, 5) := by decide +kernel
theorem dX0_undo_51 : decode cX0_undo 51 = .ok (.ireturn, 1) := dk_172 (dk_at dksX0_undo_2 5 rfl rfl)
abbrev cX0_save : ByteArray := prog_1_method_51_code
def yX0_save : MethodName := ⟨RX0, "save", "(I)I"⟩
def dkwX0_save_1 : List UInt8 := [83, 42, 180, 0, 12, 180, 0, 57, 185, 0, 34, 1, 0, 172]
abbrev dktX0_save_1 : List UInt8 := dkwX0_save_1 ++ []
def dkwX0_save_0 : List UInt8 := [27, 3, 4, 184, 0, 60, 154, 0, 6, 16, 254, 172, 42, 180, 0, 23, 27, 42, 180, 0, 12, 182, 0, 44]
abbrev dktX0_save_0 : List UInt8 := dkwX0_save_0 ++ dktX0_save_1
theorem dksX0_save_0 : cX0_save.data.toList.drop 0 = dktX0_save_0 := by decide +kernel
theorem dksX0_save_1 : cX0_save.data.toList.drop 24 = dktX0_save_1 := dk_seg dksX0_save_0 24 rfl rfl
theorem dX0_save_0 : decode cX0_save 0 = .ok (.iload_n 1, 1) := dk_27 (dk_at dksX0_save_0 0 rfl rfl)
theorem dX0_save_1 : decode cX0_save 1 = .ok (.iconst 0, 1) := dk_3 (dk_at dksX0_save_0 1 rfl rfl)
theorem dX0_save_2 : decode cX0_save 2 = .ok (.iconst 1, 1) := dk_4 (dk_at dksX0_save_0 2 rfl rfl)
theorem dX0_save_3 : decode cX0_save 3 = .ok (.invokestatic 60, 3) := dk_184 0 60 (dk_at dksX0_save_0 3 rfl rfl)
theorem dX0_save_6 : decode cX0_save 6 = .ok (.ifCond .ne 6, 3) := dk_154 0 6 (dk_at dksX0_save_0 6 rfl rfl)
theorem dX0_save_9 : decode cX0_save 9 = .ok (.bipush (-2), 2) := dk_16 254 (dk_at dksX0_save_0 9 rfl rfl)
theorem dX0_save_11 : decode cX0_save 11 = .ok (.ireturn, 1) := dk_172 (dk_at dksX0_save_0 11 rfl rfl)
theorem dX0_save_12 : decode cX0_save 12 = .ok (.aload_n 0, 1) := dk_42 (dk_at dksX0_save_0 12 rfl rfl)
theorem dX0_save_13 : decode cX0_save 13 = .ok (.getfield 23, 3) := dk_180 0 23 (dk_at dksX0_save_0 13 rfl rfl)
theorem dX0_save_16 : decode cX0_save 16 = .ok (.iload_n 1, 1) := dk_27 (dk_at dksX0_save_0 16 rfl rfl)
theorem dX0_save_17 : decode cX0_save 17 = .ok (.aload_n 0, 1) := dk_42 (dk_at dksX0_save_0 17 rfl rfl)
theorem dX0_save_18 : decode cX0_save 18 = .ok (.getfield 12, 3) := dk_180 0 12 (dk_at dksX0_save_0 18 rfl rfl)
theorem dX0_save_21 : decode cX0_save 21 = .ok (.invokevirtual 44, 3) := dk_182 0 44 (dk_at dksX0_save_0 21 rfl rfl)
theorem dX0_save_24 : decode cX0_save 24 = .ok (.aastore, 1) := dk_83 (dk_at dksX0_save_1 0 rfl rfl)
theorem dX0_save_25 : decode cX0_save 25 = .ok (.aload_n 0, 1) := dk_42 (dk_at dksX0_save_1 1 rfl rfl)
theorem dX0_save_26 : decode cX0_save 26 = .ok (.getfield 12, 3) := dk_180 0 12 (dk_at dksX0_save_1 2 rfl rfl)
theorem dX0_save_29 : decode cX0_save 29 = .ok (.getfield 57, 3) := dk_180 0 57 (dk_at dksX0_save_1 5 rfl rfl)
theorem dX0_save_32 : decode cX0_save 32 = .ok (.invokeinterface 34 1, 5) := by decide +kernel
theorem dX0_save_37 : decode cX0_save 37 = .ok (.ireturn, 1) := dk_172 (dk_at dksX0_save_1 13 rfl rfl)
abbrev cX0_restore : ByteArray := prog_1_method_52_code
def yX0_restore : MethodName := ⟨RX0, "restore", "(I)I"⟩
def dkwX0_restore_2 : List UInt8 := [185, 0, 34, 1, 0, 172]
abbrev dktX0_restore_2 : List UInt8 := dkwX0_restore_2 ++ []
def dkwX0_restore_1 : List UInt8 := [42, 182, 0, 72, 42, 42, 180, 0, 23, 27, 50, 182, 0, 44, 181, 0, 12, 42, 180, 0, 12, 180, 0, 57]
abbrev dktX0_restore_1 : List UInt8 := dkwX0_restore_1 ++ dktX0_restore_2
def dkwX0_restore_0 : List UInt8 := [27, 3, 4, 184, 0, 60, 154, 0, 6, 16, 254, 172, 42, 180, 0, 23, 27, 50, 199, 0, 6, 16, 251, 172]
abbrev dktX0_restore_0 : List UInt8 := dkwX0_restore_0 ++ dktX0_restore_1
theorem dksX0_restore_0 : cX0_restore.data.toList.drop 0 = dktX0_restore_0 := by decide +kernel
theorem dksX0_restore_1 : cX0_restore.data.toList.drop 24 = dktX0_restore_1 := dk_seg dksX0_restore_0 24 rfl rfl
theorem dksX0_restore_2 : cX0_restore.data.toList.drop 48 = dktX0_restore_2 := dk_seg dksX0_restore_1 24 rfl rfl
theorem dX0_restore_0 : decode cX0_restore 0 = .ok (.iload_n 1, 1) := dk_27 (dk_at dksX0_restore_0 0 rfl rfl)
theorem dX0_restore_1 : decode cX0_restore 1 = .ok (.iconst 0, 1) := dk_3 (dk_at dksX0_restore_0 1 rfl rfl)
theorem dX0_restore_2 : decode cX0_restore 2 = .ok (.iconst 1, 1) := dk_4 (dk_at dksX0_restore_0 2 rfl rfl)
theorem dX0_restore_3 : decode cX0_restore 3 = .ok (.invokestatic 60, 3) := dk_184 0 60 (dk_at dksX0_restore_0 3 rfl rfl)
theorem dX0_restore_6 : decode cX0_restore 6 = .ok (.ifCond .ne 6, 3) := dk_154 0 6 (dk_at dksX0_restore_0 6 rfl rfl)
theorem dX0_restore_9 : decode cX0_restore 9 = .ok (.bipush (-2), 2) := dk_16 254 (dk_at dksX0_restore_0 9 rfl rfl)
theorem dX0_restore_11 : decode cX0_restore 11 = .ok (.ireturn, 1) := dk_172 (dk_at dksX0_restore_0 11 rfl rfl)
theorem dX0_restore_12 : decode cX0_restore 12 = .ok (.aload_n 0, 1) := dk_42 (dk_at dksX0_restore_0 12 rfl rfl)
theorem dX0_restore_13 : decode cX0_restore 13 = .ok (.getfield 23, 3) := dk_180 0 23 (dk_at dksX0_restore_0 13 rfl rfl)
theorem dX0_restore_16 : decode cX0_restore 16 = .ok (.iload_n 1, 1) := dk_27 (dk_at dksX0_restore_0 16 rfl rfl)
theorem dX0_restore_17 : decode cX0_restore 17 = .ok (.aaload, 1) := dk_50 (dk_at dksX0_restore_0 17 rfl rfl)
theorem dX0_restore_18 : decode cX0_restore 18 = .ok (.ifnonnull 6, 3) := dk_199 0 6 (dk_at dksX0_restore_0 18 rfl rfl)
theorem dX0_restore_21 : decode cX0_restore 21 = .ok (.bipush (-5), 2) := dk_16 251 (dk_at dksX0_restore_0 21 rfl rfl)
theorem dX0_restore_23 : decode cX0_restore 23 = .ok (.ireturn, 1) := dk_172 (dk_at dksX0_restore_0 23 rfl rfl)
theorem dX0_restore_24 : decode cX0_restore 24 = .ok (.aload_n 0, 1) := dk_42 (dk_at dksX0_restore_1 0 rfl rfl)
theorem dX0_restore_25 : decode cX0_restore 25 = .ok (.invokevirtual 72, 3) := dk_182 0 72 (dk_at dksX0_restore_1 1 rfl rfl)
theorem dX0_restore_28 : decode cX0_restore 28 = .ok (.aload_n 0, 1) := dk_42 (dk_at dksX0_restore_1 4 rfl rfl)
theorem dX0_restore_29 : decode cX0_restore 29 = .ok (.aload_n 0, 1) := dk_42 (dk_at dksX0_restore_1 5 rfl rfl)
theorem dX0_restore_30 : decode cX0_restore 30 = .ok (.getfield 23, 3) := dk_180 0 23 (dk_at dksX0_restore_1 6 rfl rfl)
theorem dX0_restore_33 : decode cX0_restore 33 = .ok (.iload_n 1, 1) := dk_27 (dk_at dksX0_restore_1 9 rfl rfl)
theorem dX0_restore_34 : decode cX0_restore 34 = .ok (.aaload, 1) := dk_50 (dk_at dksX0_restore_1 10 rfl rfl)
theorem dX0_restore_35 : decode cX0_restore 35 = .ok (.invokevirtual 44, 3) := dk_182 0 44 (dk_at dksX0_restore_1 11 rfl rfl)
theorem dX0_restore_38 : decode cX0_restore 38 = .ok (.putfield 12, 3) := dk_181 0 12 (dk_at dksX0_restore_1 14 rfl rfl)
theorem dX0_restore_41 : decode cX0_restore 41 = .ok (.aload_n 0, 1) := dk_42 (dk_at dksX0_restore_1 17 rfl rfl)
theorem dX0_restore_42 : decode cX0_restore 42 = .ok (.getfield 12, 3) := dk_180 0 12 (dk_at dksX0_restore_1 18 rfl rfl)
theorem dX0_restore_45 : decode cX0_restore 45 = .ok (.getfield 57, 3) := dk_180 0 57 (dk_at dksX0_restore_1 21 rfl rfl)
theorem dX0_restore_48 : decode cX0_restore 48 = .ok (.invokeinterface 34 1, 5) := by decide +kernel
theorem dX0_restore_53 : decode cX0_restore 53 = .ok (.ireturn, 1) := dk_172 (dk_at dksX0_restore_2 5 rfl rfl)
theorem q73 : (Jvm.Cond.initialized "EnergyDiscs") ∈ lw_all := lw_g (lw_at lw_m1 1 rfl) rfl
theorem q99 : (Jvm.Cond.instantiable "EnergyDiscs" (4 : Nat)) ∈ lw_all := lw_g (lw_at lw_m1 27 rfl) rfl
theorem q101 : (Jvm.Cond.instanceMethod ({ cls := "EnergyDiscs", name := "<init>", desc := "()V" } : Jvm.MethodName)) ∈ lw_all := lw_g (lw_at lw_m1 29 rfl) rfl
theorem q102 : (Jvm.Cond.code ({ cls := "EnergyDiscs", name := "<init>", desc := "()V" } : Jvm.MethodName) prog_1_method_3_code (1 : Nat) (Option.none : Option Jvm.ClassFile.FieldType)) ∈ lw_all := lw_g (lw_at lw_m1 30 rfl) rfl
theorem q103 : (Jvm.Cond.methodLink "EnergyDiscs" (3 : Nat) ({ cls := "java/lang/Object", name := "<init>", desc := "()V" } : Jvm.MethodName)) ∈ lw_all := lw_g (lw_at lw_m1 31 rfl) rfl
theorem q106 : (Jvm.Cond.classLink "EnergyDiscs" (9 : Nat) "EnergyDiscs$House") ∈ lw_all := lw_g (lw_at lw_m1 34 rfl) rfl
theorem q108 : (Jvm.Cond.methodLinkNest "EnergyDiscs" (11 : Nat) ({ cls := "EnergyDiscs$House", name := "<init>", desc := "()V" } : Jvm.MethodName) "EnergyDiscs") ∈ lw_tbl := lw_at lw_m1 36 rfl
theorem q143 : (Jvm.Cond.fieldLinkNest "EnergyDiscs" (107 : Nat) "EnergyDiscs$House" "settings" "[I" "EnergyDiscs") ∈ lw_tbl := lw_at lw_m1 71 rfl
theorem q145 : (Jvm.Cond.fieldLinkNest "EnergyDiscs" (57 : Nat) "EnergyDiscs$House" "meters" "Ljava/util/List;" "EnergyDiscs") ∈ lw_tbl := lw_at lw_m1 73 rfl
theorem q147 : (Jvm.Cond.fieldLinkNest "EnergyDiscs" (64 : Nat) "EnergyDiscs$House" "loads" "Ljava/util/List;" "EnergyDiscs") ∈ lw_tbl := lw_at lw_m1 75 rfl
theorem q149 : (Jvm.Cond.fieldLinkNest "EnergyDiscs" (91 : Nat) "EnergyDiscs$House" "time" "I" "EnergyDiscs") ∈ lw_tbl := lw_at lw_m1 77 rfl
theorem q151 : (Jvm.Cond.fieldLinkNest "EnergyDiscs" (286 : Nat) "EnergyDiscs$House" "seals" "I" "EnergyDiscs") ∈ lw_tbl := lw_at lw_m1 79 rfl
theorem q163 : (Jvm.Cond.classLink "EnergyDiscs" (16 : Nat) "java/util/ArrayList") ∈ lw_all := lw_g (lw_at lw_m1 91 rfl) rfl
theorem q164 : (Jvm.Cond.methodLink "EnergyDiscs" (18 : Nat) ({ cls := "java/util/ArrayList", name := "<init>", desc := "()V" } : Jvm.MethodName)) ∈ lw_all := lw_g (lw_at lw_m1 92 rfl) rfl
theorem q166 : (Jvm.Cond.classLink "EnergyDiscs" (27 : Nat) "java/lang/StringBuilder") ∈ lw_all := lw_g (lw_at lw_m1 94 rfl) rfl
theorem q168 : (Jvm.Cond.methodLink "EnergyDiscs" (29 : Nat) ({ cls := "java/lang/StringBuilder", name := "<init>", desc := "()V" } : Jvm.MethodName)) ∈ lw_all := lw_g (lw_at lw_m1 96 rfl) rfl
theorem q198 : (Jvm.Cond.fieldLink "EnergyDiscs" (12 : Nat) "EnergyDiscs" "now" "LEnergyDiscs$House;") ∈ lw_all := lw_g (lw_at lw_m1 126 rfl) rfl
theorem q199 : (Jvm.Cond.fieldLink "EnergyDiscs" (19 : Nat) "EnergyDiscs" "past" "Ljava/util/List;") ∈ lw_all := lw_g (lw_at lw_m1 127 rfl) rfl
theorem q200 : (Jvm.Cond.fieldLink "EnergyDiscs" (23 : Nat) "EnergyDiscs" "saved" "[LEnergyDiscs$House;") ∈ lw_all := lw_g (lw_at lw_m1 128 rfl) rfl
theorem q202 : (Jvm.Cond.fieldLink "EnergyDiscs" (30 : Nat) "EnergyDiscs" "pad" "Ljava/lang/StringBuilder;") ∈ lw_all := lw_g (lw_at lw_m1 130 rfl) rfl
theorem q203 : (Jvm.Cond.lays "EnergyDiscs" "EnergyDiscs" "now" "LEnergyDiscs$House;") ∈ lw_all := lw_g (lw_at lw_m1 131 rfl) rfl
theorem q204 : (Jvm.Cond.soleField "EnergyDiscs" "now") ∈ lw_all := lw_g (lw_at lw_m1 132 rfl) rfl
theorem q205 : (Jvm.Cond.laysFinal "EnergyDiscs" "EnergyDiscs" "past" "Ljava/util/List;") ∈ lw_all := lw_g (lw_at lw_m1 133 rfl) rfl
theorem q206 : (Jvm.Cond.soleField "EnergyDiscs" "past") ∈ lw_all := lw_g (lw_at lw_m1 134 rfl) rfl
theorem q207 : (Jvm.Cond.laysFinal "EnergyDiscs" "EnergyDiscs" "saved" "[LEnergyDiscs$House;") ∈ lw_all := lw_g (lw_at lw_m1 135 rfl) rfl
theorem q208 : (Jvm.Cond.soleField "EnergyDiscs" "saved") ∈ lw_all := lw_g (lw_at lw_m1 136 rfl) rfl
theorem q209 : (Jvm.Cond.laysFinal "EnergyDiscs" "EnergyDiscs" "pad" "Ljava/lang/StringBuilder;") ∈ lw_all := lw_g (lw_at lw_m1 137 rfl) rfl
theorem q210 : (Jvm.Cond.soleField "EnergyDiscs" "pad") ∈ lw_all := lw_g (lw_at lw_m1 138 rfl) rfl
theorem q211 : (Jvm.Cond.superclass "EnergyDiscs" "java/lang/Object") ∈ lw_all := lw_g (lw_at lw_m1 139 rfl) rfl
theorem q213 : (Jvm.Cond.instanceMethod ({ cls := "EnergyDiscs", name := "set", desc := "(II)I" } : Jvm.MethodName)) ∈ lw_all := lw_g (lw_at lw_m1 141 rfl) rfl
theorem q214 : (Jvm.Cond.selects "EnergyDiscs" ({ cls := "EnergyDiscs", name := "set", desc := "(II)I" } : Jvm.MethodName) ({ cls := "EnergyDiscs", name := "set", desc := "(II)I" } : Jvm.MethodName)) ∈ lw_all := lw_g (lw_at lw_m1 142 rfl) rfl
theorem q215 : (Jvm.Cond.code ({ cls := "EnergyDiscs", name := "set", desc := "(II)I" } : Jvm.MethodName) prog_1_method_14_code (6 : Nat) (Option.some Jvm.ClassFile.FieldType.int)) ∈ lw_all := lw_g (lw_at lw_m1 143 rfl) rfl
theorem q216 : (Jvm.Cond.methodLink "EnergyDiscs" (60 : Nat) ({ cls := "EnergyDiscs", name := "isIn", desc := "(III)Z" } : Jvm.MethodName)) ∈ lw_all := lw_g (lw_at lw_m1 144 rfl) rfl
theorem q217 : (Jvm.Cond.static ({ cls := "EnergyDiscs", name := "isIn", desc := "(III)Z" } : Jvm.MethodName)) ∈ lw_all := lw_g (lw_at lw_m1 145 rfl) rfl
theorem q218 : (Jvm.Cond.code ({ cls := "EnergyDiscs", name := "isIn", desc := "(III)Z" } : Jvm.MethodName) prog_1_method_1_code (3 : Nat) (Option.some Jvm.ClassFile.FieldType.boolean)) ∈ lw_all := lw_g (lw_at lw_m1 146 rfl) rfl
theorem q219 : (Jvm.Cond.fieldLink "EnergyDiscs" (96 : Nat) "EnergyDiscs" "LEAST" "[I") ∈ lw_all := lw_g (lw_at lw_m1 147 rfl) rfl
theorem q220 : (Jvm.Cond.laysStatic "EnergyDiscs" "LEAST" "[I") ∈ lw_tbl := lw_at lw_m1 148 rfl
theorem q221 : (Jvm.Cond.fieldLink "EnergyDiscs" (100 : Nat) "EnergyDiscs" "MOST" "[I") ∈ lw_all := lw_g (lw_at lw_m1 149 rfl) rfl
theorem q222 : (Jvm.Cond.laysStatic "EnergyDiscs" "MOST" "[I") ∈ lw_tbl := lw_at lw_m1 150 rfl
theorem q223 : (Jvm.Cond.methodLink "EnergyDiscs" (103 : Nat) ({ cls := "EnergyDiscs", name := "begun", desc := "(IZ)I" } : Jvm.MethodName)) ∈ lw_all := lw_g (lw_at lw_m1 151 rfl) rfl
theorem q224 : (Jvm.Cond.privateMethod ({ cls := "EnergyDiscs", name := "begun", desc := "(IZ)I" } : Jvm.MethodName)) ∈ lw_tbl := lw_at lw_m1 152 rfl
theorem q225 : (Jvm.Cond.instanceMethod ({ cls := "EnergyDiscs", name := "begun", desc := "(IZ)I" } : Jvm.MethodName)) ∈ lw_all := lw_g (lw_at lw_m1 153 rfl) rfl
theorem q226 : (Jvm.Cond.code ({ cls := "EnergyDiscs", name := "begun", desc := "(IZ)I" } : Jvm.MethodName) prog_1_method_9_code (3 : Nat) (Option.some Jvm.ClassFile.FieldType.int)) ∈ lw_all := lw_g (lw_at lw_m1 154 rfl) rfl
theorem q227 : (Jvm.Cond.methodLink "EnergyDiscs" (72 : Nat) ({ cls := "EnergyDiscs", name := "record", desc := "()V" } : Jvm.MethodName)) ∈ lw_all := lw_g (lw_at lw_m1 155 rfl) rfl
theorem q228 : (Jvm.Cond.privateMethod ({ cls := "EnergyDiscs", name := "record", desc := "()V" } : Jvm.MethodName)) ∈ lw_tbl := lw_at lw_m1 156 rfl
theorem q229 : (Jvm.Cond.instanceMethod ({ cls := "EnergyDiscs", name := "record", desc := "()V" } : Jvm.MethodName)) ∈ lw_all := lw_g (lw_at lw_m1 157 rfl) rfl
theorem q230 : (Jvm.Cond.code ({ cls := "EnergyDiscs", name := "record", desc := "()V" } : Jvm.MethodName) prog_1_method_4_code (1 : Nat) (Option.none : Option Jvm.ClassFile.FieldType)) ∈ lw_all := lw_g (lw_at lw_m1 158 rfl) rfl
theorem q231 : (Jvm.Cond.interfaceEntry "EnergyDiscs" (34 : Nat)) ∈ lw_tbl := lw_at lw_m1 159 rfl
theorem q232 : (Jvm.Cond.methodLink "EnergyDiscs" (34 : Nat) ({ cls := "java/util/List", name := "size", desc := "()I" } : Jvm.MethodName)) ∈ lw_all := lw_g (lw_at lw_m1 160 rfl) rfl
theorem q241 : (Jvm.Cond.interfaceEntry "EnergyDiscs" (40 : Nat)) ∈ lw_tbl := lw_at lw_m1 169 rfl
theorem q242 : (Jvm.Cond.methodLink "EnergyDiscs" (40 : Nat) ({ cls := "java/util/List", name := "remove", desc := "(I)Ljava/lang/Object;" } : Jvm.MethodName)) ∈ lw_all := lw_g (lw_at lw_m1 170 rfl) rfl
theorem q263 : (Jvm.Cond.methodLink "EnergyDiscs" (44 : Nat) ({ cls := "EnergyDiscs$House", name := "copy", desc := "()LEnergyDiscs$House;" } : Jvm.MethodName)) ∈ lw_all := lw_g (lw_at lw_m1 191 rfl) rfl
theorem q385 : (Jvm.Cond.selects "EnergyDiscs" ({ cls := "java/lang/Object", name := "getClass", desc := "()Ljava/lang/Class;" } : Jvm.MethodName) ({ cls := "java/lang/Object", name := "getClass", desc := "()Ljava/lang/Class;" } : Jvm.MethodName)) ∈ lw_all := lw_g (lw_at lw_m2 73 rfl) rfl
theorem q411 : (Jvm.Cond.fieldLinkNest "EnergyDiscs" (220 : Nat) "EnergyDiscs$Meter" "number" "I" "EnergyDiscs") ∈ lw_tbl := lw_at lw_m2 99 rfl
theorem q414 : (Jvm.Cond.fieldLinkNest "EnergyDiscs" (216 : Nat) "EnergyDiscs$Meter" "through" "LEnergyDiscs$Meter;" "EnergyDiscs") ∈ lw_tbl := lw_at lw_m2 102 rfl
theorem q416 : (Jvm.Cond.fieldLinkNest "EnergyDiscs" (309 : Nat) "EnergyDiscs$Meter" "feeds" "Ljava/util/List;" "EnergyDiscs") ∈ lw_tbl := lw_at lw_m2 104 rfl
theorem q420 : (Jvm.Cond.fieldLinkNest "EnergyDiscs" (223 : Nat) "EnergyDiscs$Meter" "power" "I" "EnergyDiscs") ∈ lw_tbl := lw_at lw_m2 108 rfl
theorem q422 : (Jvm.Cond.fieldLinkNest "EnergyDiscs" (226 : Nat) "EnergyDiscs$Meter" "place" "I" "EnergyDiscs") ∈ lw_tbl := lw_at lw_m2 110 rfl
theorem q425 : (Jvm.Cond.fieldLinkNest "EnergyDiscs" (202 : Nat) "EnergyDiscs$Meter" "speed" "I" "EnergyDiscs") ∈ lw_tbl := lw_at lw_m2 113 rfl
theorem q428 : (Jvm.Cond.fieldLinkNest "EnergyDiscs" (205 : Nat) "EnergyDiscs$Meter" "age" "I" "EnergyDiscs") ∈ lw_tbl := lw_at lw_m2 116 rfl
theorem q431 : (Jvm.Cond.fieldLinkNest "EnergyDiscs" (179 : Nat) "EnergyDiscs$Meter" "day" "I" "EnergyDiscs") ∈ lw_tbl := lw_at lw_m2 119 rfl
theorem q434 : (Jvm.Cond.fieldLinkNest "EnergyDiscs" (185 : Nat) "EnergyDiscs$Meter" "night" "I" "EnergyDiscs") ∈ lw_tbl := lw_at lw_m2 122 rfl
theorem q441 : (Jvm.Cond.fieldLinkNest "EnergyDiscs" (239 : Nat) "EnergyDiscs$Meter" "billed" "I" "EnergyDiscs") ∈ lw_tbl := lw_at lw_m2 129 rfl
theorem q444 : (Jvm.Cond.fieldLinkNest "EnergyDiscs" (245 : Nat) "EnergyDiscs$Meter" "visits" "I" "EnergyDiscs") ∈ lw_tbl := lw_at lw_m2 132 rfl
theorem q447 : (Jvm.Cond.fieldLinkNest "EnergyDiscs" (149 : Nat) "EnergyDiscs$Meter" "seal" "I" "EnergyDiscs") ∈ lw_tbl := lw_at lw_m2 135 rfl
theorem q450 : (Jvm.Cond.fieldLinkNest "EnergyDiscs" (87 : Nat) "EnergyDiscs$Meter" "broken" "Z" "EnergyDiscs") ∈ lw_tbl := lw_at lw_m2 138 rfl
theorem q452 : (Jvm.Cond.fieldLinkNest "EnergyDiscs" (233 : Nat) "EnergyDiscs$Meter" "flowed" "J" "EnergyDiscs") ∈ lw_tbl := lw_at lw_m2 140 rfl
theorem q507 : (Jvm.Cond.fieldLinkNest "EnergyDiscs" (250 : Nat) "EnergyDiscs$Load" "power" "I" "EnergyDiscs") ∈ lw_tbl := lw_at lw_m2 195 rfl
theorem q510 : (Jvm.Cond.fieldLinkNest "EnergyDiscs" (247 : Nat) "EnergyDiscs$Load" "meter" "I" "EnergyDiscs") ∈ lw_tbl := lw_at lw_m2 198 rfl
theorem q513 : (Jvm.Cond.fieldLinkNest "EnergyDiscs" (140 : Nat) "EnergyDiscs$Load" "on" "Z" "EnergyDiscs") ∈ lw_tbl := lw_at lw_m2 201 rfl
theorem q525 : (Jvm.Cond.interfaceEntry "EnergyDiscs" (48 : Nat)) ∈ lw_tbl := lw_at lw_m2 213 rfl
theorem q526 : (Jvm.Cond.methodLink "EnergyDiscs" (48 : Nat) ({ cls := "java/util/List", name := "add", desc := "(Ljava/lang/Object;)Z" } : Jvm.MethodName)) ∈ lw_all := lw_g (lw_at lw_m2 214 rfl) rfl
theorem q528 : (Jvm.Cond.instanceMethod ({ cls := "EnergyDiscs", name := "meter", desc := "(I)I" } : Jvm.MethodName)) ∈ lw_all := lw_g (lw_at lw_m2 216 rfl) rfl
theorem q529 : (Jvm.Cond.selects "EnergyDiscs" ({ cls := "EnergyDiscs", name := "meter", desc := "(I)I" } : Jvm.MethodName) ({ cls := "EnergyDiscs", name := "meter", desc := "(I)I" } : Jvm.MethodName)) ∈ lw_all := lw_g (lw_at lw_m2 217 rfl) rfl
theorem q530 : (Jvm.Cond.code ({ cls := "EnergyDiscs", name := "meter", desc := "(I)I" } : Jvm.MethodName) prog_1_method_16_code (2 : Nat) (Option.some Jvm.ClassFile.FieldType.int)) ∈ lw_all := lw_g (lw_at lw_m2 218 rfl) rfl
theorem q531 : (Jvm.Cond.methodLink "EnergyDiscs" (117 : Nat) ({ cls := "EnergyDiscs", name := "comes", desc := "(IZ)I" } : Jvm.MethodName)) ∈ lw_all := lw_g (lw_at lw_m2 219 rfl) rfl
theorem q532 : (Jvm.Cond.privateMethod ({ cls := "EnergyDiscs", name := "comes", desc := "(IZ)I" } : Jvm.MethodName)) ∈ lw_tbl := lw_at lw_m2 220 rfl
theorem q533 : (Jvm.Cond.instanceMethod ({ cls := "EnergyDiscs", name := "comes", desc := "(IZ)I" } : Jvm.MethodName)) ∈ lw_all := lw_g (lw_at lw_m2 221 rfl) rfl
theorem q534 : (Jvm.Cond.code ({ cls := "EnergyDiscs", name := "comes", desc := "(IZ)I" } : Jvm.MethodName) prog_1_method_15_code (4 : Nat) (Option.some Jvm.ClassFile.FieldType.int)) ∈ lw_all := lw_g (lw_at lw_m2 222 rfl) rfl
theorem q535 : (Jvm.Cond.methodLink "EnergyDiscs" (110 : Nat) ({ cls := "EnergyDiscs", name := "whyNotMeter", desc := "(I)I" } : Jvm.MethodName)) ∈ lw_all := lw_g (lw_at lw_m2 223 rfl) rfl
theorem q536 : (Jvm.Cond.privateMethod ({ cls := "EnergyDiscs", name := "whyNotMeter", desc := "(I)I" } : Jvm.MethodName)) ∈ lw_tbl := lw_at lw_m2 224 rfl
theorem q537 : (Jvm.Cond.instanceMethod ({ cls := "EnergyDiscs", name := "whyNotMeter", desc := "(I)I" } : Jvm.MethodName)) ∈ lw_all := lw_g (lw_at lw_m2 225 rfl) rfl
theorem q538 : (Jvm.Cond.code ({ cls := "EnergyDiscs", name := "whyNotMeter", desc := "(I)I" } : Jvm.MethodName) prog_1_method_10_code (2 : Nat) (Option.some Jvm.ClassFile.FieldType.int)) ∈ lw_all := lw_g (lw_at lw_m2 226 rfl) rfl
theorem q539 : (Jvm.Cond.interfaceEntry "EnergyDiscs" (75 : Nat)) ∈ lw_tbl := lw_at lw_m2 227 rfl
theorem q540 : (Jvm.Cond.methodLink "EnergyDiscs" (75 : Nat) ({ cls := "java/util/List", name := "isEmpty", desc := "()Z" } : Jvm.MethodName)) ∈ lw_all := lw_g (lw_at lw_m2 228 rfl) rfl
theorem q548 : (Jvm.Cond.methodLink "EnergyDiscs" (79 : Nat) ({ cls := "EnergyDiscs", name := "isMeter", desc := "(I)Z" } : Jvm.MethodName)) ∈ lw_all := lw_g (lw_at lw_m2 236 rfl) rfl
theorem q549 : (Jvm.Cond.privateMethod ({ cls := "EnergyDiscs", name := "isMeter", desc := "(I)Z" } : Jvm.MethodName)) ∈ lw_tbl := lw_at lw_m2 237 rfl
theorem q550 : (Jvm.Cond.instanceMethod ({ cls := "EnergyDiscs", name := "isMeter", desc := "(I)Z" } : Jvm.MethodName)) ∈ lw_all := lw_g (lw_at lw_m2 238 rfl) rfl
theorem q551 : (Jvm.Cond.code ({ cls := "EnergyDiscs", name := "isMeter", desc := "(I)Z" } : Jvm.MethodName) prog_1_method_6_code (2 : Nat) (Option.some Jvm.ClassFile.FieldType.boolean)) ∈ lw_all := lw_g (lw_at lw_m2 239 rfl) rfl
theorem q552 : (Jvm.Cond.methodLink "EnergyDiscs" (114 : Nat) ({ cls := "EnergyDiscs$House", name := "newMeter", desc := "(I)I" } : Jvm.MethodName)) ∈ lw_all := lw_g (lw_at lw_m3 0 rfl) rfl
theorem q559 : (Jvm.Cond.instanceMethod ({ cls := "EnergyDiscs", name := "load", desc := "(II)I" } : Jvm.MethodName)) ∈ lw_all := lw_g (lw_at lw_m3 7 rfl) rfl
theorem q560 : (Jvm.Cond.selects "EnergyDiscs" ({ cls := "EnergyDiscs", name := "load", desc := "(II)I" } : Jvm.MethodName) ({ cls := "EnergyDiscs", name := "load", desc := "(II)I" } : Jvm.MethodName)) ∈ lw_all := lw_g (lw_at lw_m3 8 rfl) rfl
theorem q561 : (Jvm.Cond.code ({ cls := "EnergyDiscs", name := "load", desc := "(II)I" } : Jvm.MethodName) prog_1_method_18_code (3 : Nat) (Option.some Jvm.ClassFile.FieldType.int)) ∈ lw_all := lw_g (lw_at lw_m3 9 rfl) rfl
theorem q562 : (Jvm.Cond.methodLink "EnergyDiscs" (133 : Nat) ({ cls := "EnergyDiscs", name := "connects", desc := "(IIZ)I" } : Jvm.MethodName)) ∈ lw_all := lw_g (lw_at lw_m3 10 rfl) rfl
theorem q563 : (Jvm.Cond.privateMethod ({ cls := "EnergyDiscs", name := "connects", desc := "(IIZ)I" } : Jvm.MethodName)) ∈ lw_tbl := lw_at lw_m3 11 rfl
theorem q564 : (Jvm.Cond.instanceMethod ({ cls := "EnergyDiscs", name := "connects", desc := "(IIZ)I" } : Jvm.MethodName)) ∈ lw_all := lw_g (lw_at lw_m3 12 rfl) rfl
theorem q565 : (Jvm.Cond.code ({ cls := "EnergyDiscs", name := "connects", desc := "(IIZ)I" } : Jvm.MethodName) prog_1_method_17_code (5 : Nat) (Option.some Jvm.ClassFile.FieldType.int)) ∈ lw_all := lw_g (lw_at lw_m3 13 rfl) rfl
theorem q566 : (Jvm.Cond.methodLink "EnergyDiscs" (120 : Nat) ({ cls := "EnergyDiscs", name := "whyNotLoad", desc := "(II)I" } : Jvm.MethodName)) ∈ lw_all := lw_g (lw_at lw_m3 14 rfl) rfl
theorem q567 : (Jvm.Cond.privateMethod ({ cls := "EnergyDiscs", name := "whyNotLoad", desc := "(II)I" } : Jvm.MethodName)) ∈ lw_tbl := lw_at lw_m3 15 rfl
theorem q568 : (Jvm.Cond.instanceMethod ({ cls := "EnergyDiscs", name := "whyNotLoad", desc := "(II)I" } : Jvm.MethodName)) ∈ lw_all := lw_g (lw_at lw_m3 16 rfl) rfl
theorem q569 : (Jvm.Cond.code ({ cls := "EnergyDiscs", name := "whyNotLoad", desc := "(II)I" } : Jvm.MethodName) prog_1_method_11_code (3 : Nat) (Option.some Jvm.ClassFile.FieldType.int)) ∈ lw_all := lw_g (lw_at lw_m3 17 rfl) rfl
theorem q570 : (Jvm.Cond.classLink "EnergyDiscs" (124 : Nat) "EnergyDiscs$Load") ∈ lw_all := lw_g (lw_at lw_m3 18 rfl) rfl
theorem q571 : (Jvm.Cond.methodLink "EnergyDiscs" (126 : Nat) ({ cls := "EnergyDiscs$Load", name := "<init>", desc := "(II)V" } : Jvm.MethodName)) ∈ lw_all := lw_g (lw_at lw_m3 19 rfl) rfl
theorem q572 : (Jvm.Cond.methodLink "EnergyDiscs" (129 : Nat) ({ cls := "EnergyDiscs$House", name := "addLoad", desc := "(LEnergyDiscs$Load;)I" } : Jvm.MethodName)) ∈ lw_all := lw_g (lw_at lw_m3 20 rfl) rfl
theorem q574 : (Jvm.Cond.instanceMethod ({ cls := "EnergyDiscs", name := "turn", desc := "(I)I" } : Jvm.MethodName)) ∈ lw_all := lw_g (lw_at lw_m3 22 rfl) rfl
theorem q575 : (Jvm.Cond.selects "EnergyDiscs" ({ cls := "EnergyDiscs", name := "turn", desc := "(I)I" } : Jvm.MethodName) ({ cls := "EnergyDiscs", name := "turn", desc := "(I)I" } : Jvm.MethodName)) ∈ lw_all := lw_g (lw_at lw_m3 23 rfl) rfl
theorem q576 : (Jvm.Cond.code ({ cls := "EnergyDiscs", name := "turn", desc := "(I)I" } : Jvm.MethodName) prog_1_method_20_code (2 : Nat) (Option.some Jvm.ClassFile.FieldType.int)) ∈ lw_all := lw_g (lw_at lw_m3 24 rfl) rfl
theorem q577 : (Jvm.Cond.methodLink "EnergyDiscs" (143 : Nat) ({ cls := "EnergyDiscs", name := "turns", desc := "(IZ)I" } : Jvm.MethodName)) ∈ lw_all := lw_g (lw_at lw_m3 25 rfl) rfl
theorem q578 : (Jvm.Cond.privateMethod ({ cls := "EnergyDiscs", name := "turns", desc := "(IZ)I" } : Jvm.MethodName)) ∈ lw_tbl := lw_at lw_m3 26 rfl
theorem q579 : (Jvm.Cond.instanceMethod ({ cls := "EnergyDiscs", name := "turns", desc := "(IZ)I" } : Jvm.MethodName)) ∈ lw_all := lw_g (lw_at lw_m3 27 rfl) rfl
theorem q580 : (Jvm.Cond.code ({ cls := "EnergyDiscs", name := "turns", desc := "(IZ)I" } : Jvm.MethodName) prog_1_method_19_code (4 : Nat) (Option.some Jvm.ClassFile.FieldType.int)) ∈ lw_all := lw_g (lw_at lw_m3 28 rfl) rfl
theorem q581 : (Jvm.Cond.methodLink "EnergyDiscs" (137 : Nat) ({ cls := "EnergyDiscs", name := "isLoad", desc := "(I)Z" } : Jvm.MethodName)) ∈ lw_all := lw_g (lw_at lw_m3 29 rfl) rfl
theorem q582 : (Jvm.Cond.privateMethod ({ cls := "EnergyDiscs", name := "isLoad", desc := "(I)Z" } : Jvm.MethodName)) ∈ lw_tbl := lw_at lw_m3 30 rfl
theorem q583 : (Jvm.Cond.instanceMethod ({ cls := "EnergyDiscs", name := "isLoad", desc := "(I)Z" } : Jvm.MethodName)) ∈ lw_all := lw_g (lw_at lw_m3 31 rfl) rfl
theorem q584 : (Jvm.Cond.code ({ cls := "EnergyDiscs", name := "isLoad", desc := "(I)Z" } : Jvm.MethodName) prog_1_method_7_code (2 : Nat) (Option.some Jvm.ClassFile.FieldType.boolean)) ∈ lw_all := lw_g (lw_at lw_m3 32 rfl) rfl
theorem q585 : (Jvm.Cond.interfaceEntry "EnergyDiscs" (67 : Nat)) ∈ lw_tbl := lw_at lw_m3 33 rfl
theorem q586 : (Jvm.Cond.methodLink "EnergyDiscs" (67 : Nat) ({ cls := "java/util/List", name := "get", desc := "(I)Ljava/lang/Object;" } : Jvm.MethodName)) ∈ lw_all := lw_g (lw_at lw_m3 34 rfl) rfl
theorem q588 : (Jvm.Cond.instanceMethod ({ cls := "EnergyDiscs", name := "tamper", desc := "(I)I" } : Jvm.MethodName)) ∈ lw_all := lw_g (lw_at lw_m3 36 rfl) rfl
theorem q589 : (Jvm.Cond.selects "EnergyDiscs" ({ cls := "EnergyDiscs", name := "tamper", desc := "(I)I" } : Jvm.MethodName) ({ cls := "EnergyDiscs", name := "tamper", desc := "(I)I" } : Jvm.MethodName)) ∈ lw_all := lw_g (lw_at lw_m3 37 rfl) rfl
theorem q590 : (Jvm.Cond.code ({ cls := "EnergyDiscs", name := "tamper", desc := "(I)I" } : Jvm.MethodName) prog_1_method_22_code (2 : Nat) (Option.some Jvm.ClassFile.FieldType.int)) ∈ lw_all := lw_g (lw_at lw_m3 38 rfl) rfl
theorem q591 : (Jvm.Cond.methodLink "EnergyDiscs" (152 : Nat) ({ cls := "EnergyDiscs", name := "tampers", desc := "(IZ)I" } : Jvm.MethodName)) ∈ lw_all := lw_g (lw_at lw_m3 39 rfl) rfl
theorem q592 : (Jvm.Cond.privateMethod ({ cls := "EnergyDiscs", name := "tampers", desc := "(IZ)I" } : Jvm.MethodName)) ∈ lw_tbl := lw_at lw_m3 40 rfl
theorem q593 : (Jvm.Cond.instanceMethod ({ cls := "EnergyDiscs", name := "tampers", desc := "(IZ)I" } : Jvm.MethodName)) ∈ lw_all := lw_g (lw_at lw_m3 41 rfl) rfl
theorem q594 : (Jvm.Cond.code ({ cls := "EnergyDiscs", name := "tampers", desc := "(IZ)I" } : Jvm.MethodName) prog_1_method_21_code (4 : Nat) (Option.some Jvm.ClassFile.FieldType.int)) ∈ lw_all := lw_g (lw_at lw_m3 42 rfl) rfl
theorem q595 : (Jvm.Cond.methodLink "EnergyDiscs" (146 : Nat) ({ cls := "EnergyDiscs", name := "whyNotTamper", desc := "(I)I" } : Jvm.MethodName)) ∈ lw_all := lw_g (lw_at lw_m3 43 rfl) rfl
theorem q596 : (Jvm.Cond.privateMethod ({ cls := "EnergyDiscs", name := "whyNotTamper", desc := "(I)I" } : Jvm.MethodName)) ∈ lw_tbl := lw_at lw_m3 44 rfl
theorem q597 : (Jvm.Cond.instanceMethod ({ cls := "EnergyDiscs", name := "whyNotTamper", desc := "(I)I" } : Jvm.MethodName)) ∈ lw_all := lw_g (lw_at lw_m3 45 rfl) rfl
theorem q598 : (Jvm.Cond.code ({ cls := "EnergyDiscs", name := "whyNotTamper", desc := "(I)I" } : Jvm.MethodName) prog_1_method_12_code (2 : Nat) (Option.some Jvm.ClassFile.FieldType.int)) ∈ lw_all := lw_g (lw_at lw_m3 46 rfl) rfl
theorem q599 : (Jvm.Cond.methodLink "EnergyDiscs" (83 : Nat) ({ cls := "EnergyDiscs", name := "meterAt", desc := "(I)LEnergyDiscs$Meter;" } : Jvm.MethodName)) ∈ lw_all := lw_g (lw_at lw_m3 47 rfl) rfl
theorem q600 : (Jvm.Cond.privateMethod ({ cls := "EnergyDiscs", name := "meterAt", desc := "(I)LEnergyDiscs$Meter;" } : Jvm.MethodName)) ∈ lw_tbl := lw_at lw_m3 48 rfl
theorem q601 : (Jvm.Cond.instanceMethod ({ cls := "EnergyDiscs", name := "meterAt", desc := "(I)LEnergyDiscs$Meter;" } : Jvm.MethodName)) ∈ lw_all := lw_g (lw_at lw_m3 49 rfl) rfl
theorem q602 : (Jvm.Cond.code ({ cls := "EnergyDiscs", name := "meterAt", desc := "(I)LEnergyDiscs$Meter;" } : Jvm.MethodName) prog_1_method_8_code (2 : Nat) (Option.some (Jvm.ClassFile.FieldType.object "EnergyDiscs$Meter"))) ∈ lw_all := lw_g (lw_at lw_m3 50 rfl) rfl
theorem q603 : (Jvm.Cond.classLink "EnergyDiscs" (70 : Nat) "EnergyDiscs$Meter") ∈ lw_all := lw_g (lw_at lw_m3 51 rfl) rfl
theorem q605 : (Jvm.Cond.instanceMethod ({ cls := "EnergyDiscs", name := "visit", desc := "(I)I" } : Jvm.MethodName)) ∈ lw_all := lw_g (lw_at lw_m3 53 rfl) rfl
theorem q606 : (Jvm.Cond.selects "EnergyDiscs" ({ cls := "EnergyDiscs", name := "visit", desc := "(I)I" } : Jvm.MethodName) ({ cls := "EnergyDiscs", name := "visit", desc := "(I)I" } : Jvm.MethodName)) ∈ lw_all := lw_g (lw_at lw_m3 54 rfl) rfl
theorem q607 : (Jvm.Cond.code ({ cls := "EnergyDiscs", name := "visit", desc := "(I)I" } : Jvm.MethodName) prog_1_method_24_code (2 : Nat) (Option.some Jvm.ClassFile.FieldType.int)) ∈ lw_all := lw_g (lw_at lw_m3 55 rfl) rfl
theorem q608 : (Jvm.Cond.methodLink "EnergyDiscs" (159 : Nat) ({ cls := "EnergyDiscs", name := "visits", desc := "(IZ)I" } : Jvm.MethodName)) ∈ lw_all := lw_g (lw_at lw_m3 56 rfl) rfl
theorem q609 : (Jvm.Cond.privateMethod ({ cls := "EnergyDiscs", name := "visits", desc := "(IZ)I" } : Jvm.MethodName)) ∈ lw_tbl := lw_at lw_m3 57 rfl
theorem q610 : (Jvm.Cond.instanceMethod ({ cls := "EnergyDiscs", name := "visits", desc := "(IZ)I" } : Jvm.MethodName)) ∈ lw_all := lw_g (lw_at lw_m3 58 rfl) rfl
theorem q611 : (Jvm.Cond.code ({ cls := "EnergyDiscs", name := "visits", desc := "(IZ)I" } : Jvm.MethodName) prog_1_method_23_code (4 : Nat) (Option.some Jvm.ClassFile.FieldType.int)) ∈ lw_all := lw_g (lw_at lw_m3 59 rfl) rfl
theorem q612 : (Jvm.Cond.methodLink "EnergyDiscs" (155 : Nat) ({ cls := "EnergyDiscs$House", name := "visit", desc := "(LEnergyDiscs$Meter;)I" } : Jvm.MethodName)) ∈ lw_all := lw_g (lw_at lw_m3 60 rfl) rfl
theorem q625 : (Jvm.Cond.instanceMethod ({ cls := "EnergyDiscs", name := "pass", desc := "(I)I" } : Jvm.MethodName)) ∈ lw_all := lw_g (lw_at lw_m3 73 rfl) rfl
theorem q626 : (Jvm.Cond.selects "EnergyDiscs" ({ cls := "EnergyDiscs", name := "pass", desc := "(I)I" } : Jvm.MethodName) ({ cls := "EnergyDiscs", name := "pass", desc := "(I)I" } : Jvm.MethodName)) ∈ lw_all := lw_g (lw_at lw_m3 74 rfl) rfl
theorem q627 : (Jvm.Cond.code ({ cls := "EnergyDiscs", name := "pass", desc := "(I)I" } : Jvm.MethodName) prog_1_method_26_code (2 : Nat) (Option.some Jvm.ClassFile.FieldType.int)) ∈ lw_all := lw_g (lw_at lw_m3 75 rfl) rfl
theorem q628 : (Jvm.Cond.methodLink "EnergyDiscs" (168 : Nat) ({ cls := "EnergyDiscs", name := "passes", desc := "(IZ)I" } : Jvm.MethodName)) ∈ lw_all := lw_g (lw_at lw_m3 76 rfl) rfl
theorem q629 : (Jvm.Cond.privateMethod ({ cls := "EnergyDiscs", name := "passes", desc := "(IZ)I" } : Jvm.MethodName)) ∈ lw_tbl := lw_at lw_m3 77 rfl
theorem q630 : (Jvm.Cond.instanceMethod ({ cls := "EnergyDiscs", name := "passes", desc := "(IZ)I" } : Jvm.MethodName)) ∈ lw_all := lw_g (lw_at lw_m3 78 rfl) rfl
theorem q631 : (Jvm.Cond.code ({ cls := "EnergyDiscs", name := "passes", desc := "(IZ)I" } : Jvm.MethodName) prog_1_method_25_code (4 : Nat) (Option.some Jvm.ClassFile.FieldType.int)) ∈ lw_all := lw_g (lw_at lw_m3 79 rfl) rfl
theorem q632 : (Jvm.Cond.methodLink "EnergyDiscs" (162 : Nat) ({ cls := "EnergyDiscs", name := "whyNotPass", desc := "(I)I" } : Jvm.MethodName)) ∈ lw_all := lw_g (lw_at lw_m3 80 rfl) rfl
theorem q633 : (Jvm.Cond.privateMethod ({ cls := "EnergyDiscs", name := "whyNotPass", desc := "(I)I" } : Jvm.MethodName)) ∈ lw_tbl := lw_at lw_m3 81 rfl
theorem q634 : (Jvm.Cond.instanceMethod ({ cls := "EnergyDiscs", name := "whyNotPass", desc := "(I)I" } : Jvm.MethodName)) ∈ lw_all := lw_g (lw_at lw_m3 82 rfl) rfl
theorem q635 : (Jvm.Cond.code ({ cls := "EnergyDiscs", name := "whyNotPass", desc := "(I)I" } : Jvm.MethodName) prog_1_method_13_code (2 : Nat) (Option.some Jvm.ClassFile.FieldType.int)) ∈ lw_all := lw_g (lw_at lw_m3 83 rfl) rfl
theorem q636 : (Jvm.Cond.constant "EnergyDiscs" (95 : Nat) (99999 : Int32)) ∈ lw_all := lw_g (lw_at lw_m3 84 rfl) rfl
theorem q637 : (Jvm.Cond.methodLink "EnergyDiscs" (165 : Nat) ({ cls := "EnergyDiscs$House", name := "pass", desc := "(I)I" } : Jvm.MethodName)) ∈ lw_all := lw_g (lw_at lw_m3 85 rfl) rfl
theorem q661 : (Jvm.Cond.static ({ cls := "EnergyDiscs", name := "isNight", desc := "(I)Z" } : Jvm.MethodName)) ∈ lw_all := lw_g (lw_at lw_m3 109 rfl) rfl
theorem q662 : (Jvm.Cond.code ({ cls := "EnergyDiscs", name := "isNight", desc := "(I)Z" } : Jvm.MethodName) prog_1_method_2_code (2 : Nat) (Option.some Jvm.ClassFile.FieldType.boolean)) ∈ lw_all := lw_g (lw_at lw_m3 110 rfl) rfl
theorem q681 : (Jvm.Cond.instanceMethod ({ cls := "EnergyDiscs", name := "write", desc := "(I)I" } : Jvm.MethodName)) ∈ lw_all := lw_g (lw_at lw_m3 129 rfl) rfl
theorem q682 : (Jvm.Cond.selects "EnergyDiscs" ({ cls := "EnergyDiscs", name := "write", desc := "(I)I" } : Jvm.MethodName) ({ cls := "EnergyDiscs", name := "write", desc := "(I)I" } : Jvm.MethodName)) ∈ lw_all := lw_g (lw_at lw_m3 130 rfl) rfl
theorem q683 : (Jvm.Cond.code ({ cls := "EnergyDiscs", name := "write", desc := "(I)I" } : Jvm.MethodName) prog_1_method_27_code (3 : Nat) (Option.some Jvm.ClassFile.FieldType.int)) ∈ lw_all := lw_g (lw_at lw_m3 131 rfl) rfl
theorem q684 : (Jvm.Cond.methodLink "EnergyDiscs" (171 : Nat) ({ cls := "java/lang/StringBuilder", name := "setLength", desc := "(I)V" } : Jvm.MethodName)) ∈ lw_all := lw_g (lw_at lw_m3 132 rfl) rfl
theorem q729 : (Jvm.Cond.methodLink "EnergyDiscs" (175 : Nat) ({ cls := "java/lang/StringBuilder", name := "append", desc := "(C)Ljava/lang/StringBuilder;" } : Jvm.MethodName)) ∈ lw_all := lw_g (lw_at lw_m3 177 rfl) rfl
theorem q782 : (Jvm.Cond.methodLink "EnergyDiscs" (182 : Nat) ({ cls := "java/lang/StringBuilder", name := "append", desc := "(I)Ljava/lang/StringBuilder;" } : Jvm.MethodName)) ∈ lw_all := lw_g (lw_at lw_m3 230 rfl) rfl
theorem q816 : (Jvm.Cond.stringRef "EnergyDiscs" (188 : Nat) "!") ∈ lw_tbl := lw_at lw_m4 24 rfl
theorem q817 : (Jvm.Cond.stringRef "EnergyDiscs" (190 : Nat) "") ∈ lw_tbl := lw_at lw_m4 25 rfl
theorem q818 : (Jvm.Cond.methodLink "EnergyDiscs" (192 : Nat) ({ cls := "java/lang/StringBuilder", name := "append", desc := "(Ljava/lang/String;)Ljava/lang/StringBuilder;" } : Jvm.MethodName)) ∈ lw_all := lw_g (lw_at lw_m4 26 rfl) rfl
theorem q856 : (Jvm.Cond.methodLink "EnergyDiscs" (195 : Nat) ({ cls := "java/lang/StringBuilder", name := "length", desc := "()I" } : Jvm.MethodName)) ∈ lw_all := lw_g (lw_at lw_m4 64 rfl) rfl
theorem q864 : (Jvm.Cond.instanceMethod ({ cls := "EnergyDiscs", name := "sign", desc := "(I)I" } : Jvm.MethodName)) ∈ lw_all := lw_g (lw_at lw_m4 72 rfl) rfl
theorem q865 : (Jvm.Cond.selects "EnergyDiscs" ({ cls := "EnergyDiscs", name := "sign", desc := "(I)I" } : Jvm.MethodName) ({ cls := "EnergyDiscs", name := "sign", desc := "(I)I" } : Jvm.MethodName)) ∈ lw_all := lw_g (lw_at lw_m4 73 rfl) rfl
theorem q866 : (Jvm.Cond.code ({ cls := "EnergyDiscs", name := "sign", desc := "(I)I" } : Jvm.MethodName) prog_1_method_28_code (2 : Nat) (Option.some Jvm.ClassFile.FieldType.int)) ∈ lw_all := lw_g (lw_at lw_m4 74 rfl) rfl
theorem q867 : (Jvm.Cond.methodLink "EnergyDiscs" (198 : Nat) ({ cls := "java/lang/StringBuilder", name := "charAt", desc := "(I)C" } : Jvm.MethodName)) ∈ lw_all := lw_g (lw_at lw_m4 75 rfl) rfl
theorem q880 : (Jvm.Cond.instanceMethod ({ cls := "EnergyDiscs", name := "of", desc := "(II)I" } : Jvm.MethodName)) ∈ lw_all := lw_g (lw_at lw_m4 88 rfl) rfl
theorem q881 : (Jvm.Cond.selects "EnergyDiscs" ({ cls := "EnergyDiscs", name := "of", desc := "(II)I" } : Jvm.MethodName) ({ cls := "EnergyDiscs", name := "of", desc := "(II)I" } : Jvm.MethodName)) ∈ lw_all := lw_g (lw_at lw_m4 89 rfl) rfl
theorem q882 : (Jvm.Cond.code ({ cls := "EnergyDiscs", name := "of", desc := "(II)I" } : Jvm.MethodName) prog_1_method_30_code (4 : Nat) (Option.some Jvm.ClassFile.FieldType.int)) ∈ lw_all := lw_g (lw_at lw_m4 90 rfl) rfl
theorem q883 : (Jvm.Cond.methodLink "EnergyDiscs" (213 : Nat) ({ cls := "EnergyDiscs$House", name := "layPowers", desc := "()V" } : Jvm.MethodName)) ∈ lw_all := lw_g (lw_at lw_m4 91 rfl) rfl
theorem q884 : (Jvm.Cond.methodLink "EnergyDiscs" (229 : Nat) ({ cls := "EnergyDiscs", name := "ofMore", desc := "(LEnergyDiscs$Meter;I)I" } : Jvm.MethodName)) ∈ lw_all := lw_g (lw_at lw_m4 92 rfl) rfl
theorem q885 : (Jvm.Cond.privateMethod ({ cls := "EnergyDiscs", name := "ofMore", desc := "(LEnergyDiscs$Meter;I)I" } : Jvm.MethodName)) ∈ lw_tbl := lw_at lw_m4 93 rfl
theorem q886 : (Jvm.Cond.instanceMethod ({ cls := "EnergyDiscs", name := "ofMore", desc := "(LEnergyDiscs$Meter;I)I" } : Jvm.MethodName)) ∈ lw_all := lw_g (lw_at lw_m4 94 rfl) rfl
theorem q887 : (Jvm.Cond.code ({ cls := "EnergyDiscs", name := "ofMore", desc := "(LEnergyDiscs$Meter;I)I" } : Jvm.MethodName) prog_1_method_31_code (3 : Nat) (Option.some Jvm.ClassFile.FieldType.int)) ∈ lw_all := lw_g (lw_at lw_m4 95 rfl) rfl
theorem q888 : (Jvm.Cond.constantLong "EnergyDiscs" (237 : Nat) (6000 : Int64)) ∈ lw_all := lw_g (lw_at lw_m4 96 rfl) rfl
theorem q889 : (Jvm.Cond.methodLink "EnergyDiscs" (242 : Nat) ({ cls := "EnergyDiscs", name := "untilWeaker", desc := "(LEnergyDiscs$Meter;)I" } : Jvm.MethodName)) ∈ lw_all := lw_g (lw_at lw_m4 97 rfl) rfl
theorem q890 : (Jvm.Cond.privateMethod ({ cls := "EnergyDiscs", name := "untilWeaker", desc := "(LEnergyDiscs$Meter;)I" } : Jvm.MethodName)) ∈ lw_tbl := lw_at lw_m4 98 rfl
theorem q891 : (Jvm.Cond.instanceMethod ({ cls := "EnergyDiscs", name := "untilWeaker", desc := "(LEnergyDiscs$Meter;)I" } : Jvm.MethodName)) ∈ lw_all := lw_g (lw_at lw_m4 99 rfl) rfl
theorem q892 : (Jvm.Cond.code ({ cls := "EnergyDiscs", name := "untilWeaker", desc := "(LEnergyDiscs$Meter;)I" } : Jvm.MethodName) prog_1_method_29_code (2 : Nat) (Option.some Jvm.ClassFile.FieldType.int)) ∈ lw_all := lw_g (lw_at lw_m4 100 rfl) rfl
theorem q893 : (Jvm.Cond.methodLink "EnergyDiscs" (208 : Nat) ({ cls := "java/lang/Math", name := "max", desc := "(II)I" } : Jvm.MethodName)) ∈ lw_all := lw_g (lw_at lw_m4 101 rfl) rfl
theorem q895 : (Jvm.Cond.instanceMethod ({ cls := "EnergyDiscs", name := "ofLoad", desc := "(II)I" } : Jvm.MethodName)) ∈ lw_all := lw_g (lw_at lw_m4 103 rfl) rfl
theorem q896 : (Jvm.Cond.selects "EnergyDiscs" ({ cls := "EnergyDiscs", name := "ofLoad", desc := "(II)I" } : Jvm.MethodName) ({ cls := "EnergyDiscs", name := "ofLoad", desc := "(II)I" } : Jvm.MethodName)) ∈ lw_all := lw_g (lw_at lw_m4 104 rfl) rfl
theorem q897 : (Jvm.Cond.code ({ cls := "EnergyDiscs", name := "ofLoad", desc := "(II)I" } : Jvm.MethodName) prog_1_method_32_code (4 : Nat) (Option.some Jvm.ClassFile.FieldType.int)) ∈ lw_all := lw_g (lw_at lw_m4 105 rfl) rfl
theorem q899 : (Jvm.Cond.instanceMethod ({ cls := "EnergyDiscs", name := "misses", desc := "(I)J" } : Jvm.MethodName)) ∈ lw_all := lw_g (lw_at lw_m4 107 rfl) rfl
theorem q900 : (Jvm.Cond.selects "EnergyDiscs" ({ cls := "EnergyDiscs", name := "misses", desc := "(I)J" } : Jvm.MethodName) ({ cls := "EnergyDiscs", name := "misses", desc := "(I)J" } : Jvm.MethodName)) ∈ lw_all := lw_g (lw_at lw_m4 108 rfl) rfl
theorem q901 : (Jvm.Cond.code ({ cls := "EnergyDiscs", name := "misses", desc := "(I)J" } : Jvm.MethodName) prog_1_method_33_code (2 : Nat) (Option.some Jvm.ClassFile.FieldType.long)) ∈ lw_all := lw_g (lw_at lw_m4 109 rfl) rfl
theorem q902 : (Jvm.Cond.constantLong "EnergyDiscs" (251 : Nat) (10000000000 : Int64)) ∈ lw_all := lw_g (lw_at lw_m4 110 rfl) rfl
theorem q903 : (Jvm.Cond.methodLink "EnergyDiscs" (253 : Nat) ({ cls := "EnergyDiscs$Meter", name := "misses", desc := "()J" } : Jvm.MethodName)) ∈ lw_all := lw_g (lw_at lw_m4 111 rfl) rfl
theorem q912 : (Jvm.Cond.constantLong "EnergyDiscs" (257 : Nat) (-1 : Int64)) ∈ lw_all := lw_g (lw_at lw_m4 120 rfl) rfl
theorem q914 : (Jvm.Cond.instanceMethod ({ cls := "EnergyDiscs", name := "fed", desc := "(I)I" } : Jvm.MethodName)) ∈ lw_all := lw_g (lw_at lw_m4 122 rfl) rfl
theorem q915 : (Jvm.Cond.selects "EnergyDiscs" ({ cls := "EnergyDiscs", name := "fed", desc := "(I)I" } : Jvm.MethodName) ({ cls := "EnergyDiscs", name := "fed", desc := "(I)I" } : Jvm.MethodName)) ∈ lw_all := lw_g (lw_at lw_m4 123 rfl) rfl
theorem q916 : (Jvm.Cond.code ({ cls := "EnergyDiscs", name := "fed", desc := "(I)I" } : Jvm.MethodName) prog_1_method_34_code (2 : Nat) (Option.some Jvm.ClassFile.FieldType.int)) ∈ lw_all := lw_g (lw_at lw_m4 124 rfl) rfl
theorem q917 : (Jvm.Cond.methodLink "EnergyDiscs" (259 : Nat) ({ cls := "EnergyDiscs$Meter", name := "fed", desc := "()I" } : Jvm.MethodName)) ∈ lw_all := lw_g (lw_at lw_m4 125 rfl) rfl
theorem q923 : (Jvm.Cond.instanceMethod ({ cls := "EnergyDiscs", name := "count", desc := "(I)I" } : Jvm.MethodName)) ∈ lw_all := lw_g (lw_at lw_m4 131 rfl) rfl
theorem q924 : (Jvm.Cond.selects "EnergyDiscs" ({ cls := "EnergyDiscs", name := "count", desc := "(I)I" } : Jvm.MethodName) ({ cls := "EnergyDiscs", name := "count", desc := "(I)I" } : Jvm.MethodName)) ∈ lw_all := lw_g (lw_at lw_m4 132 rfl) rfl
theorem q925 : (Jvm.Cond.code ({ cls := "EnergyDiscs", name := "count", desc := "(I)I" } : Jvm.MethodName) prog_1_method_37_code (2 : Nat) (Option.some Jvm.ClassFile.FieldType.int)) ∈ lw_all := lw_g (lw_at lw_m4 133 rfl) rfl
theorem q926 : (Jvm.Cond.methodLink "EnergyDiscs" (277 : Nat) ({ cls := "EnergyDiscs", name := "all", desc := "(I)I" } : Jvm.MethodName)) ∈ lw_all := lw_g (lw_at lw_m4 134 rfl) rfl
theorem q927 : (Jvm.Cond.privateMethod ({ cls := "EnergyDiscs", name := "all", desc := "(I)I" } : Jvm.MethodName)) ∈ lw_tbl := lw_at lw_m4 135 rfl
theorem q928 : (Jvm.Cond.instanceMethod ({ cls := "EnergyDiscs", name := "all", desc := "(I)I" } : Jvm.MethodName)) ∈ lw_all := lw_g (lw_at lw_m4 136 rfl) rfl
theorem q929 : (Jvm.Cond.code ({ cls := "EnergyDiscs", name := "all", desc := "(I)I" } : Jvm.MethodName) prog_1_method_36_code (5 : Nat) (Option.some Jvm.ClassFile.FieldType.int)) ∈ lw_all := lw_g (lw_at lw_m4 137 rfl) rfl
theorem q930 : (Jvm.Cond.interfaceEntry "EnergyDiscs" (262 : Nat)) ∈ lw_tbl := lw_at lw_m4 138 rfl
theorem q931 : (Jvm.Cond.methodLink "EnergyDiscs" (262 : Nat) ({ cls := "java/util/List", name := "iterator", desc := "()Ljava/util/Iterator;" } : Jvm.MethodName)) ∈ lw_all := lw_g (lw_at lw_m4 139 rfl) rfl
theorem q932 : (Jvm.Cond.interfaceEntry "EnergyDiscs" (266 : Nat)) ∈ lw_tbl := lw_at lw_m4 140 rfl
theorem q933 : (Jvm.Cond.methodLink "EnergyDiscs" (266 : Nat) ({ cls := "java/util/Iterator", name := "hasNext", desc := "()Z" } : Jvm.MethodName)) ∈ lw_all := lw_g (lw_at lw_m4 141 rfl) rfl
theorem q934 : (Jvm.Cond.interfaceEntry "EnergyDiscs" (271 : Nat)) ∈ lw_tbl := lw_at lw_m4 142 rfl
theorem q935 : (Jvm.Cond.methodLink "EnergyDiscs" (271 : Nat) ({ cls := "java/util/Iterator", name := "next", desc := "()Ljava/lang/Object;" } : Jvm.MethodName)) ∈ lw_all := lw_g (lw_at lw_m4 143 rfl) rfl
theorem q936 : (Jvm.Cond.methodLink "EnergyDiscs" (275 : Nat) ({ cls := "EnergyDiscs$Meter", name := "turns", desc := "()I" } : Jvm.MethodName)) ∈ lw_all := lw_g (lw_at lw_m4 144 rfl) rfl
theorem q937 : (Jvm.Cond.methodLink "EnergyDiscs" (280 : Nat) ({ cls := "EnergyDiscs", name := "isNight", desc := "(I)Z" } : Jvm.MethodName)) ∈ lw_all := lw_g (lw_at lw_m4 145 rfl) rfl
theorem q938 : (Jvm.Cond.methodLink "EnergyDiscs" (283 : Nat) ({ cls := "EnergyDiscs", name := "loadsOn", desc := "()I" } : Jvm.MethodName)) ∈ lw_all := lw_g (lw_at lw_m4 146 rfl) rfl
theorem q939 : (Jvm.Cond.privateMethod ({ cls := "EnergyDiscs", name := "loadsOn", desc := "()I" } : Jvm.MethodName)) ∈ lw_tbl := lw_at lw_m4 147 rfl
theorem q940 : (Jvm.Cond.instanceMethod ({ cls := "EnergyDiscs", name := "loadsOn", desc := "()I" } : Jvm.MethodName)) ∈ lw_all := lw_g (lw_at lw_m4 148 rfl) rfl
theorem q941 : (Jvm.Cond.code ({ cls := "EnergyDiscs", name := "loadsOn", desc := "()I" } : Jvm.MethodName) prog_1_method_35_code (3 : Nat) (Option.some Jvm.ClassFile.FieldType.int)) ∈ lw_all := lw_g (lw_at lw_m4 149 rfl) rfl
theorem q943 : (Jvm.Cond.instanceMethod ({ cls := "EnergyDiscs", name := "bill", desc := "(I)I" } : Jvm.MethodName)) ∈ lw_all := lw_g (lw_at lw_m4 151 rfl) rfl
theorem q944 : (Jvm.Cond.selects "EnergyDiscs" ({ cls := "EnergyDiscs", name := "bill", desc := "(I)I" } : Jvm.MethodName) ({ cls := "EnergyDiscs", name := "bill", desc := "(I)I" } : Jvm.MethodName)) ∈ lw_all := lw_g (lw_at lw_m4 152 rfl) rfl
theorem q945 : (Jvm.Cond.code ({ cls := "EnergyDiscs", name := "bill", desc := "(I)I" } : Jvm.MethodName) prog_1_method_38_code (2 : Nat) (Option.some Jvm.ClassFile.FieldType.int)) ∈ lw_all := lw_g (lw_at lw_m4 153 rfl) rfl
theorem q946 : (Jvm.Cond.methodLink "EnergyDiscs" (289 : Nat) ({ cls := "EnergyDiscs$House", name := "bill", desc := "(LEnergyDiscs$Meter;)I" } : Jvm.MethodName)) ∈ lw_all := lw_g (lw_at lw_m4 154 rfl) rfl
theorem q948 : (Jvm.Cond.instanceMethod ({ cls := "EnergyDiscs", name := "turnsIn", desc := "(I)I" } : Jvm.MethodName)) ∈ lw_all := lw_g (lw_at lw_m4 156 rfl) rfl
theorem q949 : (Jvm.Cond.selects "EnergyDiscs" ({ cls := "EnergyDiscs", name := "turnsIn", desc := "(I)I" } : Jvm.MethodName) ({ cls := "EnergyDiscs", name := "turnsIn", desc := "(I)I" } : Jvm.MethodName)) ∈ lw_all := lw_g (lw_at lw_m4 157 rfl) rfl
theorem q950 : (Jvm.Cond.code ({ cls := "EnergyDiscs", name := "turnsIn", desc := "(I)I" } : Jvm.MethodName) prog_1_method_40_code (2 : Nat) (Option.some Jvm.ClassFile.FieldType.int)) ∈ lw_all := lw_g (lw_at lw_m4 158 rfl) rfl
theorem q951 : (Jvm.Cond.privateMethod ({ cls := "EnergyDiscs", name := "lambda$turnsIn$0", desc := "(I)I" } : Jvm.MethodName)) ∈ lw_tbl := lw_at lw_m4 159 rfl
theorem q952 : (Jvm.Cond.instanceMethod ({ cls := "EnergyDiscs", name := "lambda$turnsIn$0", desc := "(I)I" } : Jvm.MethodName)) ∈ lw_all := lw_g (lw_at lw_m4 160 rfl) rfl
theorem q953 : (Jvm.Cond.code ({ cls := "EnergyDiscs", name := "lambda$turnsIn$0", desc := "(I)I" } : Jvm.MethodName) prog_1_method_54_code (2 : Nat) (Option.some Jvm.ClassFile.FieldType.int)) ∈ lw_all := lw_g (lw_at lw_m4 161 rfl) rfl
theorem q954 : (Jvm.Cond.methodLink "EnergyDiscs" (363 : Nat) ({ cls := "EnergyDiscs", name := "untilTurn", desc := "(I)I" } : Jvm.MethodName)) ∈ lw_all := lw_g (lw_at lw_m4 162 rfl) rfl
theorem q955 : (Jvm.Cond.privateMethod ({ cls := "EnergyDiscs", name := "untilTurn", desc := "(I)I" } : Jvm.MethodName)) ∈ lw_tbl := lw_at lw_m4 163 rfl
theorem q956 : (Jvm.Cond.instanceMethod ({ cls := "EnergyDiscs", name := "untilTurn", desc := "(I)I" } : Jvm.MethodName)) ∈ lw_all := lw_g (lw_at lw_m4 164 rfl) rfl
theorem q957 : (Jvm.Cond.code ({ cls := "EnergyDiscs", name := "untilTurn", desc := "(I)I" } : Jvm.MethodName) prog_1_method_39_code (5 : Nat) (Option.some Jvm.ClassFile.FieldType.int)) ∈ lw_all := lw_g (lw_at lw_m4 165 rfl) rfl
theorem q958 : (Jvm.Cond.methodLink "EnergyDiscs" (292 : Nat) ({ cls := "EnergyDiscs$House", name := "passOne", desc := "()I" } : Jvm.MethodName)) ∈ lw_all := lw_g (lw_at lw_m4 166 rfl) rfl
theorem q959 : (Jvm.Cond.methodLink "EnergyDiscs" (298 : Nat) ({ cls := "EnergyDiscs", name := "tried", desc := "(LEnergyDiscs$Ask;)I" } : Jvm.MethodName)) ∈ lw_all := lw_g (lw_at lw_m4 167 rfl) rfl
theorem q960 : (Jvm.Cond.privateMethod ({ cls := "EnergyDiscs", name := "tried", desc := "(LEnergyDiscs$Ask;)I" } : Jvm.MethodName)) ∈ lw_tbl := lw_at lw_m4 168 rfl
theorem q961 : (Jvm.Cond.instanceMethod ({ cls := "EnergyDiscs", name := "tried", desc := "(LEnergyDiscs$Ask;)I" } : Jvm.MethodName)) ∈ lw_all := lw_g (lw_at lw_m4 169 rfl) rfl
theorem q962 : (Jvm.Cond.codeWith ({ cls := "EnergyDiscs", name := "tried", desc := "(LEnergyDiscs$Ask;)I" } : Jvm.MethodName) prog_1_method_5_code (5 : Nat) (Option.some Jvm.ClassFile.FieldType.int) [((5 : Nat), (20 : Nat), (27 : Nat), (0 : Nat)), ((27 : Nat), (29 : Nat), (27 : Nat), (0 : Nat))]) ∈ lw_all := lw_g (lw_at lw_m4 170 rfl) rfl
theorem q963 : (Jvm.Cond.interfaceEntry "EnergyDiscs" (52 : Nat)) ∈ lw_tbl := lw_at lw_m4 171 rfl
theorem q964 : (Jvm.Cond.methodLink "EnergyDiscs" (52 : Nat) ({ cls := "EnergyDiscs$Ask", name := "ask", desc := "()I" } : Jvm.MethodName)) ∈ lw_all := lw_g (lw_at lw_m4 172 rfl) rfl
theorem q968 : (Jvm.Cond.instanceMethod ({ cls := "EnergyDiscs", name := "wouldTurn", desc := "(III)I" } : Jvm.MethodName)) ∈ lw_all := lw_g (lw_at lw_m4 176 rfl) rfl
theorem q969 : (Jvm.Cond.selects "EnergyDiscs" ({ cls := "EnergyDiscs", name := "wouldTurn", desc := "(III)I" } : Jvm.MethodName) ({ cls := "EnergyDiscs", name := "wouldTurn", desc := "(III)I" } : Jvm.MethodName)) ∈ lw_all := lw_g (lw_at lw_m4 177 rfl) rfl
theorem q970 : (Jvm.Cond.code ({ cls := "EnergyDiscs", name := "wouldTurn", desc := "(III)I" } : Jvm.MethodName) prog_1_method_42_code (5 : Nat) (Option.some Jvm.ClassFile.FieldType.int)) ∈ lw_all := lw_g (lw_at lw_m4 178 rfl) rfl
theorem q971 : (Jvm.Cond.privateMethod ({ cls := "EnergyDiscs", name := "lambda$wouldTurn$1", desc := "(III)I" } : Jvm.MethodName)) ∈ lw_tbl := lw_at lw_m4 179 rfl
theorem q972 : (Jvm.Cond.instanceMethod ({ cls := "EnergyDiscs", name := "lambda$wouldTurn$1", desc := "(III)I" } : Jvm.MethodName)) ∈ lw_all := lw_g (lw_at lw_m4 180 rfl) rfl
theorem q973 : (Jvm.Cond.code ({ cls := "EnergyDiscs", name := "lambda$wouldTurn$1", desc := "(III)I" } : Jvm.MethodName) prog_1_method_53_code (4 : Nat) (Option.some Jvm.ClassFile.FieldType.int)) ∈ lw_all := lw_g (lw_at lw_m4 181 rfl) rfl
theorem q974 : (Jvm.Cond.methodLink "EnergyDiscs" (360 : Nat) ({ cls := "EnergyDiscs", name := "turned", desc := "(IIZ)I" } : Jvm.MethodName)) ∈ lw_all := lw_g (lw_at lw_m4 182 rfl) rfl
theorem q975 : (Jvm.Cond.privateMethod ({ cls := "EnergyDiscs", name := "turned", desc := "(IIZ)I" } : Jvm.MethodName)) ∈ lw_tbl := lw_at lw_m4 183 rfl
theorem q976 : (Jvm.Cond.instanceMethod ({ cls := "EnergyDiscs", name := "turned", desc := "(IIZ)I" } : Jvm.MethodName)) ∈ lw_all := lw_g (lw_at lw_m4 184 rfl) rfl
theorem q977 : (Jvm.Cond.code ({ cls := "EnergyDiscs", name := "turned", desc := "(IIZ)I" } : Jvm.MethodName) prog_1_method_41_code (6 : Nat) (Option.some Jvm.ClassFile.FieldType.int)) ∈ lw_all := lw_g (lw_at lw_m4 185 rfl) rfl
theorem q979 : (Jvm.Cond.instanceMethod ({ cls := "EnergyDiscs", name := "worst", desc := "()I" } : Jvm.MethodName)) ∈ lw_all := lw_g (lw_at lw_m4 187 rfl) rfl
theorem q980 : (Jvm.Cond.selects "EnergyDiscs" ({ cls := "EnergyDiscs", name := "worst", desc := "()I" } : Jvm.MethodName) ({ cls := "EnergyDiscs", name := "worst", desc := "()I" } : Jvm.MethodName)) ∈ lw_all := lw_g (lw_at lw_m4 188 rfl) rfl
theorem q981 : (Jvm.Cond.code ({ cls := "EnergyDiscs", name := "worst", desc := "()I" } : Jvm.MethodName) prog_1_method_43_code (1 : Nat) (Option.some Jvm.ClassFile.FieldType.int)) ∈ lw_all := lw_g (lw_at lw_m4 189 rfl) rfl
theorem q982 : (Jvm.Cond.methodLink "EnergyDiscs" (305 : Nat) ({ cls := "EnergyDiscs$House", name := "worst", desc := "()I" } : Jvm.MethodName)) ∈ lw_all := lw_g (lw_at lw_m4 190 rfl) rfl
theorem q988 : (Jvm.Cond.instanceMethod ({ cls := "EnergyDiscs", name := "lags", desc := "(I)I" } : Jvm.MethodName)) ∈ lw_all := lw_g (lw_at lw_m4 196 rfl) rfl
theorem q989 : (Jvm.Cond.selects "EnergyDiscs" ({ cls := "EnergyDiscs", name := "lags", desc := "(I)I" } : Jvm.MethodName) ({ cls := "EnergyDiscs", name := "lags", desc := "(I)I" } : Jvm.MethodName)) ∈ lw_all := lw_g (lw_at lw_m4 197 rfl) rfl
theorem q990 : (Jvm.Cond.code ({ cls := "EnergyDiscs", name := "lags", desc := "(I)I" } : Jvm.MethodName) prog_1_method_44_code (5 : Nat) (Option.some Jvm.ClassFile.FieldType.int)) ∈ lw_all := lw_g (lw_at lw_m4 198 rfl) rfl
theorem q991 : (Jvm.Cond.constant "EnergyDiscs" (308 : Nat) (10000000 : Int32)) ∈ lw_all := lw_g (lw_at lw_m4 199 rfl) rfl
theorem q993 : (Jvm.Cond.instanceMethod ({ cls := "EnergyDiscs", name := "put", desc := "(J)I" } : Jvm.MethodName)) ∈ lw_all := lw_g (lw_at lw_m4 201 rfl) rfl
theorem q994 : (Jvm.Cond.selects "EnergyDiscs" ({ cls := "EnergyDiscs", name := "put", desc := "(J)I" } : Jvm.MethodName) ({ cls := "EnergyDiscs", name := "put", desc := "(J)I" } : Jvm.MethodName)) ∈ lw_all := lw_g (lw_at lw_m4 202 rfl) rfl
theorem q995 : (Jvm.Cond.code ({ cls := "EnergyDiscs", name := "put", desc := "(J)I" } : Jvm.MethodName) prog_1_method_45_code (7 : Nat) (Option.some Jvm.ClassFile.FieldType.int)) ∈ lw_all := lw_g (lw_at lw_m4 203 rfl) rfl
theorem q996 : (Jvm.Cond.constantLong "EnergyDiscs" (312 : Nat) (255 : Int64)) ∈ lw_all := lw_g (lw_at lw_m4 204 rfl) rfl
theorem q998 : (Jvm.Cond.instanceMethod ({ cls := "EnergyDiscs", name := "wipe", desc := "()I" } : Jvm.MethodName)) ∈ lw_all := lw_g (lw_at lw_m4 206 rfl) rfl
theorem q999 : (Jvm.Cond.selects "EnergyDiscs" ({ cls := "EnergyDiscs", name := "wipe", desc := "()I" } : Jvm.MethodName) ({ cls := "EnergyDiscs", name := "wipe", desc := "()I" } : Jvm.MethodName)) ∈ lw_all := lw_g (lw_at lw_m4 207 rfl) rfl
theorem q1000 : (Jvm.Cond.code ({ cls := "EnergyDiscs", name := "wipe", desc := "()I" } : Jvm.MethodName) prog_1_method_46_code (2 : Nat) (Option.some Jvm.ClassFile.FieldType.int)) ∈ lw_all := lw_g (lw_at lw_m4 208 rfl) rfl
theorem q1002 : (Jvm.Cond.instanceMethod ({ cls := "EnergyDiscs", name := "fault", desc := "()I" } : Jvm.MethodName)) ∈ lw_all := lw_g (lw_at lw_m4 210 rfl) rfl
theorem q1003 : (Jvm.Cond.selects "EnergyDiscs" ({ cls := "EnergyDiscs", name := "fault", desc := "()I" } : Jvm.MethodName) ({ cls := "EnergyDiscs", name := "fault", desc := "()I" } : Jvm.MethodName)) ∈ lw_all := lw_g (lw_at lw_m4 211 rfl) rfl
theorem q1004 : (Jvm.Cond.code ({ cls := "EnergyDiscs", name := "fault", desc := "()I" } : Jvm.MethodName) prog_1_method_47_code (2 : Nat) (Option.some Jvm.ClassFile.FieldType.int)) ∈ lw_all := lw_g (lw_at lw_m4 212 rfl) rfl
theorem q1005 : (Jvm.Cond.classLink "EnergyDiscs" (314 : Nat) "EnergyDiscs$Reader") ∈ lw_all := lw_g (lw_at lw_m4 213 rfl) rfl
theorem q1007 : (Jvm.Cond.methodLink "EnergyDiscs" (316 : Nat) ({ cls := "EnergyDiscs$Reader", name := "<init>", desc := "(LEnergyDiscs;)V" } : Jvm.MethodName)) ∈ lw_all := lw_g (lw_at lw_m4 215 rfl) rfl
theorem q1171 : (Jvm.Cond.fieldLinkNest "EnergyDiscs" (325 : Nat) "EnergyDiscs$Order" "word" "Ljava/lang/String;" "EnergyDiscs") ∈ lw_tbl := lw_at lw_m5 139 rfl
theorem q1173 : (Jvm.Cond.fieldLinkNest "EnergyDiscs" (347 : Nat) "EnergyDiscs$Order" "first" "I" "EnergyDiscs") ∈ lw_tbl := lw_at lw_m5 141 rfl
theorem q1175 : (Jvm.Cond.fieldLinkNest "EnergyDiscs" (350 : Nat) "EnergyDiscs$Order" "second" "I" "EnergyDiscs") ∈ lw_tbl := lw_at lw_m5 143 rfl
theorem q1199 : (Jvm.Cond.fieldLinkNest "EnergyDiscs" (353 : Nat) "EnergyDiscs$Reader" "orders" "Ljava/util/List;" "EnergyDiscs") ∈ lw_tbl := lw_at lw_m5 167 rfl
theorem q1201 : (Jvm.Cond.fieldLinkNest "EnergyDiscs" (322 : Nat) "EnergyDiscs$Reader" "spot" "I" "EnergyDiscs") ∈ lw_tbl := lw_at lw_m5 169 rfl
theorem q1203 : (Jvm.Cond.fieldLinkNest "EnergyDiscs" (319 : Nat) "EnergyDiscs$Reader" "isWrong" "Z" "EnergyDiscs") ∈ lw_tbl := lw_at lw_m5 171 rfl
theorem q1214 : (Jvm.Cond.instanceMethod ({ cls := "EnergyDiscs", name := "carryOut", desc := "()I" } : Jvm.MethodName)) ∈ lw_all := lw_g (lw_at lw_m5 182 rfl) rfl
theorem q1215 : (Jvm.Cond.selects "EnergyDiscs" ({ cls := "EnergyDiscs", name := "carryOut", desc := "()I" } : Jvm.MethodName) ({ cls := "EnergyDiscs", name := "carryOut", desc := "()I" } : Jvm.MethodName)) ∈ lw_all := lw_g (lw_at lw_m5 183 rfl) rfl
theorem q1216 : (Jvm.Cond.code ({ cls := "EnergyDiscs", name := "carryOut", desc := "()I" } : Jvm.MethodName) prog_1_method_49_code (3 : Nat) (Option.some Jvm.ClassFile.FieldType.int)) ∈ lw_all := lw_g (lw_at lw_m5 184 rfl) rfl
theorem q1217 : (Jvm.Cond.classLink "EnergyDiscs" (326 : Nat) "EnergyDiscs$Order") ∈ lw_all := lw_g (lw_at lw_m5 185 rfl) rfl
theorem q1218 : (Jvm.Cond.methodLink "EnergyDiscs" (356 : Nat) ({ cls := "EnergyDiscs", name := "doIt", desc := "(LEnergyDiscs$Order;)I" } : Jvm.MethodName)) ∈ lw_all := lw_g (lw_at lw_m5 186 rfl) rfl
theorem q1219 : (Jvm.Cond.privateMethod ({ cls := "EnergyDiscs", name := "doIt", desc := "(LEnergyDiscs$Order;)I" } : Jvm.MethodName)) ∈ lw_tbl := lw_at lw_m5 187 rfl
theorem q1220 : (Jvm.Cond.instanceMethod ({ cls := "EnergyDiscs", name := "doIt", desc := "(LEnergyDiscs$Order;)I" } : Jvm.MethodName)) ∈ lw_all := lw_g (lw_at lw_m5 188 rfl) rfl
theorem q1221 : (Jvm.Cond.code ({ cls := "EnergyDiscs", name := "doIt", desc := "(LEnergyDiscs$Order;)I" } : Jvm.MethodName) prog_1_method_48_code (4 : Nat) (Option.some Jvm.ClassFile.FieldType.int)) ∈ lw_all := lw_g (lw_at lw_m5 189 rfl) rfl
theorem q1222 : (Jvm.Cond.methodLink "EnergyDiscs" (331 : Nat) ({ cls := "java/lang/String", name := "hashCode", desc := "()I" } : Jvm.MethodName)) ∈ lw_all := lw_g (lw_at lw_m5 190 rfl) rfl
theorem q1223 : (Jvm.Cond.stringRef "EnergyDiscs" (336 : Nat) "meter") ∈ lw_tbl := lw_at lw_m5 191 rfl
theorem q1224 : (Jvm.Cond.methodLink "EnergyDiscs" (337 : Nat) ({ cls := "java/lang/String", name := "equals", desc := "(Ljava/lang/Object;)Z" } : Jvm.MethodName)) ∈ lw_all := lw_g (lw_at lw_m5 192 rfl) rfl
theorem q1225 : (Jvm.Cond.stringRef "EnergyDiscs" (340 : Nat) "load") ∈ lw_tbl := lw_at lw_m5 193 rfl
theorem q1226 : (Jvm.Cond.stringRef "EnergyDiscs" (342 : Nat) "turn") ∈ lw_tbl := lw_at lw_m5 194 rfl
theorem q1227 : (Jvm.Cond.stringRef "EnergyDiscs" (344 : Nat) "pass") ∈ lw_tbl := lw_at lw_m5 195 rfl
theorem q1228 : (Jvm.Cond.stringRef "EnergyDiscs" (345 : Nat) "tamper") ∈ lw_tbl := lw_at lw_m5 196 rfl
theorem q1230 : (Jvm.Cond.instanceMethod ({ cls := "EnergyDiscs", name := "undo", desc := "()I" } : Jvm.MethodName)) ∈ lw_all := lw_g (lw_at lw_m5 198 rfl) rfl
theorem q1231 : (Jvm.Cond.selects "EnergyDiscs" ({ cls := "EnergyDiscs", name := "undo", desc := "()I" } : Jvm.MethodName) ({ cls := "EnergyDiscs", name := "undo", desc := "()I" } : Jvm.MethodName)) ∈ lw_all := lw_g (lw_at lw_m5 199 rfl) rfl
theorem q1232 : (Jvm.Cond.code ({ cls := "EnergyDiscs", name := "undo", desc := "()I" } : Jvm.MethodName) prog_1_method_50_code (1 : Nat) (Option.some Jvm.ClassFile.FieldType.int)) ∈ lw_all := lw_g (lw_at lw_m5 200 rfl) rfl
theorem q1234 : (Jvm.Cond.instanceMethod ({ cls := "EnergyDiscs", name := "save", desc := "(I)I" } : Jvm.MethodName)) ∈ lw_all := lw_g (lw_at lw_m5 202 rfl) rfl
theorem q1235 : (Jvm.Cond.selects "EnergyDiscs" ({ cls := "EnergyDiscs", name := "save", desc := "(I)I" } : Jvm.MethodName) ({ cls := "EnergyDiscs", name := "save", desc := "(I)I" } : Jvm.MethodName)) ∈ lw_all := lw_g (lw_at lw_m5 203 rfl) rfl
theorem q1236 : (Jvm.Cond.code ({ cls := "EnergyDiscs", name := "save", desc := "(I)I" } : Jvm.MethodName) prog_1_method_51_code (2 : Nat) (Option.some Jvm.ClassFile.FieldType.int)) ∈ lw_all := lw_g (lw_at lw_m5 204 rfl) rfl
theorem q1238 : (Jvm.Cond.instanceMethod ({ cls := "EnergyDiscs", name := "restore", desc := "(I)I" } : Jvm.MethodName)) ∈ lw_all := lw_g (lw_at lw_m5 206 rfl) rfl
theorem q1239 : (Jvm.Cond.selects "EnergyDiscs" ({ cls := "EnergyDiscs", name := "restore", desc := "(I)I" } : Jvm.MethodName) ({ cls := "EnergyDiscs", name := "restore", desc := "(I)I" } : Jvm.MethodName)) ∈ lw_all := lw_g (lw_at lw_m5 207 rfl) rfl
theorem q1240 : (Jvm.Cond.code ({ cls := "EnergyDiscs", name := "restore", desc := "(I)I" } : Jvm.MethodName) prog_1_method_52_code (2 : Nat) (Option.some Jvm.ClassFile.FieldType.int)) ∈ lw_all := lw_g (lw_at lw_m5 208 rfl) rfl
theorem q1551 : (Jvm.Cond.castable "EnergyDiscs" "java/lang/Object") ∈ lw_tbl := lw_at lw_m7 39 rfl
theorem in_X0 : ∀ w ∈ wsX00, w ∈ lw_all := lw_in wsX00 [203, 205, 207, 209] (by decide +kernel) (by decide +kernel)
/-! EnergyDiscs$House -/
set_option maxRecDepth 100000
def RX1 : String := "EnergyDiscs$House"
def TX1 : u_T := fun k => match k with
  | 0 => ("EnergyDiscs$House", "settings", "[I", true)
  | 1 => ("EnergyDiscs$House", "meters", "Ljava/util/List;", true)
  | 2 => ("EnergyDiscs$House", "loads", "Ljava/util/List;", true)
  | 3 => ("EnergyDiscs$House", "time", "I", false)
  | _ => ("EnergyDiscs$House", "seals", "I", false)
def tyX1 : Nat → FieldType := fun k => match k with
  | 0 => .array .int
  | 1 => .object "java/util/List"
  | 2 => .object "java/util/List"
  | 3 => .int
  | _ => .int
abbrev wsX10 : List Cond := u_ws RX1 TX1 5
theorem nmX1 : ∀ a, a < 5 → ∀ b, b < 5 → a ≠ b → (TX1 a).2.1 ≠ (TX1 b).2.1 := by decide +kernel
theorem tyX1_ok : ∀ k, k < 5 → parseFieldDescriptor (TX1 k).2.2.1 = some (tyX1 k) := by decide +kernel
abbrev cX1_init : ByteArray := prog_3_method_1_code
def yX1_init : MethodName := ⟨RX1, "<init>", "()V"⟩
def dkwX1_init_2 : List UInt8 := [181, 0, 18, 42, 187, 0, 15, 89, 183, 0, 17, 181, 0, 22, 177]
abbrev dktX1_init_2 : List UInt8 := dkwX1_init_2 ++ []
def dkwX1_init_1 : List UInt8 := [17, 3, 232, 79, 89, 7, 16, 9, 79, 89, 8, 8, 79, 181, 0, 9, 42, 187, 0, 15, 89, 183, 0, 17]
abbrev dktX1_init_1 : List UInt8 := dkwX1_init_1 ++ dktX1_init_2
def dkwX1_init_0 : List UInt8 := [42, 183, 0, 3, 42, 16, 6, 188, 10, 89, 3, 16, 15, 79, 89, 4, 5, 79, 89, 5, 4, 79, 89, 6]
abbrev dktX1_init_0 : List UInt8 := dkwX1_init_0 ++ dktX1_init_1
theorem dksX1_init_0 : cX1_init.data.toList.drop 0 = dktX1_init_0 := by decide +kernel
theorem dksX1_init_1 : cX1_init.data.toList.drop 24 = dktX1_init_1 := dk_seg dksX1_init_0 24 rfl rfl
theorem dksX1_init_2 : cX1_init.data.toList.drop 48 = dktX1_init_2 := dk_seg dksX1_init_1 24 rfl rfl
theorem dX1_init_0 : decode cX1_init 0 = .ok (.aload_n 0, 1) := dk_42 (dk_at dksX1_init_0 0 rfl rfl)
theorem dX1_init_1 : decode cX1_init 1 = .ok (.invokespecial 3, 3) := dk_183 0 3 (dk_at dksX1_init_0 1 rfl rfl)
theorem dX1_init_4 : decode cX1_init 4 = .ok (.aload_n 0, 1) := dk_42 (dk_at dksX1_init_0 4 rfl rfl)
theorem dX1_init_5 : decode cX1_init 5 = .ok (.bipush 6, 2) := dk_16 6 (dk_at dksX1_init_0 5 rfl rfl)
theorem dX1_init_7 : decode cX1_init 7 = .ok (.newarray .int, 2) := dk_188_10 (dk_at dksX1_init_0 7 rfl rfl)
theorem dX1_init_9 : decode cX1_init 9 = .ok (.dup, 1) := dk_89 (dk_at dksX1_init_0 9 rfl rfl)
theorem dX1_init_10 : decode cX1_init 10 = .ok (.iconst 0, 1) := dk_3 (dk_at dksX1_init_0 10 rfl rfl)
theorem dX1_init_11 : decode cX1_init 11 = .ok (.bipush 15, 2) := dk_16 15 (dk_at dksX1_init_0 11 rfl rfl)
theorem dX1_init_13 : decode cX1_init 13 = .ok (.iastore, 1) := dk_79 (dk_at dksX1_init_0 13 rfl rfl)
theorem dX1_init_14 : decode cX1_init 14 = .ok (.dup, 1) := dk_89 (dk_at dksX1_init_0 14 rfl rfl)
theorem dX1_init_15 : decode cX1_init 15 = .ok (.iconst 1, 1) := dk_4 (dk_at dksX1_init_0 15 rfl rfl)
theorem dX1_init_16 : decode cX1_init 16 = .ok (.iconst 2, 1) := dk_5 (dk_at dksX1_init_0 16 rfl rfl)
theorem dX1_init_17 : decode cX1_init 17 = .ok (.iastore, 1) := dk_79 (dk_at dksX1_init_0 17 rfl rfl)
theorem dX1_init_18 : decode cX1_init 18 = .ok (.dup, 1) := dk_89 (dk_at dksX1_init_0 18 rfl rfl)
theorem dX1_init_19 : decode cX1_init 19 = .ok (.iconst 2, 1) := dk_5 (dk_at dksX1_init_0 19 rfl rfl)
theorem dX1_init_20 : decode cX1_init 20 = .ok (.iconst 1, 1) := dk_4 (dk_at dksX1_init_0 20 rfl rfl)
theorem dX1_init_21 : decode cX1_init 21 = .ok (.iastore, 1) := dk_79 (dk_at dksX1_init_0 21 rfl rfl)
theorem dX1_init_22 : decode cX1_init 22 = .ok (.dup, 1) := dk_89 (dk_at dksX1_init_0 22 rfl rfl)
theorem dX1_init_23 : decode cX1_init 23 = .ok (.iconst 3, 1) := dk_6 (dk_at dksX1_init_0 23 rfl rfl)
theorem dX1_init_24 : decode cX1_init 24 = .ok (.sipush 1000, 3) := dk_17 3 232 (dk_at dksX1_init_1 0 rfl rfl)
theorem dX1_init_27 : decode cX1_init 27 = .ok (.iastore, 1) := dk_79 (dk_at dksX1_init_1 3 rfl rfl)
theorem dX1_init_28 : decode cX1_init 28 = .ok (.dup, 1) := dk_89 (dk_at dksX1_init_1 4 rfl rfl)
theorem dX1_init_29 : decode cX1_init 29 = .ok (.iconst 4, 1) := dk_7 (dk_at dksX1_init_1 5 rfl rfl)
theorem dX1_init_30 : decode cX1_init 30 = .ok (.bipush 9, 2) := dk_16 9 (dk_at dksX1_init_1 6 rfl rfl)
theorem dX1_init_32 : decode cX1_init 32 = .ok (.iastore, 1) := dk_79 (dk_at dksX1_init_1 8 rfl rfl)
theorem dX1_init_33 : decode cX1_init 33 = .ok (.dup, 1) := dk_89 (dk_at dksX1_init_1 9 rfl rfl)
theorem dX1_init_34 : decode cX1_init 34 = .ok (.iconst 5, 1) := dk_8 (dk_at dksX1_init_1 10 rfl rfl)
theorem dX1_init_35 : decode cX1_init 35 = .ok (.iconst 5, 1) := dk_8 (dk_at dksX1_init_1 11 rfl rfl)
theorem dX1_init_36 : decode cX1_init 36 = .ok (.iastore, 1) := dk_79 (dk_at dksX1_init_1 12 rfl rfl)
theorem dX1_init_37 : decode cX1_init 37 = .ok (.putfield 9, 3) := dk_181 0 9 (dk_at dksX1_init_1 13 rfl rfl)
theorem dX1_init_40 : decode cX1_init 40 = .ok (.aload_n 0, 1) := dk_42 (dk_at dksX1_init_1 16 rfl rfl)
theorem dX1_init_41 : decode cX1_init 41 = .ok (.new 15, 3) := dk_187 0 15 (dk_at dksX1_init_1 17 rfl rfl)
theorem dX1_init_44 : decode cX1_init 44 = .ok (.dup, 1) := dk_89 (dk_at dksX1_init_1 20 rfl rfl)
theorem dX1_init_45 : decode cX1_init 45 = .ok (.invokespecial 17, 3) := dk_183 0 17 (dk_at dksX1_init_1 21 rfl rfl)
theorem dX1_init_48 : decode cX1_init 48 = .ok (.putfield 18, 3) := dk_181 0 18 (dk_at dksX1_init_2 0 rfl rfl)
theorem dX1_init_51 : decode cX1_init 51 = .ok (.aload_n 0, 1) := dk_42 (dk_at dksX1_init_2 3 rfl rfl)
theorem dX1_init_52 : decode cX1_init 52 = .ok (.new 15, 3) := dk_187 0 15 (dk_at dksX1_init_2 4 rfl rfl)
theorem dX1_init_55 : decode cX1_init 55 = .ok (.dup, 1) := dk_89 (dk_at dksX1_init_2 7 rfl rfl)
theorem dX1_init_56 : decode cX1_init 56 = .ok (.invokespecial 17, 3) := dk_183 0 17 (dk_at dksX1_init_2 8 rfl rfl)
theorem dX1_init_59 : decode cX1_init 59 = .ok (.putfield 22, 3) := dk_181 0 22 (dk_at dksX1_init_2 11 rfl rfl)
theorem dX1_init_62 : decode cX1_init 62 = .ok (.return_, 1) := dk_177 (dk_at dksX1_init_2 14 rfl rfl)
abbrev cX1_copy : ByteArray := prog_3_method_2_code
def yX1_copy : MethodName := ⟨RX1, "copy", "()LEnergyDiscs$House;"⟩
def dkwX1_copy_6 : List UInt8 := [180, 0, 79, 181, 0, 79, 43, 176]
abbrev dktX1_copy_6 : List UInt8 := dkwX1_copy_6 ++ []
def dkwX1_copy_5 : List UInt8 := [78, 43, 45, 182, 0, 68, 182, 0, 72, 87, 167, 255, 228, 43, 42, 180, 0, 76, 181, 0, 76, 43, 42]
abbrev dktX1_copy_5 : List UInt8 := dkwX1_copy_5 ++ dktX1_copy_6
def dkwX1_copy_4 : List UInt8 := [185, 0, 32, 1, 0, 77, 44, 185, 0, 38, 1, 0, 153, 0, 25, 44, 185, 0, 44, 1, 0, 192, 0, 66]
abbrev dktX1_copy_4 : List UInt8 := dkwX1_copy_4 ++ dktX1_copy_5
def dkwX1_copy_3 : List UInt8 := [180, 0, 50, 180, 0, 54, 182, 0, 58, 58, 4, 25, 4, 45, 182, 0, 62, 167, 255, 206, 42, 180, 0, 22]
abbrev dktX1_copy_3 : List UInt8 := dkwX1_copy_3 ++ dktX1_copy_4
def dkwX1_copy_2 : List UInt8 := [185, 0, 44, 1, 0, 192, 0, 48, 78, 43, 45, 180, 0, 50, 199, 0, 8, 16, 250, 167, 0, 10, 45]
abbrev dktX1_copy_2 : List UInt8 := dkwX1_copy_2 ++ dktX1_copy_3
def dkwX1_copy_1 : List UInt8 := [184, 0, 26, 42, 180, 0, 18, 185, 0, 32, 1, 0, 77, 44, 185, 0, 38, 1, 0, 153, 0, 47, 44]
abbrev dktX1_copy_1 : List UInt8 := dkwX1_copy_1 ++ dktX1_copy_2
def dkwX1_copy_0 : List UInt8 := [187, 0, 10, 89, 183, 0, 25, 76, 42, 180, 0, 9, 3, 43, 180, 0, 9, 3, 42, 180, 0, 9, 190]
abbrev dktX1_copy_0 : List UInt8 := dkwX1_copy_0 ++ dktX1_copy_1
theorem dksX1_copy_0 : cX1_copy.data.toList.drop 0 = dktX1_copy_0 := by decide +kernel
theorem dksX1_copy_1 : cX1_copy.data.toList.drop 23 = dktX1_copy_1 := dk_seg dksX1_copy_0 23 rfl rfl
theorem dksX1_copy_2 : cX1_copy.data.toList.drop 46 = dktX1_copy_2 := dk_seg dksX1_copy_1 23 rfl rfl
theorem dksX1_copy_3 : cX1_copy.data.toList.drop 69 = dktX1_copy_3 := dk_seg dksX1_copy_2 23 rfl rfl
theorem dksX1_copy_4 : cX1_copy.data.toList.drop 93 = dktX1_copy_4 := dk_seg dksX1_copy_3 24 rfl rfl
theorem dksX1_copy_5 : cX1_copy.data.toList.drop 117 = dktX1_copy_5 := dk_seg dksX1_copy_4 24 rfl rfl
theorem dksX1_copy_6 : cX1_copy.data.toList.drop 140 = dktX1_copy_6 := dk_seg dksX1_copy_5 23 rfl rfl
theorem dX1_copy_0 : decode cX1_copy 0 = .ok (.new 10, 3) := dk_187 0 10 (dk_at dksX1_copy_0 0 rfl rfl)
theorem dX1_copy_3 : decode cX1_copy 3 = .ok (.dup, 1) := dk_89 (dk_at dksX1_copy_0 3 rfl rfl)
theorem dX1_copy_4 : decode cX1_copy 4 = .ok (.invokespecial 25, 3) := dk_183 0 25 (dk_at dksX1_copy_0 4 rfl rfl)
theorem dX1_copy_7 : decode cX1_copy 7 = .ok (.astore_n 1, 1) := dk_76 (dk_at dksX1_copy_0 7 rfl rfl)
theorem dX1_copy_8 : decode cX1_copy 8 = .ok (.aload_n 0, 1) := dk_42 (dk_at dksX1_copy_0 8 rfl rfl)
theorem dX1_copy_9 : decode cX1_copy 9 = .ok (.getfield 9, 3) := dk_180 0 9 (dk_at dksX1_copy_0 9 rfl rfl)
theorem dX1_copy_12 : decode cX1_copy 12 = .ok (.iconst 0, 1) := dk_3 (dk_at dksX1_copy_0 12 rfl rfl)
theorem dX1_copy_13 : decode cX1_copy 13 = .ok (.aload_n 1, 1) := dk_43 (dk_at dksX1_copy_0 13 rfl rfl)
theorem dX1_copy_14 : decode cX1_copy 14 = .ok (.getfield 9, 3) := dk_180 0 9 (dk_at dksX1_copy_0 14 rfl rfl)
theorem dX1_copy_17 : decode cX1_copy 17 = .ok (.iconst 0, 1) := dk_3 (dk_at dksX1_copy_0 17 rfl rfl)
theorem dX1_copy_18 : decode cX1_copy 18 = .ok (.aload_n 0, 1) := dk_42 (dk_at dksX1_copy_0 18 rfl rfl)
theorem dX1_copy_19 : decode cX1_copy 19 = .ok (.getfield 9, 3) := dk_180 0 9 (dk_at dksX1_copy_0 19 rfl rfl)
theorem dX1_copy_22 : decode cX1_copy 22 = .ok (.arraylength, 1) := dk_190 (dk_at dksX1_copy_0 22 rfl rfl)
theorem dX1_copy_23 : decode cX1_copy 23 = .ok (.invokestatic 26, 3) := dk_184 0 26 (dk_at dksX1_copy_1 0 rfl rfl)
theorem dX1_copy_26 : decode cX1_copy 26 = .ok (.aload_n 0, 1) := dk_42 (dk_at dksX1_copy_1 3 rfl rfl)
theorem dX1_copy_27 : decode cX1_copy 27 = .ok (.getfield 18, 3) := dk_180 0 18 (dk_at dksX1_copy_1 4 rfl rfl)
theorem dX1_copy_30 : decode cX1_copy 30 = .ok (.invokeinterface 32 1, 5) := by decide +kernel
theorem dX1_copy_35 : decode cX1_copy 35 = .ok (.astore_n 2, 1) := dk_77 (dk_at dksX1_copy_1 12 rfl rfl)
theorem dX1_copy_36 : decode cX1_copy 36 = .ok (.aload_n 2, 1) := dk_44 (dk_at dksX1_copy_1 13 rfl rfl)
theorem dX1_copy_37 : decode cX1_copy 37 = .ok (.invokeinterface 38 1, 5) := by decide +kernel
theorem dX1_copy_42 : decode cX1_copy 42 = .ok (.ifCond .eq 47, 3) := dk_153 0 47 (dk_at dksX1_copy_1 19 rfl rfl)
theorem dX1_copy_45 : decode cX1_copy 45 = .ok (.aload_n 2, 1) := dk_44 (dk_at dksX1_copy_1 22 rfl rfl)
theorem dX1_copy_46 : decode cX1_copy 46 = .ok (.invokeinterface 44 1, 5) := by decide +kernel
theorem dX1_copy_51 : decode cX1_copy 51 = .ok (.checkcast 48, 3) := dk_192 0 48 (dk_at dksX1_copy_2 5 rfl rfl)
theorem dX1_copy_54 : decode cX1_copy 54 = .ok (.astore_n 3, 1) := dk_78 (dk_at dksX1_copy_2 8 rfl rfl)
theorem dX1_copy_55 : decode cX1_copy 55 = .ok (.aload_n 1, 1) := dk_43 (dk_at dksX1_copy_2 9 rfl rfl)
theorem dX1_copy_56 : decode cX1_copy 56 = .ok (.aload_n 3, 1) := dk_45 (dk_at dksX1_copy_2 10 rfl rfl)
theorem dX1_copy_57 : decode cX1_copy 57 = .ok (.getfield 50, 3) := dk_180 0 50 (dk_at dksX1_copy_2 11 rfl rfl)
theorem dX1_copy_60 : decode cX1_copy 60 = .ok (.ifnonnull 8, 3) := dk_199 0 8 (dk_at dksX1_copy_2 14 rfl rfl)
theorem dX1_copy_63 : decode cX1_copy 63 = .ok (.bipush (-6), 2) := dk_16 250 (dk_at dksX1_copy_2 17 rfl rfl)
theorem dX1_copy_65 : decode cX1_copy 65 = .ok (.goto 10, 3) := dk_167 0 10 (dk_at dksX1_copy_2 19 rfl rfl)
theorem dX1_copy_68 : decode cX1_copy 68 = .ok (.aload_n 3, 1) := dk_45 (dk_at dksX1_copy_2 22 rfl rfl)
theorem dX1_copy_69 : decode cX1_copy 69 = .ok (.getfield 50, 3) := dk_180 0 50 (dk_at dksX1_copy_3 0 rfl rfl)
theorem dX1_copy_72 : decode cX1_copy 72 = .ok (.getfield 54, 3) := dk_180 0 54 (dk_at dksX1_copy_3 3 rfl rfl)
theorem dX1_copy_75 : decode cX1_copy 75 = .ok (.invokevirtual 58, 3) := dk_182 0 58 (dk_at dksX1_copy_3 6 rfl rfl)
theorem dX1_copy_78 : decode cX1_copy 78 = .ok (.astore 4, 2) := dk_58 4 (dk_at dksX1_copy_3 9 rfl rfl)
theorem dX1_copy_80 : decode cX1_copy 80 = .ok (.aload 4, 2) := dk_25 4 (dk_at dksX1_copy_3 11 rfl rfl)
theorem dX1_copy_82 : decode cX1_copy 82 = .ok (.aload_n 3, 1) := dk_45 (dk_at dksX1_copy_3 13 rfl rfl)
theorem dX1_copy_83 : decode cX1_copy 83 = .ok (.invokevirtual 62, 3) := dk_182 0 62 (dk_at dksX1_copy_3 14 rfl rfl)
theorem dX1_copy_86 : decode cX1_copy 86 = .ok (.goto (-50), 3) := dk_167 255 206 (dk_at dksX1_copy_3 17 rfl rfl)
theorem dX1_copy_89 : decode cX1_copy 89 = .ok (.aload_n 0, 1) := dk_42 (dk_at dksX1_copy_3 20 rfl rfl)
theorem dX1_copy_90 : decode cX1_copy 90 = .ok (.getfield 22, 3) := dk_180 0 22 (dk_at dksX1_copy_3 21 rfl rfl)
theorem dX1_copy_93 : decode cX1_copy 93 = .ok (.invokeinterface 32 1, 5) := by decide +kernel
theorem dX1_copy_98 : decode cX1_copy 98 = .ok (.astore_n 2, 1) := dk_77 (dk_at dksX1_copy_4 5 rfl rfl)
theorem dX1_copy_99 : decode cX1_copy 99 = .ok (.aload_n 2, 1) := dk_44 (dk_at dksX1_copy_4 6 rfl rfl)
theorem dX1_copy_100 : decode cX1_copy 100 = .ok (.invokeinterface 38 1, 5) := by decide +kernel
theorem dX1_copy_105 : decode cX1_copy 105 = .ok (.ifCond .eq 25, 3) := dk_153 0 25 (dk_at dksX1_copy_4 12 rfl rfl)
theorem dX1_copy_108 : decode cX1_copy 108 = .ok (.aload_n 2, 1) := dk_44 (dk_at dksX1_copy_4 15 rfl rfl)
theorem dX1_copy_109 : decode cX1_copy 109 = .ok (.invokeinterface 44 1, 5) := by decide +kernel
theorem dX1_copy_114 : decode cX1_copy 114 = .ok (.checkcast 66, 3) := dk_192 0 66 (dk_at dksX1_copy_4 21 rfl rfl)
theorem dX1_copy_117 : decode cX1_copy 117 = .ok (.astore_n 3, 1) := dk_78 (dk_at dksX1_copy_5 0 rfl rfl)
theorem dX1_copy_118 : decode cX1_copy 118 = .ok (.aload_n 1, 1) := dk_43 (dk_at dksX1_copy_5 1 rfl rfl)
theorem dX1_copy_119 : decode cX1_copy 119 = .ok (.aload_n 3, 1) := dk_45 (dk_at dksX1_copy_5 2 rfl rfl)
theorem dX1_copy_120 : decode cX1_copy 120 = .ok (.invokevirtual 68, 3) := dk_182 0 68 (dk_at dksX1_copy_5 3 rfl rfl)
theorem dX1_copy_123 : decode cX1_copy 123 = .ok (.invokevirtual 72, 3) := dk_182 0 72 (dk_at dksX1_copy_5 6 rfl rfl)
theorem dX1_copy_126 : decode cX1_copy 126 = .ok (.pop, 1) := dk_87 (dk_at dksX1_copy_5 9 rfl rfl)
theorem dX1_copy_127 : decode cX1_copy 127 = .ok (.goto (-28), 3) := dk_167 255 228 (dk_at dksX1_copy_5 10 rfl rfl)
theorem dX1_copy_130 : decode cX1_copy 130 = .ok (.aload_n 1, 1) := dk_43 (dk_at dksX1_copy_5 13 rfl rfl)
theorem dX1_copy_131 : decode cX1_copy 131 = .ok (.aload_n 0, 1) := dk_42 (dk_at dksX1_copy_5 14 rfl rfl)
theorem dX1_copy_132 : decode cX1_copy 132 = .ok (.getfield 76, 3) := dk_180 0 76 (dk_at dksX1_copy_5 15 rfl rfl)
theorem dX1_copy_135 : decode cX1_copy 135 = .ok (.putfield 76, 3) := dk_181 0 76 (dk_at dksX1_copy_5 18 rfl rfl)
theorem dX1_copy_138 : decode cX1_copy 138 = .ok (.aload_n 1, 1) := dk_43 (dk_at dksX1_copy_5 21 rfl rfl)
theorem dX1_copy_139 : decode cX1_copy 139 = .ok (.aload_n 0, 1) := dk_42 (dk_at dksX1_copy_5 22 rfl rfl)
theorem dX1_copy_140 : decode cX1_copy 140 = .ok (.getfield 79, 3) := dk_180 0 79 (dk_at dksX1_copy_6 0 rfl rfl)
theorem dX1_copy_143 : decode cX1_copy 143 = .ok (.putfield 79, 3) := dk_181 0 79 (dk_at dksX1_copy_6 3 rfl rfl)
theorem dX1_copy_146 : decode cX1_copy 146 = .ok (.aload_n 1, 1) := dk_43 (dk_at dksX1_copy_6 6 rfl rfl)
theorem dX1_copy_147 : decode cX1_copy 147 = .ok (.areturn, 1) := dk_176 (dk_at dksX1_copy_6 7 rfl rfl)
abbrev cX1_add : ByteArray := prog_3_method_3_code
def yX1_add : MethodName := ⟨RX1, "add", "(I)LEnergyDiscs$Meter;"⟩
def dkwX1_add_2 : List UInt8 := [185, 0, 93, 2, 0, 87, 44, 176]
abbrev dktX1_add_2 : List UInt8 := dkwX1_add_2 ++ []
def dkwX1_add_1 : List UInt8 := [180, 0, 18, 27, 185, 0, 86, 2, 0, 192, 0, 48, 183, 0, 90, 77, 42, 180, 0, 18, 44]
abbrev dktX1_add_1 : List UInt8 := dkwX1_add_1 ++ dktX1_add_2
def dkwX1_add_0 : List UInt8 := [187, 0, 48, 89, 42, 180, 0, 18, 185, 0, 82, 1, 0, 27, 156, 0, 7, 1, 167, 0, 16, 42]
abbrev dktX1_add_0 : List UInt8 := dkwX1_add_0 ++ dktX1_add_1
theorem dksX1_add_0 : cX1_add.data.toList.drop 0 = dktX1_add_0 := by decide +kernel
theorem dksX1_add_1 : cX1_add.data.toList.drop 22 = dktX1_add_1 := dk_seg dksX1_add_0 22 rfl rfl
theorem dksX1_add_2 : cX1_add.data.toList.drop 43 = dktX1_add_2 := dk_seg dksX1_add_1 21 rfl rfl
theorem dX1_add_0 : decode cX1_add 0 = .ok (.new 48, 3) := dk_187 0 48 (dk_at dksX1_add_0 0 rfl rfl)
theorem dX1_add_3 : decode cX1_add 3 = .ok (.dup, 1) := dk_89 (dk_at dksX1_add_0 3 rfl rfl)
theorem dX1_add_4 : decode cX1_add 4 = .ok (.aload_n 0, 1) := dk_42 (dk_at dksX1_add_0 4 rfl rfl)
theorem dX1_add_5 : decode cX1_add 5 = .ok (.getfield 18, 3) := dk_180 0 18 (dk_at dksX1_add_0 5 rfl rfl)
theorem dX1_add_8 : decode cX1_add 8 = .ok (.invokeinterface 82 1, 5) := by decide +kernel
theorem dX1_add_13 : decode cX1_add 13 = .ok (.iload_n 1, 1) := dk_27 (dk_at dksX1_add_0 13 rfl rfl)
theorem dX1_add_14 : decode cX1_add 14 = .ok (.ifCond .ge 7, 3) := dk_156 0 7 (dk_at dksX1_add_0 14 rfl rfl)
theorem dX1_add_17 : decode cX1_add 17 = .ok (.aconst_null, 1) := dk_1 (dk_at dksX1_add_0 17 rfl rfl)
theorem dX1_add_18 : decode cX1_add 18 = .ok (.goto 16, 3) := dk_167 0 16 (dk_at dksX1_add_0 18 rfl rfl)
theorem dX1_add_21 : decode cX1_add 21 = .ok (.aload_n 0, 1) := dk_42 (dk_at dksX1_add_0 21 rfl rfl)
theorem dX1_add_22 : decode cX1_add 22 = .ok (.getfield 18, 3) := dk_180 0 18 (dk_at dksX1_add_1 0 rfl rfl)
theorem dX1_add_25 : decode cX1_add 25 = .ok (.iload_n 1, 1) := dk_27 (dk_at dksX1_add_1 3 rfl rfl)
theorem dX1_add_26 : decode cX1_add 26 = .ok (.invokeinterface 86 2, 5) := by decide +kernel
theorem dX1_add_31 : decode cX1_add 31 = .ok (.checkcast 48, 3) := dk_192 0 48 (dk_at dksX1_add_1 9 rfl rfl)
theorem dX1_add_34 : decode cX1_add 34 = .ok (.invokespecial 90, 3) := dk_183 0 90 (dk_at dksX1_add_1 12 rfl rfl)
theorem dX1_add_37 : decode cX1_add 37 = .ok (.astore_n 2, 1) := dk_77 (dk_at dksX1_add_1 15 rfl rfl)
theorem dX1_add_38 : decode cX1_add 38 = .ok (.aload_n 0, 1) := dk_42 (dk_at dksX1_add_1 16 rfl rfl)
theorem dX1_add_39 : decode cX1_add 39 = .ok (.getfield 18, 3) := dk_180 0 18 (dk_at dksX1_add_1 17 rfl rfl)
theorem dX1_add_42 : decode cX1_add 42 = .ok (.aload_n 2, 1) := dk_44 (dk_at dksX1_add_1 20 rfl rfl)
theorem dX1_add_43 : decode cX1_add 43 = .ok (.invokeinterface 93 2, 5) := by decide +kernel
theorem dX1_add_48 : decode cX1_add 48 = .ok (.pop, 1) := dk_87 (dk_at dksX1_add_2 5 rfl rfl)
theorem dX1_add_49 : decode cX1_add 49 = .ok (.aload_n 2, 1) := dk_44 (dk_at dksX1_add_2 6 rfl rfl)
theorem dX1_add_50 : decode cX1_add 50 = .ok (.areturn, 1) := dk_176 (dk_at dksX1_add_2 7 rfl rfl)
abbrev cX1_addLoad : ByteArray := prog_3_method_5_code
def yX1_addLoad : MethodName := ⟨RX1, "addLoad", "(LEnergyDiscs$Load;)I"⟩
def dkwX1_addLoad_2 : List UInt8 := [172]
abbrev dktX1_addLoad_2 : List UInt8 := dkwX1_addLoad_2 ++ []
def dkwX1_addLoad_1 : List UInt8 := [192, 0, 48, 180, 0, 105, 43, 185, 0, 93, 2, 0, 87, 42, 180, 0, 22, 185, 0, 82, 1, 0, 4, 100]
abbrev dktX1_addLoad_1 : List UInt8 := dkwX1_addLoad_1 ++ dktX1_addLoad_2
def dkwX1_addLoad_0 : List UInt8 := [42, 180, 0, 22, 43, 185, 0, 93, 2, 0, 87, 42, 180, 0, 18, 43, 180, 0, 102, 185, 0, 86, 2, 0]
abbrev dktX1_addLoad_0 : List UInt8 := dkwX1_addLoad_0 ++ dktX1_addLoad_1
theorem dksX1_addLoad_0 : cX1_addLoad.data.toList.drop 0 = dktX1_addLoad_0 := by decide +kernel
theorem dksX1_addLoad_1 : cX1_addLoad.data.toList.drop 24 = dktX1_addLoad_1 := dk_seg dksX1_addLoad_0 24 rfl rfl
theorem dksX1_addLoad_2 : cX1_addLoad.data.toList.drop 48 = dktX1_addLoad_2 := dk_seg dksX1_addLoad_1 24 rfl rfl
theorem dX1_addLoad_0 : decode cX1_addLoad 0 = .ok (.aload_n 0, 1) := dk_42 (dk_at dksX1_addLoad_0 0 rfl rfl)
theorem dX1_addLoad_1 : decode cX1_addLoad 1 = .ok (.getfield 22, 3) := dk_180 0 22 (dk_at dksX1_addLoad_0 1 rfl rfl)
theorem dX1_addLoad_4 : decode cX1_addLoad 4 = .ok (.aload_n 1, 1) := dk_43 (dk_at dksX1_addLoad_0 4 rfl rfl)
theorem dX1_addLoad_5 : decode cX1_addLoad 5 = .ok (.invokeinterface 93 2, 5) := by decide +kernel
theorem dX1_addLoad_10 : decode cX1_addLoad 10 = .ok (.pop, 1) := dk_87 (dk_at dksX1_addLoad_0 10 rfl rfl)
theorem dX1_addLoad_11 : decode cX1_addLoad 11 = .ok (.aload_n 0, 1) := dk_42 (dk_at dksX1_addLoad_0 11 rfl rfl)
theorem dX1_addLoad_12 : decode cX1_addLoad 12 = .ok (.getfield 18, 3) := dk_180 0 18 (dk_at dksX1_addLoad_0 12 rfl rfl)
theorem dX1_addLoad_15 : decode cX1_addLoad 15 = .ok (.aload_n 1, 1) := dk_43 (dk_at dksX1_addLoad_0 15 rfl rfl)
theorem dX1_addLoad_16 : decode cX1_addLoad 16 = .ok (.getfield 102, 3) := dk_180 0 102 (dk_at dksX1_addLoad_0 16 rfl rfl)
theorem dX1_addLoad_19 : decode cX1_addLoad 19 = .ok (.invokeinterface 86 2, 5) := by decide +kernel
theorem dX1_addLoad_24 : decode cX1_addLoad 24 = .ok (.checkcast 48, 3) := dk_192 0 48 (dk_at dksX1_addLoad_1 0 rfl rfl)
theorem dX1_addLoad_27 : decode cX1_addLoad 27 = .ok (.getfield 105, 3) := dk_180 0 105 (dk_at dksX1_addLoad_1 3 rfl rfl)
theorem dX1_addLoad_30 : decode cX1_addLoad 30 = .ok (.aload_n 1, 1) := dk_43 (dk_at dksX1_addLoad_1 6 rfl rfl)
theorem dX1_addLoad_31 : decode cX1_addLoad 31 = .ok (.invokeinterface 93 2, 5) := by decide +kernel
theorem dX1_addLoad_36 : decode cX1_addLoad 36 = .ok (.pop, 1) := dk_87 (dk_at dksX1_addLoad_1 12 rfl rfl)
theorem dX1_addLoad_37 : decode cX1_addLoad 37 = .ok (.aload_n 0, 1) := dk_42 (dk_at dksX1_addLoad_1 13 rfl rfl)
theorem dX1_addLoad_38 : decode cX1_addLoad 38 = .ok (.getfield 22, 3) := dk_180 0 22 (dk_at dksX1_addLoad_1 14 rfl rfl)
theorem dX1_addLoad_41 : decode cX1_addLoad 41 = .ok (.invokeinterface 82 1, 5) := by decide +kernel
theorem dX1_addLoad_46 : decode cX1_addLoad 46 = .ok (.iconst 1, 1) := dk_4 (dk_at dksX1_addLoad_1 22 rfl rfl)
theorem dX1_addLoad_47 : decode cX1_addLoad 47 = .ok (.isub, 1) := dk_100 (dk_at dksX1_addLoad_1 23 rfl rfl)
theorem dX1_addLoad_48 : decode cX1_addLoad 48 = .ok (.ireturn, 1) := dk_172 (dk_at dksX1_addLoad_2 0 rfl rfl)
abbrev cX1_newMeter : ByteArray := prog_3_method_4_code
def yX1_newMeter : MethodName := ⟨RX1, "newMeter", "(I)I"⟩
def dkwX1_newMeter_1 : List UInt8 := [89, 180, 0, 79, 4, 96, 181, 0, 79, 44, 42, 180, 0, 79, 181, 0, 99, 44, 180, 0, 54, 172]
abbrev dktX1_newMeter_1 : List UInt8 := dkwX1_newMeter_1 ++ []
def dkwX1_newMeter_0 : List UInt8 := [42, 42, 180, 0, 18, 185, 0, 96, 1, 0, 153, 0, 8, 16, 250, 167, 0, 4, 27, 182, 0, 58, 77, 42]
abbrev dktX1_newMeter_0 : List UInt8 := dkwX1_newMeter_0 ++ dktX1_newMeter_1
theorem dksX1_newMeter_0 : cX1_newMeter.data.toList.drop 0 = dktX1_newMeter_0 := by decide +kernel
theorem dksX1_newMeter_1 : cX1_newMeter.data.toList.drop 24 = dktX1_newMeter_1 := dk_seg dksX1_newMeter_0 24 rfl rfl
theorem dX1_newMeter_0 : decode cX1_newMeter 0 = .ok (.aload_n 0, 1) := dk_42 (dk_at dksX1_newMeter_0 0 rfl rfl)
theorem dX1_newMeter_1 : decode cX1_newMeter 1 = .ok (.aload_n 0, 1) := dk_42 (dk_at dksX1_newMeter_0 1 rfl rfl)
theorem dX1_newMeter_2 : decode cX1_newMeter 2 = .ok (.getfield 18, 3) := dk_180 0 18 (dk_at dksX1_newMeter_0 2 rfl rfl)
theorem dX1_newMeter_5 : decode cX1_newMeter 5 = .ok (.invokeinterface 96 1, 5) := by decide +kernel
theorem dX1_newMeter_10 : decode cX1_newMeter 10 = .ok (.ifCond .eq 8, 3) := dk_153 0 8 (dk_at dksX1_newMeter_0 10 rfl rfl)
theorem dX1_newMeter_13 : decode cX1_newMeter 13 = .ok (.bipush (-6), 2) := dk_16 250 (dk_at dksX1_newMeter_0 13 rfl rfl)
theorem dX1_newMeter_15 : decode cX1_newMeter 15 = .ok (.goto 4, 3) := dk_167 0 4 (dk_at dksX1_newMeter_0 15 rfl rfl)
theorem dX1_newMeter_18 : decode cX1_newMeter 18 = .ok (.iload_n 1, 1) := dk_27 (dk_at dksX1_newMeter_0 18 rfl rfl)
theorem dX1_newMeter_19 : decode cX1_newMeter 19 = .ok (.invokevirtual 58, 3) := dk_182 0 58 (dk_at dksX1_newMeter_0 19 rfl rfl)
theorem dX1_newMeter_22 : decode cX1_newMeter 22 = .ok (.astore_n 2, 1) := dk_77 (dk_at dksX1_newMeter_0 22 rfl rfl)
theorem dX1_newMeter_23 : decode cX1_newMeter 23 = .ok (.aload_n 0, 1) := dk_42 (dk_at dksX1_newMeter_0 23 rfl rfl)
theorem dX1_newMeter_24 : decode cX1_newMeter 24 = .ok (.dup, 1) := dk_89 (dk_at dksX1_newMeter_1 0 rfl rfl)
theorem dX1_newMeter_25 : decode cX1_newMeter 25 = .ok (.getfield 79, 3) := dk_180 0 79 (dk_at dksX1_newMeter_1 1 rfl rfl)
theorem dX1_newMeter_28 : decode cX1_newMeter 28 = .ok (.iconst 1, 1) := dk_4 (dk_at dksX1_newMeter_1 4 rfl rfl)
theorem dX1_newMeter_29 : decode cX1_newMeter 29 = .ok (.iadd, 1) := dk_96 (dk_at dksX1_newMeter_1 5 rfl rfl)
theorem dX1_newMeter_30 : decode cX1_newMeter 30 = .ok (.putfield 79, 3) := dk_181 0 79 (dk_at dksX1_newMeter_1 6 rfl rfl)
theorem dX1_newMeter_33 : decode cX1_newMeter 33 = .ok (.aload_n 2, 1) := dk_44 (dk_at dksX1_newMeter_1 9 rfl rfl)
theorem dX1_newMeter_34 : decode cX1_newMeter 34 = .ok (.aload_n 0, 1) := dk_42 (dk_at dksX1_newMeter_1 10 rfl rfl)
theorem dX1_newMeter_35 : decode cX1_newMeter 35 = .ok (.getfield 79, 3) := dk_180 0 79 (dk_at dksX1_newMeter_1 11 rfl rfl)
theorem dX1_newMeter_38 : decode cX1_newMeter 38 = .ok (.putfield 99, 3) := dk_181 0 99 (dk_at dksX1_newMeter_1 14 rfl rfl)
theorem dX1_newMeter_41 : decode cX1_newMeter 41 = .ok (.aload_n 2, 1) := dk_44 (dk_at dksX1_newMeter_1 17 rfl rfl)
theorem dX1_newMeter_42 : decode cX1_newMeter 42 = .ok (.getfield 54, 3) := dk_180 0 54 (dk_at dksX1_newMeter_1 18 rfl rfl)
theorem dX1_newMeter_45 : decode cX1_newMeter 45 = .ok (.ireturn, 1) := dk_172 (dk_at dksX1_newMeter_1 21 rfl rfl)
abbrev cX1_visit : ByteArray := prog_3_method_10_code
def yX1_visit : MethodName := ⟨RX1, "visit", "(LEnergyDiscs$Meter;)I"⟩
def dkwX1_visit_3 : List UInt8 := [180, 0, 79, 181, 0, 99, 43, 3, 181, 0, 154, 28, 172]
abbrev dktX1_visit_3 : List UInt8 := dkwX1_visit_3 ++ []
def dkwX1_visit_2 : List UInt8 := [4, 96, 181, 0, 151, 43, 180, 0, 154, 153, 0, 26, 42, 89, 180, 0, 79, 4, 96, 181, 0, 79, 43, 42]
abbrev dktX1_visit_2 : List UInt8 := dkwX1_visit_2 ++ dktX1_visit_3
def dkwX1_visit_1 : List UInt8 := [43, 43, 180, 0, 139, 181, 0, 142, 43, 16, 100, 181, 0, 145, 43, 3, 181, 0, 148, 43, 89, 180, 0, 151]
abbrev dktX1_visit_1 : List UInt8 := dkwX1_visit_1 ++ dktX1_visit_2
def dkwX1_visit_0 : List UInt8 := [42, 43, 182, 0, 127, 61, 43, 89, 180, 0, 130, 28, 96, 181, 0, 130, 43, 43, 180, 0, 133, 181, 0, 136]
abbrev dktX1_visit_0 : List UInt8 := dkwX1_visit_0 ++ dktX1_visit_1
theorem dksX1_visit_0 : cX1_visit.data.toList.drop 0 = dktX1_visit_0 := by decide +kernel
theorem dksX1_visit_1 : cX1_visit.data.toList.drop 24 = dktX1_visit_1 := dk_seg dksX1_visit_0 24 rfl rfl
theorem dksX1_visit_2 : cX1_visit.data.toList.drop 48 = dktX1_visit_2 := dk_seg dksX1_visit_1 24 rfl rfl
theorem dksX1_visit_3 : cX1_visit.data.toList.drop 72 = dktX1_visit_3 := dk_seg dksX1_visit_2 24 rfl rfl
theorem dX1_visit_0 : decode cX1_visit 0 = .ok (.aload_n 0, 1) := dk_42 (dk_at dksX1_visit_0 0 rfl rfl)
theorem dX1_visit_1 : decode cX1_visit 1 = .ok (.aload_n 1, 1) := dk_43 (dk_at dksX1_visit_0 1 rfl rfl)
theorem dX1_visit_2 : decode cX1_visit 2 = .ok (.invokevirtual 127, 3) := dk_182 0 127 (dk_at dksX1_visit_0 2 rfl rfl)
theorem dX1_visit_5 : decode cX1_visit 5 = .ok (.istore_n 2, 1) := dk_61 (dk_at dksX1_visit_0 5 rfl rfl)
theorem dX1_visit_6 : decode cX1_visit 6 = .ok (.aload_n 1, 1) := dk_43 (dk_at dksX1_visit_0 6 rfl rfl)
theorem dX1_visit_7 : decode cX1_visit 7 = .ok (.dup, 1) := dk_89 (dk_at dksX1_visit_0 7 rfl rfl)
theorem dX1_visit_8 : decode cX1_visit 8 = .ok (.getfield 130, 3) := dk_180 0 130 (dk_at dksX1_visit_0 8 rfl rfl)
theorem dX1_visit_11 : decode cX1_visit 11 = .ok (.iload_n 2, 1) := dk_28 (dk_at dksX1_visit_0 11 rfl rfl)
theorem dX1_visit_12 : decode cX1_visit 12 = .ok (.iadd, 1) := dk_96 (dk_at dksX1_visit_0 12 rfl rfl)
theorem dX1_visit_13 : decode cX1_visit 13 = .ok (.putfield 130, 3) := dk_181 0 130 (dk_at dksX1_visit_0 13 rfl rfl)
theorem dX1_visit_16 : decode cX1_visit 16 = .ok (.aload_n 1, 1) := dk_43 (dk_at dksX1_visit_0 16 rfl rfl)
theorem dX1_visit_17 : decode cX1_visit 17 = .ok (.aload_n 1, 1) := dk_43 (dk_at dksX1_visit_0 17 rfl rfl)
theorem dX1_visit_18 : decode cX1_visit 18 = .ok (.getfield 133, 3) := dk_180 0 133 (dk_at dksX1_visit_0 18 rfl rfl)
theorem dX1_visit_21 : decode cX1_visit 21 = .ok (.putfield 136, 3) := dk_181 0 136 (dk_at dksX1_visit_0 21 rfl rfl)
theorem dX1_visit_24 : decode cX1_visit 24 = .ok (.aload_n 1, 1) := dk_43 (dk_at dksX1_visit_1 0 rfl rfl)
theorem dX1_visit_25 : decode cX1_visit 25 = .ok (.aload_n 1, 1) := dk_43 (dk_at dksX1_visit_1 1 rfl rfl)
theorem dX1_visit_26 : decode cX1_visit 26 = .ok (.getfield 139, 3) := dk_180 0 139 (dk_at dksX1_visit_1 2 rfl rfl)
theorem dX1_visit_29 : decode cX1_visit 29 = .ok (.putfield 142, 3) := dk_181 0 142 (dk_at dksX1_visit_1 5 rfl rfl)
theorem dX1_visit_32 : decode cX1_visit 32 = .ok (.aload_n 1, 1) := dk_43 (dk_at dksX1_visit_1 8 rfl rfl)
theorem dX1_visit_33 : decode cX1_visit 33 = .ok (.bipush 100, 2) := dk_16 100 (dk_at dksX1_visit_1 9 rfl rfl)
theorem dX1_visit_35 : decode cX1_visit 35 = .ok (.putfield 145, 3) := dk_181 0 145 (dk_at dksX1_visit_1 11 rfl rfl)
theorem dX1_visit_38 : decode cX1_visit 38 = .ok (.aload_n 1, 1) := dk_43 (dk_at dksX1_visit_1 14 rfl rfl)
theorem dX1_visit_39 : decode cX1_visit 39 = .ok (.iconst 0, 1) := dk_3 (dk_at dksX1_visit_1 15 rfl rfl)
theorem dX1_visit_40 : decode cX1_visit 40 = .ok (.putfield 148, 3) := dk_181 0 148 (dk_at dksX1_visit_1 16 rfl rfl)
theorem dX1_visit_43 : decode cX1_visit 43 = .ok (.aload_n 1, 1) := dk_43 (dk_at dksX1_visit_1 19 rfl rfl)
theorem dX1_visit_44 : decode cX1_visit 44 = .ok (.dup, 1) := dk_89 (dk_at dksX1_visit_1 20 rfl rfl)
theorem dX1_visit_45 : decode cX1_visit 45 = .ok (.getfield 151, 3) := dk_180 0 151 (dk_at dksX1_visit_1 21 rfl rfl)
theorem dX1_visit_48 : decode cX1_visit 48 = .ok (.iconst 1, 1) := dk_4 (dk_at dksX1_visit_2 0 rfl rfl)
theorem dX1_visit_49 : decode cX1_visit 49 = .ok (.iadd, 1) := dk_96 (dk_at dksX1_visit_2 1 rfl rfl)
theorem dX1_visit_50 : decode cX1_visit 50 = .ok (.putfield 151, 3) := dk_181 0 151 (dk_at dksX1_visit_2 2 rfl rfl)
theorem dX1_visit_53 : decode cX1_visit 53 = .ok (.aload_n 1, 1) := dk_43 (dk_at dksX1_visit_2 5 rfl rfl)
theorem dX1_visit_54 : decode cX1_visit 54 = .ok (.getfield 154, 3) := dk_180 0 154 (dk_at dksX1_visit_2 6 rfl rfl)
theorem dX1_visit_57 : decode cX1_visit 57 = .ok (.ifCond .eq 26, 3) := dk_153 0 26 (dk_at dksX1_visit_2 9 rfl rfl)
theorem dX1_visit_60 : decode cX1_visit 60 = .ok (.aload_n 0, 1) := dk_42 (dk_at dksX1_visit_2 12 rfl rfl)
theorem dX1_visit_61 : decode cX1_visit 61 = .ok (.dup, 1) := dk_89 (dk_at dksX1_visit_2 13 rfl rfl)
theorem dX1_visit_62 : decode cX1_visit 62 = .ok (.getfield 79, 3) := dk_180 0 79 (dk_at dksX1_visit_2 14 rfl rfl)
theorem dX1_visit_65 : decode cX1_visit 65 = .ok (.iconst 1, 1) := dk_4 (dk_at dksX1_visit_2 17 rfl rfl)
theorem dX1_visit_66 : decode cX1_visit 66 = .ok (.iadd, 1) := dk_96 (dk_at dksX1_visit_2 18 rfl rfl)
theorem dX1_visit_67 : decode cX1_visit 67 = .ok (.putfield 79, 3) := dk_181 0 79 (dk_at dksX1_visit_2 19 rfl rfl)
theorem dX1_visit_70 : decode cX1_visit 70 = .ok (.aload_n 1, 1) := dk_43 (dk_at dksX1_visit_2 22 rfl rfl)
theorem dX1_visit_71 : decode cX1_visit 71 = .ok (.aload_n 0, 1) := dk_42 (dk_at dksX1_visit_2 23 rfl rfl)
theorem dX1_visit_72 : decode cX1_visit 72 = .ok (.getfield 79, 3) := dk_180 0 79 (dk_at dksX1_visit_3 0 rfl rfl)
theorem dX1_visit_75 : decode cX1_visit 75 = .ok (.putfield 99, 3) := dk_181 0 99 (dk_at dksX1_visit_3 3 rfl rfl)
theorem dX1_visit_78 : decode cX1_visit 78 = .ok (.aload_n 1, 1) := dk_43 (dk_at dksX1_visit_3 6 rfl rfl)
theorem dX1_visit_79 : decode cX1_visit 79 = .ok (.iconst 0, 1) := dk_3 (dk_at dksX1_visit_3 7 rfl rfl)
theorem dX1_visit_80 : decode cX1_visit 80 = .ok (.putfield 154, 3) := dk_181 0 154 (dk_at dksX1_visit_3 8 rfl rfl)
theorem dX1_visit_83 : decode cX1_visit 83 = .ok (.iload_n 2, 1) := dk_28 (dk_at dksX1_visit_3 11 rfl rfl)
theorem dX1_visit_84 : decode cX1_visit 84 = .ok (.ireturn, 1) := dk_172 (dk_at dksX1_visit_3 12 rfl rfl)
abbrev cX1_bill : ByteArray := prog_3_method_9_code
def yX1_bill : MethodName := ⟨RX1, "bill", "(LEnergyDiscs$Meter;)I"⟩
def dkwX1_bill_0 : List UInt8 := [43, 42, 180, 0, 9, 7, 46, 42, 180, 0, 9, 8, 46, 182, 0, 123, 172]
abbrev dktX1_bill_0 : List UInt8 := dkwX1_bill_0 ++ []
theorem dksX1_bill_0 : cX1_bill.data.toList.drop 0 = dktX1_bill_0 := by decide +kernel
theorem dX1_bill_0 : decode cX1_bill 0 = .ok (.aload_n 1, 1) := dk_43 (dk_at dksX1_bill_0 0 rfl rfl)
theorem dX1_bill_1 : decode cX1_bill 1 = .ok (.aload_n 0, 1) := dk_42 (dk_at dksX1_bill_0 1 rfl rfl)
theorem dX1_bill_2 : decode cX1_bill 2 = .ok (.getfield 9, 3) := dk_180 0 9 (dk_at dksX1_bill_0 2 rfl rfl)
theorem dX1_bill_5 : decode cX1_bill 5 = .ok (.iconst 4, 1) := dk_7 (dk_at dksX1_bill_0 5 rfl rfl)
theorem dX1_bill_6 : decode cX1_bill 6 = .ok (.iaload, 1) := dk_46 (dk_at dksX1_bill_0 6 rfl rfl)
theorem dX1_bill_7 : decode cX1_bill 7 = .ok (.aload_n 0, 1) := dk_42 (dk_at dksX1_bill_0 7 rfl rfl)
theorem dX1_bill_8 : decode cX1_bill 8 = .ok (.getfield 9, 3) := dk_180 0 9 (dk_at dksX1_bill_0 8 rfl rfl)
theorem dX1_bill_11 : decode cX1_bill 11 = .ok (.iconst 5, 1) := dk_8 (dk_at dksX1_bill_0 11 rfl rfl)
theorem dX1_bill_12 : decode cX1_bill 12 = .ok (.iaload, 1) := dk_46 (dk_at dksX1_bill_0 12 rfl rfl)
theorem dX1_bill_13 : decode cX1_bill 13 = .ok (.invokevirtual 123, 3) := dk_182 0 123 (dk_at dksX1_bill_0 13 rfl rfl)
theorem dX1_bill_16 : decode cX1_bill 16 = .ok (.ireturn, 1) := dk_172 (dk_at dksX1_bill_0 16 rfl rfl)
abbrev cX1_pass : ByteArray := prog_3_method_8_code
def yX1_pass : MethodName := ⟨RX1, "pass", "(I)I"⟩
def dkwX1_pass_1 : List UInt8 := [167, 255, 241, 28, 172]
abbrev dktX1_pass_1 : List UInt8 := dkwX1_pass_1 ++ []
def dkwX1_pass_0 : List UInt8 := [42, 182, 0, 117, 3, 61, 3, 62, 29, 27, 162, 0, 16, 28, 42, 182, 0, 120, 96, 61, 132, 3, 1]
abbrev dktX1_pass_0 : List UInt8 := dkwX1_pass_0 ++ dktX1_pass_1
theorem dksX1_pass_0 : cX1_pass.data.toList.drop 0 = dktX1_pass_0 := by decide +kernel
theorem dksX1_pass_1 : cX1_pass.data.toList.drop 23 = dktX1_pass_1 := dk_seg dksX1_pass_0 23 rfl rfl
theorem dX1_pass_0 : decode cX1_pass 0 = .ok (.aload_n 0, 1) := dk_42 (dk_at dksX1_pass_0 0 rfl rfl)
theorem dX1_pass_1 : decode cX1_pass 1 = .ok (.invokevirtual 117, 3) := dk_182 0 117 (dk_at dksX1_pass_0 1 rfl rfl)
theorem dX1_pass_4 : decode cX1_pass 4 = .ok (.iconst 0, 1) := dk_3 (dk_at dksX1_pass_0 4 rfl rfl)
theorem dX1_pass_5 : decode cX1_pass 5 = .ok (.istore_n 2, 1) := dk_61 (dk_at dksX1_pass_0 5 rfl rfl)
theorem dX1_pass_6 : decode cX1_pass 6 = .ok (.iconst 0, 1) := dk_3 (dk_at dksX1_pass_0 6 rfl rfl)
theorem dX1_pass_7 : decode cX1_pass 7 = .ok (.istore_n 3, 1) := dk_62 (dk_at dksX1_pass_0 7 rfl rfl)
theorem dX1_pass_8 : decode cX1_pass 8 = .ok (.iload_n 3, 1) := dk_29 (dk_at dksX1_pass_0 8 rfl rfl)
theorem dX1_pass_9 : decode cX1_pass 9 = .ok (.iload_n 1, 1) := dk_27 (dk_at dksX1_pass_0 9 rfl rfl)
theorem dX1_pass_10 : decode cX1_pass 10 = .ok (.if_icmp .ge 16, 3) := dk_162 0 16 (dk_at dksX1_pass_0 10 rfl rfl)
theorem dX1_pass_13 : decode cX1_pass 13 = .ok (.iload_n 2, 1) := dk_28 (dk_at dksX1_pass_0 13 rfl rfl)
theorem dX1_pass_14 : decode cX1_pass 14 = .ok (.aload_n 0, 1) := dk_42 (dk_at dksX1_pass_0 14 rfl rfl)
theorem dX1_pass_15 : decode cX1_pass 15 = .ok (.invokevirtual 120, 3) := dk_182 0 120 (dk_at dksX1_pass_0 15 rfl rfl)
theorem dX1_pass_18 : decode cX1_pass 18 = .ok (.iadd, 1) := dk_96 (dk_at dksX1_pass_0 18 rfl rfl)
theorem dX1_pass_19 : decode cX1_pass 19 = .ok (.istore_n 2, 1) := dk_61 (dk_at dksX1_pass_0 19 rfl rfl)
theorem dX1_pass_20 : decode cX1_pass 20 = .ok (.iinc 3 1, 3) := dk_132 3 1 (dk_at dksX1_pass_0 20 rfl rfl)
theorem dX1_pass_23 : decode cX1_pass 23 = .ok (.goto (-15), 3) := dk_167 255 241 (dk_at dksX1_pass_1 0 rfl rfl)
theorem dX1_pass_26 : decode cX1_pass 26 = .ok (.iload_n 2, 1) := dk_28 (dk_at dksX1_pass_1 3 rfl rfl)
theorem dX1_pass_27 : decode cX1_pass 27 = .ok (.ireturn, 1) := dk_172 (dk_at dksX1_pass_1 4 rfl rfl)
abbrev cX1_layPowers : ByteArray := prog_3_method_6_code
def yX1_layPowers : MethodName := ⟨RX1, "layPowers", "()V"⟩
def dkwX1_layPowers_1 : List UInt8 := [192, 0, 48, 182, 0, 106, 60, 177]
abbrev dktX1_layPowers_1 : List UInt8 := dkwX1_layPowers_1 ++ []
def dkwX1_layPowers_0 : List UInt8 := [42, 180, 0, 18, 185, 0, 96, 1, 0, 154, 0, 20, 42, 180, 0, 18, 3, 185, 0, 86, 2, 0]
abbrev dktX1_layPowers_0 : List UInt8 := dkwX1_layPowers_0 ++ dktX1_layPowers_1
theorem dksX1_layPowers_0 : cX1_layPowers.data.toList.drop 0 = dktX1_layPowers_0 := by decide +kernel
theorem dksX1_layPowers_1 : cX1_layPowers.data.toList.drop 22 = dktX1_layPowers_1 := dk_seg dksX1_layPowers_0 22 rfl rfl
theorem dX1_layPowers_0 : decode cX1_layPowers 0 = .ok (.aload_n 0, 1) := dk_42 (dk_at dksX1_layPowers_0 0 rfl rfl)
theorem dX1_layPowers_1 : decode cX1_layPowers 1 = .ok (.getfield 18, 3) := dk_180 0 18 (dk_at dksX1_layPowers_0 1 rfl rfl)
theorem dX1_layPowers_4 : decode cX1_layPowers 4 = .ok (.invokeinterface 96 1, 5) := by decide +kernel
theorem dX1_layPowers_9 : decode cX1_layPowers 9 = .ok (.ifCond .ne 20, 3) := dk_154 0 20 (dk_at dksX1_layPowers_0 9 rfl rfl)
theorem dX1_layPowers_12 : decode cX1_layPowers 12 = .ok (.aload_n 0, 1) := dk_42 (dk_at dksX1_layPowers_0 12 rfl rfl)
theorem dX1_layPowers_13 : decode cX1_layPowers 13 = .ok (.getfield 18, 3) := dk_180 0 18 (dk_at dksX1_layPowers_0 13 rfl rfl)
theorem dX1_layPowers_16 : decode cX1_layPowers 16 = .ok (.iconst 0, 1) := dk_3 (dk_at dksX1_layPowers_0 16 rfl rfl)
theorem dX1_layPowers_17 : decode cX1_layPowers 17 = .ok (.invokeinterface 86 2, 5) := by decide +kernel
theorem dX1_layPowers_22 : decode cX1_layPowers 22 = .ok (.checkcast 48, 3) := dk_192 0 48 (dk_at dksX1_layPowers_1 0 rfl rfl)
theorem dX1_layPowers_25 : decode cX1_layPowers 25 = .ok (.invokevirtual 106, 3) := dk_182 0 106 (dk_at dksX1_layPowers_1 3 rfl rfl)
theorem dX1_layPowers_28 : decode cX1_layPowers 28 = .ok (.istore_n 1, 1) := dk_60 (dk_at dksX1_layPowers_1 6 rfl rfl)
theorem dX1_layPowers_29 : decode cX1_layPowers 29 = .ok (.return_, 1) := dk_177 (dk_at dksX1_layPowers_1 7 rfl rfl)
abbrev cX1_passOne : ByteArray := prog_3_method_7_code
def yX1_passOne : MethodName := ⟨RX1, "passOne", "()I"⟩
def dkwX1_passOne_2 : List UInt8 := [132, 2, 1, 167, 255, 210, 42, 89, 180, 0, 76, 4, 96, 181, 0, 76, 27, 172]
abbrev dktX1_passOne_2 : List UInt8 := dkwX1_passOne_2 ++ []
def dkwX1_passOne_1 : List UInt8 := [185, 0, 86, 2, 0, 192, 0, 48, 42, 180, 0, 76, 184, 0, 109, 42, 180, 0, 9, 182, 0, 113, 96, 60]
abbrev dktX1_passOne_1 : List UInt8 := dkwX1_passOne_1 ++ dktX1_passOne_2
def dkwX1_passOne_0 : List UInt8 := [3, 60, 3, 61, 28, 42, 180, 0, 18, 185, 0, 82, 1, 0, 162, 0, 39, 27, 42, 180, 0, 18, 28]
abbrev dktX1_passOne_0 : List UInt8 := dkwX1_passOne_0 ++ dktX1_passOne_1
theorem dksX1_passOne_0 : cX1_passOne.data.toList.drop 0 = dktX1_passOne_0 := by decide +kernel
theorem dksX1_passOne_1 : cX1_passOne.data.toList.drop 23 = dktX1_passOne_1 := dk_seg dksX1_passOne_0 23 rfl rfl
theorem dksX1_passOne_2 : cX1_passOne.data.toList.drop 47 = dktX1_passOne_2 := dk_seg dksX1_passOne_1 24 rfl rfl
theorem dX1_passOne_0 : decode cX1_passOne 0 = .ok (.iconst 0, 1) := dk_3 (dk_at dksX1_passOne_0 0 rfl rfl)
theorem dX1_passOne_1 : decode cX1_passOne 1 = .ok (.istore_n 1, 1) := dk_60 (dk_at dksX1_passOne_0 1 rfl rfl)
theorem dX1_passOne_2 : decode cX1_passOne 2 = .ok (.iconst 0, 1) := dk_3 (dk_at dksX1_passOne_0 2 rfl rfl)
theorem dX1_passOne_3 : decode cX1_passOne 3 = .ok (.istore_n 2, 1) := dk_61 (dk_at dksX1_passOne_0 3 rfl rfl)
theorem dX1_passOne_4 : decode cX1_passOne 4 = .ok (.iload_n 2, 1) := dk_28 (dk_at dksX1_passOne_0 4 rfl rfl)
theorem dX1_passOne_5 : decode cX1_passOne 5 = .ok (.aload_n 0, 1) := dk_42 (dk_at dksX1_passOne_0 5 rfl rfl)
theorem dX1_passOne_6 : decode cX1_passOne 6 = .ok (.getfield 18, 3) := dk_180 0 18 (dk_at dksX1_passOne_0 6 rfl rfl)
theorem dX1_passOne_9 : decode cX1_passOne 9 = .ok (.invokeinterface 82 1, 5) := by decide +kernel
theorem dX1_passOne_14 : decode cX1_passOne 14 = .ok (.if_icmp .ge 39, 3) := dk_162 0 39 (dk_at dksX1_passOne_0 14 rfl rfl)
theorem dX1_passOne_17 : decode cX1_passOne 17 = .ok (.iload_n 1, 1) := dk_27 (dk_at dksX1_passOne_0 17 rfl rfl)
theorem dX1_passOne_18 : decode cX1_passOne 18 = .ok (.aload_n 0, 1) := dk_42 (dk_at dksX1_passOne_0 18 rfl rfl)
theorem dX1_passOne_19 : decode cX1_passOne 19 = .ok (.getfield 18, 3) := dk_180 0 18 (dk_at dksX1_passOne_0 19 rfl rfl)
theorem dX1_passOne_22 : decode cX1_passOne 22 = .ok (.iload_n 2, 1) := dk_28 (dk_at dksX1_passOne_0 22 rfl rfl)
theorem dX1_passOne_23 : decode cX1_passOne 23 = .ok (.invokeinterface 86 2, 5) := by decide +kernel
theorem dX1_passOne_28 : decode cX1_passOne 28 = .ok (.checkcast 48, 3) := dk_192 0 48 (dk_at dksX1_passOne_1 5 rfl rfl)
theorem dX1_passOne_31 : decode cX1_passOne 31 = .ok (.aload_n 0, 1) := dk_42 (dk_at dksX1_passOne_1 8 rfl rfl)
theorem dX1_passOne_32 : decode cX1_passOne 32 = .ok (.getfield 76, 3) := dk_180 0 76 (dk_at dksX1_passOne_1 9 rfl rfl)
theorem dX1_passOne_35 : decode cX1_passOne 35 = .ok (.invokestatic 109, 3) := dk_184 0 109 (dk_at dksX1_passOne_1 12 rfl rfl)
theorem dX1_passOne_38 : decode cX1_passOne 38 = .ok (.aload_n 0, 1) := dk_42 (dk_at dksX1_passOne_1 15 rfl rfl)
theorem dX1_passOne_39 : decode cX1_passOne 39 = .ok (.getfield 9, 3) := dk_180 0 9 (dk_at dksX1_passOne_1 16 rfl rfl)
theorem dX1_passOne_42 : decode cX1_passOne 42 = .ok (.invokevirtual 113, 3) := dk_182 0 113 (dk_at dksX1_passOne_1 19 rfl rfl)
theorem dX1_passOne_45 : decode cX1_passOne 45 = .ok (.iadd, 1) := dk_96 (dk_at dksX1_passOne_1 22 rfl rfl)
theorem dX1_passOne_46 : decode cX1_passOne 46 = .ok (.istore_n 1, 1) := dk_60 (dk_at dksX1_passOne_1 23 rfl rfl)
theorem dX1_passOne_47 : decode cX1_passOne 47 = .ok (.iinc 2 1, 3) := dk_132 2 1 (dk_at dksX1_passOne_2 0 rfl rfl)
theorem dX1_passOne_50 : decode cX1_passOne 50 = .ok (.goto (-46), 3) := dk_167 255 210 (dk_at dksX1_passOne_2 3 rfl rfl)
theorem dX1_passOne_53 : decode cX1_passOne 53 = .ok (.aload_n 0, 1) := dk_42 (dk_at dksX1_passOne_2 6 rfl rfl)
theorem dX1_passOne_54 : decode cX1_passOne 54 = .ok (.dup, 1) := dk_89 (dk_at dksX1_passOne_2 7 rfl rfl)
theorem dX1_passOne_55 : decode cX1_passOne 55 = .ok (.getfield 76, 3) := dk_180 0 76 (dk_at dksX1_passOne_2 8 rfl rfl)
theorem dX1_passOne_58 : decode cX1_passOne 58 = .ok (.iconst 1, 1) := dk_4 (dk_at dksX1_passOne_2 11 rfl rfl)
theorem dX1_passOne_59 : decode cX1_passOne 59 = .ok (.iadd, 1) := dk_96 (dk_at dksX1_passOne_2 12 rfl rfl)
theorem dX1_passOne_60 : decode cX1_passOne 60 = .ok (.putfield 76, 3) := dk_181 0 76 (dk_at dksX1_passOne_2 13 rfl rfl)
theorem dX1_passOne_63 : decode cX1_passOne 63 = .ok (.iload_n 1, 1) := dk_27 (dk_at dksX1_passOne_2 16 rfl rfl)
theorem dX1_passOne_64 : decode cX1_passOne 64 = .ok (.ireturn, 1) := dk_172 (dk_at dksX1_passOne_2 17 rfl rfl)
abbrev cX1_worst : ByteArray := prog_3_method_11_code
def yX1_worst : MethodName := ⟨RX1, "worst", "()I"⟩
def dkwX1_worst_3 : List UInt8 := [167, 255, 194, 27, 172]
abbrev dktX1_worst_3 : List UInt8 := dkwX1_worst_3 ++ []
def dkwX1_worst_2 : List UInt8 := [185, 0, 86, 2, 0, 192, 0, 48, 182, 0, 158, 148, 158, 0, 7, 28, 167, 0, 4, 27, 60, 132, 2, 1]
abbrev dktX1_worst_2 : List UInt8 := dkwX1_worst_2 ++ dktX1_worst_3
def dkwX1_worst_1 : List UInt8 := [180, 0, 18, 28, 185, 0, 86, 2, 0, 192, 0, 48, 182, 0, 158, 42, 180, 0, 18, 27]
abbrev dktX1_worst_1 : List UInt8 := dkwX1_worst_1 ++ dktX1_worst_2
def dkwX1_worst_0 : List UInt8 := [16, 250, 60, 3, 61, 28, 42, 180, 0, 18, 185, 0, 82, 1, 0, 162, 0, 55, 27, 155, 0, 39, 42]
abbrev dktX1_worst_0 : List UInt8 := dkwX1_worst_0 ++ dktX1_worst_1
theorem dksX1_worst_0 : cX1_worst.data.toList.drop 0 = dktX1_worst_0 := by decide +kernel
theorem dksX1_worst_1 : cX1_worst.data.toList.drop 23 = dktX1_worst_1 := dk_seg dksX1_worst_0 23 rfl rfl
theorem dksX1_worst_2 : cX1_worst.data.toList.drop 43 = dktX1_worst_2 := dk_seg dksX1_worst_1 20 rfl rfl
theorem dksX1_worst_3 : cX1_worst.data.toList.drop 67 = dktX1_worst_3 := dk_seg dksX1_worst_2 24 rfl rfl
theorem dX1_worst_0 : decode cX1_worst 0 = .ok (.bipush (-6), 2) := dk_16 250 (dk_at dksX1_worst_0 0 rfl rfl)
theorem dX1_worst_2 : decode cX1_worst 2 = .ok (.istore_n 1, 1) := dk_60 (dk_at dksX1_worst_0 2 rfl rfl)
theorem dX1_worst_3 : decode cX1_worst 3 = .ok (.iconst 0, 1) := dk_3 (dk_at dksX1_worst_0 3 rfl rfl)
theorem dX1_worst_4 : decode cX1_worst 4 = .ok (.istore_n 2, 1) := dk_61 (dk_at dksX1_worst_0 4 rfl rfl)
theorem dX1_worst_5 : decode cX1_worst 5 = .ok (.iload_n 2, 1) := dk_28 (dk_at dksX1_worst_0 5 rfl rfl)
theorem dX1_worst_6 : decode cX1_worst 6 = .ok (.aload_n 0, 1) := dk_42 (dk_at dksX1_worst_0 6 rfl rfl)
theorem dX1_worst_7 : decode cX1_worst 7 = .ok (.getfield 18, 3) := dk_180 0 18 (dk_at dksX1_worst_0 7 rfl rfl)
theorem dX1_worst_10 : decode cX1_worst 10 = .ok (.invokeinterface 82 1, 5) := by decide +kernel
theorem dX1_worst_15 : decode cX1_worst 15 = .ok (.if_icmp .ge 55, 3) := dk_162 0 55 (dk_at dksX1_worst_0 15 rfl rfl)
theorem dX1_worst_18 : decode cX1_worst 18 = .ok (.iload_n 1, 1) := dk_27 (dk_at dksX1_worst_0 18 rfl rfl)
theorem dX1_worst_19 : decode cX1_worst 19 = .ok (.ifCond .lt 39, 3) := dk_155 0 39 (dk_at dksX1_worst_0 19 rfl rfl)
theorem dX1_worst_22 : decode cX1_worst 22 = .ok (.aload_n 0, 1) := dk_42 (dk_at dksX1_worst_0 22 rfl rfl)
theorem dX1_worst_23 : decode cX1_worst 23 = .ok (.getfield 18, 3) := dk_180 0 18 (dk_at dksX1_worst_1 0 rfl rfl)
theorem dX1_worst_26 : decode cX1_worst 26 = .ok (.iload_n 2, 1) := dk_28 (dk_at dksX1_worst_1 3 rfl rfl)
theorem dX1_worst_27 : decode cX1_worst 27 = .ok (.invokeinterface 86 2, 5) := by decide +kernel
theorem dX1_worst_32 : decode cX1_worst 32 = .ok (.checkcast 48, 3) := dk_192 0 48 (dk_at dksX1_worst_1 9 rfl rfl)
theorem dX1_worst_35 : decode cX1_worst 35 = .ok (.invokevirtual 158, 3) := dk_182 0 158 (dk_at dksX1_worst_1 12 rfl rfl)
theorem dX1_worst_38 : decode cX1_worst 38 = .ok (.aload_n 0, 1) := dk_42 (dk_at dksX1_worst_1 15 rfl rfl)
theorem dX1_worst_39 : decode cX1_worst 39 = .ok (.getfield 18, 3) := dk_180 0 18 (dk_at dksX1_worst_1 16 rfl rfl)
theorem dX1_worst_42 : decode cX1_worst 42 = .ok (.iload_n 1, 1) := dk_27 (dk_at dksX1_worst_1 19 rfl rfl)
theorem dX1_worst_43 : decode cX1_worst 43 = .ok (.invokeinterface 86 2, 5) := by decide +kernel
theorem dX1_worst_48 : decode cX1_worst 48 = .ok (.checkcast 48, 3) := dk_192 0 48 (dk_at dksX1_worst_2 5 rfl rfl)
theorem dX1_worst_51 : decode cX1_worst 51 = .ok (.invokevirtual 158, 3) := dk_182 0 158 (dk_at dksX1_worst_2 8 rfl rfl)
theorem dX1_worst_54 : decode cX1_worst 54 = .ok (.lcmp, 1) := dk_148 (dk_at dksX1_worst_2 11 rfl rfl)
theorem dX1_worst_55 : decode cX1_worst 55 = .ok (.ifCond .le 7, 3) := dk_158 0 7 (dk_at dksX1_worst_2 12 rfl rfl)
theorem dX1_worst_58 : decode cX1_worst 58 = .ok (.iload_n 2, 1) := dk_28 (dk_at dksX1_worst_2 15 rfl rfl)
theorem dX1_worst_59 : decode cX1_worst 59 = .ok (.goto 4, 3) := dk_167 0 4 (dk_at dksX1_worst_2 16 rfl rfl)
theorem dX1_worst_62 : decode cX1_worst 62 = .ok (.iload_n 1, 1) := dk_27 (dk_at dksX1_worst_2 19 rfl rfl)
theorem dX1_worst_63 : decode cX1_worst 63 = .ok (.istore_n 1, 1) := dk_60 (dk_at dksX1_worst_2 20 rfl rfl)
theorem dX1_worst_64 : decode cX1_worst 64 = .ok (.iinc 2 1, 3) := dk_132 2 1 (dk_at dksX1_worst_2 21 rfl rfl)
theorem dX1_worst_67 : decode cX1_worst 67 = .ok (.goto (-62), 3) := dk_167 255 194 (dk_at dksX1_worst_3 0 rfl rfl)
theorem dX1_worst_70 : decode cX1_worst 70 = .ok (.iload_n 1, 1) := dk_27 (dk_at dksX1_worst_3 3 rfl rfl)
theorem dX1_worst_71 : decode cX1_worst 71 = .ok (.ireturn, 1) := dk_172 (dk_at dksX1_worst_3 4 rfl rfl)
theorem q74 : (Jvm.Cond.initialized "EnergyDiscs$House") ∈ lw_all := lw_g (lw_at lw_m1 2 rfl) rfl
theorem q107 : (Jvm.Cond.instantiable "EnergyDiscs$House" (5 : Nat)) ∈ lw_all := lw_g (lw_at lw_m1 35 rfl) rfl
theorem q109 : (Jvm.Cond.instanceMethod ({ cls := "EnergyDiscs$House", name := "<init>", desc := "()V" } : Jvm.MethodName)) ∈ lw_all := lw_g (lw_at lw_m1 37 rfl) rfl
theorem q110 : (Jvm.Cond.code ({ cls := "EnergyDiscs$House", name := "<init>", desc := "()V" } : Jvm.MethodName) prog_3_method_1_code (1 : Nat) (Option.none : Option Jvm.ClassFile.FieldType)) ∈ lw_all := lw_g (lw_at lw_m1 38 rfl) rfl
theorem q111 : (Jvm.Cond.methodLink "EnergyDiscs$House" (3 : Nat) ({ cls := "java/lang/Object", name := "<init>", desc := "()V" } : Jvm.MethodName)) ∈ lw_all := lw_g (lw_at lw_m1 39 rfl) rfl
theorem q112 : (Jvm.Cond.classLink "EnergyDiscs$House" (15 : Nat) "java/util/ArrayList") ∈ lw_all := lw_g (lw_at lw_m1 40 rfl) rfl
theorem q114 : (Jvm.Cond.methodLink "EnergyDiscs$House" (17 : Nat) ({ cls := "java/util/ArrayList", name := "<init>", desc := "()V" } : Jvm.MethodName)) ∈ lw_all := lw_g (lw_at lw_m1 42 rfl) rfl
theorem q142 : (Jvm.Cond.fieldLink "EnergyDiscs$House" (9 : Nat) "EnergyDiscs$House" "settings" "[I") ∈ lw_all := lw_g (lw_at lw_m1 70 rfl) rfl
theorem q144 : (Jvm.Cond.fieldLink "EnergyDiscs$House" (18 : Nat) "EnergyDiscs$House" "meters" "Ljava/util/List;") ∈ lw_all := lw_g (lw_at lw_m1 72 rfl) rfl
theorem q146 : (Jvm.Cond.fieldLink "EnergyDiscs$House" (22 : Nat) "EnergyDiscs$House" "loads" "Ljava/util/List;") ∈ lw_all := lw_g (lw_at lw_m1 74 rfl) rfl
theorem q148 : (Jvm.Cond.fieldLink "EnergyDiscs$House" (76 : Nat) "EnergyDiscs$House" "time" "I") ∈ lw_all := lw_g (lw_at lw_m1 76 rfl) rfl
theorem q150 : (Jvm.Cond.fieldLink "EnergyDiscs$House" (79 : Nat) "EnergyDiscs$House" "seals" "I") ∈ lw_all := lw_g (lw_at lw_m1 78 rfl) rfl
theorem q152 : (Jvm.Cond.laysFinal "EnergyDiscs$House" "EnergyDiscs$House" "settings" "[I") ∈ lw_all := lw_g (lw_at lw_m1 80 rfl) rfl
theorem q153 : (Jvm.Cond.soleField "EnergyDiscs$House" "settings") ∈ lw_all := lw_g (lw_at lw_m1 81 rfl) rfl
theorem q154 : (Jvm.Cond.laysFinal "EnergyDiscs$House" "EnergyDiscs$House" "meters" "Ljava/util/List;") ∈ lw_all := lw_g (lw_at lw_m1 82 rfl) rfl
theorem q155 : (Jvm.Cond.soleField "EnergyDiscs$House" "meters") ∈ lw_all := lw_g (lw_at lw_m1 83 rfl) rfl
theorem q156 : (Jvm.Cond.laysFinal "EnergyDiscs$House" "EnergyDiscs$House" "loads" "Ljava/util/List;") ∈ lw_all := lw_g (lw_at lw_m1 84 rfl) rfl
theorem q157 : (Jvm.Cond.soleField "EnergyDiscs$House" "loads") ∈ lw_all := lw_g (lw_at lw_m1 85 rfl) rfl
theorem q158 : (Jvm.Cond.lays "EnergyDiscs$House" "EnergyDiscs$House" "time" "I") ∈ lw_all := lw_g (lw_at lw_m1 86 rfl) rfl
theorem q159 : (Jvm.Cond.soleField "EnergyDiscs$House" "time") ∈ lw_all := lw_g (lw_at lw_m1 87 rfl) rfl
theorem q160 : (Jvm.Cond.lays "EnergyDiscs$House" "EnergyDiscs$House" "seals" "I") ∈ lw_all := lw_g (lw_at lw_m1 88 rfl) rfl
theorem q161 : (Jvm.Cond.soleField "EnergyDiscs$House" "seals") ∈ lw_all := lw_g (lw_at lw_m1 89 rfl) rfl
theorem q162 : (Jvm.Cond.superclass "EnergyDiscs$House" "java/lang/Object") ∈ lw_all := lw_g (lw_at lw_m1 90 rfl) rfl
theorem q264 : (Jvm.Cond.instanceMethod ({ cls := "EnergyDiscs$House", name := "copy", desc := "()LEnergyDiscs$House;" } : Jvm.MethodName)) ∈ lw_all := lw_g (lw_at lw_m1 192 rfl) rfl
theorem q265 : (Jvm.Cond.selects "EnergyDiscs$House" ({ cls := "EnergyDiscs$House", name := "copy", desc := "()LEnergyDiscs$House;" } : Jvm.MethodName) ({ cls := "EnergyDiscs$House", name := "copy", desc := "()LEnergyDiscs$House;" } : Jvm.MethodName)) ∈ lw_all := lw_g (lw_at lw_m1 193 rfl) rfl
theorem q266 : (Jvm.Cond.code ({ cls := "EnergyDiscs$House", name := "copy", desc := "()LEnergyDiscs$House;" } : Jvm.MethodName) prog_3_method_2_code (5 : Nat) (Option.some (Jvm.ClassFile.FieldType.object "EnergyDiscs$House"))) ∈ lw_all := lw_g (lw_at lw_m1 194 rfl) rfl
theorem q267 : (Jvm.Cond.classLink "EnergyDiscs$House" (10 : Nat) "EnergyDiscs$House") ∈ lw_all := lw_g (lw_at lw_m1 195 rfl) rfl
theorem q268 : (Jvm.Cond.methodLink "EnergyDiscs$House" (25 : Nat) ({ cls := "EnergyDiscs$House", name := "<init>", desc := "()V" } : Jvm.MethodName)) ∈ lw_all := lw_g (lw_at lw_m1 196 rfl) rfl
theorem q269 : (Jvm.Cond.methodLink "EnergyDiscs$House" (26 : Nat) ({ cls := "java/lang/System", name := "arraycopy", desc := "(Ljava/lang/Object;ILjava/lang/Object;II)V" } : Jvm.MethodName)) ∈ lw_all := lw_g (lw_at lw_m1 197 rfl) rfl
theorem q270 : (Jvm.Cond.interfaceEntry "EnergyDiscs$House" (32 : Nat)) ∈ lw_tbl := lw_at lw_m1 198 rfl
theorem q271 : (Jvm.Cond.methodLink "EnergyDiscs$House" (32 : Nat) ({ cls := "java/util/List", name := "iterator", desc := "()Ljava/util/Iterator;" } : Jvm.MethodName)) ∈ lw_all := lw_g (lw_at lw_m1 199 rfl) rfl
theorem q298 : (Jvm.Cond.interfaceEntry "EnergyDiscs$House" (38 : Nat)) ∈ lw_tbl := lw_at lw_m1 226 rfl
theorem q299 : (Jvm.Cond.methodLink "EnergyDiscs$House" (38 : Nat) ({ cls := "java/util/Iterator", name := "hasNext", desc := "()Z" } : Jvm.MethodName)) ∈ lw_all := lw_g (lw_at lw_m1 227 rfl) rfl
theorem q308 : (Jvm.Cond.interfaceEntry "EnergyDiscs$House" (44 : Nat)) ∈ lw_tbl := lw_at lw_m1 236 rfl
theorem q309 : (Jvm.Cond.methodLink "EnergyDiscs$House" (44 : Nat) ({ cls := "java/util/Iterator", name := "next", desc := "()Ljava/lang/Object;" } : Jvm.MethodName)) ∈ lw_all := lw_g (lw_at lw_m1 237 rfl) rfl
theorem q321 : (Jvm.Cond.classLink "EnergyDiscs$House" (48 : Nat) "EnergyDiscs$Meter") ∈ lw_all := lw_g (lw_at lw_m2 9 rfl) rfl
theorem q322 : (Jvm.Cond.methodLink "EnergyDiscs$House" (58 : Nat) ({ cls := "EnergyDiscs$House", name := "add", desc := "(I)LEnergyDiscs$Meter;" } : Jvm.MethodName)) ∈ lw_all := lw_g (lw_at lw_m2 10 rfl) rfl
theorem q323 : (Jvm.Cond.instanceMethod ({ cls := "EnergyDiscs$House", name := "add", desc := "(I)LEnergyDiscs$Meter;" } : Jvm.MethodName)) ∈ lw_all := lw_g (lw_at lw_m2 11 rfl) rfl
theorem q324 : (Jvm.Cond.selects "EnergyDiscs$House" ({ cls := "EnergyDiscs$House", name := "add", desc := "(I)LEnergyDiscs$Meter;" } : Jvm.MethodName) ({ cls := "EnergyDiscs$House", name := "add", desc := "(I)LEnergyDiscs$Meter;" } : Jvm.MethodName)) ∈ lw_all := lw_g (lw_at lw_m2 12 rfl) rfl
theorem q325 : (Jvm.Cond.code ({ cls := "EnergyDiscs$House", name := "add", desc := "(I)LEnergyDiscs$Meter;" } : Jvm.MethodName) prog_3_method_3_code (3 : Nat) (Option.some (Jvm.ClassFile.FieldType.object "EnergyDiscs$Meter"))) ∈ lw_all := lw_g (lw_at lw_m2 13 rfl) rfl
theorem q327 : (Jvm.Cond.interfaceEntry "EnergyDiscs$House" (82 : Nat)) ∈ lw_tbl := lw_at lw_m2 15 rfl
theorem q328 : (Jvm.Cond.methodLink "EnergyDiscs$House" (82 : Nat) ({ cls := "java/util/List", name := "size", desc := "()I" } : Jvm.MethodName)) ∈ lw_all := lw_g (lw_at lw_m2 16 rfl) rfl
theorem q329 : (Jvm.Cond.interfaceEntry "EnergyDiscs$House" (86 : Nat)) ∈ lw_tbl := lw_at lw_m2 17 rfl
theorem q330 : (Jvm.Cond.methodLink "EnergyDiscs$House" (86 : Nat) ({ cls := "java/util/List", name := "get", desc := "(I)Ljava/lang/Object;" } : Jvm.MethodName)) ∈ lw_all := lw_g (lw_at lw_m2 18 rfl) rfl
theorem q342 : (Jvm.Cond.methodLink "EnergyDiscs$House" (90 : Nat) ({ cls := "EnergyDiscs$Meter", name := "<init>", desc := "(ILEnergyDiscs$Meter;)V" } : Jvm.MethodName)) ∈ lw_all := lw_g (lw_at lw_m2 30 rfl) rfl
theorem q386 : (Jvm.Cond.selects "EnergyDiscs$House" ({ cls := "java/lang/Object", name := "getClass", desc := "()Ljava/lang/Class;" } : Jvm.MethodName) ({ cls := "java/lang/Object", name := "getClass", desc := "()Ljava/lang/Class;" } : Jvm.MethodName)) ∈ lw_all := lw_g (lw_at lw_m2 74 rfl) rfl
theorem q410 : (Jvm.Cond.fieldLinkNest "EnergyDiscs$House" (54 : Nat) "EnergyDiscs$Meter" "number" "I" "EnergyDiscs") ∈ lw_tbl := lw_at lw_m2 98 rfl
theorem q413 : (Jvm.Cond.fieldLinkNest "EnergyDiscs$House" (50 : Nat) "EnergyDiscs$Meter" "through" "LEnergyDiscs$Meter;" "EnergyDiscs") ∈ lw_tbl := lw_at lw_m2 101 rfl
theorem q418 : (Jvm.Cond.fieldLinkNest "EnergyDiscs$House" (105 : Nat) "EnergyDiscs$Meter" "loads" "Ljava/util/List;" "EnergyDiscs") ∈ lw_tbl := lw_at lw_m2 106 rfl
theorem q424 : (Jvm.Cond.fieldLinkNest "EnergyDiscs$House" (145 : Nat) "EnergyDiscs$Meter" "speed" "I" "EnergyDiscs") ∈ lw_tbl := lw_at lw_m2 112 rfl
theorem q427 : (Jvm.Cond.fieldLinkNest "EnergyDiscs$House" (148 : Nat) "EnergyDiscs$Meter" "age" "I" "EnergyDiscs") ∈ lw_tbl := lw_at lw_m2 115 rfl
theorem q430 : (Jvm.Cond.fieldLinkNest "EnergyDiscs$House" (133 : Nat) "EnergyDiscs$Meter" "day" "I" "EnergyDiscs") ∈ lw_tbl := lw_at lw_m2 118 rfl
theorem q433 : (Jvm.Cond.fieldLinkNest "EnergyDiscs$House" (139 : Nat) "EnergyDiscs$Meter" "night" "I" "EnergyDiscs") ∈ lw_tbl := lw_at lw_m2 121 rfl
theorem q436 : (Jvm.Cond.fieldLinkNest "EnergyDiscs$House" (136 : Nat) "EnergyDiscs$Meter" "billedDay" "I" "EnergyDiscs") ∈ lw_tbl := lw_at lw_m2 124 rfl
theorem q438 : (Jvm.Cond.fieldLinkNest "EnergyDiscs$House" (142 : Nat) "EnergyDiscs$Meter" "billedNight" "I" "EnergyDiscs") ∈ lw_tbl := lw_at lw_m2 126 rfl
theorem q440 : (Jvm.Cond.fieldLinkNest "EnergyDiscs$House" (130 : Nat) "EnergyDiscs$Meter" "billed" "I" "EnergyDiscs") ∈ lw_tbl := lw_at lw_m2 128 rfl
theorem q443 : (Jvm.Cond.fieldLinkNest "EnergyDiscs$House" (151 : Nat) "EnergyDiscs$Meter" "visits" "I" "EnergyDiscs") ∈ lw_tbl := lw_at lw_m2 131 rfl
theorem q446 : (Jvm.Cond.fieldLinkNest "EnergyDiscs$House" (99 : Nat) "EnergyDiscs$Meter" "seal" "I" "EnergyDiscs") ∈ lw_tbl := lw_at lw_m2 134 rfl
theorem q449 : (Jvm.Cond.fieldLinkNest "EnergyDiscs$House" (154 : Nat) "EnergyDiscs$Meter" "broken" "Z" "EnergyDiscs") ∈ lw_tbl := lw_at lw_m2 137 rfl
theorem q488 : (Jvm.Cond.interfaceEntry "EnergyDiscs$House" (93 : Nat)) ∈ lw_tbl := lw_at lw_m2 176 rfl
theorem q489 : (Jvm.Cond.methodLink "EnergyDiscs$House" (93 : Nat) ({ cls := "java/util/List", name := "add", desc := "(Ljava/lang/Object;)Z" } : Jvm.MethodName)) ∈ lw_all := lw_g (lw_at lw_m2 177 rfl) rfl
theorem q490 : (Jvm.Cond.methodLink "EnergyDiscs$House" (62 : Nat) ({ cls := "EnergyDiscs$Meter", name := "become", desc := "(LEnergyDiscs$Meter;)V" } : Jvm.MethodName)) ∈ lw_all := lw_g (lw_at lw_m2 178 rfl) rfl
theorem q494 : (Jvm.Cond.classLink "EnergyDiscs$House" (66 : Nat) "EnergyDiscs$Load") ∈ lw_all := lw_g (lw_at lw_m2 182 rfl) rfl
theorem q495 : (Jvm.Cond.methodLink "EnergyDiscs$House" (68 : Nat) ({ cls := "EnergyDiscs$Load", name := "copy", desc := "()LEnergyDiscs$Load;" } : Jvm.MethodName)) ∈ lw_all := lw_g (lw_at lw_m2 183 rfl) rfl
theorem q509 : (Jvm.Cond.fieldLinkNest "EnergyDiscs$House" (102 : Nat) "EnergyDiscs$Load" "meter" "I" "EnergyDiscs") ∈ lw_tbl := lw_at lw_m2 197 rfl
theorem q521 : (Jvm.Cond.methodLink "EnergyDiscs$House" (72 : Nat) ({ cls := "EnergyDiscs$House", name := "addLoad", desc := "(LEnergyDiscs$Load;)I" } : Jvm.MethodName)) ∈ lw_all := lw_g (lw_at lw_m2 209 rfl) rfl
theorem q522 : (Jvm.Cond.instanceMethod ({ cls := "EnergyDiscs$House", name := "addLoad", desc := "(LEnergyDiscs$Load;)I" } : Jvm.MethodName)) ∈ lw_all := lw_g (lw_at lw_m2 210 rfl) rfl
theorem q523 : (Jvm.Cond.selects "EnergyDiscs$House" ({ cls := "EnergyDiscs$House", name := "addLoad", desc := "(LEnergyDiscs$Load;)I" } : Jvm.MethodName) ({ cls := "EnergyDiscs$House", name := "addLoad", desc := "(LEnergyDiscs$Load;)I" } : Jvm.MethodName)) ∈ lw_all := lw_g (lw_at lw_m2 211 rfl) rfl
theorem q524 : (Jvm.Cond.code ({ cls := "EnergyDiscs$House", name := "addLoad", desc := "(LEnergyDiscs$Load;)I" } : Jvm.MethodName) prog_3_method_5_code (2 : Nat) (Option.some Jvm.ClassFile.FieldType.int)) ∈ lw_all := lw_g (lw_at lw_m2 212 rfl) rfl
theorem q553 : (Jvm.Cond.instanceMethod ({ cls := "EnergyDiscs$House", name := "newMeter", desc := "(I)I" } : Jvm.MethodName)) ∈ lw_all := lw_g (lw_at lw_m3 1 rfl) rfl
theorem q554 : (Jvm.Cond.selects "EnergyDiscs$House" ({ cls := "EnergyDiscs$House", name := "newMeter", desc := "(I)I" } : Jvm.MethodName) ({ cls := "EnergyDiscs$House", name := "newMeter", desc := "(I)I" } : Jvm.MethodName)) ∈ lw_all := lw_g (lw_at lw_m3 2 rfl) rfl
theorem q555 : (Jvm.Cond.code ({ cls := "EnergyDiscs$House", name := "newMeter", desc := "(I)I" } : Jvm.MethodName) prog_3_method_4_code (3 : Nat) (Option.some Jvm.ClassFile.FieldType.int)) ∈ lw_all := lw_g (lw_at lw_m3 3 rfl) rfl
theorem q556 : (Jvm.Cond.interfaceEntry "EnergyDiscs$House" (96 : Nat)) ∈ lw_tbl := lw_at lw_m3 4 rfl
theorem q557 : (Jvm.Cond.methodLink "EnergyDiscs$House" (96 : Nat) ({ cls := "java/util/List", name := "isEmpty", desc := "()Z" } : Jvm.MethodName)) ∈ lw_all := lw_g (lw_at lw_m3 5 rfl) rfl
theorem q613 : (Jvm.Cond.instanceMethod ({ cls := "EnergyDiscs$House", name := "visit", desc := "(LEnergyDiscs$Meter;)I" } : Jvm.MethodName)) ∈ lw_all := lw_g (lw_at lw_m3 61 rfl) rfl
theorem q614 : (Jvm.Cond.selects "EnergyDiscs$House" ({ cls := "EnergyDiscs$House", name := "visit", desc := "(LEnergyDiscs$Meter;)I" } : Jvm.MethodName) ({ cls := "EnergyDiscs$House", name := "visit", desc := "(LEnergyDiscs$Meter;)I" } : Jvm.MethodName)) ∈ lw_all := lw_g (lw_at lw_m3 62 rfl) rfl
theorem q615 : (Jvm.Cond.code ({ cls := "EnergyDiscs$House", name := "visit", desc := "(LEnergyDiscs$Meter;)I" } : Jvm.MethodName) prog_3_method_10_code (3 : Nat) (Option.some Jvm.ClassFile.FieldType.int)) ∈ lw_all := lw_g (lw_at lw_m3 63 rfl) rfl
theorem q616 : (Jvm.Cond.methodLink "EnergyDiscs$House" (127 : Nat) ({ cls := "EnergyDiscs$House", name := "bill", desc := "(LEnergyDiscs$Meter;)I" } : Jvm.MethodName)) ∈ lw_all := lw_g (lw_at lw_m3 64 rfl) rfl
theorem q617 : (Jvm.Cond.instanceMethod ({ cls := "EnergyDiscs$House", name := "bill", desc := "(LEnergyDiscs$Meter;)I" } : Jvm.MethodName)) ∈ lw_all := lw_g (lw_at lw_m3 65 rfl) rfl
theorem q618 : (Jvm.Cond.selects "EnergyDiscs$House" ({ cls := "EnergyDiscs$House", name := "bill", desc := "(LEnergyDiscs$Meter;)I" } : Jvm.MethodName) ({ cls := "EnergyDiscs$House", name := "bill", desc := "(LEnergyDiscs$Meter;)I" } : Jvm.MethodName)) ∈ lw_all := lw_g (lw_at lw_m3 66 rfl) rfl
theorem q619 : (Jvm.Cond.code ({ cls := "EnergyDiscs$House", name := "bill", desc := "(LEnergyDiscs$Meter;)I" } : Jvm.MethodName) prog_3_method_9_code (2 : Nat) (Option.some Jvm.ClassFile.FieldType.int)) ∈ lw_all := lw_g (lw_at lw_m3 67 rfl) rfl
theorem q620 : (Jvm.Cond.methodLink "EnergyDiscs$House" (123 : Nat) ({ cls := "EnergyDiscs$Meter", name := "bill", desc := "(II)I" } : Jvm.MethodName)) ∈ lw_all := lw_g (lw_at lw_m3 68 rfl) rfl
theorem q638 : (Jvm.Cond.instanceMethod ({ cls := "EnergyDiscs$House", name := "pass", desc := "(I)I" } : Jvm.MethodName)) ∈ lw_all := lw_g (lw_at lw_m3 86 rfl) rfl
theorem q639 : (Jvm.Cond.selects "EnergyDiscs$House" ({ cls := "EnergyDiscs$House", name := "pass", desc := "(I)I" } : Jvm.MethodName) ({ cls := "EnergyDiscs$House", name := "pass", desc := "(I)I" } : Jvm.MethodName)) ∈ lw_all := lw_g (lw_at lw_m3 87 rfl) rfl
theorem q640 : (Jvm.Cond.code ({ cls := "EnergyDiscs$House", name := "pass", desc := "(I)I" } : Jvm.MethodName) prog_3_method_8_code (4 : Nat) (Option.some Jvm.ClassFile.FieldType.int)) ∈ lw_all := lw_g (lw_at lw_m3 88 rfl) rfl
theorem q641 : (Jvm.Cond.methodLink "EnergyDiscs$House" (117 : Nat) ({ cls := "EnergyDiscs$House", name := "layPowers", desc := "()V" } : Jvm.MethodName)) ∈ lw_all := lw_g (lw_at lw_m3 89 rfl) rfl
theorem q642 : (Jvm.Cond.instanceMethod ({ cls := "EnergyDiscs$House", name := "layPowers", desc := "()V" } : Jvm.MethodName)) ∈ lw_all := lw_g (lw_at lw_m3 90 rfl) rfl
theorem q643 : (Jvm.Cond.selects "EnergyDiscs$House" ({ cls := "EnergyDiscs$House", name := "layPowers", desc := "()V" } : Jvm.MethodName) ({ cls := "EnergyDiscs$House", name := "layPowers", desc := "()V" } : Jvm.MethodName)) ∈ lw_all := lw_g (lw_at lw_m3 91 rfl) rfl
theorem q644 : (Jvm.Cond.code ({ cls := "EnergyDiscs$House", name := "layPowers", desc := "()V" } : Jvm.MethodName) prog_3_method_6_code (2 : Nat) (Option.none : Option Jvm.ClassFile.FieldType)) ∈ lw_all := lw_g (lw_at lw_m3 92 rfl) rfl
theorem q645 : (Jvm.Cond.methodLink "EnergyDiscs$House" (106 : Nat) ({ cls := "EnergyDiscs$Meter", name := "layPower", desc := "()I" } : Jvm.MethodName)) ∈ lw_all := lw_g (lw_at lw_m3 93 rfl) rfl
theorem q656 : (Jvm.Cond.methodLink "EnergyDiscs$House" (120 : Nat) ({ cls := "EnergyDiscs$House", name := "passOne", desc := "()I" } : Jvm.MethodName)) ∈ lw_all := lw_g (lw_at lw_m3 104 rfl) rfl
theorem q657 : (Jvm.Cond.instanceMethod ({ cls := "EnergyDiscs$House", name := "passOne", desc := "()I" } : Jvm.MethodName)) ∈ lw_all := lw_g (lw_at lw_m3 105 rfl) rfl
theorem q658 : (Jvm.Cond.selects "EnergyDiscs$House" ({ cls := "EnergyDiscs$House", name := "passOne", desc := "()I" } : Jvm.MethodName) ({ cls := "EnergyDiscs$House", name := "passOne", desc := "()I" } : Jvm.MethodName)) ∈ lw_all := lw_g (lw_at lw_m3 106 rfl) rfl
theorem q659 : (Jvm.Cond.code ({ cls := "EnergyDiscs$House", name := "passOne", desc := "()I" } : Jvm.MethodName) prog_3_method_7_code (3 : Nat) (Option.some Jvm.ClassFile.FieldType.int)) ∈ lw_all := lw_g (lw_at lw_m3 107 rfl) rfl
theorem q660 : (Jvm.Cond.methodLinkNest "EnergyDiscs$House" (109 : Nat) ({ cls := "EnergyDiscs", name := "isNight", desc := "(I)Z" } : Jvm.MethodName) "EnergyDiscs") ∈ lw_tbl := lw_at lw_m3 108 rfl
theorem q663 : (Jvm.Cond.methodLink "EnergyDiscs$House" (113 : Nat) ({ cls := "EnergyDiscs$Meter", name := "pass", desc := "(Z[I)I" } : Jvm.MethodName)) ∈ lw_all := lw_g (lw_at lw_m3 111 rfl) rfl
theorem q983 : (Jvm.Cond.instanceMethod ({ cls := "EnergyDiscs$House", name := "worst", desc := "()I" } : Jvm.MethodName)) ∈ lw_all := lw_g (lw_at lw_m4 191 rfl) rfl
theorem q984 : (Jvm.Cond.selects "EnergyDiscs$House" ({ cls := "EnergyDiscs$House", name := "worst", desc := "()I" } : Jvm.MethodName) ({ cls := "EnergyDiscs$House", name := "worst", desc := "()I" } : Jvm.MethodName)) ∈ lw_all := lw_g (lw_at lw_m4 192 rfl) rfl
theorem q985 : (Jvm.Cond.code ({ cls := "EnergyDiscs$House", name := "worst", desc := "()I" } : Jvm.MethodName) prog_3_method_11_code (3 : Nat) (Option.some Jvm.ClassFile.FieldType.int)) ∈ lw_all := lw_g (lw_at lw_m4 193 rfl) rfl
theorem q986 : (Jvm.Cond.methodLink "EnergyDiscs$House" (158 : Nat) ({ cls := "EnergyDiscs$Meter", name := "misses", desc := "()J" } : Jvm.MethodName)) ∈ lw_all := lw_g (lw_at lw_m4 194 rfl) rfl
theorem q1550 : (Jvm.Cond.castable "EnergyDiscs$House" "java/lang/Object") ∈ lw_tbl := lw_at lw_m7 38 rfl
theorem in_X1 : ∀ w ∈ wsX10, w ∈ lw_all := lw_in wsX10 [152, 154, 156, 158, 160] (by decide +kernel) (by decide +kernel)
