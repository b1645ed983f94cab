/-! EnergyDiscs$Meter -/
set_option maxRecDepth 100000
def RX3 : String := "EnergyDiscs$Meter"
def TX3 : u_T := fun k => match k with
  | 0 => ("EnergyDiscs$Meter", "number", "I", true)
  | 1 => ("EnergyDiscs$Meter", "through", "LEnergyDiscs$Meter;", true)
  | 2 => ("EnergyDiscs$Meter", "feeds", "Ljava/util/List;", true)
  | 3 => ("EnergyDiscs$Meter", "loads", "Ljava/util/List;", true)
  | 4 => ("EnergyDiscs$Meter", "power", "I", false)
  | 5 => ("EnergyDiscs$Meter", "place", "I", false)
  | 6 => ("EnergyDiscs$Meter", "speed", "I", false)
  | 7 => ("EnergyDiscs$Meter", "age", "I", false)
  | 8 => ("EnergyDiscs$Meter", "day", "I", false)
  | 9 => ("EnergyDiscs$Meter", "night", "I", false)
  | 10 => ("EnergyDiscs$Meter", "billedDay", "I", false)
  | 11 => ("EnergyDiscs$Meter", "billedNight", "I", false)
  | 12 => ("EnergyDiscs$Meter", "billed", "I", false)
  | 13 => ("EnergyDiscs$Meter", "visits", "I", false)
  | 14 => ("EnergyDiscs$Meter", "seal", "I", false)
  | 15 => ("EnergyDiscs$Meter", "broken", "Z", false)
  | _ => ("EnergyDiscs$Meter", "flowed", "J", false)
def tyX3 : Nat → FieldType := fun k => match k with
  | 0 => .int
  | 1 => .object "EnergyDiscs$Meter"
  | 2 => .object "java/util/List"
  | 3 => .object "java/util/List"
  | 4 => .int
  | 5 => .int
  | 6 => .int
  | 7 => .int
  | 8 => .int
  | 9 => .int
  | 10 => .int
  | 11 => .int
  | 12 => .int
  | 13 => .int
  | 14 => .int
  | 15 => .boolean
  | _ => .long
abbrev wsX30 : List Cond := u_ws RX3 TX3 17
set_option maxRecDepth 100000 in
theorem nmX3 : ∀ a, a < 17 → ∀ b, b < 17 → a ≠ b → (TX3 a).2.1 ≠ (TX3 b).2.1 := by decide +kernel
set_option maxRecDepth 100000 in
theorem tyX3_ok : ∀ k, k < 17 → parseFieldDescriptor (TX3 k).2.2.1 = some (tyX3 k) := by decide +kernel
abbrev cX3_init : ByteArray := prog_5_method_1_code
def yX3_init : MethodName := ⟨RX3, "<init>", "(ILEnergyDiscs$Meter;)V"⟩
def dkwX3_init_2 : List UInt8 := [180, 0, 12, 42, 185, 0, 32, 2, 0, 87, 177]
abbrev dktX3_init_2 : List UInt8 := dkwX3_init_2 ++ []
def dkwX3_init_1 : List UInt8 := [181, 0, 18, 42, 16, 100, 181, 0, 21, 42, 27, 181, 0, 25, 42, 44, 181, 0, 28, 44, 198, 0, 14, 44]
abbrev dktX3_init_1 : List UInt8 := dkwX3_init_1 ++ dktX3_init_2
def dkwX3_init_0 : List UInt8 := [42, 183, 0, 3, 42, 187, 0, 9, 89, 183, 0, 11, 181, 0, 12, 42, 187, 0, 9, 89, 183, 0, 11]
abbrev dktX3_init_0 : List UInt8 := dkwX3_init_0 ++ dktX3_init_1
theorem dksX3_init_0 : cX3_init.data.toList.drop 0 = dktX3_init_0 := by decide +kernel
theorem dksX3_init_1 : cX3_init.data.toList.drop 23 = dktX3_init_1 := dk_seg dksX3_init_0 23 rfl rfl
theorem dksX3_init_2 : cX3_init.data.toList.drop 47 = dktX3_init_2 := dk_seg dksX3_init_1 24 rfl rfl
theorem dX3_init_0 : decode cX3_init 0 = .ok (.aload_n 0, 1) := dk_42 (dk_at dksX3_init_0 0 rfl rfl)
theorem dX3_init_1 : decode cX3_init 1 = .ok (.invokespecial 3, 3) := dk_183 0 3 (dk_at dksX3_init_0 1 rfl rfl)
theorem dX3_init_4 : decode cX3_init 4 = .ok (.aload_n 0, 1) := dk_42 (dk_at dksX3_init_0 4 rfl rfl)
theorem dX3_init_5 : decode cX3_init 5 = .ok (.new 9, 3) := dk_187 0 9 (dk_at dksX3_init_0 5 rfl rfl)
theorem dX3_init_8 : decode cX3_init 8 = .ok (.dup, 1) := dk_89 (dk_at dksX3_init_0 8 rfl rfl)
theorem dX3_init_9 : decode cX3_init 9 = .ok (.invokespecial 11, 3) := dk_183 0 11 (dk_at dksX3_init_0 9 rfl rfl)
theorem dX3_init_12 : decode cX3_init 12 = .ok (.putfield 12, 3) := dk_181 0 12 (dk_at dksX3_init_0 12 rfl rfl)
theorem dX3_init_15 : decode cX3_init 15 = .ok (.aload_n 0, 1) := dk_42 (dk_at dksX3_init_0 15 rfl rfl)
theorem dX3_init_16 : decode cX3_init 16 = .ok (.new 9, 3) := dk_187 0 9 (dk_at dksX3_init_0 16 rfl rfl)
theorem dX3_init_19 : decode cX3_init 19 = .ok (.dup, 1) := dk_89 (dk_at dksX3_init_0 19 rfl rfl)
theorem dX3_init_20 : decode cX3_init 20 = .ok (.invokespecial 11, 3) := dk_183 0 11 (dk_at dksX3_init_0 20 rfl rfl)
theorem dX3_init_23 : decode cX3_init 23 = .ok (.putfield 18, 3) := dk_181 0 18 (dk_at dksX3_init_1 0 rfl rfl)
theorem dX3_init_26 : decode cX3_init 26 = .ok (.aload_n 0, 1) := dk_42 (dk_at dksX3_init_1 3 rfl rfl)
theorem dX3_init_27 : decode cX3_init 27 = .ok (.bipush 100, 2) := dk_16 100 (dk_at dksX3_init_1 4 rfl rfl)
theorem dX3_init_29 : decode cX3_init 29 = .ok (.putfield 21, 3) := dk_181 0 21 (dk_at dksX3_init_1 6 rfl rfl)
theorem dX3_init_32 : decode cX3_init 32 = .ok (.aload_n 0, 1) := dk_42 (dk_at dksX3_init_1 9 rfl rfl)
theorem dX3_init_33 : decode cX3_init 33 = .ok (.iload_n 1, 1) := dk_27 (dk_at dksX3_init_1 10 rfl rfl)
theorem dX3_init_34 : decode cX3_init 34 = .ok (.putfield 25, 3) := dk_181 0 25 (dk_at dksX3_init_1 11 rfl rfl)
theorem dX3_init_37 : decode cX3_init 37 = .ok (.aload_n 0, 1) := dk_42 (dk_at dksX3_init_1 14 rfl rfl)
theorem dX3_init_38 : decode cX3_init 38 = .ok (.aload_n 2, 1) := dk_44 (dk_at dksX3_init_1 15 rfl rfl)
theorem dX3_init_39 : decode cX3_init 39 = .ok (.putfield 28, 3) := dk_181 0 28 (dk_at dksX3_init_1 16 rfl rfl)
theorem dX3_init_42 : decode cX3_init 42 = .ok (.aload_n 2, 1) := dk_44 (dk_at dksX3_init_1 19 rfl rfl)
theorem dX3_init_43 : decode cX3_init 43 = .ok (.ifnull 14, 3) := dk_198 0 14 (dk_at dksX3_init_1 20 rfl rfl)
theorem dX3_init_46 : decode cX3_init 46 = .ok (.aload_n 2, 1) := dk_44 (dk_at dksX3_init_1 23 rfl rfl)
theorem dX3_init_47 : decode cX3_init 47 = .ok (.getfield 12, 3) := dk_180 0 12 (dk_at dksX3_init_2 0 rfl rfl)
theorem dX3_init_50 : decode cX3_init 50 = .ok (.aload_n 0, 1) := dk_42 (dk_at dksX3_init_2 3 rfl rfl)
theorem dX3_init_51 : decode cX3_init 51 = .ok (.invokeinterface 32 2, 5) := by decide +kernel
theorem dX3_init_56 : decode cX3_init 56 = .ok (.pop, 1) := dk_87 (dk_at dksX3_init_2 9 rfl rfl)
theorem dX3_init_57 : decode cX3_init 57 = .ok (.return_, 1) := dk_177 (dk_at dksX3_init_2 10 rfl rfl)
abbrev cX3_become : ByteArray := prog_5_method_2_code
def yX3_become : MethodName := ⟨RX3, "become", "(LEnergyDiscs$Meter;)V"⟩
def dkwX3_become_4 : List UInt8 := [177]
abbrev dktX3_become_4 : List UInt8 := dkwX3_become_4 ++ []
def dkwX3_become_3 : List UInt8 := [42, 43, 180, 0, 62, 181, 0, 62, 42, 43, 180, 0, 65, 181, 0, 65, 42, 43, 180, 0, 69, 181, 0, 69]
abbrev dktX3_become_3 : List UInt8 := dkwX3_become_3 ++ dktX3_become_4
def dkwX3_become_2 : List UInt8 := [42, 43, 180, 0, 53, 181, 0, 53, 42, 43, 180, 0, 56, 181, 0, 56, 42, 43, 180, 0, 59, 181, 0, 59]
abbrev dktX3_become_2 : List UInt8 := dkwX3_become_2 ++ dktX3_become_3
def dkwX3_become_1 : List UInt8 := [42, 43, 180, 0, 44, 181, 0, 44, 42, 43, 180, 0, 47, 181, 0, 47, 42, 43, 180, 0, 50, 181, 0, 50]
abbrev dktX3_become_1 : List UInt8 := dkwX3_become_1 ++ dktX3_become_2
def dkwX3_become_0 : List UInt8 := [42, 43, 180, 0, 38, 181, 0, 38, 42, 43, 180, 0, 21, 181, 0, 21, 42, 43, 180, 0, 41, 181, 0, 41]
abbrev dktX3_become_0 : List UInt8 := dkwX3_become_0 ++ dktX3_become_1
theorem dksX3_become_0 : cX3_become.data.toList.drop 0 = dktX3_become_0 := by decide +kernel
theorem dksX3_become_1 : cX3_become.data.toList.drop 24 = dktX3_become_1 := dk_seg dksX3_become_0 24 rfl rfl
theorem dksX3_become_2 : cX3_become.data.toList.drop 48 = dktX3_become_2 := dk_seg dksX3_become_1 24 rfl rfl
theorem dksX3_become_3 : cX3_become.data.toList.drop 72 = dktX3_become_3 := dk_seg dksX3_become_2 24 rfl rfl
theorem dksX3_become_4 : cX3_become.data.toList.drop 96 = dktX3_become_4 := dk_seg dksX3_become_3 24 rfl rfl
theorem dX3_become_0 : decode cX3_become 0 = .ok (.aload_n 0, 1) := dk_42 (dk_at dksX3_become_0 0 rfl rfl)
theorem dX3_become_1 : decode cX3_become 1 = .ok (.aload_n 1, 1) := dk_43 (dk_at dksX3_become_0 1 rfl rfl)
theorem dX3_become_2 : decode cX3_become 2 = .ok (.getfield 38, 3) := dk_180 0 38 (dk_at dksX3_become_0 2 rfl rfl)
theorem dX3_become_5 : decode cX3_become 5 = .ok (.putfield 38, 3) := dk_181 0 38 (dk_at dksX3_become_0 5 rfl rfl)
theorem dX3_become_8 : decode cX3_become 8 = .ok (.aload_n 0, 1) := dk_42 (dk_at dksX3_become_0 8 rfl rfl)
theorem dX3_become_9 : decode cX3_become 9 = .ok (.aload_n 1, 1) := dk_43 (dk_at dksX3_become_0 9 rfl rfl)
theorem dX3_become_10 : decode cX3_become 10 = .ok (.getfield 21, 3) := dk_180 0 21 (dk_at dksX3_become_0 10 rfl rfl)
theorem dX3_become_13 : decode cX3_become 13 = .ok (.putfield 21, 3) := dk_181 0 21 (dk_at dksX3_become_0 13 rfl rfl)
theorem dX3_become_16 : decode cX3_become 16 = .ok (.aload_n 0, 1) := dk_42 (dk_at dksX3_become_0 16 rfl rfl)
theorem dX3_become_17 : decode cX3_become 17 = .ok (.aload_n 1, 1) := dk_43 (dk_at dksX3_become_0 17 rfl rfl)
theorem dX3_become_18 : decode cX3_become 18 = .ok (.getfield 41, 3) := dk_180 0 41 (dk_at dksX3_become_0 18 rfl rfl)
theorem dX3_become_21 : decode cX3_become 21 = .ok (.putfield 41, 3) := dk_181 0 41 (dk_at dksX3_become_0 21 rfl rfl)
theorem dX3_become_24 : decode cX3_become 24 = .ok (.aload_n 0, 1) := dk_42 (dk_at dksX3_become_1 0 rfl rfl)
theorem dX3_become_25 : decode cX3_become 25 = .ok (.aload_n 1, 1) := dk_43 (dk_at dksX3_become_1 1 rfl rfl)
theorem dX3_become_26 : decode cX3_become 26 = .ok (.getfield 44, 3) := dk_180 0 44 (dk_at dksX3_become_1 2 rfl rfl)
theorem dX3_become_29 : decode cX3_become 29 = .ok (.putfield 44, 3) := dk_181 0 44 (dk_at dksX3_become_1 5 rfl rfl)
theorem dX3_become_32 : decode cX3_become 32 = .ok (.aload_n 0, 1) := dk_42 (dk_at dksX3_become_1 8 rfl rfl)
theorem dX3_become_33 : decode cX3_become 33 = .ok (.aload_n 1, 1) := dk_43 (dk_at dksX3_become_1 9 rfl rfl)
theorem dX3_become_34 : decode cX3_become 34 = .ok (.getfield 47, 3) := dk_180 0 47 (dk_at dksX3_become_1 10 rfl rfl)
theorem dX3_become_37 : decode cX3_become 37 = .ok (.putfield 47, 3) := dk_181 0 47 (dk_at dksX3_become_1 13 rfl rfl)
theorem dX3_become_40 : decode cX3_become 40 = .ok (.aload_n 0, 1) := dk_42 (dk_at dksX3_become_1 16 rfl rfl)
theorem dX3_become_41 : decode cX3_become 41 = .ok (.aload_n 1, 1) := dk_43 (dk_at dksX3_become_1 17 rfl rfl)
theorem dX3_become_42 : decode cX3_become 42 = .ok (.getfield 50, 3) := dk_180 0 50 (dk_at dksX3_become_1 18 rfl rfl)
theorem dX3_become_45 : decode cX3_become 45 = .ok (.putfield 50, 3) := dk_181 0 50 (dk_at dksX3_become_1 21 rfl rfl)
theorem dX3_become_48 : decode cX3_become 48 = .ok (.aload_n 0, 1) := dk_42 (dk_at dksX3_become_2 0 rfl rfl)
theorem dX3_become_49 : decode cX3_become 49 = .ok (.aload_n 1, 1) := dk_43 (dk_at dksX3_become_2 1 rfl rfl)
theorem dX3_become_50 : decode cX3_become 50 = .ok (.getfield 53, 3) := dk_180 0 53 (dk_at dksX3_become_2 2 rfl rfl)
theorem dX3_become_53 : decode cX3_become 53 = .ok (.putfield 53, 3) := dk_181 0 53 (dk_at dksX3_become_2 5 rfl rfl)
theorem dX3_become_56 : decode cX3_become 56 = .ok (.aload_n 0, 1) := dk_42 (dk_at dksX3_become_2 8 rfl rfl)
theorem dX3_become_57 : decode cX3_become 57 = .ok (.aload_n 1, 1) := dk_43 (dk_at dksX3_become_2 9 rfl rfl)
theorem dX3_become_58 : decode cX3_become 58 = .ok (.getfield 56, 3) := dk_180 0 56 (dk_at dksX3_become_2 10 rfl rfl)
theorem dX3_become_61 : decode cX3_become 61 = .ok (.putfield 56, 3) := dk_181 0 56 (dk_at dksX3_become_2 13 rfl rfl)
theorem dX3_become_64 : decode cX3_become 64 = .ok (.aload_n 0, 1) := dk_42 (dk_at dksX3_become_2 16 rfl rfl)
theorem dX3_become_65 : decode cX3_become 65 = .ok (.aload_n 1, 1) := dk_43 (dk_at dksX3_become_2 17 rfl rfl)
theorem dX3_become_66 : decode cX3_become 66 = .ok (.getfield 59, 3) := dk_180 0 59 (dk_at dksX3_become_2 18 rfl rfl)
theorem dX3_become_69 : decode cX3_become 69 = .ok (.putfield 59, 3) := dk_181 0 59 (dk_at dksX3_become_2 21 rfl rfl)
theorem dX3_become_72 : decode cX3_become 72 = .ok (.aload_n 0, 1) := dk_42 (dk_at dksX3_become_3 0 rfl rfl)
theorem dX3_become_73 : decode cX3_become 73 = .ok (.aload_n 1, 1) := dk_43 (dk_at dksX3_become_3 1 rfl rfl)
theorem dX3_become_74 : decode cX3_become 74 = .ok (.getfield 62, 3) := dk_180 0 62 (dk_at dksX3_become_3 2 rfl rfl)
theorem dX3_become_77 : decode cX3_become 77 = .ok (.putfield 62, 3) := dk_181 0 62 (dk_at dksX3_become_3 5 rfl rfl)
theorem dX3_become_80 : decode cX3_become 80 = .ok (.aload_n 0, 1) := dk_42 (dk_at dksX3_become_3 8 rfl rfl)
theorem dX3_become_81 : decode cX3_become 81 = .ok (.aload_n 1, 1) := dk_43 (dk_at dksX3_become_3 9 rfl rfl)
theorem dX3_become_82 : decode cX3_become 82 = .ok (.getfield 65, 3) := dk_180 0 65 (dk_at dksX3_become_3 10 rfl rfl)
theorem dX3_become_85 : decode cX3_become 85 = .ok (.putfield 65, 3) := dk_181 0 65 (dk_at dksX3_become_3 13 rfl rfl)
theorem dX3_become_88 : decode cX3_become 88 = .ok (.aload_n 0, 1) := dk_42 (dk_at dksX3_become_3 16 rfl rfl)
theorem dX3_become_89 : decode cX3_become 89 = .ok (.aload_n 1, 1) := dk_43 (dk_at dksX3_become_3 17 rfl rfl)
theorem dX3_become_90 : decode cX3_become 90 = .ok (.getfield 69, 3) := dk_180 0 69 (dk_at dksX3_become_3 18 rfl rfl)
theorem dX3_become_93 : decode cX3_become 93 = .ok (.putfield 69, 3) := dk_181 0 69 (dk_at dksX3_become_3 21 rfl rfl)
theorem dX3_become_96 : decode cX3_become 96 = .ok (.return_, 1) := dk_177 (dk_at dksX3_become_4 0 rfl rfl)
abbrev cX3_bill : ByteArray := prog_5_method_11_code
def yX3_bill : MethodName := ⟨RX3, "bill", "(II)I"⟩
def dkwX3_bill_0 : List UInt8 := [27, 42, 180, 0, 44, 42, 180, 0, 50, 100, 104, 28, 42, 180, 0, 47, 42, 180, 0, 53, 100, 104, 96, 172]
abbrev dktX3_bill_0 : List UInt8 := dkwX3_bill_0 ++ []
theorem dksX3_bill_0 : cX3_bill.data.toList.drop 0 = dktX3_bill_0 := by decide +kernel
theorem dX3_bill_0 : decode cX3_bill 0 = .ok (.iload_n 1, 1) := dk_27 (dk_at dksX3_bill_0 0 rfl rfl)
theorem dX3_bill_1 : decode cX3_bill 1 = .ok (.aload_n 0, 1) := dk_42 (dk_at dksX3_bill_0 1 rfl rfl)
theorem dX3_bill_2 : decode cX3_bill 2 = .ok (.getfield 44, 3) := dk_180 0 44 (dk_at dksX3_bill_0 2 rfl rfl)
theorem dX3_bill_5 : decode cX3_bill 5 = .ok (.aload_n 0, 1) := dk_42 (dk_at dksX3_bill_0 5 rfl rfl)
theorem dX3_bill_6 : decode cX3_bill 6 = .ok (.getfield 50, 3) := dk_180 0 50 (dk_at dksX3_bill_0 6 rfl rfl)
theorem dX3_bill_9 : decode cX3_bill 9 = .ok (.isub, 1) := dk_100 (dk_at dksX3_bill_0 9 rfl rfl)
theorem dX3_bill_10 : decode cX3_bill 10 = .ok (.imul, 1) := dk_104 (dk_at dksX3_bill_0 10 rfl rfl)
theorem dX3_bill_11 : decode cX3_bill 11 = .ok (.iload_n 2, 1) := dk_28 (dk_at dksX3_bill_0 11 rfl rfl)
theorem dX3_bill_12 : decode cX3_bill 12 = .ok (.aload_n 0, 1) := dk_42 (dk_at dksX3_bill_0 12 rfl rfl)
theorem dX3_bill_13 : decode cX3_bill 13 = .ok (.getfield 47, 3) := dk_180 0 47 (dk_at dksX3_bill_0 13 rfl rfl)
theorem dX3_bill_16 : decode cX3_bill 16 = .ok (.aload_n 0, 1) := dk_42 (dk_at dksX3_bill_0 16 rfl rfl)
theorem dX3_bill_17 : decode cX3_bill 17 = .ok (.getfield 53, 3) := dk_180 0 53 (dk_at dksX3_bill_0 17 rfl rfl)
theorem dX3_bill_20 : decode cX3_bill 20 = .ok (.isub, 1) := dk_100 (dk_at dksX3_bill_0 20 rfl rfl)
theorem dX3_bill_21 : decode cX3_bill 21 = .ok (.imul, 1) := dk_104 (dk_at dksX3_bill_0 21 rfl rfl)
theorem dX3_bill_22 : decode cX3_bill 22 = .ok (.iadd, 1) := dk_96 (dk_at dksX3_bill_0 22 rfl rfl)
theorem dX3_bill_23 : decode cX3_bill 23 = .ok (.ireturn, 1) := dk_172 (dk_at dksX3_bill_0 23 rfl rfl)
abbrev cX3_layPower : ByteArray := prog_5_method_3_code
def yX3_layPower : MethodName := ⟨RX3, "layPower", "()I"⟩
def dkwX3_layPower_5 : List UInt8 := [132, 1, 1, 167, 255, 215, 42, 180, 0, 73, 172]
abbrev dktX3_layPower_5 : List UInt8 := dkwX3_layPower_5 ++ []
def dkwX3_layPower_4 : List UInt8 := [180, 0, 73, 42, 180, 0, 12, 27, 185, 0, 80, 2, 0, 192, 0, 13, 182, 0, 90, 96, 181, 0, 73]
abbrev dktX3_layPower_4 : List UInt8 := dkwX3_layPower_4 ++ dktX3_layPower_5
def dkwX3_layPower_3 : List UInt8 := [132, 1, 1, 167, 255, 192, 3, 60, 27, 42, 180, 0, 12, 185, 0, 76, 1, 0, 162, 0, 34, 42, 89]
abbrev dktX3_layPower_3 : List UInt8 := dkwX3_layPower_3 ++ dktX3_layPower_4
def dkwX3_layPower_2 : List UInt8 := [180, 0, 18, 27, 185, 0, 80, 2, 0, 192, 0, 84, 180, 0, 89, 167, 0, 4, 3, 96, 181, 0, 73]
abbrev dktX3_layPower_2 : List UInt8 := dkwX3_layPower_2 ++ dktX3_layPower_3
def dkwX3_layPower_1 : List UInt8 := [180, 0, 73, 42, 180, 0, 18, 27, 185, 0, 80, 2, 0, 192, 0, 84, 180, 0, 86, 153, 0, 22, 42]
abbrev dktX3_layPower_1 : List UInt8 := dkwX3_layPower_1 ++ dktX3_layPower_2
def dkwX3_layPower_0 : List UInt8 := [42, 3, 181, 0, 73, 3, 60, 27, 42, 180, 0, 18, 185, 0, 76, 1, 0, 162, 0, 57, 42, 89]
abbrev dktX3_layPower_0 : List UInt8 := dkwX3_layPower_0 ++ dktX3_layPower_1
theorem dksX3_layPower_0 : cX3_layPower.data.toList.drop 0 = dktX3_layPower_0 := by decide +kernel
theorem dksX3_layPower_1 : cX3_layPower.data.toList.drop 22 = dktX3_layPower_1 := dk_seg dksX3_layPower_0 22 rfl rfl
theorem dksX3_layPower_2 : cX3_layPower.data.toList.drop 45 = dktX3_layPower_2 := dk_seg dksX3_layPower_1 23 rfl rfl
theorem dksX3_layPower_3 : cX3_layPower.data.toList.drop 68 = dktX3_layPower_3 := dk_seg dksX3_layPower_2 23 rfl rfl
theorem dksX3_layPower_4 : cX3_layPower.data.toList.drop 91 = dktX3_layPower_4 := dk_seg dksX3_layPower_3 23 rfl rfl
theorem dksX3_layPower_5 : cX3_layPower.data.toList.drop 114 = dktX3_layPower_5 := dk_seg dksX3_layPower_4 23 rfl rfl
theorem dX3_layPower_0 : decode cX3_layPower 0 = .ok (.aload_n 0, 1) := dk_42 (dk_at dksX3_layPower_0 0 rfl rfl)
theorem dX3_layPower_1 : decode cX3_layPower 1 = .ok (.iconst 0, 1) := dk_3 (dk_at dksX3_layPower_0 1 rfl rfl)
theorem dX3_layPower_2 : decode cX3_layPower 2 = .ok (.putfield 73, 3) := dk_181 0 73 (dk_at dksX3_layPower_0 2 rfl rfl)
theorem dX3_layPower_5 : decode cX3_layPower 5 = .ok (.iconst 0, 1) := dk_3 (dk_at dksX3_layPower_0 5 rfl rfl)
theorem dX3_layPower_6 : decode cX3_layPower 6 = .ok (.istore_n 1, 1) := dk_60 (dk_at dksX3_layPower_0 6 rfl rfl)
theorem dX3_layPower_7 : decode cX3_layPower 7 = .ok (.iload_n 1, 1) := dk_27 (dk_at dksX3_layPower_0 7 rfl rfl)
theorem dX3_layPower_8 : decode cX3_layPower 8 = .ok (.aload_n 0, 1) := dk_42 (dk_at dksX3_layPower_0 8 rfl rfl)
theorem dX3_layPower_9 : decode cX3_layPower 9 = .ok (.getfield 18, 3) := dk_180 0 18 (dk_at dksX3_layPower_0 9 rfl rfl)
theorem dX3_layPower_12 : decode cX3_layPower 12 = .ok (.invokeinterface 76 1, 5) := by decide +kernel
theorem dX3_layPower_17 : decode cX3_layPower 17 = .ok (.if_icmp .ge 57, 3) := dk_162 0 57 (dk_at dksX3_layPower_0 17 rfl rfl)
theorem dX3_layPower_20 : decode cX3_layPower 20 = .ok (.aload_n 0, 1) := dk_42 (dk_at dksX3_layPower_0 20 rfl rfl)
theorem dX3_layPower_21 : decode cX3_layPower 21 = .ok (.dup, 1) := dk_89 (dk_at dksX3_layPower_0 21 rfl rfl)
theorem dX3_layPower_22 : decode cX3_layPower 22 = .ok (.getfield 73, 3) := dk_180 0 73 (dk_at dksX3_layPower_1 0 rfl rfl)
theorem dX3_layPower_25 : decode cX3_layPower 25 = .ok (.aload_n 0, 1) := dk_42 (dk_at dksX3_layPower_1 3 rfl rfl)
theorem dX3_layPower_26 : decode cX3_layPower 26 = .ok (.getfield 18, 3) := dk_180 0 18 (dk_at dksX3_layPower_1 4 rfl rfl)
theorem dX3_layPower_29 : decode cX3_layPower 29 = .ok (.iload_n 1, 1) := dk_27 (dk_at dksX3_layPower_1 7 rfl rfl)
theorem dX3_layPower_30 : decode cX3_layPower 30 = .ok (.invokeinterface 80 2, 5) := by decide +kernel
theorem dX3_layPower_35 : decode cX3_layPower 35 = .ok (.checkcast 84, 3) := dk_192 0 84 (dk_at dksX3_layPower_1 13 rfl rfl)
theorem dX3_layPower_38 : decode cX3_layPower 38 = .ok (.getfield 86, 3) := dk_180 0 86 (dk_at dksX3_layPower_1 16 rfl rfl)
theorem dX3_layPower_41 : decode cX3_layPower 41 = .ok (.ifCond .eq 22, 3) := dk_153 0 22 (dk_at dksX3_layPower_1 19 rfl rfl)
theorem dX3_layPower_44 : decode cX3_layPower 44 = .ok (.aload_n 0, 1) := dk_42 (dk_at dksX3_layPower_1 22 rfl rfl)
theorem dX3_layPower_45 : decode cX3_layPower 45 = .ok (.getfield 18, 3) := dk_180 0 18 (dk_at dksX3_layPower_2 0 rfl rfl)
theorem dX3_layPower_48 : decode cX3_layPower 48 = .ok (.iload_n 1, 1) := dk_27 (dk_at dksX3_layPower_2 3 rfl rfl)
theorem dX3_layPower_49 : decode cX3_layPower 49 = .ok (.invokeinterface 80 2, 5) := by decide +kernel
theorem dX3_layPower_54 : decode cX3_layPower 54 = .ok (.checkcast 84, 3) := dk_192 0 84 (dk_at dksX3_layPower_2 9 rfl rfl)
theorem dX3_layPower_57 : decode cX3_layPower 57 = .ok (.getfield 89, 3) := dk_180 0 89 (dk_at dksX3_layPower_2 12 rfl rfl)
theorem dX3_layPower_60 : decode cX3_layPower 60 = .ok (.goto 4, 3) := dk_167 0 4 (dk_at dksX3_layPower_2 15 rfl rfl)
theorem dX3_layPower_63 : decode cX3_layPower 63 = .ok (.iconst 0, 1) := dk_3 (dk_at dksX3_layPower_2 18 rfl rfl)
theorem dX3_layPower_64 : decode cX3_layPower 64 = .ok (.iadd, 1) := dk_96 (dk_at dksX3_layPower_2 19 rfl rfl)
theorem dX3_layPower_65 : decode cX3_layPower 65 = .ok (.putfield 73, 3) := dk_181 0 73 (dk_at dksX3_layPower_2 20 rfl rfl)
theorem dX3_layPower_68 : decode cX3_layPower 68 = .ok (.iinc 1 1, 3) := dk_132 1 1 (dk_at dksX3_layPower_3 0 rfl rfl)
theorem dX3_layPower_71 : decode cX3_layPower 71 = .ok (.goto (-64), 3) := dk_167 255 192 (dk_at dksX3_layPower_3 3 rfl rfl)
theorem dX3_layPower_74 : decode cX3_layPower 74 = .ok (.iconst 0, 1) := dk_3 (dk_at dksX3_layPower_3 6 rfl rfl)
theorem dX3_layPower_75 : decode cX3_layPower 75 = .ok (.istore_n 1, 1) := dk_60 (dk_at dksX3_layPower_3 7 rfl rfl)
theorem dX3_layPower_76 : decode cX3_layPower 76 = .ok (.iload_n 1, 1) := dk_27 (dk_at dksX3_layPower_3 8 rfl rfl)
theorem dX3_layPower_77 : decode cX3_layPower 77 = .ok (.aload_n 0, 1) := dk_42 (dk_at dksX3_layPower_3 9 rfl rfl)
theorem dX3_layPower_78 : decode cX3_layPower 78 = .ok (.getfield 12, 3) := dk_180 0 12 (dk_at dksX3_layPower_3 10 rfl rfl)
theorem dX3_layPower_81 : decode cX3_layPower 81 = .ok (.invokeinterface 76 1, 5) := by decide +kernel
theorem dX3_layPower_86 : decode cX3_layPower 86 = .ok (.if_icmp .ge 34, 3) := dk_162 0 34 (dk_at dksX3_layPower_3 18 rfl rfl)
theorem dX3_layPower_89 : decode cX3_layPower 89 = .ok (.aload_n 0, 1) := dk_42 (dk_at dksX3_layPower_3 21 rfl rfl)
theorem dX3_layPower_90 : decode cX3_layPower 90 = .ok (.dup, 1) := dk_89 (dk_at dksX3_layPower_3 22 rfl rfl)
theorem dX3_layPower_91 : decode cX3_layPower 91 = .ok (.getfield 73, 3) := dk_180 0 73 (dk_at dksX3_layPower_4 0 rfl rfl)
theorem dX3_layPower_94 : decode cX3_layPower 94 = .ok (.aload_n 0, 1) := dk_42 (dk_at dksX3_layPower_4 3 rfl rfl)
theorem dX3_layPower_95 : decode cX3_layPower 95 = .ok (.getfield 12, 3) := dk_180 0 12 (dk_at dksX3_layPower_4 4 rfl rfl)
theorem dX3_layPower_98 : decode cX3_layPower 98 = .ok (.iload_n 1, 1) := dk_27 (dk_at dksX3_layPower_4 7 rfl rfl)
theorem dX3_layPower_99 : decode cX3_layPower 99 = .ok (.invokeinterface 80 2, 5) := by decide +kernel
theorem dX3_layPower_104 : decode cX3_layPower 104 = .ok (.checkcast 13, 3) := dk_192 0 13 (dk_at dksX3_layPower_4 13 rfl rfl)
theorem dX3_layPower_107 : decode cX3_layPower 107 = .ok (.invokevirtual 90, 3) := dk_182 0 90 (dk_at dksX3_layPower_4 16 rfl rfl)
theorem dX3_layPower_110 : decode cX3_layPower 110 = .ok (.iadd, 1) := dk_96 (dk_at dksX3_layPower_4 19 rfl rfl)
theorem dX3_layPower_111 : decode cX3_layPower 111 = .ok (.putfield 73, 3) := dk_181 0 73 (dk_at dksX3_layPower_4 20 rfl rfl)
theorem dX3_layPower_114 : decode cX3_layPower 114 = .ok (.iinc 1 1, 3) := dk_132 1 1 (dk_at dksX3_layPower_5 0 rfl rfl)
theorem dX3_layPower_117 : decode cX3_layPower 117 = .ok (.goto (-41), 3) := dk_167 255 215 (dk_at dksX3_layPower_5 3 rfl rfl)
theorem dX3_layPower_120 : decode cX3_layPower 120 = .ok (.aload_n 0, 1) := dk_42 (dk_at dksX3_layPower_5 6 rfl rfl)
theorem dX3_layPower_121 : decode cX3_layPower 121 = .ok (.getfield 73, 3) := dk_180 0 73 (dk_at dksX3_layPower_5 7 rfl rfl)
theorem dX3_layPower_124 : decode cX3_layPower 124 = .ok (.ireturn, 1) := dk_172 (dk_at dksX3_layPower_5 10 rfl rfl)
abbrev cX3_pass : ByteArray := prog_5_method_10_code
def yX3_pass : MethodName := ⟨RX3, "pass", "(Z[I)I"⟩
def dkwX3_pass_3 : List UInt8 := [167, 0, 4, 29, 96, 181, 0, 44, 42, 44, 6, 46, 182, 0, 115, 29, 172]
abbrev dktX3_pass_3 : List UInt8 := dkwX3_pass_3 ++ []
def dkwX3_pass_2 : List UInt8 := [153, 0, 7, 29, 167, 0, 4, 3, 96, 181, 0, 47, 42, 89, 180, 0, 44, 27, 153, 0, 7, 3]
abbrev dktX3_pass_2 : List UInt8 := dkwX3_pass_2 ++ dktX3_pass_3
def dkwX3_pass_1 : List UInt8 := [17, 23, 112, 108, 62, 42, 89, 180, 0, 38, 17, 23, 112, 112, 181, 0, 38, 42, 89, 180, 0, 47, 27]
abbrev dktX3_pass_1 : List UInt8 := dkwX3_pass_1 ++ dktX3_pass_2
def dkwX3_pass_0 : List UInt8 := [42, 89, 180, 0, 69, 42, 180, 0, 73, 133, 97, 181, 0, 69, 42, 44, 182, 0, 111, 42, 180, 0, 38]
abbrev dktX3_pass_0 : List UInt8 := dkwX3_pass_0 ++ dktX3_pass_1
theorem dksX3_pass_0 : cX3_pass.data.toList.drop 0 = dktX3_pass_0 := by decide +kernel
theorem dksX3_pass_1 : cX3_pass.data.toList.drop 23 = dktX3_pass_1 := dk_seg dksX3_pass_0 23 rfl rfl
theorem dksX3_pass_2 : cX3_pass.data.toList.drop 46 = dktX3_pass_2 := dk_seg dksX3_pass_1 23 rfl rfl
theorem dksX3_pass_3 : cX3_pass.data.toList.drop 68 = dktX3_pass_3 := dk_seg dksX3_pass_2 22 rfl rfl
theorem dX3_pass_0 : decode cX3_pass 0 = .ok (.aload_n 0, 1) := dk_42 (dk_at dksX3_pass_0 0 rfl rfl)
theorem dX3_pass_1 : decode cX3_pass 1 = .ok (.dup, 1) := dk_89 (dk_at dksX3_pass_0 1 rfl rfl)
theorem dX3_pass_2 : decode cX3_pass 2 = .ok (.getfield 69, 3) := dk_180 0 69 (dk_at dksX3_pass_0 2 rfl rfl)
theorem dX3_pass_5 : decode cX3_pass 5 = .ok (.aload_n 0, 1) := dk_42 (dk_at dksX3_pass_0 5 rfl rfl)
theorem dX3_pass_6 : decode cX3_pass 6 = .ok (.getfield 73, 3) := dk_180 0 73 (dk_at dksX3_pass_0 6 rfl rfl)
theorem dX3_pass_9 : decode cX3_pass 9 = .ok (.i2l, 1) := dk_133 (dk_at dksX3_pass_0 9 rfl rfl)
theorem dX3_pass_10 : decode cX3_pass 10 = .ok (.ladd, 1) := dk_97 (dk_at dksX3_pass_0 10 rfl rfl)
theorem dX3_pass_11 : decode cX3_pass 11 = .ok (.putfield 69, 3) := dk_181 0 69 (dk_at dksX3_pass_0 11 rfl rfl)
theorem dX3_pass_14 : decode cX3_pass 14 = .ok (.aload_n 0, 1) := dk_42 (dk_at dksX3_pass_0 14 rfl rfl)
theorem dX3_pass_15 : decode cX3_pass 15 = .ok (.aload_n 2, 1) := dk_44 (dk_at dksX3_pass_0 15 rfl rfl)
theorem dX3_pass_16 : decode cX3_pass 16 = .ok (.invokevirtual 111, 3) := dk_182 0 111 (dk_at dksX3_pass_0 16 rfl rfl)
theorem dX3_pass_19 : decode cX3_pass 19 = .ok (.aload_n 0, 1) := dk_42 (dk_at dksX3_pass_0 19 rfl rfl)
theorem dX3_pass_20 : decode cX3_pass 20 = .ok (.getfield 38, 3) := dk_180 0 38 (dk_at dksX3_pass_0 20 rfl rfl)
theorem dX3_pass_23 : decode cX3_pass 23 = .ok (.sipush 6000, 3) := dk_17 23 112 (dk_at dksX3_pass_1 0 rfl rfl)
theorem dX3_pass_26 : decode cX3_pass 26 = .ok (.idiv, 1) := dk_108 (dk_at dksX3_pass_1 3 rfl rfl)
theorem dX3_pass_27 : decode cX3_pass 27 = .ok (.istore_n 3, 1) := dk_62 (dk_at dksX3_pass_1 4 rfl rfl)
theorem dX3_pass_28 : decode cX3_pass 28 = .ok (.aload_n 0, 1) := dk_42 (dk_at dksX3_pass_1 5 rfl rfl)
theorem dX3_pass_29 : decode cX3_pass 29 = .ok (.dup, 1) := dk_89 (dk_at dksX3_pass_1 6 rfl rfl)
theorem dX3_pass_30 : decode cX3_pass 30 = .ok (.getfield 38, 3) := dk_180 0 38 (dk_at dksX3_pass_1 7 rfl rfl)
theorem dX3_pass_33 : decode cX3_pass 33 = .ok (.sipush 6000, 3) := dk_17 23 112 (dk_at dksX3_pass_1 10 rfl rfl)
theorem dX3_pass_36 : decode cX3_pass 36 = .ok (.irem, 1) := dk_112 (dk_at dksX3_pass_1 13 rfl rfl)
theorem dX3_pass_37 : decode cX3_pass 37 = .ok (.putfield 38, 3) := dk_181 0 38 (dk_at dksX3_pass_1 14 rfl rfl)
theorem dX3_pass_40 : decode cX3_pass 40 = .ok (.aload_n 0, 1) := dk_42 (dk_at dksX3_pass_1 17 rfl rfl)
theorem dX3_pass_41 : decode cX3_pass 41 = .ok (.dup, 1) := dk_89 (dk_at dksX3_pass_1 18 rfl rfl)
theorem dX3_pass_42 : decode cX3_pass 42 = .ok (.getfield 47, 3) := dk_180 0 47 (dk_at dksX3_pass_1 19 rfl rfl)
theorem dX3_pass_45 : decode cX3_pass 45 = .ok (.iload_n 1, 1) := dk_27 (dk_at dksX3_pass_1 22 rfl rfl)
theorem dX3_pass_46 : decode cX3_pass 46 = .ok (.ifCond .eq 7, 3) := dk_153 0 7 (dk_at dksX3_pass_2 0 rfl rfl)
theorem dX3_pass_49 : decode cX3_pass 49 = .ok (.iload_n 3, 1) := dk_29 (dk_at dksX3_pass_2 3 rfl rfl)
theorem dX3_pass_50 : decode cX3_pass 50 = .ok (.goto 4, 3) := dk_167 0 4 (dk_at dksX3_pass_2 4 rfl rfl)
theorem dX3_pass_53 : decode cX3_pass 53 = .ok (.iconst 0, 1) := dk_3 (dk_at dksX3_pass_2 7 rfl rfl)
theorem dX3_pass_54 : decode cX3_pass 54 = .ok (.iadd, 1) := dk_96 (dk_at dksX3_pass_2 8 rfl rfl)
theorem dX3_pass_55 : decode cX3_pass 55 = .ok (.putfield 47, 3) := dk_181 0 47 (dk_at dksX3_pass_2 9 rfl rfl)
theorem dX3_pass_58 : decode cX3_pass 58 = .ok (.aload_n 0, 1) := dk_42 (dk_at dksX3_pass_2 12 rfl rfl)
theorem dX3_pass_59 : decode cX3_pass 59 = .ok (.dup, 1) := dk_89 (dk_at dksX3_pass_2 13 rfl rfl)
theorem dX3_pass_60 : decode cX3_pass 60 = .ok (.getfield 44, 3) := dk_180 0 44 (dk_at dksX3_pass_2 14 rfl rfl)
theorem dX3_pass_63 : decode cX3_pass 63 = .ok (.iload_n 1, 1) := dk_27 (dk_at dksX3_pass_2 17 rfl rfl)
theorem dX3_pass_64 : decode cX3_pass 64 = .ok (.ifCond .eq 7, 3) := dk_153 0 7 (dk_at dksX3_pass_2 18 rfl rfl)
theorem dX3_pass_67 : decode cX3_pass 67 = .ok (.iconst 0, 1) := dk_3 (dk_at dksX3_pass_2 21 rfl rfl)
theorem dX3_pass_68 : decode cX3_pass 68 = .ok (.goto 4, 3) := dk_167 0 4 (dk_at dksX3_pass_3 0 rfl rfl)
theorem dX3_pass_71 : decode cX3_pass 71 = .ok (.iload_n 3, 1) := dk_29 (dk_at dksX3_pass_3 3 rfl rfl)
theorem dX3_pass_72 : decode cX3_pass 72 = .ok (.iadd, 1) := dk_96 (dk_at dksX3_pass_3 4 rfl rfl)
theorem dX3_pass_73 : decode cX3_pass 73 = .ok (.putfield 44, 3) := dk_181 0 44 (dk_at dksX3_pass_3 5 rfl rfl)
theorem dX3_pass_76 : decode cX3_pass 76 = .ok (.aload_n 0, 1) := dk_42 (dk_at dksX3_pass_3 8 rfl rfl)
theorem dX3_pass_77 : decode cX3_pass 77 = .ok (.aload_n 2, 1) := dk_44 (dk_at dksX3_pass_3 9 rfl rfl)
theorem dX3_pass_78 : decode cX3_pass 78 = .ok (.iconst 3, 1) := dk_6 (dk_at dksX3_pass_3 10 rfl rfl)
theorem dX3_pass_79 : decode cX3_pass 79 = .ok (.iaload, 1) := dk_46 (dk_at dksX3_pass_3 11 rfl rfl)
theorem dX3_pass_80 : decode cX3_pass 80 = .ok (.invokevirtual 115, 3) := dk_182 0 115 (dk_at dksX3_pass_3 12 rfl rfl)
theorem dX3_pass_83 : decode cX3_pass 83 = .ok (.iload_n 3, 1) := dk_29 (dk_at dksX3_pass_3 15 rfl rfl)
theorem dX3_pass_84 : decode cX3_pass 84 = .ok (.ireturn, 1) := dk_172 (dk_at dksX3_pass_3 16 rfl rfl)
abbrev cX3_move : ByteArray := prog_5_method_8_code
def yX3_move : MethodName := ⟨RX3, "move", "([I)V"⟩
def dkwX3_move_3 : List UInt8 := [4, 160, 0, 7, 4, 167, 0, 4, 3, 182, 0, 107, 177]
abbrev dktX3_move_3 : List UInt8 := dkwX3_move_3 ++ []
def dkwX3_move_2 : List UInt8 := [167, 0, 36, 42, 180, 0, 73, 154, 0, 29, 42, 180, 0, 65, 154, 0, 22, 42, 43, 4, 46, 43, 5, 46]
abbrev dktX3_move_2 : List UInt8 := dkwX3_move_2 ++ dktX3_move_3
def dkwX3_move_1 : List UInt8 := [89, 180, 0, 38, 42, 180, 0, 65, 153, 0, 9, 28, 5, 108, 167, 0, 4, 28, 96, 181, 0, 38]
abbrev dktX3_move_1 : List UInt8 := dkwX3_move_1 ++ dktX3_move_2
def dkwX3_move_0 : List UInt8 := [42, 180, 0, 73, 43, 3, 46, 164, 0, 42, 42, 180, 0, 73, 42, 180, 0, 21, 104, 16, 100, 108, 61, 42]
abbrev dktX3_move_0 : List UInt8 := dkwX3_move_0 ++ dktX3_move_1
theorem dksX3_move_0 : cX3_move.data.toList.drop 0 = dktX3_move_0 := by decide +kernel
theorem dksX3_move_1 : cX3_move.data.toList.drop 24 = dktX3_move_1 := dk_seg dksX3_move_0 24 rfl rfl
theorem dksX3_move_2 : cX3_move.data.toList.drop 46 = dktX3_move_2 := dk_seg dksX3_move_1 22 rfl rfl
theorem dksX3_move_3 : cX3_move.data.toList.drop 70 = dktX3_move_3 := dk_seg dksX3_move_2 24 rfl rfl
theorem dX3_move_0 : decode cX3_move 0 = .ok (.aload_n 0, 1) := dk_42 (dk_at dksX3_move_0 0 rfl rfl)
theorem dX3_move_1 : decode cX3_move 1 = .ok (.getfield 73, 3) := dk_180 0 73 (dk_at dksX3_move_0 1 rfl rfl)
theorem dX3_move_4 : decode cX3_move 4 = .ok (.aload_n 1, 1) := dk_43 (dk_at dksX3_move_0 4 rfl rfl)
theorem dX3_move_5 : decode cX3_move 5 = .ok (.iconst 0, 1) := dk_3 (dk_at dksX3_move_0 5 rfl rfl)
theorem dX3_move_6 : decode cX3_move 6 = .ok (.iaload, 1) := dk_46 (dk_at dksX3_move_0 6 rfl rfl)
theorem dX3_move_7 : decode cX3_move 7 = .ok (.if_icmp .le 42, 3) := dk_164 0 42 (dk_at dksX3_move_0 7 rfl rfl)
theorem dX3_move_10 : decode cX3_move 10 = .ok (.aload_n 0, 1) := dk_42 (dk_at dksX3_move_0 10 rfl rfl)
theorem dX3_move_11 : decode cX3_move 11 = .ok (.getfield 73, 3) := dk_180 0 73 (dk_at dksX3_move_0 11 rfl rfl)
theorem dX3_move_14 : decode cX3_move 14 = .ok (.aload_n 0, 1) := dk_42 (dk_at dksX3_move_0 14 rfl rfl)
theorem dX3_move_15 : decode cX3_move 15 = .ok (.getfield 21, 3) := dk_180 0 21 (dk_at dksX3_move_0 15 rfl rfl)
theorem dX3_move_18 : decode cX3_move 18 = .ok (.imul, 1) := dk_104 (dk_at dksX3_move_0 18 rfl rfl)
theorem dX3_move_19 : decode cX3_move 19 = .ok (.bipush 100, 2) := dk_16 100 (dk_at dksX3_move_0 19 rfl rfl)
theorem dX3_move_21 : decode cX3_move 21 = .ok (.idiv, 1) := dk_108 (dk_at dksX3_move_0 21 rfl rfl)
theorem dX3_move_22 : decode cX3_move 22 = .ok (.istore_n 2, 1) := dk_61 (dk_at dksX3_move_0 22 rfl rfl)
theorem dX3_move_23 : decode cX3_move 23 = .ok (.aload_n 0, 1) := dk_42 (dk_at dksX3_move_0 23 rfl rfl)
theorem dX3_move_24 : decode cX3_move 24 = .ok (.dup, 1) := dk_89 (dk_at dksX3_move_1 0 rfl rfl)
theorem dX3_move_25 : decode cX3_move 25 = .ok (.getfield 38, 3) := dk_180 0 38 (dk_at dksX3_move_1 1 rfl rfl)
theorem dX3_move_28 : decode cX3_move 28 = .ok (.aload_n 0, 1) := dk_42 (dk_at dksX3_move_1 4 rfl rfl)
theorem dX3_move_29 : decode cX3_move 29 = .ok (.getfield 65, 3) := dk_180 0 65 (dk_at dksX3_move_1 5 rfl rfl)
theorem dX3_move_32 : decode cX3_move 32 = .ok (.ifCond .eq 9, 3) := dk_153 0 9 (dk_at dksX3_move_1 8 rfl rfl)
theorem dX3_move_35 : decode cX3_move 35 = .ok (.iload_n 2, 1) := dk_28 (dk_at dksX3_move_1 11 rfl rfl)
theorem dX3_move_36 : decode cX3_move 36 = .ok (.iconst 2, 1) := dk_5 (dk_at dksX3_move_1 12 rfl rfl)
theorem dX3_move_37 : decode cX3_move 37 = .ok (.idiv, 1) := dk_108 (dk_at dksX3_move_1 13 rfl rfl)
theorem dX3_move_38 : decode cX3_move 38 = .ok (.goto 4, 3) := dk_167 0 4 (dk_at dksX3_move_1 14 rfl rfl)
theorem dX3_move_41 : decode cX3_move 41 = .ok (.iload_n 2, 1) := dk_28 (dk_at dksX3_move_1 17 rfl rfl)
theorem dX3_move_42 : decode cX3_move 42 = .ok (.iadd, 1) := dk_96 (dk_at dksX3_move_1 18 rfl rfl)
theorem dX3_move_43 : decode cX3_move 43 = .ok (.putfield 38, 3) := dk_181 0 38 (dk_at dksX3_move_1 19 rfl rfl)
theorem dX3_move_46 : decode cX3_move 46 = .ok (.goto 36, 3) := dk_167 0 36 (dk_at dksX3_move_2 0 rfl rfl)
theorem dX3_move_49 : decode cX3_move 49 = .ok (.aload_n 0, 1) := dk_42 (dk_at dksX3_move_2 3 rfl rfl)
theorem dX3_move_50 : decode cX3_move 50 = .ok (.getfield 73, 3) := dk_180 0 73 (dk_at dksX3_move_2 4 rfl rfl)
theorem dX3_move_53 : decode cX3_move 53 = .ok (.ifCond .ne 29, 3) := dk_154 0 29 (dk_at dksX3_move_2 7 rfl rfl)
theorem dX3_move_56 : decode cX3_move 56 = .ok (.aload_n 0, 1) := dk_42 (dk_at dksX3_move_2 10 rfl rfl)
theorem dX3_move_57 : decode cX3_move 57 = .ok (.getfield 65, 3) := dk_180 0 65 (dk_at dksX3_move_2 11 rfl rfl)
theorem dX3_move_60 : decode cX3_move 60 = .ok (.ifCond .ne 22, 3) := dk_154 0 22 (dk_at dksX3_move_2 14 rfl rfl)
theorem dX3_move_63 : decode cX3_move 63 = .ok (.aload_n 0, 1) := dk_42 (dk_at dksX3_move_2 17 rfl rfl)
theorem dX3_move_64 : decode cX3_move 64 = .ok (.aload_n 1, 1) := dk_43 (dk_at dksX3_move_2 18 rfl rfl)
theorem dX3_move_65 : decode cX3_move 65 = .ok (.iconst 1, 1) := dk_4 (dk_at dksX3_move_2 19 rfl rfl)
theorem dX3_move_66 : decode cX3_move 66 = .ok (.iaload, 1) := dk_46 (dk_at dksX3_move_2 20 rfl rfl)
theorem dX3_move_67 : decode cX3_move 67 = .ok (.aload_n 1, 1) := dk_43 (dk_at dksX3_move_2 21 rfl rfl)
theorem dX3_move_68 : decode cX3_move 68 = .ok (.iconst 2, 1) := dk_5 (dk_at dksX3_move_2 22 rfl rfl)
theorem dX3_move_69 : decode cX3_move 69 = .ok (.iaload, 1) := dk_46 (dk_at dksX3_move_2 23 rfl rfl)
theorem dX3_move_70 : decode cX3_move 70 = .ok (.iconst 1, 1) := dk_4 (dk_at dksX3_move_3 0 rfl rfl)
theorem dX3_move_71 : decode cX3_move 71 = .ok (.if_icmp .ne 7, 3) := dk_160 0 7 (dk_at dksX3_move_3 1 rfl rfl)
theorem dX3_move_74 : decode cX3_move 74 = .ok (.iconst 1, 1) := dk_4 (dk_at dksX3_move_3 4 rfl rfl)
theorem dX3_move_75 : decode cX3_move 75 = .ok (.goto 4, 3) := dk_167 0 4 (dk_at dksX3_move_3 5 rfl rfl)
theorem dX3_move_78 : decode cX3_move 78 = .ok (.iconst 0, 1) := dk_3 (dk_at dksX3_move_3 8 rfl rfl)
theorem dX3_move_79 : decode cX3_move 79 = .ok (.invokevirtual 107, 3) := dk_182 0 107 (dk_at dksX3_move_3 9 rfl rfl)
theorem dX3_move_82 : decode cX3_move 82 = .ok (.return_, 1) := dk_177 (dk_at dksX3_move_3 12 rfl rfl)
abbrev cX3_creep : ByteArray := prog_5_method_7_code
def yX3_creep : MethodName := ⟨RX3, "creep", "(IZ)V"⟩
def dkwX3_creep_1 : List UInt8 := [42, 17, 23, 112, 42, 180, 0, 38, 27, 96, 184, 0, 101, 181, 0, 38, 177]
abbrev dktX3_creep_1 : List UInt8 := dkwX3_creep_1 ++ []
def dkwX3_creep_0 : List UInt8 := [28, 154, 0, 16, 42, 89, 180, 0, 38, 27, 96, 181, 0, 38, 167, 0, 26, 42, 180, 0, 38, 158, 0, 19]
abbrev dktX3_creep_0 : List UInt8 := dkwX3_creep_0 ++ dktX3_creep_1
theorem dksX3_creep_0 : cX3_creep.data.toList.drop 0 = dktX3_creep_0 := by decide +kernel
theorem dksX3_creep_1 : cX3_creep.data.toList.drop 24 = dktX3_creep_1 := dk_seg dksX3_creep_0 24 rfl rfl
theorem dX3_creep_0 : decode cX3_creep 0 = .ok (.iload_n 2, 1) := dk_28 (dk_at dksX3_creep_0 0 rfl rfl)
theorem dX3_creep_1 : decode cX3_creep 1 = .ok (.ifCond .ne 16, 3) := dk_154 0 16 (dk_at dksX3_creep_0 1 rfl rfl)
theorem dX3_creep_4 : decode cX3_creep 4 = .ok (.aload_n 0, 1) := dk_42 (dk_at dksX3_creep_0 4 rfl rfl)
theorem dX3_creep_5 : decode cX3_creep 5 = .ok (.dup, 1) := dk_89 (dk_at dksX3_creep_0 5 rfl rfl)
theorem dX3_creep_6 : decode cX3_creep 6 = .ok (.getfield 38, 3) := dk_180 0 38 (dk_at dksX3_creep_0 6 rfl rfl)
theorem dX3_creep_9 : decode cX3_creep 9 = .ok (.iload_n 1, 1) := dk_27 (dk_at dksX3_creep_0 9 rfl rfl)
theorem dX3_creep_10 : decode cX3_creep 10 = .ok (.iadd, 1) := dk_96 (dk_at dksX3_creep_0 10 rfl rfl)
theorem dX3_creep_11 : decode cX3_creep 11 = .ok (.putfield 38, 3) := dk_181 0 38 (dk_at dksX3_creep_0 11 rfl rfl)
theorem dX3_creep_14 : decode cX3_creep 14 = .ok (.goto 26, 3) := dk_167 0 26 (dk_at dksX3_creep_0 14 rfl rfl)
theorem dX3_creep_17 : decode cX3_creep 17 = .ok (.aload_n 0, 1) := dk_42 (dk_at dksX3_creep_0 17 rfl rfl)
theorem dX3_creep_18 : decode cX3_creep 18 = .ok (.getfield 38, 3) := dk_180 0 38 (dk_at dksX3_creep_0 18 rfl rfl)
theorem dX3_creep_21 : decode cX3_creep 21 = .ok (.ifCond .le 19, 3) := dk_158 0 19 (dk_at dksX3_creep_0 21 rfl rfl)
theorem dX3_creep_24 : decode cX3_creep 24 = .ok (.aload_n 0, 1) := dk_42 (dk_at dksX3_creep_1 0 rfl rfl)
theorem dX3_creep_25 : decode cX3_creep 25 = .ok (.sipush 6000, 3) := dk_17 23 112 (dk_at dksX3_creep_1 1 rfl rfl)
theorem dX3_creep_28 : decode cX3_creep 28 = .ok (.aload_n 0, 1) := dk_42 (dk_at dksX3_creep_1 4 rfl rfl)
theorem dX3_creep_29 : decode cX3_creep 29 = .ok (.getfield 38, 3) := dk_180 0 38 (dk_at dksX3_creep_1 5 rfl rfl)
theorem dX3_creep_32 : decode cX3_creep 32 = .ok (.iload_n 1, 1) := dk_27 (dk_at dksX3_creep_1 8 rfl rfl)
theorem dX3_creep_33 : decode cX3_creep 33 = .ok (.iadd, 1) := dk_96 (dk_at dksX3_creep_1 9 rfl rfl)
theorem dX3_creep_34 : decode cX3_creep 34 = .ok (.invokestatic 101, 3) := dk_184 0 101 (dk_at dksX3_creep_1 10 rfl rfl)
theorem dX3_creep_37 : decode cX3_creep 37 = .ok (.putfield 38, 3) := dk_181 0 38 (dk_at dksX3_creep_1 13 rfl rfl)
theorem dX3_creep_40 : decode cX3_creep 40 = .ok (.return_, 1) := dk_177 (dk_at dksX3_creep_1 16 rfl rfl)
abbrev cX3_grow : ByteArray := prog_5_method_9_code
def yX3_grow : MethodName := ⟨RX3, "grow", "(I)V"⟩
def dkwX3_grow_1 : List UInt8 := [17, 0, 160, 42, 180, 0, 21, 4, 96, 184, 0, 101, 181, 0, 21, 177]
abbrev dktX3_grow_1 : List UInt8 := dkwX3_grow_1 ++ []
def dkwX3_grow_0 : List UInt8 := [42, 89, 180, 0, 41, 4, 96, 181, 0, 41, 42, 180, 0, 41, 27, 161, 0, 24, 42, 3, 181, 0, 41, 42]
abbrev dktX3_grow_0 : List UInt8 := dkwX3_grow_0 ++ dktX3_grow_1
theorem dksX3_grow_0 : cX3_grow.data.toList.drop 0 = dktX3_grow_0 := by decide +kernel
theorem dksX3_grow_1 : cX3_grow.data.toList.drop 24 = dktX3_grow_1 := dk_seg dksX3_grow_0 24 rfl rfl
theorem dX3_grow_0 : decode cX3_grow 0 = .ok (.aload_n 0, 1) := dk_42 (dk_at dksX3_grow_0 0 rfl rfl)
theorem dX3_grow_1 : decode cX3_grow 1 = .ok (.dup, 1) := dk_89 (dk_at dksX3_grow_0 1 rfl rfl)
theorem dX3_grow_2 : decode cX3_grow 2 = .ok (.getfield 41, 3) := dk_180 0 41 (dk_at dksX3_grow_0 2 rfl rfl)
theorem dX3_grow_5 : decode cX3_grow 5 = .ok (.iconst 1, 1) := dk_4 (dk_at dksX3_grow_0 5 rfl rfl)
theorem dX3_grow_6 : decode cX3_grow 6 = .ok (.iadd, 1) := dk_96 (dk_at dksX3_grow_0 6 rfl rfl)
theorem dX3_grow_7 : decode cX3_grow 7 = .ok (.putfield 41, 3) := dk_181 0 41 (dk_at dksX3_grow_0 7 rfl rfl)
theorem dX3_grow_10 : decode cX3_grow 10 = .ok (.aload_n 0, 1) := dk_42 (dk_at dksX3_grow_0 10 rfl rfl)
theorem dX3_grow_11 : decode cX3_grow 11 = .ok (.getfield 41, 3) := dk_180 0 41 (dk_at dksX3_grow_0 11 rfl rfl)
theorem dX3_grow_14 : decode cX3_grow 14 = .ok (.iload_n 1, 1) := dk_27 (dk_at dksX3_grow_0 14 rfl rfl)
theorem dX3_grow_15 : decode cX3_grow 15 = .ok (.if_icmp .lt 24, 3) := dk_161 0 24 (dk_at dksX3_grow_0 15 rfl rfl)
theorem dX3_grow_18 : decode cX3_grow 18 = .ok (.aload_n 0, 1) := dk_42 (dk_at dksX3_grow_0 18 rfl rfl)
theorem dX3_grow_19 : decode cX3_grow 19 = .ok (.iconst 0, 1) := dk_3 (dk_at dksX3_grow_0 19 rfl rfl)
theorem dX3_grow_20 : decode cX3_grow 20 = .ok (.putfield 41, 3) := dk_181 0 41 (dk_at dksX3_grow_0 20 rfl rfl)
theorem dX3_grow_23 : decode cX3_grow 23 = .ok (.aload_n 0, 1) := dk_42 (dk_at dksX3_grow_0 23 rfl rfl)
theorem dX3_grow_24 : decode cX3_grow 24 = .ok (.sipush 160, 3) := dk_17 0 160 (dk_at dksX3_grow_1 0 rfl rfl)
theorem dX3_grow_27 : decode cX3_grow 27 = .ok (.aload_n 0, 1) := dk_42 (dk_at dksX3_grow_1 3 rfl rfl)
theorem dX3_grow_28 : decode cX3_grow 28 = .ok (.getfield 21, 3) := dk_180 0 21 (dk_at dksX3_grow_1 4 rfl rfl)
theorem dX3_grow_31 : decode cX3_grow 31 = .ok (.iconst 1, 1) := dk_4 (dk_at dksX3_grow_1 7 rfl rfl)
theorem dX3_grow_32 : decode cX3_grow 32 = .ok (.iadd, 1) := dk_96 (dk_at dksX3_grow_1 8 rfl rfl)
theorem dX3_grow_33 : decode cX3_grow 33 = .ok (.invokestatic 101, 3) := dk_184 0 101 (dk_at dksX3_grow_1 9 rfl rfl)
theorem dX3_grow_36 : decode cX3_grow 36 = .ok (.putfield 21, 3) := dk_181 0 21 (dk_at dksX3_grow_1 12 rfl rfl)
theorem dX3_grow_39 : decode cX3_grow 39 = .ok (.return_, 1) := dk_177 (dk_at dksX3_grow_1 15 rfl rfl)
abbrev cX3_misses : ByteArray := prog_5_method_6_code
def yX3_misses : MethodName := ⟨RX3, "misses", "()J"⟩
def dkwX3_misses_0 : List UInt8 := [42, 180, 0, 69, 20, 0, 96, 42, 182, 0, 98, 133, 105, 101, 42, 180, 0, 38, 133, 101, 173]
abbrev dktX3_misses_0 : List UInt8 := dkwX3_misses_0 ++ []
theorem dksX3_misses_0 : cX3_misses.data.toList.drop 0 = dktX3_misses_0 := by decide +kernel
theorem dX3_misses_0 : decode cX3_misses 0 = .ok (.aload_n 0, 1) := dk_42 (dk_at dksX3_misses_0 0 rfl rfl)
theorem dX3_misses_1 : decode cX3_misses 1 = .ok (.getfield 69, 3) := dk_180 0 69 (dk_at dksX3_misses_0 1 rfl rfl)
theorem dX3_misses_4 : decode cX3_misses 4 = .ok (.ldc2_w 96, 3) := dk_20 0 96 (dk_at dksX3_misses_0 4 rfl rfl)
theorem dX3_misses_7 : decode cX3_misses 7 = .ok (.aload_n 0, 1) := dk_42 (dk_at dksX3_misses_0 7 rfl rfl)
theorem dX3_misses_8 : decode cX3_misses 8 = .ok (.invokevirtual 98, 3) := dk_182 0 98 (dk_at dksX3_misses_0 8 rfl rfl)
theorem dX3_misses_11 : decode cX3_misses 11 = .ok (.i2l, 1) := dk_133 (dk_at dksX3_misses_0 11 rfl rfl)
theorem dX3_misses_12 : decode cX3_misses 12 = .ok (.lmul, 1) := dk_105 (dk_at dksX3_misses_0 12 rfl rfl)
theorem dX3_misses_13 : decode cX3_misses 13 = .ok (.lsub, 1) := dk_101 (dk_at dksX3_misses_0 13 rfl rfl)
theorem dX3_misses_14 : decode cX3_misses 14 = .ok (.aload_n 0, 1) := dk_42 (dk_at dksX3_misses_0 14 rfl rfl)
theorem dX3_misses_15 : decode cX3_misses 15 = .ok (.getfield 38, 3) := dk_180 0 38 (dk_at dksX3_misses_0 15 rfl rfl)
theorem dX3_misses_18 : decode cX3_misses 18 = .ok (.i2l, 1) := dk_133 (dk_at dksX3_misses_0 18 rfl rfl)
theorem dX3_misses_19 : decode cX3_misses 19 = .ok (.lsub, 1) := dk_101 (dk_at dksX3_misses_0 19 rfl rfl)
theorem dX3_misses_20 : decode cX3_misses 20 = .ok (.lreturn, 1) := dk_173 (dk_at dksX3_misses_0 20 rfl rfl)
abbrev cX3_turns : ByteArray := prog_5_method_5_code
def yX3_turns : MethodName := ⟨RX3, "turns", "()I"⟩
def dkwX3_turns_0 : List UInt8 := [42, 180, 0, 44, 42, 180, 0, 47, 96, 172]
abbrev dktX3_turns_0 : List UInt8 := dkwX3_turns_0 ++ []
theorem dksX3_turns_0 : cX3_turns.data.toList.drop 0 = dktX3_turns_0 := by decide +kernel
theorem dX3_turns_0 : decode cX3_turns 0 = .ok (.aload_n 0, 1) := dk_42 (dk_at dksX3_turns_0 0 rfl rfl)
theorem dX3_turns_1 : decode cX3_turns 1 = .ok (.getfield 44, 3) := dk_180 0 44 (dk_at dksX3_turns_0 1 rfl rfl)
theorem dX3_turns_4 : decode cX3_turns 4 = .ok (.aload_n 0, 1) := dk_42 (dk_at dksX3_turns_0 4 rfl rfl)
theorem dX3_turns_5 : decode cX3_turns 5 = .ok (.getfield 47, 3) := dk_180 0 47 (dk_at dksX3_turns_0 5 rfl rfl)
theorem dX3_turns_8 : decode cX3_turns 8 = .ok (.iadd, 1) := dk_96 (dk_at dksX3_turns_0 8 rfl rfl)
theorem dX3_turns_9 : decode cX3_turns 9 = .ok (.ireturn, 1) := dk_172 (dk_at dksX3_turns_0 9 rfl rfl)
abbrev cX3_fed : ByteArray := prog_5_method_4_code
def yX3_fed : MethodName := ⟨RX3, "fed", "()I"⟩
def dkwX3_fed_2 : List UInt8 := [172]
abbrev dktX3_fed_2 : List UInt8 := dkwX3_fed_2 ++ []
def dkwX3_fed_1 : List UInt8 := [180, 0, 12, 28, 185, 0, 80, 2, 0, 192, 0, 13, 182, 0, 93, 128, 60, 132, 2, 1, 167, 255, 221, 27]
abbrev dktX3_fed_1 : List UInt8 := dkwX3_fed_1 ++ dktX3_fed_2
def dkwX3_fed_0 : List UInt8 := [4, 42, 180, 0, 25, 120, 60, 3, 61, 28, 42, 180, 0, 12, 185, 0, 76, 1, 0, 162, 0, 28, 27, 42]
abbrev dktX3_fed_0 : List UInt8 := dkwX3_fed_0 ++ dktX3_fed_1
theorem dksX3_fed_0 : cX3_fed.data.toList.drop 0 = dktX3_fed_0 := by decide +kernel
theorem dksX3_fed_1 : cX3_fed.data.toList.drop 24 = dktX3_fed_1 := dk_seg dksX3_fed_0 24 rfl rfl
theorem dksX3_fed_2 : cX3_fed.data.toList.drop 48 = dktX3_fed_2 := dk_seg dksX3_fed_1 24 rfl rfl
theorem dX3_fed_0 : decode cX3_fed 0 = .ok (.iconst 1, 1) := dk_4 (dk_at dksX3_fed_0 0 rfl rfl)
theorem dX3_fed_1 : decode cX3_fed 1 = .ok (.aload_n 0, 1) := dk_42 (dk_at dksX3_fed_0 1 rfl rfl)
theorem dX3_fed_2 : decode cX3_fed 2 = .ok (.getfield 25, 3) := dk_180 0 25 (dk_at dksX3_fed_0 2 rfl rfl)
theorem dX3_fed_5 : decode cX3_fed 5 = .ok (.ishl, 1) := dk_120 (dk_at dksX3_fed_0 5 rfl rfl)
theorem dX3_fed_6 : decode cX3_fed 6 = .ok (.istore_n 1, 1) := dk_60 (dk_at dksX3_fed_0 6 rfl rfl)
theorem dX3_fed_7 : decode cX3_fed 7 = .ok (.iconst 0, 1) := dk_3 (dk_at dksX3_fed_0 7 rfl rfl)
theorem dX3_fed_8 : decode cX3_fed 8 = .ok (.istore_n 2, 1) := dk_61 (dk_at dksX3_fed_0 8 rfl rfl)
theorem dX3_fed_9 : decode cX3_fed 9 = .ok (.iload_n 2, 1) := dk_28 (dk_at dksX3_fed_0 9 rfl rfl)
theorem dX3_fed_10 : decode cX3_fed 10 = .ok (.aload_n 0, 1) := dk_42 (dk_at dksX3_fed_0 10 rfl rfl)
theorem dX3_fed_11 : decode cX3_fed 11 = .ok (.getfield 12, 3) := dk_180 0 12 (dk_at dksX3_fed_0 11 rfl rfl)
theorem dX3_fed_14 : decode cX3_fed 14 = .ok (.invokeinterface 76 1, 5) := by decide +kernel
theorem dX3_fed_19 : decode cX3_fed 19 = .ok (.if_icmp .ge 28, 3) := dk_162 0 28 (dk_at dksX3_fed_0 19 rfl rfl)
theorem dX3_fed_22 : decode cX3_fed 22 = .ok (.iload_n 1, 1) := dk_27 (dk_at dksX3_fed_0 22 rfl rfl)
theorem dX3_fed_23 : decode cX3_fed 23 = .ok (.aload_n 0, 1) := dk_42 (dk_at dksX3_fed_0 23 rfl rfl)
theorem dX3_fed_24 : decode cX3_fed 24 = .ok (.getfield 12, 3) := dk_180 0 12 (dk_at dksX3_fed_1 0 rfl rfl)
theorem dX3_fed_27 : decode cX3_fed 27 = .ok (.iload_n 2, 1) := dk_28 (dk_at dksX3_fed_1 3 rfl rfl)
theorem dX3_fed_28 : decode cX3_fed 28 = .ok (.invokeinterface 80 2, 5) := by decide +kernel
theorem dX3_fed_33 : decode cX3_fed 33 = .ok (.checkcast 13, 3) := dk_192 0 13 (dk_at dksX3_fed_1 9 rfl rfl)
theorem dX3_fed_36 : decode cX3_fed 36 = .ok (.invokevirtual 93, 3) := dk_182 0 93 (dk_at dksX3_fed_1 12 rfl rfl)
theorem dX3_fed_39 : decode cX3_fed 39 = .ok (.ior, 1) := dk_128 (dk_at dksX3_fed_1 15 rfl rfl)
theorem dX3_fed_40 : decode cX3_fed 40 = .ok (.istore_n 1, 1) := dk_60 (dk_at dksX3_fed_1 16 rfl rfl)
theorem dX3_fed_41 : decode cX3_fed 41 = .ok (.iinc 2 1, 3) := dk_132 2 1 (dk_at dksX3_fed_1 17 rfl rfl)
theorem dX3_fed_44 : decode cX3_fed 44 = .ok (.goto (-35), 3) := dk_167 255 221 (dk_at dksX3_fed_1 20 rfl rfl)
theorem dX3_fed_47 : decode cX3_fed 47 = .ok (.iload_n 1, 1) := dk_27 (dk_at dksX3_fed_1 23 rfl rfl)
theorem dX3_fed_48 : decode cX3_fed 48 = .ok (.ireturn, 1) := dk_172 (dk_at dksX3_fed_2 0 rfl rfl)
theorem q87 : (Jvm.Cond.initialized "EnergyDiscs$Meter") ∈ lw_all := lw_g (lw_at lw_m1 15 rfl) rfl
theorem q326 : (Jvm.Cond.instantiable "EnergyDiscs$Meter" (17 : Nat)) ∈ lw_all := lw_g (lw_at lw_m2 14 rfl) rfl
theorem q343 : (Jvm.Cond.instanceMethod ({ cls := "EnergyDiscs$Meter", name := "<init>", desc := "(ILEnergyDiscs$Meter;)V" } : Jvm.MethodName)) ∈ lw_all := lw_g (lw_at lw_m2 31 rfl) rfl
theorem q344 : (Jvm.Cond.code ({ cls := "EnergyDiscs$Meter", name := "<init>", desc := "(ILEnergyDiscs$Meter;)V" } : Jvm.MethodName) prog_5_method_1_code (3 : Nat) (Option.none : Option Jvm.ClassFile.FieldType)) ∈ lw_all := lw_g (lw_at lw_m2 32 rfl) rfl
theorem q345 : (Jvm.Cond.methodLink "EnergyDiscs$Meter" (3 : Nat) ({ cls := "java/lang/Object", name := "<init>", desc := "()V" } : Jvm.MethodName)) ∈ lw_all := lw_g (lw_at lw_m2 33 rfl) rfl
theorem q346 : (Jvm.Cond.classLink "EnergyDiscs$Meter" (9 : Nat) "java/util/ArrayList") ∈ lw_all := lw_g (lw_at lw_m2 34 rfl) rfl
theorem q347 : (Jvm.Cond.methodLink "EnergyDiscs$Meter" (11 : Nat) ({ cls := "java/util/ArrayList", name := "<init>", desc := "()V" } : Jvm.MethodName)) ∈ lw_all := lw_g (lw_at lw_m2 35 rfl) rfl
theorem q348 : (Jvm.Cond.interfaceEntry "EnergyDiscs$Meter" (32 : Nat)) ∈ lw_tbl := lw_at lw_m2 36 rfl
theorem q349 : (Jvm.Cond.methodLink "EnergyDiscs$Meter" (32 : Nat) ({ cls := "java/util/List", name := "add", desc := "(Ljava/lang/Object;)Z" } : Jvm.MethodName)) ∈ lw_all := lw_g (lw_at lw_m2 37 rfl) rfl
theorem q388 : (Jvm.Cond.selects "EnergyDiscs$Meter" ({ cls := "java/lang/Object", name := "getClass", desc := "()Ljava/lang/Class;" } : Jvm.MethodName) ({ cls := "java/lang/Object", name := "getClass", desc := "()Ljava/lang/Class;" } : Jvm.MethodName)) ∈ lw_all := lw_g (lw_at lw_m2 76 rfl) rfl
theorem q409 : (Jvm.Cond.fieldLink "EnergyDiscs$Meter" (25 : Nat) "EnergyDiscs$Meter" "number" "I") ∈ lw_all := lw_g (lw_at lw_m2 97 rfl) rfl
theorem q412 : (Jvm.Cond.fieldLink "EnergyDiscs$Meter" (28 : Nat) "EnergyDiscs$Meter" "through" "LEnergyDiscs$Meter;") ∈ lw_all := lw_g (lw_at lw_m2 100 rfl) rfl
theorem q415 : (Jvm.Cond.fieldLink "EnergyDiscs$Meter" (12 : Nat) "EnergyDiscs$Meter" "feeds" "Ljava/util/List;") ∈ lw_all := lw_g (lw_at lw_m2 103 rfl) rfl
theorem q417 : (Jvm.Cond.fieldLink "EnergyDiscs$Meter" (18 : Nat) "EnergyDiscs$Meter" "loads" "Ljava/util/List;") ∈ lw_all := lw_g (lw_at lw_m2 105 rfl) rfl
theorem q419 : (Jvm.Cond.fieldLink "EnergyDiscs$Meter" (73 : Nat) "EnergyDiscs$Meter" "power" "I") ∈ lw_all := lw_g (lw_at lw_m2 107 rfl) rfl
theorem q421 : (Jvm.Cond.fieldLink "EnergyDiscs$Meter" (38 : Nat) "EnergyDiscs$Meter" "place" "I") ∈ lw_all := lw_g (lw_at lw_m2 109 rfl) rfl
theorem q423 : (Jvm.Cond.fieldLink "EnergyDiscs$Meter" (21 : Nat) "EnergyDiscs$Meter" "speed" "I") ∈ lw_all := lw_g (lw_at lw_m2 111 rfl) rfl
theorem q426 : (Jvm.Cond.fieldLink "EnergyDiscs$Meter" (41 : Nat) "EnergyDiscs$Meter" "age" "I") ∈ lw_all := lw_g (lw_at lw_m2 114 rfl) rfl
theorem q429 : (Jvm.Cond.fieldLink "EnergyDiscs$Meter" (44 : Nat) "EnergyDiscs$Meter" "day" "I") ∈ lw_all := lw_g (lw_at lw_m2 117 rfl) rfl
theorem q432 : (Jvm.Cond.fieldLink "EnergyDiscs$Meter" (47 : Nat) "EnergyDiscs$Meter" "night" "I") ∈ lw_all := lw_g (lw_at lw_m2 120 rfl) rfl
theorem q435 : (Jvm.Cond.fieldLink "EnergyDiscs$Meter" (50 : Nat) "EnergyDiscs$Meter" "billedDay" "I") ∈ lw_all := lw_g (lw_at lw_m2 123 rfl) rfl
theorem q437 : (Jvm.Cond.fieldLink "EnergyDiscs$Meter" (53 : Nat) "EnergyDiscs$Meter" "billedNight" "I") ∈ lw_all := lw_g (lw_at lw_m2 125 rfl) rfl
theorem q439 : (Jvm.Cond.fieldLink "EnergyDiscs$Meter" (56 : Nat) "EnergyDiscs$Meter" "billed" "I") ∈ lw_all := lw_g (lw_at lw_m2 127 rfl) rfl
theorem q442 : (Jvm.Cond.fieldLink "EnergyDiscs$Meter" (59 : Nat) "EnergyDiscs$Meter" "visits" "I") ∈ lw_all := lw_g (lw_at lw_m2 130 rfl) rfl
theorem q445 : (Jvm.Cond.fieldLink "EnergyDiscs$Meter" (62 : Nat) "EnergyDiscs$Meter" "seal" "I") ∈ lw_all := lw_g (lw_at lw_m2 133 rfl) rfl
theorem q448 : (Jvm.Cond.fieldLink "EnergyDiscs$Meter" (65 : Nat) "EnergyDiscs$Meter" "broken" "Z") ∈ lw_all := lw_g (lw_at lw_m2 136 rfl) rfl
theorem q451 : (Jvm.Cond.fieldLink "EnergyDiscs$Meter" (69 : Nat) "EnergyDiscs$Meter" "flowed" "J") ∈ lw_all := lw_g (lw_at lw_m2 139 rfl) rfl
theorem q453 : (Jvm.Cond.laysFinal "EnergyDiscs$Meter" "EnergyDiscs$Meter" "number" "I") ∈ lw_all := lw_g (lw_at lw_m2 141 rfl) rfl
theorem q454 : (Jvm.Cond.soleField "EnergyDiscs$Meter" "number") ∈ lw_all := lw_g (lw_at lw_m2 142 rfl) rfl
theorem q455 : (Jvm.Cond.laysFinal "EnergyDiscs$Meter" "EnergyDiscs$Meter" "through" "LEnergyDiscs$Meter;") ∈ lw_all := lw_g (lw_at lw_m2 143 rfl) rfl
theorem q456 : (Jvm.Cond.soleField "EnergyDiscs$Meter" "through") ∈ lw_all := lw_g (lw_at lw_m2 144 rfl) rfl
theorem q457 : (Jvm.Cond.laysFinal "EnergyDiscs$Meter" "EnergyDiscs$Meter" "feeds" "Ljava/util/List;") ∈ lw_all := lw_g (lw_at lw_m2 145 rfl) rfl
theorem q458 : (Jvm.Cond.soleField "EnergyDiscs$Meter" "feeds") ∈ lw_all := lw_g (lw_at lw_m2 146 rfl) rfl
theorem q459 : (Jvm.Cond.laysFinal "EnergyDiscs$Meter" "EnergyDiscs$Meter" "loads" "Ljava/util/List;") ∈ lw_all := lw_g (lw_at lw_m2 147 rfl) rfl
theorem q460 : (Jvm.Cond.soleField "EnergyDiscs$Meter" "loads") ∈ lw_all := lw_g (lw_at lw_m2 148 rfl) rfl
theorem q461 : (Jvm.Cond.lays "EnergyDiscs$Meter" "EnergyDiscs$Meter" "power" "I") ∈ lw_all := lw_g (lw_at lw_m2 149 rfl) rfl
theorem q462 : (Jvm.Cond.soleField "EnergyDiscs$Meter" "power") ∈ lw_all := lw_g (lw_at lw_m2 150 rfl) rfl
theorem q463 : (Jvm.Cond.lays "EnergyDiscs$Meter" "EnergyDiscs$Meter" "place" "I") ∈ lw_all := lw_g (lw_at lw_m2 151 rfl) rfl
theorem q464 : (Jvm.Cond.soleField "EnergyDiscs$Meter" "place") ∈ lw_all := lw_g (lw_at lw_m2 152 rfl) rfl
theorem q465 : (Jvm.Cond.lays "EnergyDiscs$Meter" "EnergyDiscs$Meter" "speed" "I") ∈ lw_all := lw_g (lw_at lw_m2 153 rfl) rfl
theorem q466 : (Jvm.Cond.soleField "EnergyDiscs$Meter" "speed") ∈ lw_all := lw_g (lw_at lw_m2 154 rfl) rfl
theorem q467 : (Jvm.Cond.lays "EnergyDiscs$Meter" "EnergyDiscs$Meter" "age" "I") ∈ lw_all := lw_g (lw_at lw_m2 155 rfl) rfl
theorem q468 : (Jvm.Cond.soleField "EnergyDiscs$Meter" "age") ∈ lw_all := lw_g (lw_at lw_m2 156 rfl) rfl
theorem q469 : (Jvm.Cond.lays "EnergyDiscs$Meter" "EnergyDiscs$Meter" "day" "I") ∈ lw_all := lw_g (lw_at lw_m2 157 rfl) rfl
theorem q470 : (Jvm.Cond.soleField "EnergyDiscs$Meter" "day") ∈ lw_all := lw_g (lw_at lw_m2 158 rfl) rfl
theorem q471 : (Jvm.Cond.lays "EnergyDiscs$Meter" "EnergyDiscs$Meter" "night" "I") ∈ lw_all := lw_g (lw_at lw_m2 159 rfl) rfl
theorem q472 : (Jvm.Cond.soleField "EnergyDiscs$Meter" "night") ∈ lw_all := lw_g (lw_at lw_m2 160 rfl) rfl
theorem q473 : (Jvm.Cond.lays "EnergyDiscs$Meter" "EnergyDiscs$Meter" "billedDay" "I") ∈ lw_all := lw_g (lw_at lw_m2 161 rfl) rfl
theorem q474 : (Jvm.Cond.soleField "EnergyDiscs$Meter" "billedDay") ∈ lw_all := lw_g (lw_at lw_m2 162 rfl) rfl
theorem q475 : (Jvm.Cond.lays "EnergyDiscs$Meter" "EnergyDiscs$Meter" "billedNight" "I") ∈ lw_all := lw_g (lw_at lw_m2 163 rfl) rfl
theorem q476 : (Jvm.Cond.soleField "EnergyDiscs$Meter" "billedNight") ∈ lw_all := lw_g (lw_at lw_m2 164 rfl) rfl
theorem q477 : (Jvm.Cond.lays "EnergyDiscs$Meter" "EnergyDiscs$Meter" "billed" "I") ∈ lw_all := lw_g (lw_at lw_m2 165 rfl) rfl
theorem q478 : (Jvm.Cond.soleField "EnergyDiscs$Meter" "billed") ∈ lw_all := lw_g (lw_at lw_m2 166 rfl) rfl
theorem q479 : (Jvm.Cond.lays "EnergyDiscs$Meter" "EnergyDiscs$Meter" "visits" "I") ∈ lw_all := lw_g (lw_at lw_m2 167 rfl) rfl
theorem q480 : (Jvm.Cond.soleField "EnergyDiscs$Meter" "visits") ∈ lw_all := lw_g (lw_at lw_m2 168 rfl) rfl
theorem q481 : (Jvm.Cond.lays "EnergyDiscs$Meter" "EnergyDiscs$Meter" "seal" "I") ∈ lw_all := lw_g (lw_at lw_m2 169 rfl) rfl
theorem q482 : (Jvm.Cond.soleField "EnergyDiscs$Meter" "seal") ∈ lw_all := lw_g (lw_at lw_m2 170 rfl) rfl
theorem q483 : (Jvm.Cond.lays "EnergyDiscs$Meter" "EnergyDiscs$Meter" "broken" "Z") ∈ lw_all := lw_g (lw_at lw_m2 171 rfl) rfl
theorem q484 : (Jvm.Cond.soleField "EnergyDiscs$Meter" "broken") ∈ lw_all := lw_g (lw_at lw_m2 172 rfl) rfl
theorem q485 : (Jvm.Cond.lays "EnergyDiscs$Meter" "EnergyDiscs$Meter" "flowed" "J") ∈ lw_all := lw_g (lw_at lw_m2 173 rfl) rfl
theorem q486 : (Jvm.Cond.soleField "EnergyDiscs$Meter" "flowed") ∈ lw_all := lw_g (lw_at lw_m2 174 rfl) rfl
theorem q487 : (Jvm.Cond.superclass "EnergyDiscs$Meter" "java/lang/Object") ∈ lw_all := lw_g (lw_at lw_m2 175 rfl) rfl
theorem q491 : (Jvm.Cond.instanceMethod ({ cls := "EnergyDiscs$Meter", name := "become", desc := "(LEnergyDiscs$Meter;)V" } : Jvm.MethodName)) ∈ lw_all := lw_g (lw_at lw_m2 179 rfl) rfl
theorem q492 : (Jvm.Cond.selects "EnergyDiscs$Meter" ({ cls := "EnergyDiscs$Meter", name := "become", desc := "(LEnergyDiscs$Meter;)V" } : Jvm.MethodName) ({ cls := "EnergyDiscs$Meter", name := "become", desc := "(LEnergyDiscs$Meter;)V" } : Jvm.MethodName)) ∈ lw_all := lw_g (lw_at lw_m2 180 rfl) rfl
theorem q493 : (Jvm.Cond.code ({ cls := "EnergyDiscs$Meter", name := "become", desc := "(LEnergyDiscs$Meter;)V" } : Jvm.MethodName) prog_5_method_2_code (2 : Nat) (Option.none : Option Jvm.ClassFile.FieldType)) ∈ lw_all := lw_g (lw_at lw_m2 181 rfl) rfl
theorem q506 : (Jvm.Cond.fieldLinkNest "EnergyDiscs$Meter" (89 : Nat) "EnergyDiscs$Load" "power" "I" "EnergyDiscs") ∈ lw_tbl := lw_at lw_m2 194 rfl
theorem q512 : (Jvm.Cond.fieldLinkNest "EnergyDiscs$Meter" (86 : Nat) "EnergyDiscs$Load" "on" "Z" "EnergyDiscs") ∈ lw_tbl := lw_at lw_m2 200 rfl
theorem q621 : (Jvm.Cond.instanceMethod ({ cls := "EnergyDiscs$Meter", name := "bill", desc := "(II)I" } : Jvm.MethodName)) ∈ lw_all := lw_g (lw_at lw_m3 69 rfl) rfl
theorem q622 : (Jvm.Cond.selects "EnergyDiscs$Meter" ({ cls := "EnergyDiscs$Meter", name := "bill", desc := "(II)I" } : Jvm.MethodName) ({ cls := "EnergyDiscs$Meter", name := "bill", desc := "(II)I" } : Jvm.MethodName)) ∈ lw_all := lw_g (lw_at lw_m3 70 rfl) rfl
theorem q623 : (Jvm.Cond.code ({ cls := "EnergyDiscs$Meter", name := "bill", desc := "(II)I" } : Jvm.MethodName) prog_5_method_11_code (3 : Nat) (Option.some Jvm.ClassFile.FieldType.int)) ∈ lw_all := lw_g (lw_at lw_m3 71 rfl) rfl
theorem q646 : (Jvm.Cond.instanceMethod ({ cls := "EnergyDiscs$Meter", name := "layPower", desc := "()I" } : Jvm.MethodName)) ∈ lw_all := lw_g (lw_at lw_m3 94 rfl) rfl
theorem q647 : (Jvm.Cond.selects "EnergyDiscs$Meter" ({ cls := "EnergyDiscs$Meter", name := "layPower", desc := "()I" } : Jvm.MethodName) ({ cls := "EnergyDiscs$Meter", name := "layPower", desc := "()I" } : Jvm.MethodName)) ∈ lw_all := lw_g (lw_at lw_m3 95 rfl) rfl
theorem q648 : (Jvm.Cond.code ({ cls := "EnergyDiscs$Meter", name := "layPower", desc := "()I" } : Jvm.MethodName) prog_5_method_3_code (2 : Nat) (Option.some Jvm.ClassFile.FieldType.int)) ∈ lw_all := lw_g (lw_at lw_m3 96 rfl) rfl
theorem q649 : (Jvm.Cond.interfaceEntry "EnergyDiscs$Meter" (76 : Nat)) ∈ lw_tbl := lw_at lw_m3 97 rfl
theorem q650 : (Jvm.Cond.methodLink "EnergyDiscs$Meter" (76 : Nat) ({ cls := "java/util/List", name := "size", desc := "()I" } : Jvm.MethodName)) ∈ lw_all := lw_g (lw_at lw_m3 98 rfl) rfl
theorem q651 : (Jvm.Cond.interfaceEntry "EnergyDiscs$Meter" (80 : Nat)) ∈ lw_tbl := lw_at lw_m3 99 rfl
theorem q652 : (Jvm.Cond.methodLink "EnergyDiscs$Meter" (80 : Nat) ({ cls := "java/util/List", name := "get", desc := "(I)Ljava/lang/Object;" } : Jvm.MethodName)) ∈ lw_all := lw_g (lw_at lw_m3 100 rfl) rfl
theorem q653 : (Jvm.Cond.classLink "EnergyDiscs$Meter" (84 : Nat) "EnergyDiscs$Load") ∈ lw_all := lw_g (lw_at lw_m3 101 rfl) rfl
theorem q654 : (Jvm.Cond.classLink "EnergyDiscs$Meter" (13 : Nat) "EnergyDiscs$Meter") ∈ lw_all := lw_g (lw_at lw_m3 102 rfl) rfl
theorem q655 : (Jvm.Cond.methodLink "EnergyDiscs$Meter" (90 : Nat) ({ cls := "EnergyDiscs$Meter", name := "layPower", desc := "()I" } : Jvm.MethodName)) ∈ lw_all := lw_g (lw_at lw_m3 103 rfl) rfl
theorem q664 : (Jvm.Cond.instanceMethod ({ cls := "EnergyDiscs$Meter", name := "pass", desc := "(Z[I)I" } : Jvm.MethodName)) ∈ lw_all := lw_g (lw_at lw_m3 112 rfl) rfl
theorem q665 : (Jvm.Cond.selects "EnergyDiscs$Meter" ({ cls := "EnergyDiscs$Meter", name := "pass", desc := "(Z[I)I" } : Jvm.MethodName) ({ cls := "EnergyDiscs$Meter", name := "pass", desc := "(Z[I)I" } : Jvm.MethodName)) ∈ lw_all := lw_g (lw_at lw_m3 113 rfl) rfl
theorem q666 : (Jvm.Cond.code ({ cls := "EnergyDiscs$Meter", name := "pass", desc := "(Z[I)I" } : Jvm.MethodName) prog_5_method_10_code (4 : Nat) (Option.some Jvm.ClassFile.FieldType.int)) ∈ lw_all := lw_g (lw_at lw_m3 114 rfl) rfl
theorem q667 : (Jvm.Cond.methodLink "EnergyDiscs$Meter" (111 : Nat) ({ cls := "EnergyDiscs$Meter", name := "move", desc := "([I)V" } : Jvm.MethodName)) ∈ lw_all := lw_g (lw_at lw_m3 115 rfl) rfl
theorem q668 : (Jvm.Cond.privateMethod ({ cls := "EnergyDiscs$Meter", name := "move", desc := "([I)V" } : Jvm.MethodName)) ∈ lw_tbl := lw_at lw_m3 116 rfl
theorem q669 : (Jvm.Cond.instanceMethod ({ cls := "EnergyDiscs$Meter", name := "move", desc := "([I)V" } : Jvm.MethodName)) ∈ lw_all := lw_g (lw_at lw_m3 117 rfl) rfl
theorem q670 : (Jvm.Cond.code ({ cls := "EnergyDiscs$Meter", name := "move", desc := "([I)V" } : Jvm.MethodName) prog_5_method_8_code (3 : Nat) (Option.none : Option Jvm.ClassFile.FieldType)) ∈ lw_all := lw_g (lw_at lw_m3 118 rfl) rfl
theorem q671 : (Jvm.Cond.methodLink "EnergyDiscs$Meter" (107 : Nat) ({ cls := "EnergyDiscs$Meter", name := "creep", desc := "(IZ)V" } : Jvm.MethodName)) ∈ lw_all := lw_g (lw_at lw_m3 119 rfl) rfl
theorem q672 : (Jvm.Cond.privateMethod ({ cls := "EnergyDiscs$Meter", name := "creep", desc := "(IZ)V" } : Jvm.MethodName)) ∈ lw_tbl := lw_at lw_m3 120 rfl
theorem q673 : (Jvm.Cond.instanceMethod ({ cls := "EnergyDiscs$Meter", name := "creep", desc := "(IZ)V" } : Jvm.MethodName)) ∈ lw_all := lw_g (lw_at lw_m3 121 rfl) rfl
theorem q674 : (Jvm.Cond.code ({ cls := "EnergyDiscs$Meter", name := "creep", desc := "(IZ)V" } : Jvm.MethodName) prog_5_method_7_code (3 : Nat) (Option.none : Option Jvm.ClassFile.FieldType)) ∈ lw_all := lw_g (lw_at lw_m3 122 rfl) rfl
theorem q675 : (Jvm.Cond.methodLink "EnergyDiscs$Meter" (101 : Nat) ({ cls := "java/lang/Math", name := "min", desc := "(II)I" } : Jvm.MethodName)) ∈ lw_all := lw_g (lw_at lw_m3 123 rfl) rfl
theorem q676 : (Jvm.Cond.methodLink "EnergyDiscs$Meter" (115 : Nat) ({ cls := "EnergyDiscs$Meter", name := "grow", desc := "(I)V" } : Jvm.MethodName)) ∈ lw_all := lw_g (lw_at lw_m3 124 rfl) rfl
theorem q677 : (Jvm.Cond.privateMethod ({ cls := "EnergyDiscs$Meter", name := "grow", desc := "(I)V" } : Jvm.MethodName)) ∈ lw_tbl := lw_at lw_m3 125 rfl
theorem q678 : (Jvm.Cond.instanceMethod ({ cls := "EnergyDiscs$Meter", name := "grow", desc := "(I)V" } : Jvm.MethodName)) ∈ lw_all := lw_g (lw_at lw_m3 126 rfl) rfl
theorem q679 : (Jvm.Cond.code ({ cls := "EnergyDiscs$Meter", name := "grow", desc := "(I)V" } : Jvm.MethodName) prog_5_method_9_code (2 : Nat) (Option.none : Option Jvm.ClassFile.FieldType)) ∈ lw_all := lw_g (lw_at lw_m3 127 rfl) rfl
theorem q904 : (Jvm.Cond.instanceMethod ({ cls := "EnergyDiscs$Meter", name := "misses", desc := "()J" } : Jvm.MethodName)) ∈ lw_all := lw_g (lw_at lw_m4 112 rfl) rfl
theorem q905 : (Jvm.Cond.selects "EnergyDiscs$Meter" ({ cls := "EnergyDiscs$Meter", name := "misses", desc := "()J" } : Jvm.MethodName) ({ cls := "EnergyDiscs$Meter", name := "misses", desc := "()J" } : Jvm.MethodName)) ∈ lw_all := lw_g (lw_at lw_m4 113 rfl) rfl
theorem q906 : (Jvm.Cond.code ({ cls := "EnergyDiscs$Meter", name := "misses", desc := "()J" } : Jvm.MethodName) prog_5_method_6_code (1 : Nat) (Option.some Jvm.ClassFile.FieldType.long)) ∈ lw_all := lw_g (lw_at lw_m4 114 rfl) rfl
theorem q907 : (Jvm.Cond.constantLong "EnergyDiscs$Meter" (96 : Nat) (6000 : Int64)) ∈ lw_all := lw_g (lw_at lw_m4 115 rfl) rfl
theorem q908 : (Jvm.Cond.methodLink "EnergyDiscs$Meter" (98 : Nat) ({ cls := "EnergyDiscs$Meter", name := "turns", desc := "()I" } : Jvm.MethodName)) ∈ lw_all := lw_g (lw_at lw_m4 116 rfl) rfl
theorem q909 : (Jvm.Cond.instanceMethod ({ cls := "EnergyDiscs$Meter", name := "turns", desc := "()I" } : Jvm.MethodName)) ∈ lw_all := lw_g (lw_at lw_m4 117 rfl) rfl
theorem q910 : (Jvm.Cond.selects "EnergyDiscs$Meter" ({ cls := "EnergyDiscs$Meter", name := "turns", desc := "()I" } : Jvm.MethodName) ({ cls := "EnergyDiscs$Meter", name := "turns", desc := "()I" } : Jvm.MethodName)) ∈ lw_all := lw_g (lw_at lw_m4 118 rfl) rfl
theorem q911 : (Jvm.Cond.code ({ cls := "EnergyDiscs$Meter", name := "turns", desc := "()I" } : Jvm.MethodName) prog_5_method_5_code (1 : Nat) (Option.some Jvm.ClassFile.FieldType.int)) ∈ lw_all := lw_g (lw_at lw_m4 119 rfl) rfl
theorem q918 : (Jvm.Cond.instanceMethod ({ cls := "EnergyDiscs$Meter", name := "fed", desc := "()I" } : Jvm.MethodName)) ∈ lw_all := lw_g (lw_at lw_m4 126 rfl) rfl
theorem q919 : (Jvm.Cond.selects "EnergyDiscs$Meter" ({ cls := "EnergyDiscs$Meter", name := "fed", desc := "()I" } : Jvm.MethodName) ({ cls := "EnergyDiscs$Meter", name := "fed", desc := "()I" } : Jvm.MethodName)) ∈ lw_all := lw_g (lw_at lw_m4 127 rfl) rfl
theorem q920 : (Jvm.Cond.code ({ cls := "EnergyDiscs$Meter", name := "fed", desc := "()I" } : Jvm.MethodName) prog_5_method_4_code (3 : Nat) (Option.some Jvm.ClassFile.FieldType.int)) ∈ lw_all := lw_g (lw_at lw_m4 128 rfl) rfl
theorem q921 : (Jvm.Cond.methodLink "EnergyDiscs$Meter" (93 : Nat) ({ cls := "EnergyDiscs$Meter", name := "fed", desc := "()I" } : Jvm.MethodName)) ∈ lw_all := lw_g (lw_at lw_m4 129 rfl) rfl
theorem q1556 : (Jvm.Cond.castable "EnergyDiscs$Meter" "java/lang/Object") ∈ lw_tbl := lw_at lw_m7 44 rfl
theorem in_X3 : ∀ w ∈ wsX30, w ∈ lw_all := lw_in wsX30 [453, 455, 457, 459, 461, 463, 465, 467, 469, 471, 473, 475, 477, 479, 481, 483, 485] (by decide +kernel) (by decide +kernel)
/-! EnergyDiscs$Load -/
set_option maxRecDepth 100000
def RX4 : String := "EnergyDiscs$Load"
def TX4 : u_T := fun k => match k with
  | 0 => ("EnergyDiscs$Load", "power", "I", true)
  | 1 => ("EnergyDiscs$Load", "meter", "I", true)
  | _ => ("EnergyDiscs$Load", "on", "Z", false)
def tyX4 : Nat → FieldType := fun k => match k with
  | 0 => .int
  | 1 => .int
  | _ => .boolean
abbrev wsX40 : List Cond := u_ws RX4 TX4 3
theorem nmX4 : ∀ a, a < 3 → ∀ b, b < 3 → a ≠ b → (TX4 a).2.1 ≠ (TX4 b).2.1 := by decide +kernel
theorem tyX4_ok : ∀ k, k < 3 → parseFieldDescriptor (TX4 k).2.2.1 = some (tyX4 k) := by decide +kernel
abbrev cX4_copy : ByteArray := prog_4_method_2_code
def yX4_copy : MethodName := ⟨RX4, "copy", "()LEnergyDiscs$Load;"⟩
def dkwX4_copy_1 : List UInt8 := [43, 176]
abbrev dktX4_copy_1 : List UInt8 := dkwX4_copy_1 ++ []
def dkwX4_copy_0 : List UInt8 := [187, 0, 8, 89, 42, 180, 0, 7, 42, 180, 0, 13, 183, 0, 16, 76, 43, 42, 180, 0, 19, 181, 0, 19]
abbrev dktX4_copy_0 : List UInt8 := dkwX4_copy_0 ++ dktX4_copy_1
theorem dksX4_copy_0 : cX4_copy.data.toList.drop 0 = dktX4_copy_0 := by decide +kernel
theorem dksX4_copy_1 : cX4_copy.data.toList.drop 24 = dktX4_copy_1 := dk_seg dksX4_copy_0 24 rfl rfl
theorem dX4_copy_0 : decode cX4_copy 0 = .ok (.new 8, 3) := dk_187 0 8 (dk_at dksX4_copy_0 0 rfl rfl)
theorem dX4_copy_3 : decode cX4_copy 3 = .ok (.dup, 1) := dk_89 (dk_at dksX4_copy_0 3 rfl rfl)
theorem dX4_copy_4 : decode cX4_copy 4 = .ok (.aload_n 0, 1) := dk_42 (dk_at dksX4_copy_0 4 rfl rfl)
theorem dX4_copy_5 : decode cX4_copy 5 = .ok (.getfield 7, 3) := dk_180 0 7 (dk_at dksX4_copy_0 5 rfl rfl)
theorem dX4_copy_8 : decode cX4_copy 8 = .ok (.aload_n 0, 1) := dk_42 (dk_at dksX4_copy_0 8 rfl rfl)
theorem dX4_copy_9 : decode cX4_copy 9 = .ok (.getfield 13, 3) := dk_180 0 13 (dk_at dksX4_copy_0 9 rfl rfl)
theorem dX4_copy_12 : decode cX4_copy 12 = .ok (.invokespecial 16, 3) := dk_183 0 16 (dk_at dksX4_copy_0 12 rfl rfl)
theorem dX4_copy_15 : decode cX4_copy 15 = .ok (.astore_n 1, 1) := dk_76 (dk_at dksX4_copy_0 15 rfl rfl)
theorem dX4_copy_16 : decode cX4_copy 16 = .ok (.aload_n 1, 1) := dk_43 (dk_at dksX4_copy_0 16 rfl rfl)
theorem dX4_copy_17 : decode cX4_copy 17 = .ok (.aload_n 0, 1) := dk_42 (dk_at dksX4_copy_0 17 rfl rfl)
theorem dX4_copy_18 : decode cX4_copy 18 = .ok (.getfield 19, 3) := dk_180 0 19 (dk_at dksX4_copy_0 18 rfl rfl)
theorem dX4_copy_21 : decode cX4_copy 21 = .ok (.putfield 19, 3) := dk_181 0 19 (dk_at dksX4_copy_0 21 rfl rfl)
theorem dX4_copy_24 : decode cX4_copy 24 = .ok (.aload_n 1, 1) := dk_43 (dk_at dksX4_copy_1 0 rfl rfl)
theorem dX4_copy_25 : decode cX4_copy 25 = .ok (.areturn, 1) := dk_176 (dk_at dksX4_copy_1 1 rfl rfl)
abbrev cX4_init : ByteArray := prog_4_method_1_code
def yX4_init : MethodName := ⟨RX4, "<init>", "(II)V"⟩
def dkwX4_init_0 : List UInt8 := [42, 183, 0, 1, 42, 27, 181, 0, 7, 42, 28, 181, 0, 13, 177]
abbrev dktX4_init_0 : List UInt8 := dkwX4_init_0 ++ []
theorem dksX4_init_0 : cX4_init.data.toList.drop 0 = dktX4_init_0 := by decide +kernel
theorem dX4_init_0 : decode cX4_init 0 = .ok (.aload_n 0, 1) := dk_42 (dk_at dksX4_init_0 0 rfl rfl)
theorem dX4_init_1 : decode cX4_init 1 = .ok (.invokespecial 1, 3) := dk_183 0 1 (dk_at dksX4_init_0 1 rfl rfl)
theorem dX4_init_4 : decode cX4_init 4 = .ok (.aload_n 0, 1) := dk_42 (dk_at dksX4_init_0 4 rfl rfl)
theorem dX4_init_5 : decode cX4_init 5 = .ok (.iload_n 1, 1) := dk_27 (dk_at dksX4_init_0 5 rfl rfl)
theorem dX4_init_6 : decode cX4_init 6 = .ok (.putfield 7, 3) := dk_181 0 7 (dk_at dksX4_init_0 6 rfl rfl)
theorem dX4_init_9 : decode cX4_init 9 = .ok (.aload_n 0, 1) := dk_42 (dk_at dksX4_init_0 9 rfl rfl)
theorem dX4_init_10 : decode cX4_init 10 = .ok (.iload_n 2, 1) := dk_28 (dk_at dksX4_init_0 10 rfl rfl)
theorem dX4_init_11 : decode cX4_init 11 = .ok (.putfield 13, 3) := dk_181 0 13 (dk_at dksX4_init_0 11 rfl rfl)
theorem dX4_init_14 : decode cX4_init 14 = .ok (.return_, 1) := dk_177 (dk_at dksX4_init_0 14 rfl rfl)
theorem q91 : (Jvm.Cond.initialized "EnergyDiscs$Load") ∈ lw_all := lw_g (lw_at lw_m1 19 rfl) rfl
theorem q387 : (Jvm.Cond.selects "EnergyDiscs$Load" ({ cls := "java/lang/Object", name := "getClass", desc := "()Ljava/lang/Class;" } : Jvm.MethodName) ({ cls := "java/lang/Object", name := "getClass", desc := "()Ljava/lang/Class;" } : Jvm.MethodName)) ∈ lw_all := lw_g (lw_at lw_m2 75 rfl) rfl
theorem q496 : (Jvm.Cond.instanceMethod ({ cls := "EnergyDiscs$Load", name := "copy", desc := "()LEnergyDiscs$Load;" } : Jvm.MethodName)) ∈ lw_all := lw_g (lw_at lw_m2 184 rfl) rfl
theorem q497 : (Jvm.Cond.selects "EnergyDiscs$Load" ({ cls := "EnergyDiscs$Load", name := "copy", desc := "()LEnergyDiscs$Load;" } : Jvm.MethodName) ({ cls := "EnergyDiscs$Load", name := "copy", desc := "()LEnergyDiscs$Load;" } : Jvm.MethodName)) ∈ lw_all := lw_g (lw_at lw_m2 185 rfl) rfl
theorem q498 : (Jvm.Cond.code ({ cls := "EnergyDiscs$Load", name := "copy", desc := "()LEnergyDiscs$Load;" } : Jvm.MethodName) prog_4_method_2_code (2 : Nat) (Option.some (Jvm.ClassFile.FieldType.object "EnergyDiscs$Load"))) ∈ lw_all := lw_g (lw_at lw_m2 186 rfl) rfl
theorem q499 : (Jvm.Cond.classLink "EnergyDiscs$Load" (8 : Nat) "EnergyDiscs$Load") ∈ lw_all := lw_g (lw_at lw_m2 187 rfl) rfl
theorem q500 : (Jvm.Cond.instantiable "EnergyDiscs$Load" (3 : Nat)) ∈ lw_all := lw_g (lw_at lw_m2 188 rfl) rfl
theorem q501 : (Jvm.Cond.methodLink "EnergyDiscs$Load" (16 : Nat) ({ cls := "EnergyDiscs$Load", name := "<init>", desc := "(II)V" } : Jvm.MethodName)) ∈ lw_all := lw_g (lw_at lw_m2 189 rfl) rfl
theorem q502 : (Jvm.Cond.instanceMethod ({ cls := "EnergyDiscs$Load", name := "<init>", desc := "(II)V" } : Jvm.MethodName)) ∈ lw_all := lw_g (lw_at lw_m2 190 rfl) rfl
theorem q503 : (Jvm.Cond.code ({ cls := "EnergyDiscs$Load", name := "<init>", desc := "(II)V" } : Jvm.MethodName) prog_4_method_1_code (3 : Nat) (Option.none : Option Jvm.ClassFile.FieldType)) ∈ lw_all := lw_g (lw_at lw_m2 191 rfl) rfl
theorem q504 : (Jvm.Cond.methodLink "EnergyDiscs$Load" (1 : Nat) ({ cls := "java/lang/Object", name := "<init>", desc := "()V" } : Jvm.MethodName)) ∈ lw_all := lw_g (lw_at lw_m2 192 rfl) rfl
theorem q505 : (Jvm.Cond.fieldLink "EnergyDiscs$Load" (13 : Nat) "EnergyDiscs$Load" "power" "I") ∈ lw_all := lw_g (lw_at lw_m2 193 rfl) rfl
theorem q508 : (Jvm.Cond.fieldLink "EnergyDiscs$Load" (7 : Nat) "EnergyDiscs$Load" "meter" "I") ∈ lw_all := lw_g (lw_at lw_m2 196 rfl) rfl
theorem q511 : (Jvm.Cond.fieldLink "EnergyDiscs$Load" (19 : Nat) "EnergyDiscs$Load" "on" "Z") ∈ lw_all := lw_g (lw_at lw_m2 199 rfl) rfl
theorem q514 : (Jvm.Cond.laysFinal "EnergyDiscs$Load" "EnergyDiscs$Load" "power" "I") ∈ lw_all := lw_g (lw_at lw_m2 202 rfl) rfl
theorem q515 : (Jvm.Cond.soleField "EnergyDiscs$Load" "power") ∈ lw_all := lw_g (lw_at lw_m2 203 rfl) rfl
theorem q516 : (Jvm.Cond.laysFinal "EnergyDiscs$Load" "EnergyDiscs$Load" "meter" "I") ∈ lw_all := lw_g (lw_at lw_m2 204 rfl) rfl
theorem q517 : (Jvm.Cond.soleField "EnergyDiscs$Load" "meter") ∈ lw_all := lw_g (lw_at lw_m2 205 rfl) rfl
theorem q518 : (Jvm.Cond.lays "EnergyDiscs$Load" "EnergyDiscs$Load" "on" "Z") ∈ lw_all := lw_g (lw_at lw_m2 206 rfl) rfl
theorem q519 : (Jvm.Cond.soleField "EnergyDiscs$Load" "on") ∈ lw_all := lw_g (lw_at lw_m2 207 rfl) rfl
theorem q520 : (Jvm.Cond.superclass "EnergyDiscs$Load" "java/lang/Object") ∈ lw_all := lw_g (lw_at lw_m2 208 rfl) rfl
theorem q1557 : (Jvm.Cond.castable "EnergyDiscs$Load" "java/lang/Object") ∈ lw_tbl := lw_at lw_m7 45 rfl
theorem in_X4 : ∀ w ∈ wsX40, w ∈ lw_all := lw_in wsX40 [514, 516, 518] (by decide +kernel) (by decide +kernel)
/-! EnergyDiscs$Reader -/
set_option maxRecDepth 100000
def RX5 : String := "EnergyDiscs$Reader"
def TX5 : u_T := fun k => match k with
  | 0 => ("EnergyDiscs$Reader", "orders", "Ljava/util/List;", true)
  | 1 => ("EnergyDiscs$Reader", "spot", "I", false)
  | 2 => ("EnergyDiscs$Reader", "isWrong", "Z", false)
  | _ => ("EnergyDiscs$Reader", "this$0", "LEnergyDiscs;", true)
def tyX5 : Nat → FieldType := fun k => match k with
  | 0 => .object "java/util/List"
  | 1 => .int
  | 2 => .boolean
  | _ => .object "EnergyDiscs"
abbrev wsX50 : List Cond := u_ws RX5 TX5 4
theorem nmX5 : ∀ a, a < 4 → ∀ b, b < 4 → a ≠ b → (TX5 a).2.1 ≠ (TX5 b).2.1 := by decide +kernel
theorem tyX5_ok : ∀ k, k < 4 → parseFieldDescriptor (TX5 k).2.2.1 = some (tyX5 k) := by decide +kernel
abbrev cX5_init : ByteArray := prog_7_method_1_code
def yX5_init : MethodName := ⟨RX5, "<init>", "(LEnergyDiscs;)V"⟩
def dkwX5_init_2 : List UInt8 := [182, 0, 43, 42, 182, 0, 20, 167, 255, 225, 177]
abbrev dktX5_init_2 : List UInt8 := dkwX5_init_2 ++ []
def dkwX5_init_1 : List UInt8 := [42, 180, 0, 23, 154, 0, 30, 42, 180, 0, 27, 43, 180, 0, 31, 182, 0, 37, 162, 0, 16, 42, 16, 59]
abbrev dktX5_init_1 : List UInt8 := dkwX5_init_1 ++ dktX5_init_2
def dkwX5_init_0 : List UInt8 := [42, 43, 181, 0, 1, 42, 183, 0, 7, 42, 187, 0, 13, 89, 183, 0, 15, 181, 0, 16, 42, 182, 0, 20]
abbrev dktX5_init_0 : List UInt8 := dkwX5_init_0 ++ dktX5_init_1
theorem dksX5_init_0 : cX5_init.data.toList.drop 0 = dktX5_init_0 := by decide +kernel
theorem dksX5_init_1 : cX5_init.data.toList.drop 24 = dktX5_init_1 := dk_seg dksX5_init_0 24 rfl rfl
theorem dksX5_init_2 : cX5_init.data.toList.drop 48 = dktX5_init_2 := dk_seg dksX5_init_1 24 rfl rfl
theorem dX5_init_0 : decode cX5_init 0 = .ok (.aload_n 0, 1) := dk_42 (dk_at dksX5_init_0 0 rfl rfl)
theorem dX5_init_1 : decode cX5_init 1 = .ok (.aload_n 1, 1) := dk_43 (dk_at dksX5_init_0 1 rfl rfl)
theorem dX5_init_2 : decode cX5_init 2 = .ok (.putfield 1, 3) := dk_181 0 1 (dk_at dksX5_init_0 2 rfl rfl)
theorem dX5_init_5 : decode cX5_init 5 = .ok (.aload_n 0, 1) := dk_42 (dk_at dksX5_init_0 5 rfl rfl)
theorem dX5_init_6 : decode cX5_init 6 = .ok (.invokespecial 7, 3) := dk_183 0 7 (dk_at dksX5_init_0 6 rfl rfl)
theorem dX5_init_9 : decode cX5_init 9 = .ok (.aload_n 0, 1) := dk_42 (dk_at dksX5_init_0 9 rfl rfl)
theorem dX5_init_10 : decode cX5_init 10 = .ok (.new 13, 3) := dk_187 0 13 (dk_at dksX5_init_0 10 rfl rfl)
theorem dX5_init_13 : decode cX5_init 13 = .ok (.dup, 1) := dk_89 (dk_at dksX5_init_0 13 rfl rfl)
theorem dX5_init_14 : decode cX5_init 14 = .ok (.invokespecial 15, 3) := dk_183 0 15 (dk_at dksX5_init_0 14 rfl rfl)
theorem dX5_init_17 : decode cX5_init 17 = .ok (.putfield 16, 3) := dk_181 0 16 (dk_at dksX5_init_0 17 rfl rfl)
theorem dX5_init_20 : decode cX5_init 20 = .ok (.aload_n 0, 1) := dk_42 (dk_at dksX5_init_0 20 rfl rfl)
theorem dX5_init_21 : decode cX5_init 21 = .ok (.invokevirtual 20, 3) := dk_182 0 20 (dk_at dksX5_init_0 21 rfl rfl)
theorem dX5_init_24 : decode cX5_init 24 = .ok (.aload_n 0, 1) := dk_42 (dk_at dksX5_init_1 0 rfl rfl)
theorem dX5_init_25 : decode cX5_init 25 = .ok (.getfield 23, 3) := dk_180 0 23 (dk_at dksX5_init_1 1 rfl rfl)
theorem dX5_init_28 : decode cX5_init 28 = .ok (.ifCond .ne 30, 3) := dk_154 0 30 (dk_at dksX5_init_1 4 rfl rfl)
theorem dX5_init_31 : decode cX5_init 31 = .ok (.aload_n 0, 1) := dk_42 (dk_at dksX5_init_1 7 rfl rfl)
theorem dX5_init_32 : decode cX5_init 32 = .ok (.getfield 27, 3) := dk_180 0 27 (dk_at dksX5_init_1 8 rfl rfl)
theorem dX5_init_35 : decode cX5_init 35 = .ok (.aload_n 1, 1) := dk_43 (dk_at dksX5_init_1 11 rfl rfl)
theorem dX5_init_36 : decode cX5_init 36 = .ok (.getfield 31, 3) := dk_180 0 31 (dk_at dksX5_init_1 12 rfl rfl)
theorem dX5_init_39 : decode cX5_init 39 = .ok (.invokevirtual 37, 3) := dk_182 0 37 (dk_at dksX5_init_1 15 rfl rfl)
theorem dX5_init_42 : decode cX5_init 42 = .ok (.if_icmp .ge 16, 3) := dk_162 0 16 (dk_at dksX5_init_1 18 rfl rfl)
theorem dX5_init_45 : decode cX5_init 45 = .ok (.aload_n 0, 1) := dk_42 (dk_at dksX5_init_1 21 rfl rfl)
theorem dX5_init_46 : decode cX5_init 46 = .ok (.bipush 59, 2) := dk_16 59 (dk_at dksX5_init_1 22 rfl rfl)
theorem dX5_init_48 : decode cX5_init 48 = .ok (.invokevirtual 43, 3) := dk_182 0 43 (dk_at dksX5_init_2 0 rfl rfl)
theorem dX5_init_51 : decode cX5_init 51 = .ok (.aload_n 0, 1) := dk_42 (dk_at dksX5_init_2 3 rfl rfl)
theorem dX5_init_52 : decode cX5_init 52 = .ok (.invokevirtual 20, 3) := dk_182 0 20 (dk_at dksX5_init_2 4 rfl rfl)
theorem dX5_init_55 : decode cX5_init 55 = .ok (.goto (-31), 3) := dk_167 255 225 (dk_at dksX5_init_2 7 rfl rfl)
theorem dX5_init_58 : decode cX5_init 58 = .ok (.return_, 1) := dk_177 (dk_at dksX5_init_2 10 rfl rfl)
abbrev cX5_readOrder : ByteArray := prog_7_method_10_code
def yX5_readOrder : MethodName := ⟨RX5, "readOrder", "()V"⟩
def dkwX5_readOrder_3 : List UInt8 := [182, 0, 105, 185, 0, 109, 2, 0, 87, 177]
abbrev dktX5_readOrder_3 : List UInt8 := dkwX5_readOrder_3 ++ []
def dkwX5_readOrder_2 : List UInt8 := [180, 0, 23, 154, 0, 28, 42, 89, 180, 0, 27, 4, 96, 181, 0, 27, 42, 180, 0, 16, 42, 43]
abbrev dktX5_readOrder_2 : List UInt8 := dkwX5_readOrder_2 ++ dktX5_readOrder_3
def dkwX5_readOrder_1 : List UInt8 := [180, 0, 23, 154, 0, 10, 43, 182, 0, 102, 153, 0, 7, 4, 167, 0, 4, 3, 181, 0, 23, 42]
abbrev dktX5_readOrder_1 : List UInt8 := dkwX5_readOrder_1 ++ dktX5_readOrder_2
def dkwX5_readOrder_0 : List UInt8 := [42, 180, 0, 23, 153, 0, 8, 18, 96, 167, 0, 10, 42, 182, 0, 51, 184, 0, 98, 76, 42, 42]
abbrev dktX5_readOrder_0 : List UInt8 := dkwX5_readOrder_0 ++ dktX5_readOrder_1
theorem dksX5_readOrder_0 : cX5_readOrder.data.toList.drop 0 = dktX5_readOrder_0 := by decide +kernel
theorem dksX5_readOrder_1 : cX5_readOrder.data.toList.drop 22 = dktX5_readOrder_1 := dk_seg dksX5_readOrder_0 22 rfl rfl
theorem dksX5_readOrder_2 : cX5_readOrder.data.toList.drop 44 = dktX5_readOrder_2 := dk_seg dksX5_readOrder_1 22 rfl rfl
theorem dksX5_readOrder_3 : cX5_readOrder.data.toList.drop 66 = dktX5_readOrder_3 := dk_seg dksX5_readOrder_2 22 rfl rfl
theorem dX5_readOrder_0 : decode cX5_readOrder 0 = .ok (.aload_n 0, 1) := dk_42 (dk_at dksX5_readOrder_0 0 rfl rfl)
theorem dX5_readOrder_1 : decode cX5_readOrder 1 = .ok (.getfield 23, 3) := dk_180 0 23 (dk_at dksX5_readOrder_0 1 rfl rfl)
theorem dX5_readOrder_4 : decode cX5_readOrder 4 = .ok (.ifCond .eq 8, 3) := dk_153 0 8 (dk_at dksX5_readOrder_0 4 rfl rfl)
theorem dX5_readOrder_7 : decode cX5_readOrder 7 = .ok (.ldc 96, 2) := dk_18 96 (dk_at dksX5_readOrder_0 7 rfl rfl)
theorem dX5_readOrder_9 : decode cX5_readOrder 9 = .ok (.goto 10, 3) := dk_167 0 10 (dk_at dksX5_readOrder_0 9 rfl rfl)
theorem dX5_readOrder_12 : decode cX5_readOrder 12 = .ok (.aload_n 0, 1) := dk_42 (dk_at dksX5_readOrder_0 12 rfl rfl)
theorem dX5_readOrder_13 : decode cX5_readOrder 13 = .ok (.invokevirtual 51, 3) := dk_182 0 51 (dk_at dksX5_readOrder_0 13 rfl rfl)
theorem dX5_readOrder_16 : decode cX5_readOrder 16 = .ok (.invokestatic 98, 3) := dk_184 0 98 (dk_at dksX5_readOrder_0 16 rfl rfl)
theorem dX5_readOrder_19 : decode cX5_readOrder 19 = .ok (.astore_n 1, 1) := dk_76 (dk_at dksX5_readOrder_0 19 rfl rfl)
theorem dX5_readOrder_20 : decode cX5_readOrder 20 = .ok (.aload_n 0, 1) := dk_42 (dk_at dksX5_readOrder_0 20 rfl rfl)
theorem dX5_readOrder_21 : decode cX5_readOrder 21 = .ok (.aload_n 0, 1) := dk_42 (dk_at dksX5_readOrder_0 21 rfl rfl)
theorem dX5_readOrder_22 : decode cX5_readOrder 22 = .ok (.getfield 23, 3) := dk_180 0 23 (dk_at dksX5_readOrder_1 0 rfl rfl)
theorem dX5_readOrder_25 : decode cX5_readOrder 25 = .ok (.ifCond .ne 10, 3) := dk_154 0 10 (dk_at dksX5_readOrder_1 3 rfl rfl)
theorem dX5_readOrder_28 : decode cX5_readOrder 28 = .ok (.aload_n 1, 1) := dk_43 (dk_at dksX5_readOrder_1 6 rfl rfl)
theorem dX5_readOrder_29 : decode cX5_readOrder 29 = .ok (.invokevirtual 102, 3) := dk_182 0 102 (dk_at dksX5_readOrder_1 7 rfl rfl)
theorem dX5_readOrder_32 : decode cX5_readOrder 32 = .ok (.ifCond .eq 7, 3) := dk_153 0 7 (dk_at dksX5_readOrder_1 10 rfl rfl)
theorem dX5_readOrder_35 : decode cX5_readOrder 35 = .ok (.iconst 1, 1) := dk_4 (dk_at dksX5_readOrder_1 13 rfl rfl)
theorem dX5_readOrder_36 : decode cX5_readOrder 36 = .ok (.goto 4, 3) := dk_167 0 4 (dk_at dksX5_readOrder_1 14 rfl rfl)
theorem dX5_readOrder_39 : decode cX5_readOrder 39 = .ok (.iconst 0, 1) := dk_3 (dk_at dksX5_readOrder_1 17 rfl rfl)
theorem dX5_readOrder_40 : decode cX5_readOrder 40 = .ok (.putfield 23, 3) := dk_181 0 23 (dk_at dksX5_readOrder_1 18 rfl rfl)
theorem dX5_readOrder_43 : decode cX5_readOrder 43 = .ok (.aload_n 0, 1) := dk_42 (dk_at dksX5_readOrder_1 21 rfl rfl)
theorem dX5_readOrder_44 : decode cX5_readOrder 44 = .ok (.getfield 23, 3) := dk_180 0 23 (dk_at dksX5_readOrder_2 0 rfl rfl)
theorem dX5_readOrder_47 : decode cX5_readOrder 47 = .ok (.ifCond .ne 28, 3) := dk_154 0 28 (dk_at dksX5_readOrder_2 3 rfl rfl)
theorem dX5_readOrder_50 : decode cX5_readOrder 50 = .ok (.aload_n 0, 1) := dk_42 (dk_at dksX5_readOrder_2 6 rfl rfl)
theorem dX5_readOrder_51 : decode cX5_readOrder 51 = .ok (.dup, 1) := dk_89 (dk_at dksX5_readOrder_2 7 rfl rfl)
theorem dX5_readOrder_52 : decode cX5_readOrder 52 = .ok (.getfield 27, 3) := dk_180 0 27 (dk_at dksX5_readOrder_2 8 rfl rfl)
theorem dX5_readOrder_55 : decode cX5_readOrder 55 = .ok (.iconst 1, 1) := dk_4 (dk_at dksX5_readOrder_2 11 rfl rfl)
theorem dX5_readOrder_56 : decode cX5_readOrder 56 = .ok (.iadd, 1) := dk_96 (dk_at dksX5_readOrder_2 12 rfl rfl)
theorem dX5_readOrder_57 : decode cX5_readOrder 57 = .ok (.putfield 27, 3) := dk_181 0 27 (dk_at dksX5_readOrder_2 13 rfl rfl)
theorem dX5_readOrder_60 : decode cX5_readOrder 60 = .ok (.aload_n 0, 1) := dk_42 (dk_at dksX5_readOrder_2 16 rfl rfl)
theorem dX5_readOrder_61 : decode cX5_readOrder 61 = .ok (.getfield 16, 3) := dk_180 0 16 (dk_at dksX5_readOrder_2 17 rfl rfl)
theorem dX5_readOrder_64 : decode cX5_readOrder 64 = .ok (.aload_n 0, 1) := dk_42 (dk_at dksX5_readOrder_2 20 rfl rfl)
theorem dX5_readOrder_65 : decode cX5_readOrder 65 = .ok (.aload_n 1, 1) := dk_43 (dk_at dksX5_readOrder_2 21 rfl rfl)
theorem dX5_readOrder_66 : decode cX5_readOrder 66 = .ok (.invokevirtual 105, 3) := dk_182 0 105 (dk_at dksX5_readOrder_3 0 rfl rfl)
theorem dX5_readOrder_69 : decode cX5_readOrder 69 = .ok (.invokeinterface 109 2, 5) := by decide +kernel
theorem dX5_readOrder_74 : decode cX5_readOrder 74 = .ok (.pop, 1) := dk_87 (dk_at dksX5_readOrder_3 8 rfl rfl)
theorem dX5_readOrder_75 : decode cX5_readOrder 75 = .ok (.return_, 1) := dk_177 (dk_at dksX5_readOrder_3 9 rfl rfl)
abbrev cX5_next : ByteArray := prog_7_method_3_code
def yX5_next : MethodName := ⟨RX5, "next", "()C"⟩
def dkwX5_next_0 : List UInt8 := [42, 42, 180, 0, 27, 182, 0, 47, 172]
abbrev dktX5_next_0 : List UInt8 := dkwX5_next_0 ++ []
theorem dksX5_next_0 : cX5_next.data.toList.drop 0 = dktX5_next_0 := by decide +kernel
theorem dX5_next_0 : decode cX5_next 0 = .ok (.aload_n 0, 1) := dk_42 (dk_at dksX5_next_0 0 rfl rfl)
theorem dX5_next_1 : decode cX5_next 1 = .ok (.aload_n 0, 1) := dk_42 (dk_at dksX5_next_0 1 rfl rfl)
theorem dX5_next_2 : decode cX5_next 2 = .ok (.getfield 27, 3) := dk_180 0 27 (dk_at dksX5_next_0 2 rfl rfl)
theorem dX5_next_5 : decode cX5_next 5 = .ok (.invokevirtual 47, 3) := dk_182 0 47 (dk_at dksX5_next_0 5 rfl rfl)
theorem dX5_next_8 : decode cX5_next 8 = .ok (.ireturn, 1) := dk_172 (dk_at dksX5_next_0 8 rfl rfl)
abbrev cX5_text : ByteArray := prog_7_method_2_code
def yX5_text : MethodName := ⟨RX5, "text", "()Ljava/lang/CharSequence;"⟩
def dkwX5_text_0 : List UInt8 := [42, 180, 0, 1, 180, 0, 31, 176]
abbrev dktX5_text_0 : List UInt8 := dkwX5_text_0 ++ []
theorem dksX5_text_0 : cX5_text.data.toList.drop 0 = dktX5_text_0 := by decide +kernel
theorem dX5_text_0 : decode cX5_text 0 = .ok (.aload_n 0, 1) := dk_42 (dk_at dksX5_text_0 0 rfl rfl)
theorem dX5_text_1 : decode cX5_text 1 = .ok (.getfield 1, 3) := dk_180 0 1 (dk_at dksX5_text_0 1 rfl rfl)
theorem dX5_text_4 : decode cX5_text 4 = .ok (.getfield 31, 3) := dk_180 0 31 (dk_at dksX5_text_0 4 rfl rfl)
theorem dX5_text_7 : decode cX5_text 7 = .ok (.areturn, 1) := dk_176 (dk_at dksX5_text_0 7 rfl rfl)
abbrev cX5_order : ByteArray := prog_7_method_9_code
def yX5_order : MethodName := ⟨RX5, "order", "(Ljava/lang/String;)LEnergyDiscs$Order;"⟩
def dkwX5_order_8 : List UInt8 := [167, 0, 16, 187, 0, 68, 89, 43, 42, 182, 0, 65, 3, 183, 0, 75, 176]
abbrev dktX5_order_8 : List UInt8 := dkwX5_order_8 ++ []
def dkwX5_order_7 : List UInt8 := [167, 0, 39, 42, 182, 0, 93, 167, 0, 32, 187, 0, 68, 89, 43, 42, 182, 0, 72, 3, 183, 0, 75]
abbrev dktX5_order_7 : List UInt8 := dkwX5_order_7 ++ dktX5_order_8
def dkwX5_order_6 : List UInt8 := [187, 0, 68, 89, 43, 42, 182, 0, 61, 153, 0, 10, 42, 182, 0, 65, 167, 0, 4, 3, 3, 183, 0, 75]
abbrev dktX5_order_6 : List UInt8 := dkwX5_order_6 ++ dktX5_order_7
def dkwX5_order_5 : List UInt8 := [170, 0, 0, 0, 0, 80, 0, 0, 0, 0, 0, 0, 0, 3, 0, 0, 0, 30, 0, 0, 0, 57, 0, 0, 0, 64, 0, 0, 0, 64]
abbrev dktX5_order_5 : List UInt8 := dkwX5_order_5 ++ dktX5_order_6
def dkwX5_order_4 : List UInt8 := [153, 0, 5, 6, 62, 29]
abbrev dktX5_order_4 : List UInt8 := dkwX5_order_4 ++ dktX5_order_5
def dkwX5_order_3 : List UInt8 := [62, 167, 0, 28, 44, 18, 89, 182, 0, 85, 153, 0, 19, 5, 62, 167, 0, 14, 44, 18, 91, 182, 0, 85]
abbrev dktX5_order_3 : List UInt8 := dkwX5_order_3 ++ dktX5_order_4
def dkwX5_order_2 : List UInt8 := [44, 18, 83, 182, 0, 85, 153, 0, 47, 3, 62, 167, 0, 42, 44, 18, 70, 182, 0, 85, 153, 0, 33, 4]
abbrev dktX5_order_2 : List UInt8 := dkwX5_order_2 ++ dktX5_order_3
def dkwX5_order_1 : List UInt8 := [171, 0, 0, 0, 0, 0, 0, 97, 0, 0, 0, 4, 0, 50, 196, 230, 0, 0, 0, 58, 0, 52, 100, 17, 0, 0, 0, 86, 0, 54, 128, 125, 0, 0, 0, 72, 6, 47, 171, 137, 0, 0, 0, 44]
abbrev dktX5_order_1 : List UInt8 := dkwX5_order_1 ++ dktX5_order_2
def dkwX5_order_0 : List UInt8 := [43, 77, 2, 62, 44, 182, 0, 78]
abbrev dktX5_order_0 : List UInt8 := dkwX5_order_0 ++ dktX5_order_1
theorem dksX5_order_0 : cX5_order.data.toList.drop 0 = dktX5_order_0 := by decide +kernel
theorem dksX5_order_1 : cX5_order.data.toList.drop 8 = dktX5_order_1 := dk_seg dksX5_order_0 8 rfl rfl
theorem dksX5_order_2 : cX5_order.data.toList.drop 52 = dktX5_order_2 := dk_seg dksX5_order_1 44 rfl rfl
theorem dksX5_order_3 : cX5_order.data.toList.drop 76 = dktX5_order_3 := dk_seg dksX5_order_2 24 rfl rfl
theorem dksX5_order_4 : cX5_order.data.toList.drop 100 = dktX5_order_4 := dk_seg dksX5_order_3 24 rfl rfl
theorem dksX5_order_5 : cX5_order.data.toList.drop 106 = dktX5_order_5 := dk_seg dksX5_order_4 6 rfl rfl
theorem dksX5_order_6 : cX5_order.data.toList.drop 136 = dktX5_order_6 := dk_seg dksX5_order_5 30 rfl rfl
theorem dksX5_order_7 : cX5_order.data.toList.drop 160 = dktX5_order_7 := dk_seg dksX5_order_6 24 rfl rfl
theorem dksX5_order_8 : cX5_order.data.toList.drop 183 = dktX5_order_8 := dk_seg dksX5_order_7 23 rfl rfl
theorem dX5_order_0 : decode cX5_order 0 = .ok (.aload_n 1, 1) := dk_43 (dk_at dksX5_order_0 0 rfl rfl)
theorem dX5_order_1 : decode cX5_order 1 = .ok (.astore_n 2, 1) := dk_77 (dk_at dksX5_order_0 1 rfl rfl)
theorem dX5_order_2 : decode cX5_order 2 = .ok (.iconst (-1), 1) := dk_2 (dk_at dksX5_order_0 2 rfl rfl)
theorem dX5_order_3 : decode cX5_order 3 = .ok (.istore_n 3, 1) := dk_62 (dk_at dksX5_order_0 3 rfl rfl)
theorem dX5_order_4 : decode cX5_order 4 = .ok (.aload_n 2, 1) := dk_44 (dk_at dksX5_order_0 4 rfl rfl)
theorem dX5_order_5 : decode cX5_order 5 = .ok (.invokevirtual 78, 3) := dk_182 0 78 (dk_at dksX5_order_0 5 rfl rfl)
theorem dX5_order_8 : decode cX5_order 8 = .ok (.lookupswitch 97 #[(3327206, 58), (3433489, 86), (3571837, 72), (103787401, 44)], 44) := by decide +kernel
theorem dX5_order_52 : decode cX5_order 52 = .ok (.aload_n 2, 1) := dk_44 (dk_at dksX5_order_2 0 rfl rfl)
theorem dX5_order_53 : decode cX5_order 53 = .ok (.ldc 83, 2) := dk_18 83 (dk_at dksX5_order_2 1 rfl rfl)
theorem dX5_order_55 : decode cX5_order 55 = .ok (.invokevirtual 85, 3) := dk_182 0 85 (dk_at dksX5_order_2 3 rfl rfl)
theorem dX5_order_58 : decode cX5_order 58 = .ok (.ifCond .eq 47, 3) := dk_153 0 47 (dk_at dksX5_order_2 6 rfl rfl)
theorem dX5_order_61 : decode cX5_order 61 = .ok (.iconst 0, 1) := dk_3 (dk_at dksX5_order_2 9 rfl rfl)
theorem dX5_order_62 : decode cX5_order 62 = .ok (.istore_n 3, 1) := dk_62 (dk_at dksX5_order_2 10 rfl rfl)
theorem dX5_order_63 : decode cX5_order 63 = .ok (.goto 42, 3) := dk_167 0 42 (dk_at dksX5_order_2 11 rfl rfl)
theorem dX5_order_66 : decode cX5_order 66 = .ok (.aload_n 2, 1) := dk_44 (dk_at dksX5_order_2 14 rfl rfl)
theorem dX5_order_67 : decode cX5_order 67 = .ok (.ldc 70, 2) := dk_18 70 (dk_at dksX5_order_2 15 rfl rfl)
theorem dX5_order_69 : decode cX5_order 69 = .ok (.invokevirtual 85, 3) := dk_182 0 85 (dk_at dksX5_order_2 17 rfl rfl)
theorem dX5_order_72 : decode cX5_order 72 = .ok (.ifCond .eq 33, 3) := dk_153 0 33 (dk_at dksX5_order_2 20 rfl rfl)
theorem dX5_order_75 : decode cX5_order 75 = .ok (.iconst 1, 1) := dk_4 (dk_at dksX5_order_2 23 rfl rfl)
theorem dX5_order_76 : decode cX5_order 76 = .ok (.istore_n 3, 1) := dk_62 (dk_at dksX5_order_3 0 rfl rfl)
theorem dX5_order_77 : decode cX5_order 77 = .ok (.goto 28, 3) := dk_167 0 28 (dk_at dksX5_order_3 1 rfl rfl)
theorem dX5_order_80 : decode cX5_order 80 = .ok (.aload_n 2, 1) := dk_44 (dk_at dksX5_order_3 4 rfl rfl)
theorem dX5_order_81 : decode cX5_order 81 = .ok (.ldc 89, 2) := dk_18 89 (dk_at dksX5_order_3 5 rfl rfl)
theorem dX5_order_83 : decode cX5_order 83 = .ok (.invokevirtual 85, 3) := dk_182 0 85 (dk_at dksX5_order_3 7 rfl rfl)
theorem dX5_order_86 : decode cX5_order 86 = .ok (.ifCond .eq 19, 3) := dk_153 0 19 (dk_at dksX5_order_3 10 rfl rfl)
theorem dX5_order_89 : decode cX5_order 89 = .ok (.iconst 2, 1) := dk_5 (dk_at dksX5_order_3 13 rfl rfl)
theorem dX5_order_90 : decode cX5_order 90 = .ok (.istore_n 3, 1) := dk_62 (dk_at dksX5_order_3 14 rfl rfl)
theorem dX5_order_91 : decode cX5_order 91 = .ok (.goto 14, 3) := dk_167 0 14 (dk_at dksX5_order_3 15 rfl rfl)
theorem dX5_order_94 : decode cX5_order 94 = .ok (.aload_n 2, 1) := dk_44 (dk_at dksX5_order_3 18 rfl rfl)
theorem dX5_order_95 : decode cX5_order 95 = .ok (.ldc 91, 2) := dk_18 91 (dk_at dksX5_order_3 19 rfl rfl)
theorem dX5_order_97 : decode cX5_order 97 = .ok (.invokevirtual 85, 3) := dk_182 0 85 (dk_at dksX5_order_3 21 rfl rfl)
theorem dX5_order_100 : decode cX5_order 100 = .ok (.ifCond .eq 5, 3) := dk_153 0 5 (dk_at dksX5_order_4 0 rfl rfl)
theorem dX5_order_103 : decode cX5_order 103 = .ok (.iconst 3, 1) := dk_6 (dk_at dksX5_order_4 3 rfl rfl)
theorem dX5_order_104 : decode cX5_order 104 = .ok (.istore_n 3, 1) := dk_62 (dk_at dksX5_order_4 4 rfl rfl)
theorem dX5_order_105 : decode cX5_order 105 = .ok (.iload_n 3, 1) := dk_29 (dk_at dksX5_order_4 5 rfl rfl)
theorem dX5_order_106 : decode cX5_order 106 = .ok (.tableswitch 80 0 3 #[30, 57, 64, 64], 30) := by decide +kernel
theorem dX5_order_136 : decode cX5_order 136 = .ok (.new 68, 3) := dk_187 0 68 (dk_at dksX5_order_6 0 rfl rfl)
theorem dX5_order_139 : decode cX5_order 139 = .ok (.dup, 1) := dk_89 (dk_at dksX5_order_6 3 rfl rfl)
theorem dX5_order_140 : decode cX5_order 140 = .ok (.aload_n 1, 1) := dk_43 (dk_at dksX5_order_6 4 rfl rfl)
theorem dX5_order_141 : decode cX5_order 141 = .ok (.aload_n 0, 1) := dk_42 (dk_at dksX5_order_6 5 rfl rfl)
theorem dX5_order_142 : decode cX5_order 142 = .ok (.invokevirtual 61, 3) := dk_182 0 61 (dk_at dksX5_order_6 6 rfl rfl)
theorem dX5_order_145 : decode cX5_order 145 = .ok (.ifCond .eq 10, 3) := dk_153 0 10 (dk_at dksX5_order_6 9 rfl rfl)
theorem dX5_order_148 : decode cX5_order 148 = .ok (.aload_n 0, 1) := dk_42 (dk_at dksX5_order_6 12 rfl rfl)
theorem dX5_order_149 : decode cX5_order 149 = .ok (.invokevirtual 65, 3) := dk_182 0 65 (dk_at dksX5_order_6 13 rfl rfl)
theorem dX5_order_152 : decode cX5_order 152 = .ok (.goto 4, 3) := dk_167 0 4 (dk_at dksX5_order_6 16 rfl rfl)
theorem dX5_order_155 : decode cX5_order 155 = .ok (.iconst 0, 1) := dk_3 (dk_at dksX5_order_6 19 rfl rfl)
theorem dX5_order_156 : decode cX5_order 156 = .ok (.iconst 0, 1) := dk_3 (dk_at dksX5_order_6 20 rfl rfl)
theorem dX5_order_157 : decode cX5_order 157 = .ok (.invokespecial 75, 3) := dk_183 0 75 (dk_at dksX5_order_6 21 rfl rfl)
theorem dX5_order_160 : decode cX5_order 160 = .ok (.goto 39, 3) := dk_167 0 39 (dk_at dksX5_order_7 0 rfl rfl)
theorem dX5_order_163 : decode cX5_order 163 = .ok (.aload_n 0, 1) := dk_42 (dk_at dksX5_order_7 3 rfl rfl)
theorem dX5_order_164 : decode cX5_order 164 = .ok (.invokevirtual 93, 3) := dk_182 0 93 (dk_at dksX5_order_7 4 rfl rfl)
theorem dX5_order_167 : decode cX5_order 167 = .ok (.goto 32, 3) := dk_167 0 32 (dk_at dksX5_order_7 7 rfl rfl)
theorem dX5_order_170 : decode cX5_order 170 = .ok (.new 68, 3) := dk_187 0 68 (dk_at dksX5_order_7 10 rfl rfl)
theorem dX5_order_173 : decode cX5_order 173 = .ok (.dup, 1) := dk_89 (dk_at dksX5_order_7 13 rfl rfl)
theorem dX5_order_174 : decode cX5_order 174 = .ok (.aload_n 1, 1) := dk_43 (dk_at dksX5_order_7 14 rfl rfl)
theorem dX5_order_175 : decode cX5_order 175 = .ok (.aload_n 0, 1) := dk_42 (dk_at dksX5_order_7 15 rfl rfl)
theorem dX5_order_176 : decode cX5_order 176 = .ok (.invokevirtual 72, 3) := dk_182 0 72 (dk_at dksX5_order_7 16 rfl rfl)
theorem dX5_order_179 : decode cX5_order 179 = .ok (.iconst 0, 1) := dk_3 (dk_at dksX5_order_7 19 rfl rfl)
theorem dX5_order_180 : decode cX5_order 180 = .ok (.invokespecial 75, 3) := dk_183 0 75 (dk_at dksX5_order_7 20 rfl rfl)
theorem dX5_order_183 : decode cX5_order 183 = .ok (.goto 16, 3) := dk_167 0 16 (dk_at dksX5_order_8 0 rfl rfl)
theorem dX5_order_186 : decode cX5_order 186 = .ok (.new 68, 3) := dk_187 0 68 (dk_at dksX5_order_8 3 rfl rfl)
theorem dX5_order_189 : decode cX5_order 189 = .ok (.dup, 1) := dk_89 (dk_at dksX5_order_8 6 rfl rfl)
theorem dX5_order_190 : decode cX5_order 190 = .ok (.aload_n 1, 1) := dk_43 (dk_at dksX5_order_8 7 rfl rfl)
theorem dX5_order_191 : decode cX5_order 191 = .ok (.aload_n 0, 1) := dk_42 (dk_at dksX5_order_8 8 rfl rfl)
theorem dX5_order_192 : decode cX5_order 192 = .ok (.invokevirtual 65, 3) := dk_182 0 65 (dk_at dksX5_order_8 9 rfl rfl)
theorem dX5_order_195 : decode cX5_order 195 = .ok (.iconst 0, 1) := dk_3 (dk_at dksX5_order_8 12 rfl rfl)
theorem dX5_order_196 : decode cX5_order 196 = .ok (.invokespecial 75, 3) := dk_183 0 75 (dk_at dksX5_order_8 13 rfl rfl)
theorem dX5_order_199 : decode cX5_order 199 = .ok (.areturn, 1) := dk_176 (dk_at dksX5_order_8 16 rfl rfl)
abbrev cX5_seesDigit : ByteArray := prog_7_method_5_code
def yX5_seesDigit : MethodName := ⟨RX5, "seesDigit", "()Z"⟩
def dkwX5_seesDigit_0 : List UInt8 := [42, 180, 0, 23, 154, 0, 17, 42, 182, 0, 51, 184, 0, 55, 153, 0, 7, 4, 167, 0, 4, 3, 172]
abbrev dktX5_seesDigit_0 : List UInt8 := dkwX5_seesDigit_0 ++ []
theorem dksX5_seesDigit_0 : cX5_seesDigit.data.toList.drop 0 = dktX5_seesDigit_0 := by decide +kernel
theorem dX5_seesDigit_0 : decode cX5_seesDigit 0 = .ok (.aload_n 0, 1) := dk_42 (dk_at dksX5_seesDigit_0 0 rfl rfl)
theorem dX5_seesDigit_1 : decode cX5_seesDigit 1 = .ok (.getfield 23, 3) := dk_180 0 23 (dk_at dksX5_seesDigit_0 1 rfl rfl)
theorem dX5_seesDigit_4 : decode cX5_seesDigit 4 = .ok (.ifCond .ne 17, 3) := dk_154 0 17 (dk_at dksX5_seesDigit_0 4 rfl rfl)
theorem dX5_seesDigit_7 : decode cX5_seesDigit 7 = .ok (.aload_n 0, 1) := dk_42 (dk_at dksX5_seesDigit_0 7 rfl rfl)
theorem dX5_seesDigit_8 : decode cX5_seesDigit 8 = .ok (.invokevirtual 51, 3) := dk_182 0 51 (dk_at dksX5_seesDigit_0 8 rfl rfl)
theorem dX5_seesDigit_11 : decode cX5_seesDigit 11 = .ok (.invokestatic 55, 3) := dk_184 0 55 (dk_at dksX5_seesDigit_0 11 rfl rfl)
theorem dX5_seesDigit_14 : decode cX5_seesDigit 14 = .ok (.ifCond .eq 7, 3) := dk_153 0 7 (dk_at dksX5_seesDigit_0 14 rfl rfl)
theorem dX5_seesDigit_17 : decode cX5_seesDigit 17 = .ok (.iconst 1, 1) := dk_4 (dk_at dksX5_seesDigit_0 17 rfl rfl)
theorem dX5_seesDigit_18 : decode cX5_seesDigit 18 = .ok (.goto 4, 3) := dk_167 0 4 (dk_at dksX5_seesDigit_0 18 rfl rfl)
theorem dX5_seesDigit_21 : decode cX5_seesDigit 21 = .ok (.iconst 0, 1) := dk_3 (dk_at dksX5_seesDigit_0 21 rfl rfl)
theorem dX5_seesDigit_22 : decode cX5_seesDigit 22 = .ok (.ireturn, 1) := dk_172 (dk_at dksX5_seesDigit_0 22 rfl rfl)
abbrev cX5_digit : ByteArray := prog_7_method_6_code
def yX5_digit : MethodName := ⟨RX5, "digit", "()I"⟩
def dkwX5_digit_2 : List UInt8 := [172]
abbrev dktX5_digit_2 : List UInt8 := dkwX5_digit_2 ++ []
def dkwX5_digit_1 : List UInt8 := [172, 42, 89, 180, 0, 27, 4, 96, 181, 0, 27, 42, 42, 180, 0, 27, 4, 100, 182, 0, 47, 16, 48, 100]
abbrev dktX5_digit_1 : List UInt8 := dkwX5_digit_1 ++ dktX5_digit_2
def dkwX5_digit_0 : List UInt8 := [42, 42, 182, 0, 61, 154, 0, 7, 4, 167, 0, 4, 3, 181, 0, 23, 42, 180, 0, 23, 153, 0, 5, 3]
abbrev dktX5_digit_0 : List UInt8 := dkwX5_digit_0 ++ dktX5_digit_1
theorem dksX5_digit_0 : cX5_digit.data.toList.drop 0 = dktX5_digit_0 := by decide +kernel
theorem dksX5_digit_1 : cX5_digit.data.toList.drop 24 = dktX5_digit_1 := dk_seg dksX5_digit_0 24 rfl rfl
theorem dksX5_digit_2 : cX5_digit.data.toList.drop 48 = dktX5_digit_2 := dk_seg dksX5_digit_1 24 rfl rfl
theorem dX5_digit_0 : decode cX5_digit 0 = .ok (.aload_n 0, 1) := dk_42 (dk_at dksX5_digit_0 0 rfl rfl)
theorem dX5_digit_1 : decode cX5_digit 1 = .ok (.aload_n 0, 1) := dk_42 (dk_at dksX5_digit_0 1 rfl rfl)
theorem dX5_digit_2 : decode cX5_digit 2 = .ok (.invokevirtual 61, 3) := dk_182 0 61 (dk_at dksX5_digit_0 2 rfl rfl)
theorem dX5_digit_5 : decode cX5_digit 5 = .ok (.ifCond .ne 7, 3) := dk_154 0 7 (dk_at dksX5_digit_0 5 rfl rfl)
theorem dX5_digit_8 : decode cX5_digit 8 = .ok (.iconst 1, 1) := dk_4 (dk_at dksX5_digit_0 8 rfl rfl)
theorem dX5_digit_9 : decode cX5_digit 9 = .ok (.goto 4, 3) := dk_167 0 4 (dk_at dksX5_digit_0 9 rfl rfl)
theorem dX5_digit_12 : decode cX5_digit 12 = .ok (.iconst 0, 1) := dk_3 (dk_at dksX5_digit_0 12 rfl rfl)
theorem dX5_digit_13 : decode cX5_digit 13 = .ok (.putfield 23, 3) := dk_181 0 23 (dk_at dksX5_digit_0 13 rfl rfl)
theorem dX5_digit_16 : decode cX5_digit 16 = .ok (.aload_n 0, 1) := dk_42 (dk_at dksX5_digit_0 16 rfl rfl)
theorem dX5_digit_17 : decode cX5_digit 17 = .ok (.getfield 23, 3) := dk_180 0 23 (dk_at dksX5_digit_0 17 rfl rfl)
theorem dX5_digit_20 : decode cX5_digit 20 = .ok (.ifCond .eq 5, 3) := dk_153 0 5 (dk_at dksX5_digit_0 20 rfl rfl)
theorem dX5_digit_23 : decode cX5_digit 23 = .ok (.iconst 0, 1) := dk_3 (dk_at dksX5_digit_0 23 rfl rfl)
theorem dX5_digit_24 : decode cX5_digit 24 = .ok (.ireturn, 1) := dk_172 (dk_at dksX5_digit_1 0 rfl rfl)
theorem dX5_digit_25 : decode cX5_digit 25 = .ok (.aload_n 0, 1) := dk_42 (dk_at dksX5_digit_1 1 rfl rfl)
theorem dX5_digit_26 : decode cX5_digit 26 = .ok (.dup, 1) := dk_89 (dk_at dksX5_digit_1 2 rfl rfl)
theorem dX5_digit_27 : decode cX5_digit 27 = .ok (.getfield 27, 3) := dk_180 0 27 (dk_at dksX5_digit_1 3 rfl rfl)
theorem dX5_digit_30 : decode cX5_digit 30 = .ok (.iconst 1, 1) := dk_4 (dk_at dksX5_digit_1 6 rfl rfl)
theorem dX5_digit_31 : decode cX5_digit 31 = .ok (.iadd, 1) := dk_96 (dk_at dksX5_digit_1 7 rfl rfl)
theorem dX5_digit_32 : decode cX5_digit 32 = .ok (.putfield 27, 3) := dk_181 0 27 (dk_at dksX5_digit_1 8 rfl rfl)
theorem dX5_digit_35 : decode cX5_digit 35 = .ok (.aload_n 0, 1) := dk_42 (dk_at dksX5_digit_1 11 rfl rfl)
theorem dX5_digit_36 : decode cX5_digit 36 = .ok (.aload_n 0, 1) := dk_42 (dk_at dksX5_digit_1 12 rfl rfl)
theorem dX5_digit_37 : decode cX5_digit 37 = .ok (.getfield 27, 3) := dk_180 0 27 (dk_at dksX5_digit_1 13 rfl rfl)
theorem dX5_digit_40 : decode cX5_digit 40 = .ok (.iconst 1, 1) := dk_4 (dk_at dksX5_digit_1 16 rfl rfl)
theorem dX5_digit_41 : decode cX5_digit 41 = .ok (.isub, 1) := dk_100 (dk_at dksX5_digit_1 17 rfl rfl)
theorem dX5_digit_42 : decode cX5_digit 42 = .ok (.invokevirtual 47, 3) := dk_182 0 47 (dk_at dksX5_digit_1 18 rfl rfl)
theorem dX5_digit_45 : decode cX5_digit 45 = .ok (.bipush 48, 2) := dk_16 48 (dk_at dksX5_digit_1 21 rfl rfl)
theorem dX5_digit_47 : decode cX5_digit 47 = .ok (.isub, 1) := dk_100 (dk_at dksX5_digit_1 23 rfl rfl)
theorem dX5_digit_48 : decode cX5_digit 48 = .ok (.ireturn, 1) := dk_172 (dk_at dksX5_digit_2 0 rfl rfl)
abbrev cX5_load : ByteArray := prog_7_method_8_code
def yX5_load : MethodName := ⟨RX5, "load", "()LEnergyDiscs$Order;"⟩
def dkwX5_load_1 : List UInt8 := [183, 0, 75, 176]
abbrev dktX5_load_1 : List UInt8 := dkwX5_load_1 ++ []
def dkwX5_load_0 : List UInt8 := [42, 182, 0, 65, 60, 42, 16, 61, 182, 0, 43, 187, 0, 68, 89, 18, 70, 27, 42, 182, 0, 72]
abbrev dktX5_load_0 : List UInt8 := dkwX5_load_0 ++ dktX5_load_1
theorem dksX5_load_0 : cX5_load.data.toList.drop 0 = dktX5_load_0 := by decide +kernel
theorem dksX5_load_1 : cX5_load.data.toList.drop 22 = dktX5_load_1 := dk_seg dksX5_load_0 22 rfl rfl
theorem dX5_load_0 : decode cX5_load 0 = .ok (.aload_n 0, 1) := dk_42 (dk_at dksX5_load_0 0 rfl rfl)
theorem dX5_load_1 : decode cX5_load 1 = .ok (.invokevirtual 65, 3) := dk_182 0 65 (dk_at dksX5_load_0 1 rfl rfl)
theorem dX5_load_4 : decode cX5_load 4 = .ok (.istore_n 1, 1) := dk_60 (dk_at dksX5_load_0 4 rfl rfl)
theorem dX5_load_5 : decode cX5_load 5 = .ok (.aload_n 0, 1) := dk_42 (dk_at dksX5_load_0 5 rfl rfl)
theorem dX5_load_6 : decode cX5_load 6 = .ok (.bipush 61, 2) := dk_16 61 (dk_at dksX5_load_0 6 rfl rfl)
theorem dX5_load_8 : decode cX5_load 8 = .ok (.invokevirtual 43, 3) := dk_182 0 43 (dk_at dksX5_load_0 8 rfl rfl)
theorem dX5_load_11 : decode cX5_load 11 = .ok (.new 68, 3) := dk_187 0 68 (dk_at dksX5_load_0 11 rfl rfl)
theorem dX5_load_14 : decode cX5_load 14 = .ok (.dup, 1) := dk_89 (dk_at dksX5_load_0 14 rfl rfl)
theorem dX5_load_15 : decode cX5_load 15 = .ok (.ldc 70, 2) := dk_18 70 (dk_at dksX5_load_0 15 rfl rfl)
theorem dX5_load_17 : decode cX5_load 17 = .ok (.iload_n 1, 1) := dk_27 (dk_at dksX5_load_0 17 rfl rfl)
theorem dX5_load_18 : decode cX5_load 18 = .ok (.aload_n 0, 1) := dk_42 (dk_at dksX5_load_0 18 rfl rfl)
theorem dX5_load_19 : decode cX5_load 19 = .ok (.invokevirtual 72, 3) := dk_182 0 72 (dk_at dksX5_load_0 19 rfl rfl)
theorem dX5_load_22 : decode cX5_load 22 = .ok (.invokespecial 75, 3) := dk_183 0 75 (dk_at dksX5_load_1 0 rfl rfl)
theorem dX5_load_25 : decode cX5_load 25 = .ok (.areturn, 1) := dk_176 (dk_at dksX5_load_1 3 rfl rfl)
abbrev cX5_sign : ByteArray := prog_7_method_4_code
def yX5_sign : MethodName := ⟨RX5, "sign", "(C)V"⟩
def dkwX5_sign_1 : List UInt8 := [42, 89, 180, 0, 27, 42, 180, 0, 23, 153, 0, 7, 3, 167, 0, 4, 4, 96, 181, 0, 27, 177]
abbrev dktX5_sign_1 : List UInt8 := dkwX5_sign_1 ++ []
def dkwX5_sign_0 : List UInt8 := [42, 42, 180, 0, 23, 154, 0, 11, 42, 182, 0, 51, 27, 159, 0, 7, 4, 167, 0, 4, 3, 181, 0, 23]
abbrev dktX5_sign_0 : List UInt8 := dkwX5_sign_0 ++ dktX5_sign_1
theorem dksX5_sign_0 : cX5_sign.data.toList.drop 0 = dktX5_sign_0 := by decide +kernel
theorem dksX5_sign_1 : cX5_sign.data.toList.drop 24 = dktX5_sign_1 := dk_seg dksX5_sign_0 24 rfl rfl
theorem dX5_sign_0 : decode cX5_sign 0 = .ok (.aload_n 0, 1) := dk_42 (dk_at dksX5_sign_0 0 rfl rfl)
theorem dX5_sign_1 : decode cX5_sign 1 = .ok (.aload_n 0, 1) := dk_42 (dk_at dksX5_sign_0 1 rfl rfl)
theorem dX5_sign_2 : decode cX5_sign 2 = .ok (.getfield 23, 3) := dk_180 0 23 (dk_at dksX5_sign_0 2 rfl rfl)
theorem dX5_sign_5 : decode cX5_sign 5 = .ok (.ifCond .ne 11, 3) := dk_154 0 11 (dk_at dksX5_sign_0 5 rfl rfl)
theorem dX5_sign_8 : decode cX5_sign 8 = .ok (.aload_n 0, 1) := dk_42 (dk_at dksX5_sign_0 8 rfl rfl)
theorem dX5_sign_9 : decode cX5_sign 9 = .ok (.invokevirtual 51, 3) := dk_182 0 51 (dk_at dksX5_sign_0 9 rfl rfl)
theorem dX5_sign_12 : decode cX5_sign 12 = .ok (.iload_n 1, 1) := dk_27 (dk_at dksX5_sign_0 12 rfl rfl)
theorem dX5_sign_13 : decode cX5_sign 13 = .ok (.if_icmp .eq 7, 3) := dk_159 0 7 (dk_at dksX5_sign_0 13 rfl rfl)
theorem dX5_sign_16 : decode cX5_sign 16 = .ok (.iconst 1, 1) := dk_4 (dk_at dksX5_sign_0 16 rfl rfl)
theorem dX5_sign_17 : decode cX5_sign 17 = .ok (.goto 4, 3) := dk_167 0 4 (dk_at dksX5_sign_0 17 rfl rfl)
theorem dX5_sign_20 : decode cX5_sign 20 = .ok (.iconst 0, 1) := dk_3 (dk_at dksX5_sign_0 20 rfl rfl)
theorem dX5_sign_21 : decode cX5_sign 21 = .ok (.putfield 23, 3) := dk_181 0 23 (dk_at dksX5_sign_0 21 rfl rfl)
theorem dX5_sign_24 : decode cX5_sign 24 = .ok (.aload_n 0, 1) := dk_42 (dk_at dksX5_sign_1 0 rfl rfl)
theorem dX5_sign_25 : decode cX5_sign 25 = .ok (.dup, 1) := dk_89 (dk_at dksX5_sign_1 1 rfl rfl)
theorem dX5_sign_26 : decode cX5_sign 26 = .ok (.getfield 27, 3) := dk_180 0 27 (dk_at dksX5_sign_1 2 rfl rfl)
theorem dX5_sign_29 : decode cX5_sign 29 = .ok (.aload_n 0, 1) := dk_42 (dk_at dksX5_sign_1 5 rfl rfl)
theorem dX5_sign_30 : decode cX5_sign 30 = .ok (.getfield 23, 3) := dk_180 0 23 (dk_at dksX5_sign_1 6 rfl rfl)
theorem dX5_sign_33 : decode cX5_sign 33 = .ok (.ifCond .eq 7, 3) := dk_153 0 7 (dk_at dksX5_sign_1 9 rfl rfl)
theorem dX5_sign_36 : decode cX5_sign 36 = .ok (.iconst 0, 1) := dk_3 (dk_at dksX5_sign_1 12 rfl rfl)
theorem dX5_sign_37 : decode cX5_sign 37 = .ok (.goto 4, 3) := dk_167 0 4 (dk_at dksX5_sign_1 13 rfl rfl)
theorem dX5_sign_40 : decode cX5_sign 40 = .ok (.iconst 1, 1) := dk_4 (dk_at dksX5_sign_1 16 rfl rfl)
theorem dX5_sign_41 : decode cX5_sign 41 = .ok (.iadd, 1) := dk_96 (dk_at dksX5_sign_1 17 rfl rfl)
theorem dX5_sign_42 : decode cX5_sign 42 = .ok (.putfield 27, 3) := dk_181 0 27 (dk_at dksX5_sign_1 18 rfl rfl)
theorem dX5_sign_45 : decode cX5_sign 45 = .ok (.return_, 1) := dk_177 (dk_at dksX5_sign_1 21 rfl rfl)
abbrev cX5_number : ByteArray := prog_7_method_7_code
def yX5_number : MethodName := ⟨RX5, "number", "()I"⟩
def dkwX5_number_2 : List UInt8 := [27, 158, 0, 14, 42, 182, 0, 61, 153, 0, 7, 4, 167, 0, 4, 3, 181, 0, 23, 27, 172]
abbrev dktX5_number_2 : List UInt8 := dkwX5_number_2 ++ []
def dkwX5_number_1 : List UInt8 := [16, 10, 27, 104, 42, 182, 0, 65, 96, 60, 132, 2, 1, 167, 255, 227, 42, 42, 180, 0, 23, 154, 0, 14]
abbrev dktX5_number_1 : List UInt8 := dkwX5_number_1 ++ dktX5_number_2
def dkwX5_number_0 : List UInt8 := [42, 182, 0, 65, 60, 3, 61, 28, 6, 162, 0, 30, 27, 158, 0, 26, 42, 182, 0, 61, 153, 0, 19]
abbrev dktX5_number_0 : List UInt8 := dkwX5_number_0 ++ dktX5_number_1
theorem dksX5_number_0 : cX5_number.data.toList.drop 0 = dktX5_number_0 := by decide +kernel
theorem dksX5_number_1 : cX5_number.data.toList.drop 23 = dktX5_number_1 := dk_seg dksX5_number_0 23 rfl rfl
theorem dksX5_number_2 : cX5_number.data.toList.drop 47 = dktX5_number_2 := dk_seg dksX5_number_1 24 rfl rfl
theorem dX5_number_0 : decode cX5_number 0 = .ok (.aload_n 0, 1) := dk_42 (dk_at dksX5_number_0 0 rfl rfl)
theorem dX5_number_1 : decode cX5_number 1 = .ok (.invokevirtual 65, 3) := dk_182 0 65 (dk_at dksX5_number_0 1 rfl rfl)
theorem dX5_number_4 : decode cX5_number 4 = .ok (.istore_n 1, 1) := dk_60 (dk_at dksX5_number_0 4 rfl rfl)
theorem dX5_number_5 : decode cX5_number 5 = .ok (.iconst 0, 1) := dk_3 (dk_at dksX5_number_0 5 rfl rfl)
theorem dX5_number_6 : decode cX5_number 6 = .ok (.istore_n 2, 1) := dk_61 (dk_at dksX5_number_0 6 rfl rfl)
theorem dX5_number_7 : decode cX5_number 7 = .ok (.iload_n 2, 1) := dk_28 (dk_at dksX5_number_0 7 rfl rfl)
theorem dX5_number_8 : decode cX5_number 8 = .ok (.iconst 3, 1) := dk_6 (dk_at dksX5_number_0 8 rfl rfl)
theorem dX5_number_9 : decode cX5_number 9 = .ok (.if_icmp .ge 30, 3) := dk_162 0 30 (dk_at dksX5_number_0 9 rfl rfl)
theorem dX5_number_12 : decode cX5_number 12 = .ok (.iload_n 1, 1) := dk_27 (dk_at dksX5_number_0 12 rfl rfl)
theorem dX5_number_13 : decode cX5_number 13 = .ok (.ifCond .le 26, 3) := dk_158 0 26 (dk_at dksX5_number_0 13 rfl rfl)
theorem dX5_number_16 : decode cX5_number 16 = .ok (.aload_n 0, 1) := dk_42 (dk_at dksX5_number_0 16 rfl rfl)
theorem dX5_number_17 : decode cX5_number 17 = .ok (.invokevirtual 61, 3) := dk_182 0 61 (dk_at dksX5_number_0 17 rfl rfl)
theorem dX5_number_20 : decode cX5_number 20 = .ok (.ifCond .eq 19, 3) := dk_153 0 19 (dk_at dksX5_number_0 20 rfl rfl)
theorem dX5_number_23 : decode cX5_number 23 = .ok (.bipush 10, 2) := dk_16 10 (dk_at dksX5_number_1 0 rfl rfl)
theorem dX5_number_25 : decode cX5_number 25 = .ok (.iload_n 1, 1) := dk_27 (dk_at dksX5_number_1 2 rfl rfl)
theorem dX5_number_26 : decode cX5_number 26 = .ok (.imul, 1) := dk_104 (dk_at dksX5_number_1 3 rfl rfl)
theorem dX5_number_27 : decode cX5_number 27 = .ok (.aload_n 0, 1) := dk_42 (dk_at dksX5_number_1 4 rfl rfl)
theorem dX5_number_28 : decode cX5_number 28 = .ok (.invokevirtual 65, 3) := dk_182 0 65 (dk_at dksX5_number_1 5 rfl rfl)
theorem dX5_number_31 : decode cX5_number 31 = .ok (.iadd, 1) := dk_96 (dk_at dksX5_number_1 8 rfl rfl)
theorem dX5_number_32 : decode cX5_number 32 = .ok (.istore_n 1, 1) := dk_60 (dk_at dksX5_number_1 9 rfl rfl)
theorem dX5_number_33 : decode cX5_number 33 = .ok (.iinc 2 1, 3) := dk_132 2 1 (dk_at dksX5_number_1 10 rfl rfl)
theorem dX5_number_36 : decode cX5_number 36 = .ok (.goto (-29), 3) := dk_167 255 227 (dk_at dksX5_number_1 13 rfl rfl)
theorem dX5_number_39 : decode cX5_number 39 = .ok (.aload_n 0, 1) := dk_42 (dk_at dksX5_number_1 16 rfl rfl)
theorem dX5_number_40 : decode cX5_number 40 = .ok (.aload_n 0, 1) := dk_42 (dk_at dksX5_number_1 17 rfl rfl)
theorem dX5_number_41 : decode cX5_number 41 = .ok (.getfield 23, 3) := dk_180 0 23 (dk_at dksX5_number_1 18 rfl rfl)
theorem dX5_number_44 : decode cX5_number 44 = .ok (.ifCond .ne 14, 3) := dk_154 0 14 (dk_at dksX5_number_1 21 rfl rfl)
theorem dX5_number_47 : decode cX5_number 47 = .ok (.iload_n 1, 1) := dk_27 (dk_at dksX5_number_2 0 rfl rfl)
theorem dX5_number_48 : decode cX5_number 48 = .ok (.ifCond .le 14, 3) := dk_158 0 14 (dk_at dksX5_number_2 1 rfl rfl)
theorem dX5_number_51 : decode cX5_number 51 = .ok (.aload_n 0, 1) := dk_42 (dk_at dksX5_number_2 4 rfl rfl)
theorem dX5_number_52 : decode cX5_number 52 = .ok (.invokevirtual 61, 3) := dk_182 0 61 (dk_at dksX5_number_2 5 rfl rfl)
theorem dX5_number_55 : decode cX5_number 55 = .ok (.ifCond .eq 7, 3) := dk_153 0 7 (dk_at dksX5_number_2 8 rfl rfl)
theorem dX5_number_58 : decode cX5_number 58 = .ok (.iconst 1, 1) := dk_4 (dk_at dksX5_number_2 11 rfl rfl)
theorem dX5_number_59 : decode cX5_number 59 = .ok (.goto 4, 3) := dk_167 0 4 (dk_at dksX5_number_2 12 rfl rfl)
theorem dX5_number_62 : decode cX5_number 62 = .ok (.iconst 0, 1) := dk_3 (dk_at dksX5_number_2 15 rfl rfl)
theorem dX5_number_63 : decode cX5_number 63 = .ok (.putfield 23, 3) := dk_181 0 23 (dk_at dksX5_number_2 16 rfl rfl)
theorem dX5_number_66 : decode cX5_number 66 = .ok (.iload_n 1, 1) := dk_27 (dk_at dksX5_number_2 19 rfl rfl)
theorem dX5_number_67 : decode cX5_number 67 = .ok (.ireturn, 1) := dk_172 (dk_at dksX5_number_2 20 rfl rfl)
theorem q95 : (Jvm.Cond.initialized "EnergyDiscs$Reader") ∈ lw_all := lw_g (lw_at lw_m1 23 rfl) rfl
theorem q201 : (Jvm.Cond.fieldLinkNest "EnergyDiscs$Reader" (31 : Nat) "EnergyDiscs" "pad" "Ljava/lang/StringBuilder;" "EnergyDiscs") ∈ lw_tbl := lw_at lw_m1 129 rfl
theorem q390 : (Jvm.Cond.selects "EnergyDiscs$Reader" ({ cls := "java/lang/Object", name := "getClass", desc := "()Ljava/lang/Class;" } : Jvm.MethodName) ({ cls := "java/lang/Object", name := "getClass", desc := "()Ljava/lang/Class;" } : Jvm.MethodName)) ∈ lw_all := lw_g (lw_at lw_m2 78 rfl) rfl
theorem q1006 : (Jvm.Cond.instantiable "EnergyDiscs$Reader" (4 : Nat)) ∈ lw_all := lw_g (lw_at lw_m4 214 rfl) rfl
theorem q1008 : (Jvm.Cond.instanceMethod ({ cls := "EnergyDiscs$Reader", name := "<init>", desc := "(LEnergyDiscs;)V" } : Jvm.MethodName)) ∈ lw_all := lw_g (lw_at lw_m4 216 rfl) rfl
theorem q1009 : (Jvm.Cond.code ({ cls := "EnergyDiscs$Reader", name := "<init>", desc := "(LEnergyDiscs;)V" } : Jvm.MethodName) prog_7_method_1_code (2 : Nat) (Option.none : Option Jvm.ClassFile.FieldType)) ∈ lw_all := lw_g (lw_at lw_m4 217 rfl) rfl
theorem q1010 : (Jvm.Cond.methodLink "EnergyDiscs$Reader" (7 : Nat) ({ cls := "java/lang/Object", name := "<init>", desc := "()V" } : Jvm.MethodName)) ∈ lw_all := lw_g (lw_at lw_m4 218 rfl) rfl
theorem q1011 : (Jvm.Cond.classLink "EnergyDiscs$Reader" (13 : Nat) "java/util/ArrayList") ∈ lw_all := lw_g (lw_at lw_m4 219 rfl) rfl
theorem q1012 : (Jvm.Cond.methodLink "EnergyDiscs$Reader" (15 : Nat) ({ cls := "java/util/ArrayList", name := "<init>", desc := "()V" } : Jvm.MethodName)) ∈ lw_all := lw_g (lw_at lw_m4 220 rfl) rfl
theorem q1013 : (Jvm.Cond.methodLink "EnergyDiscs$Reader" (20 : Nat) ({ cls := "EnergyDiscs$Reader", name := "readOrder", desc := "()V" } : Jvm.MethodName)) ∈ lw_all := lw_g (lw_at lw_m4 221 rfl) rfl
theorem q1014 : (Jvm.Cond.privateMethod ({ cls := "EnergyDiscs$Reader", name := "readOrder", desc := "()V" } : Jvm.MethodName)) ∈ lw_tbl := lw_at lw_m4 222 rfl
theorem q1015 : (Jvm.Cond.instanceMethod ({ cls := "EnergyDiscs$Reader", name := "readOrder", desc := "()V" } : Jvm.MethodName)) ∈ lw_all := lw_g (lw_at lw_m4 223 rfl) rfl
theorem q1016 : (Jvm.Cond.code ({ cls := "EnergyDiscs$Reader", name := "readOrder", desc := "()V" } : Jvm.MethodName) prog_7_method_10_code (2 : Nat) (Option.none : Option Jvm.ClassFile.FieldType)) ∈ lw_all := lw_g (lw_at lw_m4 224 rfl) rfl
theorem q1017 : (Jvm.Cond.stringRef "EnergyDiscs$Reader" (96 : Nat) "") ∈ lw_tbl := lw_at lw_m4 225 rfl
theorem q1018 : (Jvm.Cond.methodLink "EnergyDiscs$Reader" (51 : Nat) ({ cls := "EnergyDiscs$Reader", name := "next", desc := "()C" } : Jvm.MethodName)) ∈ lw_all := lw_g (lw_at lw_m4 226 rfl) rfl
theorem q1019 : (Jvm.Cond.privateMethod ({ cls := "EnergyDiscs$Reader", name := "next", desc := "()C" } : Jvm.MethodName)) ∈ lw_tbl := lw_at lw_m4 227 rfl
theorem q1020 : (Jvm.Cond.instanceMethod ({ cls := "EnergyDiscs$Reader", name := "next", desc := "()C" } : Jvm.MethodName)) ∈ lw_all := lw_g (lw_at lw_m4 228 rfl) rfl
theorem q1021 : (Jvm.Cond.code ({ cls := "EnergyDiscs$Reader", name := "next", desc := "()C" } : Jvm.MethodName) prog_7_method_3_code (1 : Nat) (Option.some Jvm.ClassFile.FieldType.char)) ∈ lw_all := lw_g (lw_at lw_m4 229 rfl) rfl
theorem q1022 : (Jvm.Cond.superclass "EnergyDiscs$Reader" "java/lang/Object") ∈ lw_all := lw_g (lw_at lw_m4 230 rfl) rfl
theorem q1024 : (Jvm.Cond.unhidden "EnergyDiscs$Reader" "at" "(I)C") ∈ lw_tbl := lw_at lw_m4 232 rfl
theorem q1032 : (Jvm.Cond.castable "EnergyDiscs$Reader" "EnergyDiscs$Sign") ∈ lw_tbl := lw_at lw_m5 0 rfl
theorem q1033 : (Jvm.Cond.selects "EnergyDiscs$Reader" ({ cls := "EnergyDiscs$Sign", name := "text", desc := "()Ljava/lang/CharSequence;" } : Jvm.MethodName) ({ cls := "EnergyDiscs$Reader", name := "text", desc := "()Ljava/lang/CharSequence;" } : Jvm.MethodName)) ∈ lw_all := lw_g (lw_at lw_m5 1 rfl) rfl
theorem q1034 : (Jvm.Cond.unhidden "EnergyDiscs$Reader" "text" "()Ljava/lang/CharSequence;") ∈ lw_tbl := lw_at lw_m5 2 rfl
theorem q1035 : (Jvm.Cond.instanceMethod ({ cls := "EnergyDiscs$Reader", name := "text", desc := "()Ljava/lang/CharSequence;" } : Jvm.MethodName)) ∈ lw_all := lw_g (lw_at lw_m5 3 rfl) rfl
theorem q1036 : (Jvm.Cond.publicMethod ({ cls := "EnergyDiscs$Reader", name := "text", desc := "()Ljava/lang/CharSequence;" } : Jvm.MethodName)) ∈ lw_tbl := lw_at lw_m5 4 rfl
theorem q1037 : (Jvm.Cond.code ({ cls := "EnergyDiscs$Reader", name := "text", desc := "()Ljava/lang/CharSequence;" } : Jvm.MethodName) prog_7_method_2_code (1 : Nat) (Option.some (Jvm.ClassFile.FieldType.object "java/lang/CharSequence"))) ∈ lw_all := lw_g (lw_at lw_m5 5 rfl) rfl
theorem q1074 : (Jvm.Cond.methodLink "EnergyDiscs$Reader" (98 : Nat) ({ cls := "EnergyDiscs$Sign", name := "word", desc := "(C)Ljava/lang/String;" } : Jvm.MethodName)) ∈ lw_all := lw_g (lw_at lw_m5 42 rfl) rfl
theorem q1084 : (Jvm.Cond.methodLink "EnergyDiscs$Reader" (102 : Nat) ({ cls := "java/lang/String", name := "isEmpty", desc := "()Z" } : Jvm.MethodName)) ∈ lw_all := lw_g (lw_at lw_m5 52 rfl) rfl
theorem q1088 : (Jvm.Cond.methodLink "EnergyDiscs$Reader" (105 : Nat) ({ cls := "EnergyDiscs$Reader", name := "order", desc := "(Ljava/lang/String;)LEnergyDiscs$Order;" } : Jvm.MethodName)) ∈ lw_all := lw_g (lw_at lw_m5 56 rfl) rfl
theorem q1089 : (Jvm.Cond.privateMethod ({ cls := "EnergyDiscs$Reader", name := "order", desc := "(Ljava/lang/String;)LEnergyDiscs$Order;" } : Jvm.MethodName)) ∈ lw_tbl := lw_at lw_m5 57 rfl
theorem q1090 : (Jvm.Cond.instanceMethod ({ cls := "EnergyDiscs$Reader", name := "order", desc := "(Ljava/lang/String;)LEnergyDiscs$Order;" } : Jvm.MethodName)) ∈ lw_all := lw_g (lw_at lw_m5 58 rfl) rfl
theorem q1091 : (Jvm.Cond.code ({ cls := "EnergyDiscs$Reader", name := "order", desc := "(Ljava/lang/String;)LEnergyDiscs$Order;" } : Jvm.MethodName) prog_7_method_9_code (4 : Nat) (Option.some (Jvm.ClassFile.FieldType.object "EnergyDiscs$Order"))) ∈ lw_all := lw_g (lw_at lw_m5 59 rfl) rfl
theorem q1092 : (Jvm.Cond.methodLink "EnergyDiscs$Reader" (78 : Nat) ({ cls := "java/lang/String", name := "hashCode", desc := "()I" } : Jvm.MethodName)) ∈ lw_all := lw_g (lw_at lw_m5 60 rfl) rfl
theorem q1141 : (Jvm.Cond.stringRef "EnergyDiscs$Reader" (83 : Nat) "meter") ∈ lw_tbl := lw_at lw_m5 109 rfl
theorem q1142 : (Jvm.Cond.methodLink "EnergyDiscs$Reader" (85 : Nat) ({ cls := "java/lang/String", name := "equals", desc := "(Ljava/lang/Object;)Z" } : Jvm.MethodName)) ∈ lw_all := lw_g (lw_at lw_m5 110 rfl) rfl
theorem q1150 : (Jvm.Cond.stringRef "EnergyDiscs$Reader" (70 : Nat) "load") ∈ lw_tbl := lw_at lw_m5 118 rfl
theorem q1151 : (Jvm.Cond.stringRef "EnergyDiscs$Reader" (89 : Nat) "turn") ∈ lw_tbl := lw_at lw_m5 119 rfl
theorem q1152 : (Jvm.Cond.stringRef "EnergyDiscs$Reader" (91 : Nat) "pass") ∈ lw_tbl := lw_at lw_m5 120 rfl
theorem q1153 : (Jvm.Cond.classLink "EnergyDiscs$Reader" (68 : Nat) "EnergyDiscs$Order") ∈ lw_all := lw_g (lw_at lw_m5 121 rfl) rfl
theorem q1155 : (Jvm.Cond.methodLink "EnergyDiscs$Reader" (61 : Nat) ({ cls := "EnergyDiscs$Reader", name := "seesDigit", desc := "()Z" } : Jvm.MethodName)) ∈ lw_all := lw_g (lw_at lw_m5 123 rfl) rfl
theorem q1156 : (Jvm.Cond.privateMethod ({ cls := "EnergyDiscs$Reader", name := "seesDigit", desc := "()Z" } : Jvm.MethodName)) ∈ lw_tbl := lw_at lw_m5 124 rfl
theorem q1157 : (Jvm.Cond.instanceMethod ({ cls := "EnergyDiscs$Reader", name := "seesDigit", desc := "()Z" } : Jvm.MethodName)) ∈ lw_all := lw_g (lw_at lw_m5 125 rfl) rfl
theorem q1158 : (Jvm.Cond.code ({ cls := "EnergyDiscs$Reader", name := "seesDigit", desc := "()Z" } : Jvm.MethodName) prog_7_method_5_code (1 : Nat) (Option.some Jvm.ClassFile.FieldType.boolean)) ∈ lw_all := lw_g (lw_at lw_m5 126 rfl) rfl
theorem q1159 : (Jvm.Cond.methodLink "EnergyDiscs$Reader" (55 : Nat) ({ cls := "EnergyDiscs$Sign", name := "isDigit", desc := "(C)Z" } : Jvm.MethodName)) ∈ lw_all := lw_g (lw_at lw_m5 127 rfl) rfl
theorem q1162 : (Jvm.Cond.methodLink "EnergyDiscs$Reader" (65 : Nat) ({ cls := "EnergyDiscs$Reader", name := "digit", desc := "()I" } : Jvm.MethodName)) ∈ lw_all := lw_g (lw_at lw_m5 130 rfl) rfl
theorem q1163 : (Jvm.Cond.privateMethod ({ cls := "EnergyDiscs$Reader", name := "digit", desc := "()I" } : Jvm.MethodName)) ∈ lw_tbl := lw_at lw_m5 131 rfl
theorem q1164 : (Jvm.Cond.instanceMethod ({ cls := "EnergyDiscs$Reader", name := "digit", desc := "()I" } : Jvm.MethodName)) ∈ lw_all := lw_g (lw_at lw_m5 132 rfl) rfl
theorem q1165 : (Jvm.Cond.code ({ cls := "EnergyDiscs$Reader", name := "digit", desc := "()I" } : Jvm.MethodName) prog_7_method_6_code (1 : Nat) (Option.some Jvm.ClassFile.FieldType.int)) ∈ lw_all := lw_g (lw_at lw_m5 133 rfl) rfl
theorem q1166 : (Jvm.Cond.methodLink "EnergyDiscs$Reader" (75 : Nat) ({ cls := "EnergyDiscs$Order", name := "<init>", desc := "(Ljava/lang/String;II)V" } : Jvm.MethodName)) ∈ lw_all := lw_g (lw_at lw_m5 134 rfl) rfl
theorem q1183 : (Jvm.Cond.methodLink "EnergyDiscs$Reader" (93 : Nat) ({ cls := "EnergyDiscs$Reader", name := "load", desc := "()LEnergyDiscs$Order;" } : Jvm.MethodName)) ∈ lw_all := lw_g (lw_at lw_m5 151 rfl) rfl
theorem q1184 : (Jvm.Cond.privateMethod ({ cls := "EnergyDiscs$Reader", name := "load", desc := "()LEnergyDiscs$Order;" } : Jvm.MethodName)) ∈ lw_tbl := lw_at lw_m5 152 rfl
theorem q1185 : (Jvm.Cond.instanceMethod ({ cls := "EnergyDiscs$Reader", name := "load", desc := "()LEnergyDiscs$Order;" } : Jvm.MethodName)) ∈ lw_all := lw_g (lw_at lw_m5 153 rfl) rfl
theorem q1186 : (Jvm.Cond.code ({ cls := "EnergyDiscs$Reader", name := "load", desc := "()LEnergyDiscs$Order;" } : Jvm.MethodName) prog_7_method_8_code (2 : Nat) (Option.some (Jvm.ClassFile.FieldType.object "EnergyDiscs$Order"))) ∈ lw_all := lw_g (lw_at lw_m5 154 rfl) rfl
theorem q1187 : (Jvm.Cond.methodLink "EnergyDiscs$Reader" (43 : Nat) ({ cls := "EnergyDiscs$Reader", name := "sign", desc := "(C)V" } : Jvm.MethodName)) ∈ lw_all := lw_g (lw_at lw_m5 155 rfl) rfl
theorem q1188 : (Jvm.Cond.privateMethod ({ cls := "EnergyDiscs$Reader", name := "sign", desc := "(C)V" } : Jvm.MethodName)) ∈ lw_tbl := lw_at lw_m5 156 rfl
theorem q1189 : (Jvm.Cond.instanceMethod ({ cls := "EnergyDiscs$Reader", name := "sign", desc := "(C)V" } : Jvm.MethodName)) ∈ lw_all := lw_g (lw_at lw_m5 157 rfl) rfl
theorem q1190 : (Jvm.Cond.code ({ cls := "EnergyDiscs$Reader", name := "sign", desc := "(C)V" } : Jvm.MethodName) prog_7_method_4_code (2 : Nat) (Option.none : Option Jvm.ClassFile.FieldType)) ∈ lw_all := lw_g (lw_at lw_m5 158 rfl) rfl
theorem q1191 : (Jvm.Cond.methodLink "EnergyDiscs$Reader" (72 : Nat) ({ cls := "EnergyDiscs$Reader", name := "number", desc := "()I" } : Jvm.MethodName)) ∈ lw_all := lw_g (lw_at lw_m5 159 rfl) rfl
theorem q1192 : (Jvm.Cond.privateMethod ({ cls := "EnergyDiscs$Reader", name := "number", desc := "()I" } : Jvm.MethodName)) ∈ lw_tbl := lw_at lw_m5 160 rfl
theorem q1193 : (Jvm.Cond.instanceMethod ({ cls := "EnergyDiscs$Reader", name := "number", desc := "()I" } : Jvm.MethodName)) ∈ lw_all := lw_g (lw_at lw_m5 161 rfl) rfl
theorem q1194 : (Jvm.Cond.code ({ cls := "EnergyDiscs$Reader", name := "number", desc := "()I" } : Jvm.MethodName) prog_7_method_7_code (3 : Nat) (Option.some Jvm.ClassFile.FieldType.int)) ∈ lw_all := lw_g (lw_at lw_m5 162 rfl) rfl
theorem q1195 : (Jvm.Cond.interfaceEntry "EnergyDiscs$Reader" (109 : Nat)) ∈ lw_tbl := lw_at lw_m5 163 rfl
theorem q1196 : (Jvm.Cond.methodLink "EnergyDiscs$Reader" (109 : Nat) ({ cls := "java/util/List", name := "add", desc := "(Ljava/lang/Object;)Z" } : Jvm.MethodName)) ∈ lw_all := lw_g (lw_at lw_m5 164 rfl) rfl
theorem q1197 : (Jvm.Cond.methodLink "EnergyDiscs$Reader" (37 : Nat) ({ cls := "java/lang/StringBuilder", name := "length", desc := "()I" } : Jvm.MethodName)) ∈ lw_all := lw_g (lw_at lw_m5 165 rfl) rfl
theorem q1198 : (Jvm.Cond.fieldLink "EnergyDiscs$Reader" (16 : Nat) "EnergyDiscs$Reader" "orders" "Ljava/util/List;") ∈ lw_all := lw_g (lw_at lw_m5 166 rfl) rfl
theorem q1200 : (Jvm.Cond.fieldLink "EnergyDiscs$Reader" (27 : Nat) "EnergyDiscs$Reader" "spot" "I") ∈ lw_all := lw_g (lw_at lw_m5 168 rfl) rfl
theorem q1202 : (Jvm.Cond.fieldLink "EnergyDiscs$Reader" (23 : Nat) "EnergyDiscs$Reader" "isWrong" "Z") ∈ lw_all := lw_g (lw_at lw_m5 170 rfl) rfl
theorem q1204 : (Jvm.Cond.fieldLink "EnergyDiscs$Reader" (1 : Nat) "EnergyDiscs$Reader" "this$0" "LEnergyDiscs;") ∈ lw_all := lw_g (lw_at lw_m5 172 rfl) rfl
theorem q1205 : (Jvm.Cond.laysFinal "EnergyDiscs$Reader" "EnergyDiscs$Reader" "orders" "Ljava/util/List;") ∈ lw_all := lw_g (lw_at lw_m5 173 rfl) rfl
theorem q1206 : (Jvm.Cond.soleField "EnergyDiscs$Reader" "orders") ∈ lw_all := lw_g (lw_at lw_m5 174 rfl) rfl
theorem q1207 : (Jvm.Cond.lays "EnergyDiscs$Reader" "EnergyDiscs$Reader" "spot" "I") ∈ lw_all := lw_g (lw_at lw_m5 175 rfl) rfl
theorem q1208 : (Jvm.Cond.soleField "EnergyDiscs$Reader" "spot") ∈ lw_all := lw_g (lw_at lw_m5 176 rfl) rfl
theorem q1209 : (Jvm.Cond.lays "EnergyDiscs$Reader" "EnergyDiscs$Reader" "isWrong" "Z") ∈ lw_all := lw_g (lw_at lw_m5 177 rfl) rfl
theorem q1210 : (Jvm.Cond.soleField "EnergyDiscs$Reader" "isWrong") ∈ lw_all := lw_g (lw_at lw_m5 178 rfl) rfl
theorem q1211 : (Jvm.Cond.laysFinal "EnergyDiscs$Reader" "EnergyDiscs$Reader" "this$0" "LEnergyDiscs;") ∈ lw_all := lw_g (lw_at lw_m5 179 rfl) rfl
theorem q1212 : (Jvm.Cond.soleField "EnergyDiscs$Reader" "this$0") ∈ lw_all := lw_g (lw_at lw_m5 180 rfl) rfl
theorem q1558 : (Jvm.Cond.castable "EnergyDiscs$Reader" "java/lang/Object") ∈ lw_tbl := lw_at lw_m7 46 rfl
theorem in_X5 : ∀ w ∈ wsX50, w ∈ lw_all := lw_in wsX50 [1205, 1207, 1209, 1211] (by decide +kernel) (by decide +kernel)
/-! EnergyDiscs$Sign -/
set_option maxRecDepth 100000
def RX6 : String := "EnergyDiscs$Sign"
abbrev cX6_at : ByteArray := prog_8_method_2_code
def yX6_at : MethodName := ⟨RX6, "at", "(I)C"⟩
def dkwX6_at_1 : List UInt8 := [185, 0, 13, 2, 0, 167, 0, 4, 3, 172]
abbrev dktX6_at_1 : List UInt8 := dkwX6_at_1 ++ []
def dkwX6_at_0 : List UInt8 := [27, 42, 185, 0, 1, 1, 0, 185, 0, 7, 1, 0, 162, 0, 18, 42, 185, 0, 1, 1, 0, 27]
abbrev dktX6_at_0 : List UInt8 := dkwX6_at_0 ++ dktX6_at_1
theorem dksX6_at_0 : cX6_at.data.toList.drop 0 = dktX6_at_0 := by decide +kernel
theorem dksX6_at_1 : cX6_at.data.toList.drop 22 = dktX6_at_1 := dk_seg dksX6_at_0 22 rfl rfl
theorem dX6_at_0 : decode cX6_at 0 = .ok (.iload_n 1, 1) := dk_27 (dk_at dksX6_at_0 0 rfl rfl)
theorem dX6_at_1 : decode cX6_at 1 = .ok (.aload_n 0, 1) := dk_42 (dk_at dksX6_at_0 1 rfl rfl)
theorem dX6_at_2 : decode cX6_at 2 = .ok (.invokeinterface 1 1, 5) := by decide +kernel
theorem dX6_at_7 : decode cX6_at 7 = .ok (.invokeinterface 7 1, 5) := by decide +kernel
theorem dX6_at_12 : decode cX6_at 12 = .ok (.if_icmp .ge 18, 3) := dk_162 0 18 (dk_at dksX6_at_0 12 rfl rfl)
theorem dX6_at_15 : decode cX6_at 15 = .ok (.aload_n 0, 1) := dk_42 (dk_at dksX6_at_0 15 rfl rfl)
theorem dX6_at_16 : decode cX6_at 16 = .ok (.invokeinterface 1 1, 5) := by decide +kernel
theorem dX6_at_21 : decode cX6_at 21 = .ok (.iload_n 1, 1) := dk_27 (dk_at dksX6_at_0 21 rfl rfl)
theorem dX6_at_22 : decode cX6_at 22 = .ok (.invokeinterface 13 2, 5) := by decide +kernel
theorem dX6_at_27 : decode cX6_at 27 = .ok (.goto 4, 3) := dk_167 0 4 (dk_at dksX6_at_1 5 rfl rfl)
theorem dX6_at_30 : decode cX6_at 30 = .ok (.iconst 0, 1) := dk_3 (dk_at dksX6_at_1 8 rfl rfl)
theorem dX6_at_31 : decode cX6_at 31 = .ok (.ireturn, 1) := dk_172 (dk_at dksX6_at_1 9 rfl rfl)
abbrev cX6_word : ByteArray := prog_8_method_4_code
def yX6_word : MethodName := ⟨RX6, "word", "(C)Ljava/lang/String;"⟩
def dkwX6_word_3 : List UInt8 := [167, 0, 10, 18, 27, 167, 0, 5, 18, 29, 176]
abbrev dktX6_word_3 : List UInt8 := dkwX6_word_3 ++ []
def dkwX6_word_2 : List UInt8 := [18, 17, 167, 0, 30, 18, 19, 167, 0, 25, 18, 21, 167, 0, 20, 18, 23, 167, 0, 15, 18, 25]
abbrev dktX6_word_2 : List UInt8 := dkwX6_word_2 ++ dktX6_word_3
def dkwX6_word_1 : List UInt8 := [171, 0, 0, 0, 0, 0, 89, 0, 0, 0, 6, 0, 0, 0, 98, 0, 0, 0, 79, 0, 0, 0, 108, 0, 0, 0, 64, 0, 0, 0, 109, 0, 0, 0, 59, 0, 0, 0, 115, 0, 0, 0, 69, 0, 0, 0, 116, 0, 0, 0, 74, 0, 0, 0, 118, 0, 0, 0, 84]
abbrev dktX6_word_1 : List UInt8 := dkwX6_word_1 ++ dktX6_word_2
def dkwX6_word_0 : List UInt8 := [26]
abbrev dktX6_word_0 : List UInt8 := dkwX6_word_0 ++ dktX6_word_1
theorem dksX6_word_0 : cX6_word.data.toList.drop 0 = dktX6_word_0 := by decide +kernel
theorem dksX6_word_1 : cX6_word.data.toList.drop 1 = dktX6_word_1 := dk_seg dksX6_word_0 1 rfl rfl
theorem dksX6_word_2 : cX6_word.data.toList.drop 60 = dktX6_word_2 := dk_seg dksX6_word_1 59 rfl rfl
theorem dksX6_word_3 : cX6_word.data.toList.drop 82 = dktX6_word_3 := dk_seg dksX6_word_2 22 rfl rfl
theorem dX6_word_0 : decode cX6_word 0 = .ok (.iload_n 0, 1) := dk_26 (dk_at dksX6_word_0 0 rfl rfl)
theorem dX6_word_1 : decode cX6_word 1 = .ok (.lookupswitch 89 #[(98, 79), (108, 64), (109, 59), (115, 69), (116, 74), (118, 84)], 59) := by decide +kernel
theorem dX6_word_60 : decode cX6_word 60 = .ok (.ldc 17, 2) := dk_18 17 (dk_at dksX6_word_2 0 rfl rfl)
theorem dX6_word_62 : decode cX6_word 62 = .ok (.goto 30, 3) := dk_167 0 30 (dk_at dksX6_word_2 2 rfl rfl)
theorem dX6_word_65 : decode cX6_word 65 = .ok (.ldc 19, 2) := dk_18 19 (dk_at dksX6_word_2 5 rfl rfl)
theorem dX6_word_67 : decode cX6_word 67 = .ok (.goto 25, 3) := dk_167 0 25 (dk_at dksX6_word_2 7 rfl rfl)
theorem dX6_word_70 : decode cX6_word 70 = .ok (.ldc 21, 2) := dk_18 21 (dk_at dksX6_word_2 10 rfl rfl)
theorem dX6_word_72 : decode cX6_word 72 = .ok (.goto 20, 3) := dk_167 0 20 (dk_at dksX6_word_2 12 rfl rfl)
theorem dX6_word_75 : decode cX6_word 75 = .ok (.ldc 23, 2) := dk_18 23 (dk_at dksX6_word_2 15 rfl rfl)
theorem dX6_word_77 : decode cX6_word 77 = .ok (.goto 15, 3) := dk_167 0 15 (dk_at dksX6_word_2 17 rfl rfl)
theorem dX6_word_80 : decode cX6_word 80 = .ok (.ldc 25, 2) := dk_18 25 (dk_at dksX6_word_2 20 rfl rfl)
theorem dX6_word_82 : decode cX6_word 82 = .ok (.goto 10, 3) := dk_167 0 10 (dk_at dksX6_word_3 0 rfl rfl)
theorem dX6_word_85 : decode cX6_word 85 = .ok (.ldc 27, 2) := dk_18 27 (dk_at dksX6_word_3 3 rfl rfl)
theorem dX6_word_87 : decode cX6_word 87 = .ok (.goto 5, 3) := dk_167 0 5 (dk_at dksX6_word_3 5 rfl rfl)
theorem dX6_word_90 : decode cX6_word 90 = .ok (.ldc 29, 2) := dk_18 29 (dk_at dksX6_word_3 8 rfl rfl)
theorem dX6_word_92 : decode cX6_word 92 = .ok (.areturn, 1) := dk_176 (dk_at dksX6_word_3 10 rfl rfl)
abbrev cX6_isDigit : ByteArray := prog_8_method_3_code
def yX6_isDigit : MethodName := ⟨RX6, "isDigit", "(C)Z"⟩
def dkwX6_isDigit_0 : List UInt8 := [26, 16, 48, 161, 0, 13, 26, 16, 57, 163, 0, 7, 4, 167, 0, 4, 3, 172]
abbrev dktX6_isDigit_0 : List UInt8 := dkwX6_isDigit_0 ++ []
theorem dksX6_isDigit_0 : cX6_isDigit.data.toList.drop 0 = dktX6_isDigit_0 := by decide +kernel
theorem dX6_isDigit_0 : decode cX6_isDigit 0 = .ok (.iload_n 0, 1) := dk_26 (dk_at dksX6_isDigit_0 0 rfl rfl)
theorem dX6_isDigit_1 : decode cX6_isDigit 1 = .ok (.bipush 48, 2) := dk_16 48 (dk_at dksX6_isDigit_0 1 rfl rfl)
theorem dX6_isDigit_3 : decode cX6_isDigit 3 = .ok (.if_icmp .lt 13, 3) := dk_161 0 13 (dk_at dksX6_isDigit_0 3 rfl rfl)
theorem dX6_isDigit_6 : decode cX6_isDigit 6 = .ok (.iload_n 0, 1) := dk_26 (dk_at dksX6_isDigit_0 6 rfl rfl)
theorem dX6_isDigit_7 : decode cX6_isDigit 7 = .ok (.bipush 57, 2) := dk_16 57 (dk_at dksX6_isDigit_0 7 rfl rfl)
theorem dX6_isDigit_9 : decode cX6_isDigit 9 = .ok (.if_icmp .gt 7, 3) := dk_163 0 7 (dk_at dksX6_isDigit_0 9 rfl rfl)
theorem dX6_isDigit_12 : decode cX6_isDigit 12 = .ok (.iconst 1, 1) := dk_4 (dk_at dksX6_isDigit_0 12 rfl rfl)
theorem dX6_isDigit_13 : decode cX6_isDigit 13 = .ok (.goto 4, 3) := dk_167 0 4 (dk_at dksX6_isDigit_0 13 rfl rfl)
theorem dX6_isDigit_16 : decode cX6_isDigit 16 = .ok (.iconst 0, 1) := dk_3 (dk_at dksX6_isDigit_0 16 rfl rfl)
theorem dX6_isDigit_17 : decode cX6_isDigit 17 = .ok (.ireturn, 1) := dk_172 (dk_at dksX6_isDigit_0 17 rfl rfl)
theorem q96 : (Jvm.Cond.initialized "EnergyDiscs$Sign") ∈ lw_all := lw_g (lw_at lw_m1 24 rfl) rfl
theorem q1023 : (Jvm.Cond.declares ({ cls := "EnergyDiscs$Sign", name := "at", desc := "(I)C" } : Jvm.MethodName)) ∈ lw_tbl := lw_at lw_m4 231 rfl
theorem q1025 : (Jvm.Cond.instanceMethod ({ cls := "EnergyDiscs$Sign", name := "at", desc := "(I)C" } : Jvm.MethodName)) ∈ lw_all := lw_g (lw_at lw_m4 233 rfl) rfl
theorem q1026 : (Jvm.Cond.publicMethod ({ cls := "EnergyDiscs$Sign", name := "at", desc := "(I)C" } : Jvm.MethodName)) ∈ lw_tbl := lw_at lw_m4 234 rfl
theorem q1027 : (Jvm.Cond.code ({ cls := "EnergyDiscs$Sign", name := "at", desc := "(I)C" } : Jvm.MethodName) prog_8_method_2_code (2 : Nat) (Option.some Jvm.ClassFile.FieldType.char)) ∈ lw_all := lw_g (lw_at lw_m4 235 rfl) rfl
theorem q1028 : (Jvm.Cond.interfaceEntry "EnergyDiscs$Sign" (1 : Nat)) ∈ lw_tbl := lw_at lw_m4 236 rfl
theorem q1029 : (Jvm.Cond.methodLink "EnergyDiscs$Sign" (1 : Nat) ({ cls := "EnergyDiscs$Sign", name := "text", desc := "()Ljava/lang/CharSequence;" } : Jvm.MethodName)) ∈ lw_all := lw_g (lw_at lw_m4 237 rfl) rfl
theorem q1030 : (Jvm.Cond.interfaceMethod "EnergyDiscs$Sign" "EnergyDiscs$Sign" "text" "()Ljava/lang/CharSequence;") ∈ lw_tbl := lw_at lw_m4 238 rfl
theorem q1031 : (Jvm.Cond.declares ({ cls := "EnergyDiscs$Sign", name := "text", desc := "()Ljava/lang/CharSequence;" } : Jvm.MethodName)) ∈ lw_tbl := lw_at lw_m4 239 rfl
theorem q1038 : (Jvm.Cond.interfaceEntry "EnergyDiscs$Sign" (7 : Nat)) ∈ lw_tbl := lw_at lw_m5 6 rfl
theorem q1039 : (Jvm.Cond.methodLink "EnergyDiscs$Sign" (7 : Nat) ({ cls := "java/lang/CharSequence", name := "length", desc := "()I" } : Jvm.MethodName)) ∈ lw_all := lw_g (lw_at lw_m5 7 rfl) rfl
theorem q1050 : (Jvm.Cond.interfaceEntry "EnergyDiscs$Sign" (13 : Nat)) ∈ lw_tbl := lw_at lw_m5 18 rfl
theorem q1051 : (Jvm.Cond.methodLink "EnergyDiscs$Sign" (13 : Nat) ({ cls := "java/lang/CharSequence", name := "charAt", desc := "(I)C" } : Jvm.MethodName)) ∈ lw_all := lw_g (lw_at lw_m5 19 rfl) rfl
theorem q1075 : (Jvm.Cond.static ({ cls := "EnergyDiscs$Sign", name := "word", desc := "(C)Ljava/lang/String;" } : Jvm.MethodName)) ∈ lw_all := lw_g (lw_at lw_m5 43 rfl) rfl
theorem q1076 : (Jvm.Cond.code ({ cls := "EnergyDiscs$Sign", name := "word", desc := "(C)Ljava/lang/String;" } : Jvm.MethodName) prog_8_method_4_code (1 : Nat) (Option.some (Jvm.ClassFile.FieldType.object "java/lang/String"))) ∈ lw_all := lw_g (lw_at lw_m5 44 rfl) rfl
theorem q1077 : (Jvm.Cond.stringRef "EnergyDiscs$Sign" (17 : Nat) "meter") ∈ lw_tbl := lw_at lw_m5 45 rfl
theorem q1078 : (Jvm.Cond.stringRef "EnergyDiscs$Sign" (19 : Nat) "load") ∈ lw_tbl := lw_at lw_m5 46 rfl
theorem q1079 : (Jvm.Cond.stringRef "EnergyDiscs$Sign" (21 : Nat) "turn") ∈ lw_tbl := lw_at lw_m5 47 rfl
theorem q1080 : (Jvm.Cond.stringRef "EnergyDiscs$Sign" (23 : Nat) "pass") ∈ lw_tbl := lw_at lw_m5 48 rfl
theorem q1081 : (Jvm.Cond.stringRef "EnergyDiscs$Sign" (25 : Nat) "tamper") ∈ lw_tbl := lw_at lw_m5 49 rfl
theorem q1082 : (Jvm.Cond.stringRef "EnergyDiscs$Sign" (27 : Nat) "visit") ∈ lw_tbl := lw_at lw_m5 50 rfl
theorem q1083 : (Jvm.Cond.stringRef "EnergyDiscs$Sign" (29 : Nat) "") ∈ lw_tbl := lw_at lw_m5 51 rfl
theorem q1160 : (Jvm.Cond.static ({ cls := "EnergyDiscs$Sign", name := "isDigit", desc := "(C)Z" } : Jvm.MethodName)) ∈ lw_all := lw_g (lw_at lw_m5 128 rfl) rfl
theorem q1161 : (Jvm.Cond.code ({ cls := "EnergyDiscs$Sign", name := "isDigit", desc := "(C)Z" } : Jvm.MethodName) prog_8_method_3_code (1 : Nat) (Option.some Jvm.ClassFile.FieldType.boolean)) ∈ lw_all := lw_g (lw_at lw_m5 129 rfl) rfl
/-! EnergyDiscs$Order -/
set_option maxRecDepth 100000
def RX7 : String := "EnergyDiscs$Order"
def TX7 : u_T := fun k => match k with
  | 0 => ("EnergyDiscs$Order", "word", "Ljava/lang/String;", true)
  | 1 => ("EnergyDiscs$Order", "first", "I", true)
  | _ => ("EnergyDiscs$Order", "second", "I", true)
def tyX7 : Nat → FieldType := fun k => match k with
  | 0 => .object "java/lang/String"
  | 1 => .int
  | _ => .int
abbrev wsX70 : List Cond := u_ws RX7 TX7 3
theorem nmX7 : ∀ a, a < 3 → ∀ b, b < 3 → a ≠ b → (TX7 a).2.1 ≠ (TX7 b).2.1 := by decide +kernel
theorem tyX7_ok : ∀ k, k < 3 → parseFieldDescriptor (TX7 k).2.2.1 = some (tyX7 k) := by decide +kernel
abbrev cX7_init : ByteArray := prog_6_method_1_code
def yX7_init : MethodName := ⟨RX7, "<init>", "(Ljava/lang/String;II)V"⟩
def dkwX7_init_0 : List UInt8 := [42, 183, 0, 1, 42, 43, 181, 0, 7, 42, 28, 181, 0, 13, 42, 29, 181, 0, 17, 177]
abbrev dktX7_init_0 : List UInt8 := dkwX7_init_0 ++ []
theorem dksX7_init_0 : cX7_init.data.toList.drop 0 = dktX7_init_0 := by decide +kernel
theorem dX7_init_0 : decode cX7_init 0 = .ok (.aload_n 0, 1) := dk_42 (dk_at dksX7_init_0 0 rfl rfl)
theorem dX7_init_1 : decode cX7_init 1 = .ok (.invokespecial 1, 3) := dk_183 0 1 (dk_at dksX7_init_0 1 rfl rfl)
theorem dX7_init_4 : decode cX7_init 4 = .ok (.aload_n 0, 1) := dk_42 (dk_at dksX7_init_0 4 rfl rfl)
theorem dX7_init_5 : decode cX7_init 5 = .ok (.aload_n 1, 1) := dk_43 (dk_at dksX7_init_0 5 rfl rfl)
theorem dX7_init_6 : decode cX7_init 6 = .ok (.putfield 7, 3) := dk_181 0 7 (dk_at dksX7_init_0 6 rfl rfl)
theorem dX7_init_9 : decode cX7_init 9 = .ok (.aload_n 0, 1) := dk_42 (dk_at dksX7_init_0 9 rfl rfl)
theorem dX7_init_10 : decode cX7_init 10 = .ok (.iload_n 2, 1) := dk_28 (dk_at dksX7_init_0 10 rfl rfl)
theorem dX7_init_11 : decode cX7_init 11 = .ok (.putfield 13, 3) := dk_181 0 13 (dk_at dksX7_init_0 11 rfl rfl)
theorem dX7_init_14 : decode cX7_init 14 = .ok (.aload_n 0, 1) := dk_42 (dk_at dksX7_init_0 14 rfl rfl)
theorem dX7_init_15 : decode cX7_init 15 = .ok (.iload_n 3, 1) := dk_29 (dk_at dksX7_init_0 15 rfl rfl)
theorem dX7_init_16 : decode cX7_init 16 = .ok (.putfield 17, 3) := dk_181 0 17 (dk_at dksX7_init_0 16 rfl rfl)
theorem dX7_init_19 : decode cX7_init 19 = .ok (.return_, 1) := dk_177 (dk_at dksX7_init_0 19 rfl rfl)
theorem q97 : (Jvm.Cond.initialized "EnergyDiscs$Order") ∈ lw_all := lw_g (lw_at lw_m1 25 rfl) rfl
theorem q389 : (Jvm.Cond.selects "EnergyDiscs$Order" ({ cls := "java/lang/Object", name := "getClass", desc := "()Ljava/lang/Class;" } : Jvm.MethodName) ({ cls := "java/lang/Object", name := "getClass", desc := "()Ljava/lang/Class;" } : Jvm.MethodName)) ∈ lw_all := lw_g (lw_at lw_m2 77 rfl) rfl
theorem q1154 : (Jvm.Cond.instantiable "EnergyDiscs$Order" (3 : Nat)) ∈ lw_all := lw_g (lw_at lw_m5 122 rfl) rfl
theorem q1167 : (Jvm.Cond.instanceMethod ({ cls := "EnergyDiscs$Order", name := "<init>", desc := "(Ljava/lang/String;II)V" } : Jvm.MethodName)) ∈ lw_all := lw_g (lw_at lw_m5 135 rfl) rfl
theorem q1168 : (Jvm.Cond.code ({ cls := "EnergyDiscs$Order", name := "<init>", desc := "(Ljava/lang/String;II)V" } : Jvm.MethodName) prog_6_method_1_code (4 : Nat) (Option.none : Option Jvm.ClassFile.FieldType)) ∈ lw_all := lw_g (lw_at lw_m5 136 rfl) rfl
theorem q1169 : (Jvm.Cond.methodLink "EnergyDiscs$Order" (1 : Nat) ({ cls := "java/lang/Object", name := "<init>", desc := "()V" } : Jvm.MethodName)) ∈ lw_all := lw_g (lw_at lw_m5 137 rfl) rfl
theorem q1170 : (Jvm.Cond.fieldLink "EnergyDiscs$Order" (7 : Nat) "EnergyDiscs$Order" "word" "Ljava/lang/String;") ∈ lw_all := lw_g (lw_at lw_m5 138 rfl) rfl
theorem q1172 : (Jvm.Cond.fieldLink "EnergyDiscs$Order" (13 : Nat) "EnergyDiscs$Order" "first" "I") ∈ lw_all := lw_g (lw_at lw_m5 140 rfl) rfl
theorem q1174 : (Jvm.Cond.fieldLink "EnergyDiscs$Order" (17 : Nat) "EnergyDiscs$Order" "second" "I") ∈ lw_all := lw_g (lw_at lw_m5 142 rfl) rfl
theorem q1176 : (Jvm.Cond.laysFinal "EnergyDiscs$Order" "EnergyDiscs$Order" "word" "Ljava/lang/String;") ∈ lw_all := lw_g (lw_at lw_m5 144 rfl) rfl
theorem q1177 : (Jvm.Cond.soleField "EnergyDiscs$Order" "word") ∈ lw_all := lw_g (lw_at lw_m5 145 rfl) rfl
theorem q1178 : (Jvm.Cond.laysFinal "EnergyDiscs$Order" "EnergyDiscs$Order" "first" "I") ∈ lw_all := lw_g (lw_at lw_m5 146 rfl) rfl
theorem q1179 : (Jvm.Cond.soleField "EnergyDiscs$Order" "first") ∈ lw_all := lw_g (lw_at lw_m5 147 rfl) rfl
theorem q1180 : (Jvm.Cond.laysFinal "EnergyDiscs$Order" "EnergyDiscs$Order" "second" "I") ∈ lw_all := lw_g (lw_at lw_m5 148 rfl) rfl
theorem q1181 : (Jvm.Cond.soleField "EnergyDiscs$Order" "second") ∈ lw_all := lw_g (lw_at lw_m5 149 rfl) rfl
theorem q1182 : (Jvm.Cond.superclass "EnergyDiscs$Order" "java/lang/Object") ∈ lw_all := lw_g (lw_at lw_m5 150 rfl) rfl
theorem q1560 : (Jvm.Cond.castable "EnergyDiscs$Order" "java/lang/Object") ∈ lw_tbl := lw_at lw_m7 48 rfl
theorem in_X7 : ∀ w ∈ wsX70, w ∈ lw_all := lw_in wsX70 [1176, 1178, 1180] (by decide +kernel) (by decide +kernel)
