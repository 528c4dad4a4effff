/-! TankField -/
set_option maxRecDepth 100000
def RX0 : String := "TankField"
def TX0 : u_T := fun k => match k with
  | 0 => ("TankField", "tanks", "[LTankField$Tank;", true)
  | 1 => ("TankField", "tankMany", "I", false)
  | 2 => ("TankField", "clockMany", "I", false)
  | 3 => ("TankField", "downMany", "I", false)
  | 4 => ("TankField", "trace", "I", false)
  | 5 => ("TankField", "hits", "[LTankField$Plain;", true)
  | 6 => ("TankField", "hitMany", "I", false)
  | 7 => ("TankField", "rules", "[I", true)
  | 8 => ("TankField", "latest", "LTankField$Building;", false)
  | 9 => ("TankField", "ahead", "LTankField$Building;", false)
  | 10 => ("TankField", "buildings", "I", false)
  | 11 => ("TankField", "group", "[I", true)
  | 12 => ("TankField", "memberOf", "[I", true)
  | 13 => ("TankField", "fault", "I", false)
  | _ => ("TankField", "sheets", "[LTankField$Sheet;", true)
def tyX0 : Nat → FieldType := fun k => match k with
  | 0 => .array (.object "TankField$Tank")
  | 1 => .int
  | 2 => .int
  | 3 => .int
  | 4 => .int
  | 5 => .array (.object "TankField$Plain")
  | 6 => .int
  | 7 => .array .int
  | 8 => .object "TankField$Building"
  | 9 => .object "TankField$Building"
  | 10 => .int
  | 11 => .array .int
  | 12 => .array .int
  | 13 => .int
  | _ => .array (.object "TankField$Sheet")
abbrev wsX00 : List Cond := u_ws RX0 TX0 15
set_option maxRecDepth 100000 in
theorem nmX0 : ∀ a, a < 15 → ∀ b, b < 15 → a ≠ b → (TX0 a).2.1 ≠ (TX0 b).2.1 := by decide +kernel
set_option maxRecDepth 100000 in
theorem tyX0_ok : ∀ k, k < 15 → parseFieldDescriptor (TX0 k).2.2.1 = some (tyX0 k) := by decide +kernel
abbrev cX0_init : ByteArray := prog_1_method_2_code
def yX0_init : MethodName := ⟨RX0, "<init>", "()V"⟩
def dkwX0_init_4 : List UInt8 := [16, 10, 79, 177]
abbrev dktX0_init_4 : List UInt8 := dkwX0_init_4 ++ []
def dkwX0_init_3 : List UInt8 := [16, 100, 79, 42, 180, 0, 23, 4, 16, 60, 79, 42, 180, 0, 23, 5, 6, 79, 42, 180, 0, 23, 6]
abbrev dktX0_init_3 : List UInt8 := dkwX0_init_3 ++ dktX0_init_4
def dkwX0_init_2 : List UInt8 := [181, 0, 34, 42, 16, 30, 188, 10, 181, 0, 37, 42, 7, 189, 0, 40, 181, 0, 42, 42, 180, 0, 23, 3]
abbrev dktX0_init_2 : List UInt8 := dkwX0_init_2 ++ dktX0_init_3
def dkwX0_init_1 : List UInt8 := [7, 188, 10, 181, 0, 23, 42, 187, 0, 27, 89, 183, 0, 29, 181, 0, 30, 42, 17, 0, 240, 188, 10]
abbrev dktX0_init_1 : List UInt8 := dkwX0_init_1 ++ dktX0_init_2
def dkwX0_init_0 : List UInt8 := [42, 183, 0, 3, 42, 16, 30, 189, 0, 11, 181, 0, 13, 42, 17, 0, 240, 189, 0, 17, 181, 0, 19, 42]
abbrev dktX0_init_0 : List UInt8 := dkwX0_init_0 ++ dktX0_init_1
theorem dksX0_init_0 : cX0_init.data.toList.drop 0 = dktX0_init_0 := by decide +kernel
theorem dksX0_init_1 : cX0_init.data.toList.drop 24 = dktX0_init_1 := dk_seg dksX0_init_0 24 rfl rfl
theorem dksX0_init_2 : cX0_init.data.toList.drop 47 = dktX0_init_2 := dk_seg dksX0_init_1 23 rfl rfl
theorem dksX0_init_3 : cX0_init.data.toList.drop 71 = dktX0_init_3 := dk_seg dksX0_init_2 24 rfl rfl
theorem dksX0_init_4 : cX0_init.data.toList.drop 94 = dktX0_init_4 := dk_seg dksX0_init_3 23 rfl rfl
theorem dX0_init_0 : decode cX0_init 0 = .ok (.aload_n 0, 1) := dk_42 (dk_at dksX0_init_0 0 rfl rfl)
theorem dX0_init_1 : decode cX0_init 1 = .ok (.invokespecial 3, 3) := dk_183 0 3 (dk_at dksX0_init_0 1 rfl rfl)
theorem dX0_init_4 : decode cX0_init 4 = .ok (.aload_n 0, 1) := dk_42 (dk_at dksX0_init_0 4 rfl rfl)
theorem dX0_init_5 : decode cX0_init 5 = .ok (.bipush 30, 2) := dk_16 30 (dk_at dksX0_init_0 5 rfl rfl)
theorem dX0_init_7 : decode cX0_init 7 = .ok (.anewarray 11, 3) := dk_189 0 11 (dk_at dksX0_init_0 7 rfl rfl)
theorem dX0_init_10 : decode cX0_init 10 = .ok (.putfield 13, 3) := dk_181 0 13 (dk_at dksX0_init_0 10 rfl rfl)
theorem dX0_init_13 : decode cX0_init 13 = .ok (.aload_n 0, 1) := dk_42 (dk_at dksX0_init_0 13 rfl rfl)
theorem dX0_init_14 : decode cX0_init 14 = .ok (.sipush 240, 3) := dk_17 0 240 (dk_at dksX0_init_0 14 rfl rfl)
theorem dX0_init_17 : decode cX0_init 17 = .ok (.anewarray 17, 3) := dk_189 0 17 (dk_at dksX0_init_0 17 rfl rfl)
theorem dX0_init_20 : decode cX0_init 20 = .ok (.putfield 19, 3) := dk_181 0 19 (dk_at dksX0_init_0 20 rfl rfl)
theorem dX0_init_23 : decode cX0_init 23 = .ok (.aload_n 0, 1) := dk_42 (dk_at dksX0_init_0 23 rfl rfl)
theorem dX0_init_24 : decode cX0_init 24 = .ok (.iconst 4, 1) := dk_7 (dk_at dksX0_init_1 0 rfl rfl)
theorem dX0_init_25 : decode cX0_init 25 = .ok (.newarray .int, 2) := dk_188_10 (dk_at dksX0_init_1 1 rfl rfl)
theorem dX0_init_27 : decode cX0_init 27 = .ok (.putfield 23, 3) := dk_181 0 23 (dk_at dksX0_init_1 3 rfl rfl)
theorem dX0_init_30 : decode cX0_init 30 = .ok (.aload_n 0, 1) := dk_42 (dk_at dksX0_init_1 6 rfl rfl)
theorem dX0_init_31 : decode cX0_init 31 = .ok (.new 27, 3) := dk_187 0 27 (dk_at dksX0_init_1 7 rfl rfl)
theorem dX0_init_34 : decode cX0_init 34 = .ok (.dup, 1) := dk_89 (dk_at dksX0_init_1 10 rfl rfl)
theorem dX0_init_35 : decode cX0_init 35 = .ok (.invokespecial 29, 3) := dk_183 0 29 (dk_at dksX0_init_1 11 rfl rfl)
theorem dX0_init_38 : decode cX0_init 38 = .ok (.putfield 30, 3) := dk_181 0 30 (dk_at dksX0_init_1 14 rfl rfl)
theorem dX0_init_41 : decode cX0_init 41 = .ok (.aload_n 0, 1) := dk_42 (dk_at dksX0_init_1 17 rfl rfl)
theorem dX0_init_42 : decode cX0_init 42 = .ok (.sipush 240, 3) := dk_17 0 240 (dk_at dksX0_init_1 18 rfl rfl)
theorem dX0_init_45 : decode cX0_init 45 = .ok (.newarray .int, 2) := dk_188_10 (dk_at dksX0_init_1 21 rfl rfl)
theorem dX0_init_47 : decode cX0_init 47 = .ok (.putfield 34, 3) := dk_181 0 34 (dk_at dksX0_init_2 0 rfl rfl)
theorem dX0_init_50 : decode cX0_init 50 = .ok (.aload_n 0, 1) := dk_42 (dk_at dksX0_init_2 3 rfl rfl)
theorem dX0_init_51 : decode cX0_init 51 = .ok (.bipush 30, 2) := dk_16 30 (dk_at dksX0_init_2 4 rfl rfl)
theorem dX0_init_53 : decode cX0_init 53 = .ok (.newarray .int, 2) := dk_188_10 (dk_at dksX0_init_2 6 rfl rfl)
theorem dX0_init_55 : decode cX0_init 55 = .ok (.putfield 37, 3) := dk_181 0 37 (dk_at dksX0_init_2 8 rfl rfl)
theorem dX0_init_58 : decode cX0_init 58 = .ok (.aload_n 0, 1) := dk_42 (dk_at dksX0_init_2 11 rfl rfl)
theorem dX0_init_59 : decode cX0_init 59 = .ok (.iconst 4, 1) := dk_7 (dk_at dksX0_init_2 12 rfl rfl)
theorem dX0_init_60 : decode cX0_init 60 = .ok (.anewarray 40, 3) := dk_189 0 40 (dk_at dksX0_init_2 13 rfl rfl)
theorem dX0_init_63 : decode cX0_init 63 = .ok (.putfield 42, 3) := dk_181 0 42 (dk_at dksX0_init_2 16 rfl rfl)
theorem dX0_init_66 : decode cX0_init 66 = .ok (.aload_n 0, 1) := dk_42 (dk_at dksX0_init_2 19 rfl rfl)
theorem dX0_init_67 : decode cX0_init 67 = .ok (.getfield 23, 3) := dk_180 0 23 (dk_at dksX0_init_2 20 rfl rfl)
theorem dX0_init_70 : decode cX0_init 70 = .ok (.iconst 0, 1) := dk_3 (dk_at dksX0_init_2 23 rfl rfl)
theorem dX0_init_71 : decode cX0_init 71 = .ok (.bipush 100, 2) := dk_16 100 (dk_at dksX0_init_3 0 rfl rfl)
theorem dX0_init_73 : decode cX0_init 73 = .ok (.iastore, 1) := dk_79 (dk_at dksX0_init_3 2 rfl rfl)
theorem dX0_init_74 : decode cX0_init 74 = .ok (.aload_n 0, 1) := dk_42 (dk_at dksX0_init_3 3 rfl rfl)
theorem dX0_init_75 : decode cX0_init 75 = .ok (.getfield 23, 3) := dk_180 0 23 (dk_at dksX0_init_3 4 rfl rfl)
theorem dX0_init_78 : decode cX0_init 78 = .ok (.iconst 1, 1) := dk_4 (dk_at dksX0_init_3 7 rfl rfl)
theorem dX0_init_79 : decode cX0_init 79 = .ok (.bipush 60, 2) := dk_16 60 (dk_at dksX0_init_3 8 rfl rfl)
theorem dX0_init_81 : decode cX0_init 81 = .ok (.iastore, 1) := dk_79 (dk_at dksX0_init_3 10 rfl rfl)
theorem dX0_init_82 : decode cX0_init 82 = .ok (.aload_n 0, 1) := dk_42 (dk_at dksX0_init_3 11 rfl rfl)
theorem dX0_init_83 : decode cX0_init 83 = .ok (.getfield 23, 3) := dk_180 0 23 (dk_at dksX0_init_3 12 rfl rfl)
theorem dX0_init_86 : decode cX0_init 86 = .ok (.iconst 2, 1) := dk_5 (dk_at dksX0_init_3 15 rfl rfl)
theorem dX0_init_87 : decode cX0_init 87 = .ok (.iconst 3, 1) := dk_6 (dk_at dksX0_init_3 16 rfl rfl)
theorem dX0_init_88 : decode cX0_init 88 = .ok (.iastore, 1) := dk_79 (dk_at dksX0_init_3 17 rfl rfl)
theorem dX0_init_89 : decode cX0_init 89 = .ok (.aload_n 0, 1) := dk_42 (dk_at dksX0_init_3 18 rfl rfl)
theorem dX0_init_90 : decode cX0_init 90 = .ok (.getfield 23, 3) := dk_180 0 23 (dk_at dksX0_init_3 19 rfl rfl)
theorem dX0_init_93 : decode cX0_init 93 = .ok (.iconst 3, 1) := dk_6 (dk_at dksX0_init_3 22 rfl rfl)
theorem dX0_init_94 : decode cX0_init 94 = .ok (.bipush 10, 2) := dk_16 10 (dk_at dksX0_init_4 0 rfl rfl)
theorem dX0_init_96 : decode cX0_init 96 = .ok (.iastore, 1) := dk_79 (dk_at dksX0_init_4 2 rfl rfl)
theorem dX0_init_97 : decode cX0_init 97 = .ok (.return_, 1) := dk_177 (dk_at dksX0_init_4 3 rfl rfl)
abbrev cX0_tank : ByteArray := prog_1_method_4_code
def yX0_tank : MethodName := ⟨RX0, "tank", "(II)I"⟩
def dkwX0_tank_2 : List UInt8 := [89, 27, 28, 183, 0, 54, 83, 42, 89, 180, 0, 46, 4, 96, 181, 0, 46, 42, 180, 0, 46, 4, 100, 172]
abbrev dktX0_tank_2 : List UInt8 := dkwX0_tank_2 ++ []
def dkwX0_tank_1 : List UInt8 := [172, 42, 180, 0, 46, 16, 30, 160, 0, 6, 16, 252, 172, 42, 180, 0, 13, 42, 180, 0, 46, 187, 0, 11]
abbrev dktX0_tank_1 : List UInt8 := dkwX0_tank_1 ++ dktX0_tank_2
def dkwX0_tank_0 : List UInt8 := [27, 16, 156, 16, 100, 184, 0, 50, 153, 0, 14, 28, 16, 156, 16, 100, 184, 0, 50, 154, 0, 6, 16, 254]
abbrev dktX0_tank_0 : List UInt8 := dkwX0_tank_0 ++ dktX0_tank_1
theorem dksX0_tank_0 : cX0_tank.data.toList.drop 0 = dktX0_tank_0 := by decide +kernel
theorem dksX0_tank_1 : cX0_tank.data.toList.drop 24 = dktX0_tank_1 := dk_seg dksX0_tank_0 24 rfl rfl
theorem dksX0_tank_2 : cX0_tank.data.toList.drop 48 = dktX0_tank_2 := dk_seg dksX0_tank_1 24 rfl rfl
theorem dX0_tank_0 : decode cX0_tank 0 = .ok (.iload_n 1, 1) := dk_27 (dk_at dksX0_tank_0 0 rfl rfl)
theorem dX0_tank_1 : decode cX0_tank 1 = .ok (.bipush (-100), 2) := dk_16 156 (dk_at dksX0_tank_0 1 rfl rfl)
theorem dX0_tank_3 : decode cX0_tank 3 = .ok (.bipush 100, 2) := dk_16 100 (dk_at dksX0_tank_0 3 rfl rfl)
theorem dX0_tank_5 : decode cX0_tank 5 = .ok (.invokestatic 50, 3) := dk_184 0 50 (dk_at dksX0_tank_0 5 rfl rfl)
theorem dX0_tank_8 : decode cX0_tank 8 = .ok (.ifCond .eq 14, 3) := dk_153 0 14 (dk_at dksX0_tank_0 8 rfl rfl)
theorem dX0_tank_11 : decode cX0_tank 11 = .ok (.iload_n 2, 1) := dk_28 (dk_at dksX0_tank_0 11 rfl rfl)
theorem dX0_tank_12 : decode cX0_tank 12 = .ok (.bipush (-100), 2) := dk_16 156 (dk_at dksX0_tank_0 12 rfl rfl)
theorem dX0_tank_14 : decode cX0_tank 14 = .ok (.bipush 100, 2) := dk_16 100 (dk_at dksX0_tank_0 14 rfl rfl)
theorem dX0_tank_16 : decode cX0_tank 16 = .ok (.invokestatic 50, 3) := dk_184 0 50 (dk_at dksX0_tank_0 16 rfl rfl)
theorem dX0_tank_19 : decode cX0_tank 19 = .ok (.ifCond .ne 6, 3) := dk_154 0 6 (dk_at dksX0_tank_0 19 rfl rfl)
theorem dX0_tank_22 : decode cX0_tank 22 = .ok (.bipush (-2), 2) := dk_16 254 (dk_at dksX0_tank_0 22 rfl rfl)
theorem dX0_tank_24 : decode cX0_tank 24 = .ok (.ireturn, 1) := dk_172 (dk_at dksX0_tank_1 0 rfl rfl)
theorem dX0_tank_25 : decode cX0_tank 25 = .ok (.aload_n 0, 1) := dk_42 (dk_at dksX0_tank_1 1 rfl rfl)
theorem dX0_tank_26 : decode cX0_tank 26 = .ok (.getfield 46, 3) := dk_180 0 46 (dk_at dksX0_tank_1 2 rfl rfl)
theorem dX0_tank_29 : decode cX0_tank 29 = .ok (.bipush 30, 2) := dk_16 30 (dk_at dksX0_tank_1 5 rfl rfl)
theorem dX0_tank_31 : decode cX0_tank 31 = .ok (.if_icmp .ne 6, 3) := dk_160 0 6 (dk_at dksX0_tank_1 7 rfl rfl)
theorem dX0_tank_34 : decode cX0_tank 34 = .ok (.bipush (-4), 2) := dk_16 252 (dk_at dksX0_tank_1 10 rfl rfl)
theorem dX0_tank_36 : decode cX0_tank 36 = .ok (.ireturn, 1) := dk_172 (dk_at dksX0_tank_1 12 rfl rfl)
theorem dX0_tank_37 : decode cX0_tank 37 = .ok (.aload_n 0, 1) := dk_42 (dk_at dksX0_tank_1 13 rfl rfl)
theorem dX0_tank_38 : decode cX0_tank 38 = .ok (.getfield 13, 3) := dk_180 0 13 (dk_at dksX0_tank_1 14 rfl rfl)
theorem dX0_tank_41 : decode cX0_tank 41 = .ok (.aload_n 0, 1) := dk_42 (dk_at dksX0_tank_1 17 rfl rfl)
theorem dX0_tank_42 : decode cX0_tank 42 = .ok (.getfield 46, 3) := dk_180 0 46 (dk_at dksX0_tank_1 18 rfl rfl)
theorem dX0_tank_45 : decode cX0_tank 45 = .ok (.new 11, 3) := dk_187 0 11 (dk_at dksX0_tank_1 21 rfl rfl)
theorem dX0_tank_48 : decode cX0_tank 48 = .ok (.dup, 1) := dk_89 (dk_at dksX0_tank_2 0 rfl rfl)
theorem dX0_tank_49 : decode cX0_tank 49 = .ok (.iload_n 1, 1) := dk_27 (dk_at dksX0_tank_2 1 rfl rfl)
theorem dX0_tank_50 : decode cX0_tank 50 = .ok (.iload_n 2, 1) := dk_28 (dk_at dksX0_tank_2 2 rfl rfl)
theorem dX0_tank_51 : decode cX0_tank 51 = .ok (.invokespecial 54, 3) := dk_183 0 54 (dk_at dksX0_tank_2 3 rfl rfl)
theorem dX0_tank_54 : decode cX0_tank 54 = .ok (.aastore, 1) := dk_83 (dk_at dksX0_tank_2 6 rfl rfl)
theorem dX0_tank_55 : decode cX0_tank 55 = .ok (.aload_n 0, 1) := dk_42 (dk_at dksX0_tank_2 7 rfl rfl)
theorem dX0_tank_56 : decode cX0_tank 56 = .ok (.dup, 1) := dk_89 (dk_at dksX0_tank_2 8 rfl rfl)
theorem dX0_tank_57 : decode cX0_tank 57 = .ok (.getfield 46, 3) := dk_180 0 46 (dk_at dksX0_tank_2 9 rfl rfl)
theorem dX0_tank_60 : decode cX0_tank 60 = .ok (.iconst 1, 1) := dk_4 (dk_at dksX0_tank_2 12 rfl rfl)
theorem dX0_tank_61 : decode cX0_tank 61 = .ok (.iadd, 1) := dk_96 (dk_at dksX0_tank_2 13 rfl rfl)
theorem dX0_tank_62 : decode cX0_tank 62 = .ok (.putfield 46, 3) := dk_181 0 46 (dk_at dksX0_tank_2 14 rfl rfl)
theorem dX0_tank_65 : decode cX0_tank 65 = .ok (.aload_n 0, 1) := dk_42 (dk_at dksX0_tank_2 17 rfl rfl)
theorem dX0_tank_66 : decode cX0_tank 66 = .ok (.getfield 46, 3) := dk_180 0 46 (dk_at dksX0_tank_2 18 rfl rfl)
theorem dX0_tank_69 : decode cX0_tank 69 = .ok (.iconst 1, 1) := dk_4 (dk_at dksX0_tank_2 21 rfl rfl)
theorem dX0_tank_70 : decode cX0_tank 70 = .ok (.isub, 1) := dk_100 (dk_at dksX0_tank_2 22 rfl rfl)
theorem dX0_tank_71 : decode cX0_tank 71 = .ok (.ireturn, 1) := dk_172 (dk_at dksX0_tank_2 23 rfl rfl)
abbrev cX0_in : ByteArray := prog_1_method_1_code
def yX0_in : MethodName := ⟨RX0, "in", "(III)Z"⟩
def dkwX0_in_0 : List UInt8 := [26, 27, 161, 0, 12, 26, 28, 163, 0, 7, 4, 167, 0, 4, 3, 172]
abbrev dktX0_in_0 : List UInt8 := dkwX0_in_0 ++ []
theorem dksX0_in_0 : cX0_in.data.toList.drop 0 = dktX0_in_0 := by decide +kernel
theorem dX0_in_0 : decode cX0_in 0 = .ok (.iload_n 0, 1) := dk_26 (dk_at dksX0_in_0 0 rfl rfl)
theorem dX0_in_1 : decode cX0_in 1 = .ok (.iload_n 1, 1) := dk_27 (dk_at dksX0_in_0 1 rfl rfl)
theorem dX0_in_2 : decode cX0_in 2 = .ok (.if_icmp .lt 12, 3) := dk_161 0 12 (dk_at dksX0_in_0 2 rfl rfl)
theorem dX0_in_5 : decode cX0_in 5 = .ok (.iload_n 0, 1) := dk_26 (dk_at dksX0_in_0 5 rfl rfl)
theorem dX0_in_6 : decode cX0_in 6 = .ok (.iload_n 2, 1) := dk_28 (dk_at dksX0_in_0 6 rfl rfl)
theorem dX0_in_7 : decode cX0_in 7 = .ok (.if_icmp .gt 7, 3) := dk_163 0 7 (dk_at dksX0_in_0 7 rfl rfl)
theorem dX0_in_10 : decode cX0_in 10 = .ok (.iconst 1, 1) := dk_4 (dk_at dksX0_in_0 10 rfl rfl)
theorem dX0_in_11 : decode cX0_in 11 = .ok (.goto 4, 3) := dk_167 0 4 (dk_at dksX0_in_0 11 rfl rfl)
theorem dX0_in_14 : decode cX0_in 14 = .ok (.iconst 0, 1) := dk_3 (dk_at dksX0_in_0 14 rfl rfl)
theorem dX0_in_15 : decode cX0_in 15 = .ok (.ireturn, 1) := dk_172 (dk_at dksX0_in_0 15 rfl rfl)
abbrev cX0_clock : ByteArray := prog_1_method_5_code
def yX0_clock : MethodName := ⟨RX0, "clock", "(III)I"⟩
def dkwX0_clock_3 : List UInt8 := [42, 180, 0, 61, 172]
abbrev dktX0_clock_3 : List UInt8 := dkwX0_clock_3 ++ []
def dkwX0_clock_2 : List UInt8 := [16, 252, 172, 42, 180, 0, 13, 27, 50, 28, 29, 182, 0, 64, 42, 89, 180, 0, 61, 4, 96, 181, 0, 61]
abbrev dktX0_clock_2 : List UInt8 := dkwX0_clock_2 ++ dktX0_clock_3
def dkwX0_clock_1 : List UInt8 := [17, 254, 12, 17, 1, 244, 184, 0, 50, 154, 0, 6, 16, 254, 172, 42, 180, 0, 61, 16, 20, 160, 0, 6]
abbrev dktX0_clock_1 : List UInt8 := dkwX0_clock_1 ++ dktX0_clock_2
def dkwX0_clock_0 : List UInt8 := [42, 27, 182, 0, 57, 153, 0, 5, 2, 172, 28, 3, 17, 78, 32, 184, 0, 50, 153, 0, 16, 29]
abbrev dktX0_clock_0 : List UInt8 := dkwX0_clock_0 ++ dktX0_clock_1
theorem dksX0_clock_0 : cX0_clock.data.toList.drop 0 = dktX0_clock_0 := by decide +kernel
theorem dksX0_clock_1 : cX0_clock.data.toList.drop 22 = dktX0_clock_1 := dk_seg dksX0_clock_0 22 rfl rfl
theorem dksX0_clock_2 : cX0_clock.data.toList.drop 46 = dktX0_clock_2 := dk_seg dksX0_clock_1 24 rfl rfl
theorem dksX0_clock_3 : cX0_clock.data.toList.drop 70 = dktX0_clock_3 := dk_seg dksX0_clock_2 24 rfl rfl
theorem dX0_clock_0 : decode cX0_clock 0 = .ok (.aload_n 0, 1) := dk_42 (dk_at dksX0_clock_0 0 rfl rfl)
theorem dX0_clock_1 : decode cX0_clock 1 = .ok (.iload_n 1, 1) := dk_27 (dk_at dksX0_clock_0 1 rfl rfl)
theorem dX0_clock_2 : decode cX0_clock 2 = .ok (.invokevirtual 57, 3) := dk_182 0 57 (dk_at dksX0_clock_0 2 rfl rfl)
theorem dX0_clock_5 : decode cX0_clock 5 = .ok (.ifCond .eq 5, 3) := dk_153 0 5 (dk_at dksX0_clock_0 5 rfl rfl)
theorem dX0_clock_8 : decode cX0_clock 8 = .ok (.iconst (-1), 1) := dk_2 (dk_at dksX0_clock_0 8 rfl rfl)
theorem dX0_clock_9 : decode cX0_clock 9 = .ok (.ireturn, 1) := dk_172 (dk_at dksX0_clock_0 9 rfl rfl)
theorem dX0_clock_10 : decode cX0_clock 10 = .ok (.iload_n 2, 1) := dk_28 (dk_at dksX0_clock_0 10 rfl rfl)
theorem dX0_clock_11 : decode cX0_clock 11 = .ok (.iconst 0, 1) := dk_3 (dk_at dksX0_clock_0 11 rfl rfl)
theorem dX0_clock_12 : decode cX0_clock 12 = .ok (.sipush 20000, 3) := dk_17 78 32 (dk_at dksX0_clock_0 12 rfl rfl)
theorem dX0_clock_15 : decode cX0_clock 15 = .ok (.invokestatic 50, 3) := dk_184 0 50 (dk_at dksX0_clock_0 15 rfl rfl)
theorem dX0_clock_18 : decode cX0_clock 18 = .ok (.ifCond .eq 16, 3) := dk_153 0 16 (dk_at dksX0_clock_0 18 rfl rfl)
theorem dX0_clock_21 : decode cX0_clock 21 = .ok (.iload_n 3, 1) := dk_29 (dk_at dksX0_clock_0 21 rfl rfl)
theorem dX0_clock_22 : decode cX0_clock 22 = .ok (.sipush (-500), 3) := dk_17 254 12 (dk_at dksX0_clock_1 0 rfl rfl)
theorem dX0_clock_25 : decode cX0_clock 25 = .ok (.sipush 500, 3) := dk_17 1 244 (dk_at dksX0_clock_1 3 rfl rfl)
theorem dX0_clock_28 : decode cX0_clock 28 = .ok (.invokestatic 50, 3) := dk_184 0 50 (dk_at dksX0_clock_1 6 rfl rfl)
theorem dX0_clock_31 : decode cX0_clock 31 = .ok (.ifCond .ne 6, 3) := dk_154 0 6 (dk_at dksX0_clock_1 9 rfl rfl)
theorem dX0_clock_34 : decode cX0_clock 34 = .ok (.bipush (-2), 2) := dk_16 254 (dk_at dksX0_clock_1 12 rfl rfl)
theorem dX0_clock_36 : decode cX0_clock 36 = .ok (.ireturn, 1) := dk_172 (dk_at dksX0_clock_1 14 rfl rfl)
theorem dX0_clock_37 : decode cX0_clock 37 = .ok (.aload_n 0, 1) := dk_42 (dk_at dksX0_clock_1 15 rfl rfl)
theorem dX0_clock_38 : decode cX0_clock 38 = .ok (.getfield 61, 3) := dk_180 0 61 (dk_at dksX0_clock_1 16 rfl rfl)
theorem dX0_clock_41 : decode cX0_clock 41 = .ok (.bipush 20, 2) := dk_16 20 (dk_at dksX0_clock_1 19 rfl rfl)
theorem dX0_clock_43 : decode cX0_clock 43 = .ok (.if_icmp .ne 6, 3) := dk_160 0 6 (dk_at dksX0_clock_1 21 rfl rfl)
theorem dX0_clock_46 : decode cX0_clock 46 = .ok (.bipush (-4), 2) := dk_16 252 (dk_at dksX0_clock_2 0 rfl rfl)
theorem dX0_clock_48 : decode cX0_clock 48 = .ok (.ireturn, 1) := dk_172 (dk_at dksX0_clock_2 2 rfl rfl)
theorem dX0_clock_49 : decode cX0_clock 49 = .ok (.aload_n 0, 1) := dk_42 (dk_at dksX0_clock_2 3 rfl rfl)
theorem dX0_clock_50 : decode cX0_clock 50 = .ok (.getfield 13, 3) := dk_180 0 13 (dk_at dksX0_clock_2 4 rfl rfl)
theorem dX0_clock_53 : decode cX0_clock 53 = .ok (.iload_n 1, 1) := dk_27 (dk_at dksX0_clock_2 7 rfl rfl)
theorem dX0_clock_54 : decode cX0_clock 54 = .ok (.aaload, 1) := dk_50 (dk_at dksX0_clock_2 8 rfl rfl)
theorem dX0_clock_55 : decode cX0_clock 55 = .ok (.iload_n 2, 1) := dk_28 (dk_at dksX0_clock_2 9 rfl rfl)
theorem dX0_clock_56 : decode cX0_clock 56 = .ok (.iload_n 3, 1) := dk_29 (dk_at dksX0_clock_2 10 rfl rfl)
theorem dX0_clock_57 : decode cX0_clock 57 = .ok (.invokevirtual 64, 3) := dk_182 0 64 (dk_at dksX0_clock_2 11 rfl rfl)
theorem dX0_clock_60 : decode cX0_clock 60 = .ok (.aload_n 0, 1) := dk_42 (dk_at dksX0_clock_2 14 rfl rfl)
theorem dX0_clock_61 : decode cX0_clock 61 = .ok (.dup, 1) := dk_89 (dk_at dksX0_clock_2 15 rfl rfl)
theorem dX0_clock_62 : decode cX0_clock 62 = .ok (.getfield 61, 3) := dk_180 0 61 (dk_at dksX0_clock_2 16 rfl rfl)
theorem dX0_clock_65 : decode cX0_clock 65 = .ok (.iconst 1, 1) := dk_4 (dk_at dksX0_clock_2 19 rfl rfl)
theorem dX0_clock_66 : decode cX0_clock 66 = .ok (.iadd, 1) := dk_96 (dk_at dksX0_clock_2 20 rfl rfl)
theorem dX0_clock_67 : decode cX0_clock 67 = .ok (.putfield 61, 3) := dk_181 0 61 (dk_at dksX0_clock_2 21 rfl rfl)
theorem dX0_clock_70 : decode cX0_clock 70 = .ok (.aload_n 0, 1) := dk_42 (dk_at dksX0_clock_3 0 rfl rfl)
theorem dX0_clock_71 : decode cX0_clock 71 = .ok (.getfield 61, 3) := dk_180 0 61 (dk_at dksX0_clock_3 1 rfl rfl)
theorem dX0_clock_74 : decode cX0_clock 74 = .ok (.ireturn, 1) := dk_172 (dk_at dksX0_clock_3 4 rfl rfl)
abbrev cX0_noTank : ByteArray := prog_1_method_3_code
def yX0_noTank : MethodName := ⟨RX0, "noTank", "(I)Z"⟩
def dkwX0_noTank_0 : List UInt8 := [27, 3, 42, 180, 0, 46, 4, 100, 184, 0, 50, 154, 0, 7, 4, 167, 0, 4, 3, 172]
abbrev dktX0_noTank_0 : List UInt8 := dkwX0_noTank_0 ++ []
theorem dksX0_noTank_0 : cX0_noTank.data.toList.drop 0 = dktX0_noTank_0 := by decide +kernel
theorem dX0_noTank_0 : decode cX0_noTank 0 = .ok (.iload_n 1, 1) := dk_27 (dk_at dksX0_noTank_0 0 rfl rfl)
theorem dX0_noTank_1 : decode cX0_noTank 1 = .ok (.iconst 0, 1) := dk_3 (dk_at dksX0_noTank_0 1 rfl rfl)
theorem dX0_noTank_2 : decode cX0_noTank 2 = .ok (.aload_n 0, 1) := dk_42 (dk_at dksX0_noTank_0 2 rfl rfl)
theorem dX0_noTank_3 : decode cX0_noTank 3 = .ok (.getfield 46, 3) := dk_180 0 46 (dk_at dksX0_noTank_0 3 rfl rfl)
theorem dX0_noTank_6 : decode cX0_noTank 6 = .ok (.iconst 1, 1) := dk_4 (dk_at dksX0_noTank_0 6 rfl rfl)
theorem dX0_noTank_7 : decode cX0_noTank 7 = .ok (.isub, 1) := dk_100 (dk_at dksX0_noTank_0 7 rfl rfl)
theorem dX0_noTank_8 : decode cX0_noTank 8 = .ok (.invokestatic 50, 3) := dk_184 0 50 (dk_at dksX0_noTank_0 8 rfl rfl)
theorem dX0_noTank_11 : decode cX0_noTank 11 = .ok (.ifCond .ne 7, 3) := dk_154 0 7 (dk_at dksX0_noTank_0 11 rfl rfl)
theorem dX0_noTank_14 : decode cX0_noTank 14 = .ok (.iconst 1, 1) := dk_4 (dk_at dksX0_noTank_0 14 rfl rfl)
theorem dX0_noTank_15 : decode cX0_noTank 15 = .ok (.goto 4, 3) := dk_167 0 4 (dk_at dksX0_noTank_0 15 rfl rfl)
theorem dX0_noTank_18 : decode cX0_noTank 18 = .ok (.iconst 0, 1) := dk_3 (dk_at dksX0_noTank_0 18 rfl rfl)
theorem dX0_noTank_19 : decode cX0_noTank 19 = .ok (.ireturn, 1) := dk_172 (dk_at dksX0_noTank_0 19 rfl rfl)
abbrev cX0_down : ByteArray := prog_1_method_6_code
def yX0_down : MethodName := ⟨RX0, "down", "(III)I"⟩
def dkwX0_down_3 : List UInt8 := [180, 0, 67, 172]
abbrev dktX0_down_3 : List UInt8 := dkwX0_down_3 ++ []
def dkwX0_down_2 : List UInt8 := [42, 180, 0, 13, 27, 50, 28, 29, 182, 0, 70, 42, 89, 180, 0, 67, 4, 96, 181, 0, 67, 42]
abbrev dktX0_down_2 : List UInt8 := dkwX0_down_2 ++ dktX0_down_3
def dkwX0_down_1 : List UInt8 := [17, 78, 33, 184, 0, 50, 154, 0, 6, 16, 254, 172, 42, 180, 0, 67, 16, 20, 160, 0, 6, 16, 252, 172]
abbrev dktX0_down_1 : List UInt8 := dkwX0_down_1 ++ dktX0_down_2
def dkwX0_down_0 : List UInt8 := [42, 27, 182, 0, 57, 153, 0, 5, 2, 172, 28, 3, 17, 78, 32, 184, 0, 50, 153, 0, 14, 29, 28]
abbrev dktX0_down_0 : List UInt8 := dkwX0_down_0 ++ dktX0_down_1
theorem dksX0_down_0 : cX0_down.data.toList.drop 0 = dktX0_down_0 := by decide +kernel
theorem dksX0_down_1 : cX0_down.data.toList.drop 23 = dktX0_down_1 := dk_seg dksX0_down_0 23 rfl rfl
theorem dksX0_down_2 : cX0_down.data.toList.drop 47 = dktX0_down_2 := dk_seg dksX0_down_1 24 rfl rfl
theorem dksX0_down_3 : cX0_down.data.toList.drop 69 = dktX0_down_3 := dk_seg dksX0_down_2 22 rfl rfl
theorem dX0_down_0 : decode cX0_down 0 = .ok (.aload_n 0, 1) := dk_42 (dk_at dksX0_down_0 0 rfl rfl)
theorem dX0_down_1 : decode cX0_down 1 = .ok (.iload_n 1, 1) := dk_27 (dk_at dksX0_down_0 1 rfl rfl)
theorem dX0_down_2 : decode cX0_down 2 = .ok (.invokevirtual 57, 3) := dk_182 0 57 (dk_at dksX0_down_0 2 rfl rfl)
theorem dX0_down_5 : decode cX0_down 5 = .ok (.ifCond .eq 5, 3) := dk_153 0 5 (dk_at dksX0_down_0 5 rfl rfl)
theorem dX0_down_8 : decode cX0_down 8 = .ok (.iconst (-1), 1) := dk_2 (dk_at dksX0_down_0 8 rfl rfl)
theorem dX0_down_9 : decode cX0_down 9 = .ok (.ireturn, 1) := dk_172 (dk_at dksX0_down_0 9 rfl rfl)
theorem dX0_down_10 : decode cX0_down 10 = .ok (.iload_n 2, 1) := dk_28 (dk_at dksX0_down_0 10 rfl rfl)
theorem dX0_down_11 : decode cX0_down 11 = .ok (.iconst 0, 1) := dk_3 (dk_at dksX0_down_0 11 rfl rfl)
theorem dX0_down_12 : decode cX0_down 12 = .ok (.sipush 20000, 3) := dk_17 78 32 (dk_at dksX0_down_0 12 rfl rfl)
theorem dX0_down_15 : decode cX0_down 15 = .ok (.invokestatic 50, 3) := dk_184 0 50 (dk_at dksX0_down_0 15 rfl rfl)
theorem dX0_down_18 : decode cX0_down 18 = .ok (.ifCond .eq 14, 3) := dk_153 0 14 (dk_at dksX0_down_0 18 rfl rfl)
theorem dX0_down_21 : decode cX0_down 21 = .ok (.iload_n 3, 1) := dk_29 (dk_at dksX0_down_0 21 rfl rfl)
theorem dX0_down_22 : decode cX0_down 22 = .ok (.iload_n 2, 1) := dk_28 (dk_at dksX0_down_0 22 rfl rfl)
theorem dX0_down_23 : decode cX0_down 23 = .ok (.sipush 20001, 3) := dk_17 78 33 (dk_at dksX0_down_1 0 rfl rfl)
theorem dX0_down_26 : decode cX0_down 26 = .ok (.invokestatic 50, 3) := dk_184 0 50 (dk_at dksX0_down_1 3 rfl rfl)
theorem dX0_down_29 : decode cX0_down 29 = .ok (.ifCond .ne 6, 3) := dk_154 0 6 (dk_at dksX0_down_1 6 rfl rfl)
theorem dX0_down_32 : decode cX0_down 32 = .ok (.bipush (-2), 2) := dk_16 254 (dk_at dksX0_down_1 9 rfl rfl)
theorem dX0_down_34 : decode cX0_down 34 = .ok (.ireturn, 1) := dk_172 (dk_at dksX0_down_1 11 rfl rfl)
theorem dX0_down_35 : decode cX0_down 35 = .ok (.aload_n 0, 1) := dk_42 (dk_at dksX0_down_1 12 rfl rfl)
theorem dX0_down_36 : decode cX0_down 36 = .ok (.getfield 67, 3) := dk_180 0 67 (dk_at dksX0_down_1 13 rfl rfl)
theorem dX0_down_39 : decode cX0_down 39 = .ok (.bipush 20, 2) := dk_16 20 (dk_at dksX0_down_1 16 rfl rfl)
theorem dX0_down_41 : decode cX0_down 41 = .ok (.if_icmp .ne 6, 3) := dk_160 0 6 (dk_at dksX0_down_1 18 rfl rfl)
theorem dX0_down_44 : decode cX0_down 44 = .ok (.bipush (-4), 2) := dk_16 252 (dk_at dksX0_down_1 21 rfl rfl)
theorem dX0_down_46 : decode cX0_down 46 = .ok (.ireturn, 1) := dk_172 (dk_at dksX0_down_1 23 rfl rfl)
theorem dX0_down_47 : decode cX0_down 47 = .ok (.aload_n 0, 1) := dk_42 (dk_at dksX0_down_2 0 rfl rfl)
theorem dX0_down_48 : decode cX0_down 48 = .ok (.getfield 13, 3) := dk_180 0 13 (dk_at dksX0_down_2 1 rfl rfl)
theorem dX0_down_51 : decode cX0_down 51 = .ok (.iload_n 1, 1) := dk_27 (dk_at dksX0_down_2 4 rfl rfl)
theorem dX0_down_52 : decode cX0_down 52 = .ok (.aaload, 1) := dk_50 (dk_at dksX0_down_2 5 rfl rfl)
theorem dX0_down_53 : decode cX0_down 53 = .ok (.iload_n 2, 1) := dk_28 (dk_at dksX0_down_2 6 rfl rfl)
theorem dX0_down_54 : decode cX0_down 54 = .ok (.iload_n 3, 1) := dk_29 (dk_at dksX0_down_2 7 rfl rfl)
theorem dX0_down_55 : decode cX0_down 55 = .ok (.invokevirtual 70, 3) := dk_182 0 70 (dk_at dksX0_down_2 8 rfl rfl)
theorem dX0_down_58 : decode cX0_down 58 = .ok (.aload_n 0, 1) := dk_42 (dk_at dksX0_down_2 11 rfl rfl)
theorem dX0_down_59 : decode cX0_down 59 = .ok (.dup, 1) := dk_89 (dk_at dksX0_down_2 12 rfl rfl)
theorem dX0_down_60 : decode cX0_down 60 = .ok (.getfield 67, 3) := dk_180 0 67 (dk_at dksX0_down_2 13 rfl rfl)
theorem dX0_down_63 : decode cX0_down 63 = .ok (.iconst 1, 1) := dk_4 (dk_at dksX0_down_2 16 rfl rfl)
theorem dX0_down_64 : decode cX0_down 64 = .ok (.iadd, 1) := dk_96 (dk_at dksX0_down_2 17 rfl rfl)
theorem dX0_down_65 : decode cX0_down 65 = .ok (.putfield 67, 3) := dk_181 0 67 (dk_at dksX0_down_2 18 rfl rfl)
theorem dX0_down_68 : decode cX0_down 68 = .ok (.aload_n 0, 1) := dk_42 (dk_at dksX0_down_2 21 rfl rfl)
theorem dX0_down_69 : decode cX0_down 69 = .ok (.getfield 67, 3) := dk_180 0 67 (dk_at dksX0_down_3 0 rfl rfl)
theorem dX0_down_72 : decode cX0_down 72 = .ok (.ireturn, 1) := dk_172 (dk_at dksX0_down_3 3 rfl rfl)
abbrev cX0_exposure : ByteArray := prog_1_method_7_code
def yX0_exposure : MethodName := ⟨RX0, "exposure", "(II)J"⟩
def dkwX0_exposure_2 : List UInt8 := [21, 5, 50, 27, 28, 182, 0, 75, 97, 66, 132, 5, 1, 167, 255, 229, 33, 173]
abbrev dktX0_exposure_2 : List UInt8 := dkwX0_exposure_2 ++ []
def dkwX0_exposure_1 : List UInt8 := [20, 0, 73, 173, 9, 66, 3, 54, 5, 21, 5, 42, 180, 0, 46, 162, 0, 24, 33, 42, 180, 0, 13]
abbrev dktX0_exposure_1 : List UInt8 := dkwX0_exposure_1 ++ dktX0_exposure_2
def dkwX0_exposure_0 : List UInt8 := [27, 3, 17, 78, 32, 184, 0, 50, 153, 0, 14, 28, 27, 17, 78, 33, 184, 0, 50, 154, 0, 7]
abbrev dktX0_exposure_0 : List UInt8 := dkwX0_exposure_0 ++ dktX0_exposure_1
theorem dksX0_exposure_0 : cX0_exposure.data.toList.drop 0 = dktX0_exposure_0 := by decide +kernel
theorem dksX0_exposure_1 : cX0_exposure.data.toList.drop 22 = dktX0_exposure_1 := dk_seg dksX0_exposure_0 22 rfl rfl
theorem dksX0_exposure_2 : cX0_exposure.data.toList.drop 45 = dktX0_exposure_2 := dk_seg dksX0_exposure_1 23 rfl rfl
theorem dX0_exposure_0 : decode cX0_exposure 0 = .ok (.iload_n 1, 1) := dk_27 (dk_at dksX0_exposure_0 0 rfl rfl)
theorem dX0_exposure_1 : decode cX0_exposure 1 = .ok (.iconst 0, 1) := dk_3 (dk_at dksX0_exposure_0 1 rfl rfl)
theorem dX0_exposure_2 : decode cX0_exposure 2 = .ok (.sipush 20000, 3) := dk_17 78 32 (dk_at dksX0_exposure_0 2 rfl rfl)
theorem dX0_exposure_5 : decode cX0_exposure 5 = .ok (.invokestatic 50, 3) := dk_184 0 50 (dk_at dksX0_exposure_0 5 rfl rfl)
theorem dX0_exposure_8 : decode cX0_exposure 8 = .ok (.ifCond .eq 14, 3) := dk_153 0 14 (dk_at dksX0_exposure_0 8 rfl rfl)
theorem dX0_exposure_11 : decode cX0_exposure 11 = .ok (.iload_n 2, 1) := dk_28 (dk_at dksX0_exposure_0 11 rfl rfl)
theorem dX0_exposure_12 : decode cX0_exposure 12 = .ok (.iload_n 1, 1) := dk_27 (dk_at dksX0_exposure_0 12 rfl rfl)
theorem dX0_exposure_13 : decode cX0_exposure 13 = .ok (.sipush 20001, 3) := dk_17 78 33 (dk_at dksX0_exposure_0 13 rfl rfl)
theorem dX0_exposure_16 : decode cX0_exposure 16 = .ok (.invokestatic 50, 3) := dk_184 0 50 (dk_at dksX0_exposure_0 16 rfl rfl)
theorem dX0_exposure_19 : decode cX0_exposure 19 = .ok (.ifCond .ne 7, 3) := dk_154 0 7 (dk_at dksX0_exposure_0 19 rfl rfl)
theorem dX0_exposure_22 : decode cX0_exposure 22 = .ok (.ldc2_w 73, 3) := dk_20 0 73 (dk_at dksX0_exposure_1 0 rfl rfl)
theorem dX0_exposure_25 : decode cX0_exposure 25 = .ok (.lreturn, 1) := dk_173 (dk_at dksX0_exposure_1 3 rfl rfl)
theorem dX0_exposure_26 : decode cX0_exposure 26 = .ok (.lconst 0, 1) := dk_9 (dk_at dksX0_exposure_1 4 rfl rfl)
theorem dX0_exposure_27 : decode cX0_exposure 27 = .ok (.lstore_n 3, 1) := dk_66 (dk_at dksX0_exposure_1 5 rfl rfl)
theorem dX0_exposure_28 : decode cX0_exposure 28 = .ok (.iconst 0, 1) := dk_3 (dk_at dksX0_exposure_1 6 rfl rfl)
theorem dX0_exposure_29 : decode cX0_exposure 29 = .ok (.istore 5, 2) := dk_54 5 (dk_at dksX0_exposure_1 7 rfl rfl)
theorem dX0_exposure_31 : decode cX0_exposure 31 = .ok (.iload 5, 2) := dk_21 5 (dk_at dksX0_exposure_1 9 rfl rfl)
theorem dX0_exposure_33 : decode cX0_exposure 33 = .ok (.aload_n 0, 1) := dk_42 (dk_at dksX0_exposure_1 11 rfl rfl)
theorem dX0_exposure_34 : decode cX0_exposure 34 = .ok (.getfield 46, 3) := dk_180 0 46 (dk_at dksX0_exposure_1 12 rfl rfl)
theorem dX0_exposure_37 : decode cX0_exposure 37 = .ok (.if_icmp .ge 24, 3) := dk_162 0 24 (dk_at dksX0_exposure_1 15 rfl rfl)
theorem dX0_exposure_40 : decode cX0_exposure 40 = .ok (.lload_n 3, 1) := dk_33 (dk_at dksX0_exposure_1 18 rfl rfl)
theorem dX0_exposure_41 : decode cX0_exposure 41 = .ok (.aload_n 0, 1) := dk_42 (dk_at dksX0_exposure_1 19 rfl rfl)
theorem dX0_exposure_42 : decode cX0_exposure 42 = .ok (.getfield 13, 3) := dk_180 0 13 (dk_at dksX0_exposure_1 20 rfl rfl)
theorem dX0_exposure_45 : decode cX0_exposure 45 = .ok (.iload 5, 2) := dk_21 5 (dk_at dksX0_exposure_2 0 rfl rfl)
theorem dX0_exposure_47 : decode cX0_exposure 47 = .ok (.aaload, 1) := dk_50 (dk_at dksX0_exposure_2 2 rfl rfl)
theorem dX0_exposure_48 : decode cX0_exposure 48 = .ok (.iload_n 1, 1) := dk_27 (dk_at dksX0_exposure_2 3 rfl rfl)
theorem dX0_exposure_49 : decode cX0_exposure 49 = .ok (.iload_n 2, 1) := dk_28 (dk_at dksX0_exposure_2 4 rfl rfl)
theorem dX0_exposure_50 : decode cX0_exposure 50 = .ok (.invokevirtual 75, 3) := dk_182 0 75 (dk_at dksX0_exposure_2 5 rfl rfl)
theorem dX0_exposure_53 : decode cX0_exposure 53 = .ok (.ladd, 1) := dk_97 (dk_at dksX0_exposure_2 8 rfl rfl)
theorem dX0_exposure_54 : decode cX0_exposure 54 = .ok (.lstore_n 3, 1) := dk_66 (dk_at dksX0_exposure_2 9 rfl rfl)
theorem dX0_exposure_55 : decode cX0_exposure 55 = .ok (.iinc 5 1, 3) := dk_132 5 1 (dk_at dksX0_exposure_2 10 rfl rfl)
theorem dX0_exposure_58 : decode cX0_exposure 58 = .ok (.goto (-27), 3) := dk_167 255 229 (dk_at dksX0_exposure_2 13 rfl rfl)
theorem dX0_exposure_61 : decode cX0_exposure 61 = .ok (.lload_n 3, 1) := dk_33 (dk_at dksX0_exposure_2 16 rfl rfl)
theorem dX0_exposure_62 : decode cX0_exposure 62 = .ok (.lreturn, 1) := dk_173 (dk_at dksX0_exposure_2 17 rfl rfl)
abbrev cX0_hit : ByteArray := prog_1_method_11_code
def yX0_hit : MethodName := ⟨RX0, "hit", "(IIII)I"⟩
def dkwX0_hit_2 : List UInt8 := [182, 0, 98, 83, 42, 89, 180, 0, 79, 4, 96, 181, 0, 79, 42, 180, 0, 79, 4, 100, 172]
abbrev dktX0_hit_2 : List UInt8 := dkwX0_hit_2 ++ []
def dkwX0_hit_1 : List UInt8 := [17, 0, 240, 160, 0, 6, 16, 252, 172, 42, 180, 0, 19, 42, 180, 0, 79, 42, 27, 28, 29, 21, 4]
abbrev dktX0_hit_1 : List UInt8 := dkwX0_hit_1 ++ dktX0_hit_2
def dkwX0_hit_0 : List UInt8 := [42, 27, 28, 29, 21, 4, 182, 0, 94, 54, 5, 21, 5, 156, 0, 6, 21, 5, 172, 42, 180, 0, 79]
abbrev dktX0_hit_0 : List UInt8 := dkwX0_hit_0 ++ dktX0_hit_1
theorem dksX0_hit_0 : cX0_hit.data.toList.drop 0 = dktX0_hit_0 := by decide +kernel
theorem dksX0_hit_1 : cX0_hit.data.toList.drop 23 = dktX0_hit_1 := dk_seg dksX0_hit_0 23 rfl rfl
theorem dksX0_hit_2 : cX0_hit.data.toList.drop 46 = dktX0_hit_2 := dk_seg dksX0_hit_1 23 rfl rfl
theorem dX0_hit_0 : decode cX0_hit 0 = .ok (.aload_n 0, 1) := dk_42 (dk_at dksX0_hit_0 0 rfl rfl)
theorem dX0_hit_1 : decode cX0_hit 1 = .ok (.iload_n 1, 1) := dk_27 (dk_at dksX0_hit_0 1 rfl rfl)
theorem dX0_hit_2 : decode cX0_hit 2 = .ok (.iload_n 2, 1) := dk_28 (dk_at dksX0_hit_0 2 rfl rfl)
theorem dX0_hit_3 : decode cX0_hit 3 = .ok (.iload_n 3, 1) := dk_29 (dk_at dksX0_hit_0 3 rfl rfl)
theorem dX0_hit_4 : decode cX0_hit 4 = .ok (.iload 4, 2) := dk_21 4 (dk_at dksX0_hit_0 4 rfl rfl)
theorem dX0_hit_6 : decode cX0_hit 6 = .ok (.invokevirtual 94, 3) := dk_182 0 94 (dk_at dksX0_hit_0 6 rfl rfl)
theorem dX0_hit_9 : decode cX0_hit 9 = .ok (.istore 5, 2) := dk_54 5 (dk_at dksX0_hit_0 9 rfl rfl)
theorem dX0_hit_11 : decode cX0_hit 11 = .ok (.iload 5, 2) := dk_21 5 (dk_at dksX0_hit_0 11 rfl rfl)
theorem dX0_hit_13 : decode cX0_hit 13 = .ok (.ifCond .ge 6, 3) := dk_156 0 6 (dk_at dksX0_hit_0 13 rfl rfl)
theorem dX0_hit_16 : decode cX0_hit 16 = .ok (.iload 5, 2) := dk_21 5 (dk_at dksX0_hit_0 16 rfl rfl)
theorem dX0_hit_18 : decode cX0_hit 18 = .ok (.ireturn, 1) := dk_172 (dk_at dksX0_hit_0 18 rfl rfl)
theorem dX0_hit_19 : decode cX0_hit 19 = .ok (.aload_n 0, 1) := dk_42 (dk_at dksX0_hit_0 19 rfl rfl)
theorem dX0_hit_20 : decode cX0_hit 20 = .ok (.getfield 79, 3) := dk_180 0 79 (dk_at dksX0_hit_0 20 rfl rfl)
theorem dX0_hit_23 : decode cX0_hit 23 = .ok (.sipush 240, 3) := dk_17 0 240 (dk_at dksX0_hit_1 0 rfl rfl)
theorem dX0_hit_26 : decode cX0_hit 26 = .ok (.if_icmp .ne 6, 3) := dk_160 0 6 (dk_at dksX0_hit_1 3 rfl rfl)
theorem dX0_hit_29 : decode cX0_hit 29 = .ok (.bipush (-4), 2) := dk_16 252 (dk_at dksX0_hit_1 6 rfl rfl)
theorem dX0_hit_31 : decode cX0_hit 31 = .ok (.ireturn, 1) := dk_172 (dk_at dksX0_hit_1 8 rfl rfl)
theorem dX0_hit_32 : decode cX0_hit 32 = .ok (.aload_n 0, 1) := dk_42 (dk_at dksX0_hit_1 9 rfl rfl)
theorem dX0_hit_33 : decode cX0_hit 33 = .ok (.getfield 19, 3) := dk_180 0 19 (dk_at dksX0_hit_1 10 rfl rfl)
theorem dX0_hit_36 : decode cX0_hit 36 = .ok (.aload_n 0, 1) := dk_42 (dk_at dksX0_hit_1 13 rfl rfl)
theorem dX0_hit_37 : decode cX0_hit 37 = .ok (.getfield 79, 3) := dk_180 0 79 (dk_at dksX0_hit_1 14 rfl rfl)
theorem dX0_hit_40 : decode cX0_hit 40 = .ok (.aload_n 0, 1) := dk_42 (dk_at dksX0_hit_1 17 rfl rfl)
theorem dX0_hit_41 : decode cX0_hit 41 = .ok (.iload_n 1, 1) := dk_27 (dk_at dksX0_hit_1 18 rfl rfl)
theorem dX0_hit_42 : decode cX0_hit 42 = .ok (.iload_n 2, 1) := dk_28 (dk_at dksX0_hit_1 19 rfl rfl)
theorem dX0_hit_43 : decode cX0_hit 43 = .ok (.iload_n 3, 1) := dk_29 (dk_at dksX0_hit_1 20 rfl rfl)
theorem dX0_hit_44 : decode cX0_hit 44 = .ok (.iload 4, 2) := dk_21 4 (dk_at dksX0_hit_1 21 rfl rfl)
theorem dX0_hit_46 : decode cX0_hit 46 = .ok (.invokevirtual 98, 3) := dk_182 0 98 (dk_at dksX0_hit_2 0 rfl rfl)
theorem dX0_hit_49 : decode cX0_hit 49 = .ok (.aastore, 1) := dk_83 (dk_at dksX0_hit_2 3 rfl rfl)
theorem dX0_hit_50 : decode cX0_hit 50 = .ok (.aload_n 0, 1) := dk_42 (dk_at dksX0_hit_2 4 rfl rfl)
theorem dX0_hit_51 : decode cX0_hit 51 = .ok (.dup, 1) := dk_89 (dk_at dksX0_hit_2 5 rfl rfl)
theorem dX0_hit_52 : decode cX0_hit 52 = .ok (.getfield 79, 3) := dk_180 0 79 (dk_at dksX0_hit_2 6 rfl rfl)
theorem dX0_hit_55 : decode cX0_hit 55 = .ok (.iconst 1, 1) := dk_4 (dk_at dksX0_hit_2 9 rfl rfl)
theorem dX0_hit_56 : decode cX0_hit 56 = .ok (.iadd, 1) := dk_96 (dk_at dksX0_hit_2 10 rfl rfl)
theorem dX0_hit_57 : decode cX0_hit 57 = .ok (.putfield 79, 3) := dk_181 0 79 (dk_at dksX0_hit_2 11 rfl rfl)
theorem dX0_hit_60 : decode cX0_hit 60 = .ok (.aload_n 0, 1) := dk_42 (dk_at dksX0_hit_2 14 rfl rfl)
theorem dX0_hit_61 : decode cX0_hit 61 = .ok (.getfield 79, 3) := dk_180 0 79 (dk_at dksX0_hit_2 15 rfl rfl)
theorem dX0_hit_64 : decode cX0_hit 64 = .ok (.iconst 1, 1) := dk_4 (dk_at dksX0_hit_2 18 rfl rfl)
theorem dX0_hit_65 : decode cX0_hit 65 = .ok (.isub, 1) := dk_100 (dk_at dksX0_hit_2 19 rfl rfl)
theorem dX0_hit_66 : decode cX0_hit 66 = .ok (.ireturn, 1) := dk_172 (dk_at dksX0_hit_2 20 rfl rfl)
abbrev cX0_refusedHit : ByteArray := prog_1_method_9_code
def yX0_refusedHit : MethodName := ⟨RX0, "refusedHit", "(IIII)I"⟩
def dkwX0_refusedHit_3 : List UInt8 := [3, 167, 0, 5, 16, 254, 172]
abbrev dktX0_refusedHit_3 : List UInt8 := dkwX0_refusedHit_3 ++ []
def dkwX0_refusedHit_2 : List UInt8 := [17, 0, 255, 159, 0, 9, 21, 4, 2, 160, 0, 7, 4, 167, 0, 4, 3, 54, 5, 21, 5, 153, 0, 7]
abbrev dktX0_refusedHit_2 : List UInt8 := dkwX0_refusedHit_2 ++ dktX0_refusedHit_3
def dkwX0_refusedHit_1 : List UInt8 := [17, 0, 255, 184, 0, 50, 153, 0, 32, 21, 4, 2, 17, 0, 255, 184, 0, 50, 153, 0, 20, 29]
abbrev dktX0_refusedHit_1 : List UInt8 := dkwX0_refusedHit_1 ++ dktX0_refusedHit_2
def dkwX0_refusedHit_0 : List UInt8 := [42, 27, 182, 0, 57, 153, 0, 5, 2, 172, 28, 3, 17, 78, 32, 184, 0, 50, 153, 0, 43, 29, 3]
abbrev dktX0_refusedHit_0 : List UInt8 := dkwX0_refusedHit_0 ++ dktX0_refusedHit_1
theorem dksX0_refusedHit_0 : cX0_refusedHit.data.toList.drop 0 = dktX0_refusedHit_0 := by decide +kernel
theorem dksX0_refusedHit_1 : cX0_refusedHit.data.toList.drop 23 = dktX0_refusedHit_1 := dk_seg dksX0_refusedHit_0 23 rfl rfl
theorem dksX0_refusedHit_2 : cX0_refusedHit.data.toList.drop 45 = dktX0_refusedHit_2 := dk_seg dksX0_refusedHit_1 22 rfl rfl
theorem dksX0_refusedHit_3 : cX0_refusedHit.data.toList.drop 69 = dktX0_refusedHit_3 := dk_seg dksX0_refusedHit_2 24 rfl rfl
theorem dX0_refusedHit_0 : decode cX0_refusedHit 0 = .ok (.aload_n 0, 1) := dk_42 (dk_at dksX0_refusedHit_0 0 rfl rfl)
theorem dX0_refusedHit_1 : decode cX0_refusedHit 1 = .ok (.iload_n 1, 1) := dk_27 (dk_at dksX0_refusedHit_0 1 rfl rfl)
theorem dX0_refusedHit_2 : decode cX0_refusedHit 2 = .ok (.invokevirtual 57, 3) := dk_182 0 57 (dk_at dksX0_refusedHit_0 2 rfl rfl)
theorem dX0_refusedHit_5 : decode cX0_refusedHit 5 = .ok (.ifCond .eq 5, 3) := dk_153 0 5 (dk_at dksX0_refusedHit_0 5 rfl rfl)
theorem dX0_refusedHit_8 : decode cX0_refusedHit 8 = .ok (.iconst (-1), 1) := dk_2 (dk_at dksX0_refusedHit_0 8 rfl rfl)
theorem dX0_refusedHit_9 : decode cX0_refusedHit 9 = .ok (.ireturn, 1) := dk_172 (dk_at dksX0_refusedHit_0 9 rfl rfl)
theorem dX0_refusedHit_10 : decode cX0_refusedHit 10 = .ok (.iload_n 2, 1) := dk_28 (dk_at dksX0_refusedHit_0 10 rfl rfl)
theorem dX0_refusedHit_11 : decode cX0_refusedHit 11 = .ok (.iconst 0, 1) := dk_3 (dk_at dksX0_refusedHit_0 11 rfl rfl)
theorem dX0_refusedHit_12 : decode cX0_refusedHit 12 = .ok (.sipush 20000, 3) := dk_17 78 32 (dk_at dksX0_refusedHit_0 12 rfl rfl)
theorem dX0_refusedHit_15 : decode cX0_refusedHit 15 = .ok (.invokestatic 50, 3) := dk_184 0 50 (dk_at dksX0_refusedHit_0 15 rfl rfl)
theorem dX0_refusedHit_18 : decode cX0_refusedHit 18 = .ok (.ifCond .eq 43, 3) := dk_153 0 43 (dk_at dksX0_refusedHit_0 18 rfl rfl)
theorem dX0_refusedHit_21 : decode cX0_refusedHit 21 = .ok (.iload_n 3, 1) := dk_29 (dk_at dksX0_refusedHit_0 21 rfl rfl)
theorem dX0_refusedHit_22 : decode cX0_refusedHit 22 = .ok (.iconst 0, 1) := dk_3 (dk_at dksX0_refusedHit_0 22 rfl rfl)
theorem dX0_refusedHit_23 : decode cX0_refusedHit 23 = .ok (.sipush 255, 3) := dk_17 0 255 (dk_at dksX0_refusedHit_1 0 rfl rfl)
theorem dX0_refusedHit_26 : decode cX0_refusedHit 26 = .ok (.invokestatic 50, 3) := dk_184 0 50 (dk_at dksX0_refusedHit_1 3 rfl rfl)
theorem dX0_refusedHit_29 : decode cX0_refusedHit 29 = .ok (.ifCond .eq 32, 3) := dk_153 0 32 (dk_at dksX0_refusedHit_1 6 rfl rfl)
theorem dX0_refusedHit_32 : decode cX0_refusedHit 32 = .ok (.iload 4, 2) := dk_21 4 (dk_at dksX0_refusedHit_1 9 rfl rfl)
theorem dX0_refusedHit_34 : decode cX0_refusedHit 34 = .ok (.iconst (-1), 1) := dk_2 (dk_at dksX0_refusedHit_1 11 rfl rfl)
theorem dX0_refusedHit_35 : decode cX0_refusedHit 35 = .ok (.sipush 255, 3) := dk_17 0 255 (dk_at dksX0_refusedHit_1 12 rfl rfl)
theorem dX0_refusedHit_38 : decode cX0_refusedHit 38 = .ok (.invokestatic 50, 3) := dk_184 0 50 (dk_at dksX0_refusedHit_1 15 rfl rfl)
theorem dX0_refusedHit_41 : decode cX0_refusedHit 41 = .ok (.ifCond .eq 20, 3) := dk_153 0 20 (dk_at dksX0_refusedHit_1 18 rfl rfl)
theorem dX0_refusedHit_44 : decode cX0_refusedHit 44 = .ok (.iload_n 3, 1) := dk_29 (dk_at dksX0_refusedHit_1 21 rfl rfl)
theorem dX0_refusedHit_45 : decode cX0_refusedHit 45 = .ok (.sipush 255, 3) := dk_17 0 255 (dk_at dksX0_refusedHit_2 0 rfl rfl)
theorem dX0_refusedHit_48 : decode cX0_refusedHit 48 = .ok (.if_icmp .eq 9, 3) := dk_159 0 9 (dk_at dksX0_refusedHit_2 3 rfl rfl)
theorem dX0_refusedHit_51 : decode cX0_refusedHit 51 = .ok (.iload 4, 2) := dk_21 4 (dk_at dksX0_refusedHit_2 6 rfl rfl)
theorem dX0_refusedHit_53 : decode cX0_refusedHit 53 = .ok (.iconst (-1), 1) := dk_2 (dk_at dksX0_refusedHit_2 8 rfl rfl)
theorem dX0_refusedHit_54 : decode cX0_refusedHit 54 = .ok (.if_icmp .ne 7, 3) := dk_160 0 7 (dk_at dksX0_refusedHit_2 9 rfl rfl)
theorem dX0_refusedHit_57 : decode cX0_refusedHit 57 = .ok (.iconst 1, 1) := dk_4 (dk_at dksX0_refusedHit_2 12 rfl rfl)
theorem dX0_refusedHit_58 : decode cX0_refusedHit 58 = .ok (.goto 4, 3) := dk_167 0 4 (dk_at dksX0_refusedHit_2 13 rfl rfl)
theorem dX0_refusedHit_61 : decode cX0_refusedHit 61 = .ok (.iconst 0, 1) := dk_3 (dk_at dksX0_refusedHit_2 16 rfl rfl)
theorem dX0_refusedHit_62 : decode cX0_refusedHit 62 = .ok (.istore 5, 2) := dk_54 5 (dk_at dksX0_refusedHit_2 17 rfl rfl)
theorem dX0_refusedHit_64 : decode cX0_refusedHit 64 = .ok (.iload 5, 2) := dk_21 5 (dk_at dksX0_refusedHit_2 19 rfl rfl)
theorem dX0_refusedHit_66 : decode cX0_refusedHit 66 = .ok (.ifCond .eq 7, 3) := dk_153 0 7 (dk_at dksX0_refusedHit_2 21 rfl rfl)
theorem dX0_refusedHit_69 : decode cX0_refusedHit 69 = .ok (.iconst 0, 1) := dk_3 (dk_at dksX0_refusedHit_3 0 rfl rfl)
theorem dX0_refusedHit_70 : decode cX0_refusedHit 70 = .ok (.goto 5, 3) := dk_167 0 5 (dk_at dksX0_refusedHit_3 1 rfl rfl)
theorem dX0_refusedHit_73 : decode cX0_refusedHit 73 = .ok (.bipush (-2), 2) := dk_16 254 (dk_at dksX0_refusedHit_3 4 rfl rfl)
theorem dX0_refusedHit_75 : decode cX0_refusedHit 75 = .ok (.ireturn, 1) := dk_172 (dk_at dksX0_refusedHit_3 6 rfl rfl)
abbrev cX0_made : ByteArray := prog_1_method_10_code
def yX0_made : MethodName := ⟨RX0, "made", "(IIII)LTankField$Plain;"⟩
def dkwX0_made_3 : List UInt8 := [27, 28, 29, 21, 4, 183, 0, 93, 176]
abbrev dktX0_made_3 : List UInt8 := dkwX0_made_3 ++ []
def dkwX0_made_2 : List UInt8 := [162, 0, 19, 187, 0, 88, 89, 42, 27, 28, 29, 21, 4, 183, 0, 90, 167, 0, 16, 187, 0, 91, 89, 42]
abbrev dktX0_made_2 : List UInt8 := dkwX0_made_2 ++ dktX0_made_3
def dkwX0_made_1 : List UInt8 := [156, 0, 19, 187, 0, 85, 89, 42, 27, 28, 29, 21, 4, 183, 0, 87, 167, 0, 40, 21, 4, 17, 0, 255]
abbrev dktX0_made_1 : List UInt8 := dkwX0_made_1 ++ dktX0_made_2
def dkwX0_made_0 : List UInt8 := [29, 17, 0, 255, 162, 0, 17, 187, 0, 17, 89, 42, 27, 28, 29, 21, 4, 183, 0, 82, 176, 21, 4]
abbrev dktX0_made_0 : List UInt8 := dkwX0_made_0 ++ dktX0_made_1
theorem dksX0_made_0 : cX0_made.data.toList.drop 0 = dktX0_made_0 := by decide +kernel
theorem dksX0_made_1 : cX0_made.data.toList.drop 23 = dktX0_made_1 := dk_seg dksX0_made_0 23 rfl rfl
theorem dksX0_made_2 : cX0_made.data.toList.drop 47 = dktX0_made_2 := dk_seg dksX0_made_1 24 rfl rfl
theorem dksX0_made_3 : cX0_made.data.toList.drop 71 = dktX0_made_3 := dk_seg dksX0_made_2 24 rfl rfl
theorem dX0_made_0 : decode cX0_made 0 = .ok (.iload_n 3, 1) := dk_29 (dk_at dksX0_made_0 0 rfl rfl)
theorem dX0_made_1 : decode cX0_made 1 = .ok (.sipush 255, 3) := dk_17 0 255 (dk_at dksX0_made_0 1 rfl rfl)
theorem dX0_made_4 : decode cX0_made 4 = .ok (.if_icmp .ge 17, 3) := dk_162 0 17 (dk_at dksX0_made_0 4 rfl rfl)
theorem dX0_made_7 : decode cX0_made 7 = .ok (.new 17, 3) := dk_187 0 17 (dk_at dksX0_made_0 7 rfl rfl)
theorem dX0_made_10 : decode cX0_made 10 = .ok (.dup, 1) := dk_89 (dk_at dksX0_made_0 10 rfl rfl)
theorem dX0_made_11 : decode cX0_made 11 = .ok (.aload_n 0, 1) := dk_42 (dk_at dksX0_made_0 11 rfl rfl)
theorem dX0_made_12 : decode cX0_made 12 = .ok (.iload_n 1, 1) := dk_27 (dk_at dksX0_made_0 12 rfl rfl)
theorem dX0_made_13 : decode cX0_made 13 = .ok (.iload_n 2, 1) := dk_28 (dk_at dksX0_made_0 13 rfl rfl)
theorem dX0_made_14 : decode cX0_made 14 = .ok (.iload_n 3, 1) := dk_29 (dk_at dksX0_made_0 14 rfl rfl)
theorem dX0_made_15 : decode cX0_made 15 = .ok (.iload 4, 2) := dk_21 4 (dk_at dksX0_made_0 15 rfl rfl)
theorem dX0_made_17 : decode cX0_made 17 = .ok (.invokespecial 82, 3) := dk_183 0 82 (dk_at dksX0_made_0 17 rfl rfl)
theorem dX0_made_20 : decode cX0_made 20 = .ok (.areturn, 1) := dk_176 (dk_at dksX0_made_0 20 rfl rfl)
theorem dX0_made_21 : decode cX0_made 21 = .ok (.iload 4, 2) := dk_21 4 (dk_at dksX0_made_0 21 rfl rfl)
theorem dX0_made_23 : decode cX0_made 23 = .ok (.ifCond .ge 19, 3) := dk_156 0 19 (dk_at dksX0_made_1 0 rfl rfl)
theorem dX0_made_26 : decode cX0_made 26 = .ok (.new 85, 3) := dk_187 0 85 (dk_at dksX0_made_1 3 rfl rfl)
theorem dX0_made_29 : decode cX0_made 29 = .ok (.dup, 1) := dk_89 (dk_at dksX0_made_1 6 rfl rfl)
theorem dX0_made_30 : decode cX0_made 30 = .ok (.aload_n 0, 1) := dk_42 (dk_at dksX0_made_1 7 rfl rfl)
theorem dX0_made_31 : decode cX0_made 31 = .ok (.iload_n 1, 1) := dk_27 (dk_at dksX0_made_1 8 rfl rfl)
theorem dX0_made_32 : decode cX0_made 32 = .ok (.iload_n 2, 1) := dk_28 (dk_at dksX0_made_1 9 rfl rfl)
theorem dX0_made_33 : decode cX0_made 33 = .ok (.iload_n 3, 1) := dk_29 (dk_at dksX0_made_1 10 rfl rfl)
theorem dX0_made_34 : decode cX0_made 34 = .ok (.iload 4, 2) := dk_21 4 (dk_at dksX0_made_1 11 rfl rfl)
theorem dX0_made_36 : decode cX0_made 36 = .ok (.invokespecial 87, 3) := dk_183 0 87 (dk_at dksX0_made_1 13 rfl rfl)
theorem dX0_made_39 : decode cX0_made 39 = .ok (.goto 40, 3) := dk_167 0 40 (dk_at dksX0_made_1 16 rfl rfl)
theorem dX0_made_42 : decode cX0_made 42 = .ok (.iload 4, 2) := dk_21 4 (dk_at dksX0_made_1 19 rfl rfl)
theorem dX0_made_44 : decode cX0_made 44 = .ok (.sipush 255, 3) := dk_17 0 255 (dk_at dksX0_made_1 21 rfl rfl)
theorem dX0_made_47 : decode cX0_made 47 = .ok (.if_icmp .ge 19, 3) := dk_162 0 19 (dk_at dksX0_made_2 0 rfl rfl)
theorem dX0_made_50 : decode cX0_made 50 = .ok (.new 88, 3) := dk_187 0 88 (dk_at dksX0_made_2 3 rfl rfl)
theorem dX0_made_53 : decode cX0_made 53 = .ok (.dup, 1) := dk_89 (dk_at dksX0_made_2 6 rfl rfl)
theorem dX0_made_54 : decode cX0_made 54 = .ok (.aload_n 0, 1) := dk_42 (dk_at dksX0_made_2 7 rfl rfl)
theorem dX0_made_55 : decode cX0_made 55 = .ok (.iload_n 1, 1) := dk_27 (dk_at dksX0_made_2 8 rfl rfl)
theorem dX0_made_56 : decode cX0_made 56 = .ok (.iload_n 2, 1) := dk_28 (dk_at dksX0_made_2 9 rfl rfl)
theorem dX0_made_57 : decode cX0_made 57 = .ok (.iload_n 3, 1) := dk_29 (dk_at dksX0_made_2 10 rfl rfl)
theorem dX0_made_58 : decode cX0_made 58 = .ok (.iload 4, 2) := dk_21 4 (dk_at dksX0_made_2 11 rfl rfl)
theorem dX0_made_60 : decode cX0_made 60 = .ok (.invokespecial 90, 3) := dk_183 0 90 (dk_at dksX0_made_2 13 rfl rfl)
theorem dX0_made_63 : decode cX0_made 63 = .ok (.goto 16, 3) := dk_167 0 16 (dk_at dksX0_made_2 16 rfl rfl)
theorem dX0_made_66 : decode cX0_made 66 = .ok (.new 91, 3) := dk_187 0 91 (dk_at dksX0_made_2 19 rfl rfl)
theorem dX0_made_69 : decode cX0_made 69 = .ok (.dup, 1) := dk_89 (dk_at dksX0_made_2 22 rfl rfl)
theorem dX0_made_70 : decode cX0_made 70 = .ok (.aload_n 0, 1) := dk_42 (dk_at dksX0_made_2 23 rfl rfl)
theorem dX0_made_71 : decode cX0_made 71 = .ok (.iload_n 1, 1) := dk_27 (dk_at dksX0_made_3 0 rfl rfl)
theorem dX0_made_72 : decode cX0_made 72 = .ok (.iload_n 2, 1) := dk_28 (dk_at dksX0_made_3 1 rfl rfl)
theorem dX0_made_73 : decode cX0_made 73 = .ok (.iload_n 3, 1) := dk_29 (dk_at dksX0_made_3 2 rfl rfl)
theorem dX0_made_74 : decode cX0_made 74 = .ok (.iload 4, 2) := dk_21 4 (dk_at dksX0_made_3 3 rfl rfl)
theorem dX0_made_76 : decode cX0_made 76 = .ok (.invokespecial 93, 3) := dk_183 0 93 (dk_at dksX0_made_3 5 rfl rfl)
theorem dX0_made_79 : decode cX0_made 79 = .ok (.areturn, 1) := dk_176 (dk_at dksX0_made_3 8 rfl rfl)
abbrev cX0_about : ByteArray := prog_1_method_12_code
def yX0_about : MethodName := ⟨RX0, "about", "(II)I"⟩
def dkwX0_about_7 : List UInt8 := [132, 4, 1, 167, 255, 211, 29, 172]
abbrev dktX0_about_7 : List UInt8 := dkwX0_about_7 ++ []
def dkwX0_about_6 : List UInt8 := [42, 180, 0, 30, 180, 0, 118, 21, 4, 50, 27, 182, 0, 122, 153, 0, 7, 4, 167, 0, 4, 3, 96, 62]
abbrev dktX0_about_6 : List UInt8 := dkwX0_about_6 ++ dktX0_about_7
def dkwX0_about_5 : List UInt8 := [167, 255, 199, 3, 54, 4, 21, 4, 42, 180, 0, 30, 180, 0, 115, 162, 0, 39, 28, 7, 160, 0, 34, 29]
abbrev dktX0_about_5 : List UInt8 := dkwX0_about_5 ++ dktX0_about_6
def dkwX0_about_4 : List UInt8 := [42, 180, 0, 19, 21, 4, 50, 182, 0, 111, 154, 0, 7, 4, 167, 0, 4, 3, 96, 62, 132, 4, 1]
abbrev dktX0_about_4 : List UInt8 := dkwX0_about_4 ++ dktX0_about_5
def dkwX0_about_3 : List UInt8 := [7, 162, 0, 49, 29, 42, 180, 0, 19, 21, 4, 50, 180, 0, 108, 27, 160, 0, 25, 28, 5, 159, 0, 16]
abbrev dktX0_about_3 : List UInt8 := dkwX0_about_3 ++ dktX0_about_4
def dkwX0_about_2 : List UInt8 := [184, 0, 50, 154, 0, 6, 16, 254, 172, 3, 62, 3, 54, 4, 21, 4, 42, 180, 0, 79, 162, 0, 54, 28]
abbrev dktX0_about_2 : List UInt8 := dkwX0_about_2 ++ dktX0_about_3
def dkwX0_about_1 : List UInt8 := [180, 0, 13, 27, 50, 180, 0, 102, 167, 0, 12, 42, 180, 0, 13, 27, 50, 180, 0, 105, 172, 28, 5, 7]
abbrev dktX0_about_1 : List UInt8 := dkwX0_about_1 ++ dktX0_about_2
def dkwX0_about_0 : List UInt8 := [42, 27, 182, 0, 57, 153, 0, 5, 2, 172, 28, 153, 0, 8, 28, 4, 160, 0, 29, 28, 154, 0, 15, 42]
abbrev dktX0_about_0 : List UInt8 := dkwX0_about_0 ++ dktX0_about_1
theorem dksX0_about_0 : cX0_about.data.toList.drop 0 = dktX0_about_0 := by decide +kernel
theorem dksX0_about_1 : cX0_about.data.toList.drop 24 = dktX0_about_1 := dk_seg dksX0_about_0 24 rfl rfl
theorem dksX0_about_2 : cX0_about.data.toList.drop 48 = dktX0_about_2 := dk_seg dksX0_about_1 24 rfl rfl
theorem dksX0_about_3 : cX0_about.data.toList.drop 72 = dktX0_about_3 := dk_seg dksX0_about_2 24 rfl rfl
theorem dksX0_about_4 : cX0_about.data.toList.drop 96 = dktX0_about_4 := dk_seg dksX0_about_3 24 rfl rfl
theorem dksX0_about_5 : cX0_about.data.toList.drop 119 = dktX0_about_5 := dk_seg dksX0_about_4 23 rfl rfl
theorem dksX0_about_6 : cX0_about.data.toList.drop 143 = dktX0_about_6 := dk_seg dksX0_about_5 24 rfl rfl
theorem dksX0_about_7 : cX0_about.data.toList.drop 167 = dktX0_about_7 := dk_seg dksX0_about_6 24 rfl rfl
theorem dX0_about_0 : decode cX0_about 0 = .ok (.aload_n 0, 1) := dk_42 (dk_at dksX0_about_0 0 rfl rfl)
theorem dX0_about_1 : decode cX0_about 1 = .ok (.iload_n 1, 1) := dk_27 (dk_at dksX0_about_0 1 rfl rfl)
theorem dX0_about_2 : decode cX0_about 2 = .ok (.invokevirtual 57, 3) := dk_182 0 57 (dk_at dksX0_about_0 2 rfl rfl)
theorem dX0_about_5 : decode cX0_about 5 = .ok (.ifCond .eq 5, 3) := dk_153 0 5 (dk_at dksX0_about_0 5 rfl rfl)
theorem dX0_about_8 : decode cX0_about 8 = .ok (.iconst (-1), 1) := dk_2 (dk_at dksX0_about_0 8 rfl rfl)
theorem dX0_about_9 : decode cX0_about 9 = .ok (.ireturn, 1) := dk_172 (dk_at dksX0_about_0 9 rfl rfl)
theorem dX0_about_10 : decode cX0_about 10 = .ok (.iload_n 2, 1) := dk_28 (dk_at dksX0_about_0 10 rfl rfl)
theorem dX0_about_11 : decode cX0_about 11 = .ok (.ifCond .eq 8, 3) := dk_153 0 8 (dk_at dksX0_about_0 11 rfl rfl)
theorem dX0_about_14 : decode cX0_about 14 = .ok (.iload_n 2, 1) := dk_28 (dk_at dksX0_about_0 14 rfl rfl)
theorem dX0_about_15 : decode cX0_about 15 = .ok (.iconst 1, 1) := dk_4 (dk_at dksX0_about_0 15 rfl rfl)
theorem dX0_about_16 : decode cX0_about 16 = .ok (.if_icmp .ne 29, 3) := dk_160 0 29 (dk_at dksX0_about_0 16 rfl rfl)
theorem dX0_about_19 : decode cX0_about 19 = .ok (.iload_n 2, 1) := dk_28 (dk_at dksX0_about_0 19 rfl rfl)
theorem dX0_about_20 : decode cX0_about 20 = .ok (.ifCond .ne 15, 3) := dk_154 0 15 (dk_at dksX0_about_0 20 rfl rfl)
theorem dX0_about_23 : decode cX0_about 23 = .ok (.aload_n 0, 1) := dk_42 (dk_at dksX0_about_0 23 rfl rfl)
theorem dX0_about_24 : decode cX0_about 24 = .ok (.getfield 13, 3) := dk_180 0 13 (dk_at dksX0_about_1 0 rfl rfl)
theorem dX0_about_27 : decode cX0_about 27 = .ok (.iload_n 1, 1) := dk_27 (dk_at dksX0_about_1 3 rfl rfl)
theorem dX0_about_28 : decode cX0_about 28 = .ok (.aaload, 1) := dk_50 (dk_at dksX0_about_1 4 rfl rfl)
theorem dX0_about_29 : decode cX0_about 29 = .ok (.getfield 102, 3) := dk_180 0 102 (dk_at dksX0_about_1 5 rfl rfl)
theorem dX0_about_32 : decode cX0_about 32 = .ok (.goto 12, 3) := dk_167 0 12 (dk_at dksX0_about_1 8 rfl rfl)
theorem dX0_about_35 : decode cX0_about 35 = .ok (.aload_n 0, 1) := dk_42 (dk_at dksX0_about_1 11 rfl rfl)
theorem dX0_about_36 : decode cX0_about 36 = .ok (.getfield 13, 3) := dk_180 0 13 (dk_at dksX0_about_1 12 rfl rfl)
theorem dX0_about_39 : decode cX0_about 39 = .ok (.iload_n 1, 1) := dk_27 (dk_at dksX0_about_1 15 rfl rfl)
theorem dX0_about_40 : decode cX0_about 40 = .ok (.aaload, 1) := dk_50 (dk_at dksX0_about_1 16 rfl rfl)
theorem dX0_about_41 : decode cX0_about 41 = .ok (.getfield 105, 3) := dk_180 0 105 (dk_at dksX0_about_1 17 rfl rfl)
theorem dX0_about_44 : decode cX0_about 44 = .ok (.ireturn, 1) := dk_172 (dk_at dksX0_about_1 20 rfl rfl)
theorem dX0_about_45 : decode cX0_about 45 = .ok (.iload_n 2, 1) := dk_28 (dk_at dksX0_about_1 21 rfl rfl)
theorem dX0_about_46 : decode cX0_about 46 = .ok (.iconst 2, 1) := dk_5 (dk_at dksX0_about_1 22 rfl rfl)
theorem dX0_about_47 : decode cX0_about 47 = .ok (.iconst 4, 1) := dk_7 (dk_at dksX0_about_1 23 rfl rfl)
theorem dX0_about_48 : decode cX0_about 48 = .ok (.invokestatic 50, 3) := dk_184 0 50 (dk_at dksX0_about_2 0 rfl rfl)
theorem dX0_about_51 : decode cX0_about 51 = .ok (.ifCond .ne 6, 3) := dk_154 0 6 (dk_at dksX0_about_2 3 rfl rfl)
theorem dX0_about_54 : decode cX0_about 54 = .ok (.bipush (-2), 2) := dk_16 254 (dk_at dksX0_about_2 6 rfl rfl)
theorem dX0_about_56 : decode cX0_about 56 = .ok (.ireturn, 1) := dk_172 (dk_at dksX0_about_2 8 rfl rfl)
theorem dX0_about_57 : decode cX0_about 57 = .ok (.iconst 0, 1) := dk_3 (dk_at dksX0_about_2 9 rfl rfl)
theorem dX0_about_58 : decode cX0_about 58 = .ok (.istore_n 3, 1) := dk_62 (dk_at dksX0_about_2 10 rfl rfl)
theorem dX0_about_59 : decode cX0_about 59 = .ok (.iconst 0, 1) := dk_3 (dk_at dksX0_about_2 11 rfl rfl)
theorem dX0_about_60 : decode cX0_about 60 = .ok (.istore 4, 2) := dk_54 4 (dk_at dksX0_about_2 12 rfl rfl)
theorem dX0_about_62 : decode cX0_about 62 = .ok (.iload 4, 2) := dk_21 4 (dk_at dksX0_about_2 14 rfl rfl)
theorem dX0_about_64 : decode cX0_about 64 = .ok (.aload_n 0, 1) := dk_42 (dk_at dksX0_about_2 16 rfl rfl)
theorem dX0_about_65 : decode cX0_about 65 = .ok (.getfield 79, 3) := dk_180 0 79 (dk_at dksX0_about_2 17 rfl rfl)
theorem dX0_about_68 : decode cX0_about 68 = .ok (.if_icmp .ge 54, 3) := dk_162 0 54 (dk_at dksX0_about_2 20 rfl rfl)
theorem dX0_about_71 : decode cX0_about 71 = .ok (.iload_n 2, 1) := dk_28 (dk_at dksX0_about_2 23 rfl rfl)
theorem dX0_about_72 : decode cX0_about 72 = .ok (.iconst 4, 1) := dk_7 (dk_at dksX0_about_3 0 rfl rfl)
theorem dX0_about_73 : decode cX0_about 73 = .ok (.if_icmp .ge 49, 3) := dk_162 0 49 (dk_at dksX0_about_3 1 rfl rfl)
theorem dX0_about_76 : decode cX0_about 76 = .ok (.iload_n 3, 1) := dk_29 (dk_at dksX0_about_3 4 rfl rfl)
theorem dX0_about_77 : decode cX0_about 77 = .ok (.aload_n 0, 1) := dk_42 (dk_at dksX0_about_3 5 rfl rfl)
theorem dX0_about_78 : decode cX0_about 78 = .ok (.getfield 19, 3) := dk_180 0 19 (dk_at dksX0_about_3 6 rfl rfl)
theorem dX0_about_81 : decode cX0_about 81 = .ok (.iload 4, 2) := dk_21 4 (dk_at dksX0_about_3 9 rfl rfl)
theorem dX0_about_83 : decode cX0_about 83 = .ok (.aaload, 1) := dk_50 (dk_at dksX0_about_3 11 rfl rfl)
theorem dX0_about_84 : decode cX0_about 84 = .ok (.getfield 108, 3) := dk_180 0 108 (dk_at dksX0_about_3 12 rfl rfl)
theorem dX0_about_87 : decode cX0_about 87 = .ok (.iload_n 1, 1) := dk_27 (dk_at dksX0_about_3 15 rfl rfl)
theorem dX0_about_88 : decode cX0_about 88 = .ok (.if_icmp .ne 25, 3) := dk_160 0 25 (dk_at dksX0_about_3 16 rfl rfl)
theorem dX0_about_91 : decode cX0_about 91 = .ok (.iload_n 2, 1) := dk_28 (dk_at dksX0_about_3 19 rfl rfl)
theorem dX0_about_92 : decode cX0_about 92 = .ok (.iconst 2, 1) := dk_5 (dk_at dksX0_about_3 20 rfl rfl)
theorem dX0_about_93 : decode cX0_about 93 = .ok (.if_icmp .eq 16, 3) := dk_159 0 16 (dk_at dksX0_about_3 21 rfl rfl)
theorem dX0_about_96 : decode cX0_about 96 = .ok (.aload_n 0, 1) := dk_42 (dk_at dksX0_about_4 0 rfl rfl)
theorem dX0_about_97 : decode cX0_about 97 = .ok (.getfield 19, 3) := dk_180 0 19 (dk_at dksX0_about_4 1 rfl rfl)
theorem dX0_about_100 : decode cX0_about 100 = .ok (.iload 4, 2) := dk_21 4 (dk_at dksX0_about_4 4 rfl rfl)
theorem dX0_about_102 : decode cX0_about 102 = .ok (.aaload, 1) := dk_50 (dk_at dksX0_about_4 6 rfl rfl)
theorem dX0_about_103 : decode cX0_about 103 = .ok (.invokevirtual 111, 3) := dk_182 0 111 (dk_at dksX0_about_4 7 rfl rfl)
theorem dX0_about_106 : decode cX0_about 106 = .ok (.ifCond .ne 7, 3) := dk_154 0 7 (dk_at dksX0_about_4 10 rfl rfl)
theorem dX0_about_109 : decode cX0_about 109 = .ok (.iconst 1, 1) := dk_4 (dk_at dksX0_about_4 13 rfl rfl)
theorem dX0_about_110 : decode cX0_about 110 = .ok (.goto 4, 3) := dk_167 0 4 (dk_at dksX0_about_4 14 rfl rfl)
theorem dX0_about_113 : decode cX0_about 113 = .ok (.iconst 0, 1) := dk_3 (dk_at dksX0_about_4 17 rfl rfl)
theorem dX0_about_114 : decode cX0_about 114 = .ok (.iadd, 1) := dk_96 (dk_at dksX0_about_4 18 rfl rfl)
theorem dX0_about_115 : decode cX0_about 115 = .ok (.istore_n 3, 1) := dk_62 (dk_at dksX0_about_4 19 rfl rfl)
theorem dX0_about_116 : decode cX0_about 116 = .ok (.iinc 4 1, 3) := dk_132 4 1 (dk_at dksX0_about_4 20 rfl rfl)
theorem dX0_about_119 : decode cX0_about 119 = .ok (.goto (-57), 3) := dk_167 255 199 (dk_at dksX0_about_5 0 rfl rfl)
theorem dX0_about_122 : decode cX0_about 122 = .ok (.iconst 0, 1) := dk_3 (dk_at dksX0_about_5 3 rfl rfl)
theorem dX0_about_123 : decode cX0_about 123 = .ok (.istore 4, 2) := dk_54 4 (dk_at dksX0_about_5 4 rfl rfl)
theorem dX0_about_125 : decode cX0_about 125 = .ok (.iload 4, 2) := dk_21 4 (dk_at dksX0_about_5 6 rfl rfl)
theorem dX0_about_127 : decode cX0_about 127 = .ok (.aload_n 0, 1) := dk_42 (dk_at dksX0_about_5 8 rfl rfl)
theorem dX0_about_128 : decode cX0_about 128 = .ok (.getfield 30, 3) := dk_180 0 30 (dk_at dksX0_about_5 9 rfl rfl)
theorem dX0_about_131 : decode cX0_about 131 = .ok (.getfield 115, 3) := dk_180 0 115 (dk_at dksX0_about_5 12 rfl rfl)
theorem dX0_about_134 : decode cX0_about 134 = .ok (.if_icmp .ge 39, 3) := dk_162 0 39 (dk_at dksX0_about_5 15 rfl rfl)
theorem dX0_about_137 : decode cX0_about 137 = .ok (.iload_n 2, 1) := dk_28 (dk_at dksX0_about_5 18 rfl rfl)
theorem dX0_about_138 : decode cX0_about 138 = .ok (.iconst 4, 1) := dk_7 (dk_at dksX0_about_5 19 rfl rfl)
theorem dX0_about_139 : decode cX0_about 139 = .ok (.if_icmp .ne 34, 3) := dk_160 0 34 (dk_at dksX0_about_5 20 rfl rfl)
theorem dX0_about_142 : decode cX0_about 142 = .ok (.iload_n 3, 1) := dk_29 (dk_at dksX0_about_5 23 rfl rfl)
theorem dX0_about_143 : decode cX0_about 143 = .ok (.aload_n 0, 1) := dk_42 (dk_at dksX0_about_6 0 rfl rfl)
theorem dX0_about_144 : decode cX0_about 144 = .ok (.getfield 30, 3) := dk_180 0 30 (dk_at dksX0_about_6 1 rfl rfl)
theorem dX0_about_147 : decode cX0_about 147 = .ok (.getfield 118, 3) := dk_180 0 118 (dk_at dksX0_about_6 4 rfl rfl)
theorem dX0_about_150 : decode cX0_about 150 = .ok (.iload 4, 2) := dk_21 4 (dk_at dksX0_about_6 7 rfl rfl)
theorem dX0_about_152 : decode cX0_about 152 = .ok (.aaload, 1) := dk_50 (dk_at dksX0_about_6 9 rfl rfl)
theorem dX0_about_153 : decode cX0_about 153 = .ok (.iload_n 1, 1) := dk_27 (dk_at dksX0_about_6 10 rfl rfl)
theorem dX0_about_154 : decode cX0_about 154 = .ok (.invokevirtual 122, 3) := dk_182 0 122 (dk_at dksX0_about_6 11 rfl rfl)
theorem dX0_about_157 : decode cX0_about 157 = .ok (.ifCond .eq 7, 3) := dk_153 0 7 (dk_at dksX0_about_6 14 rfl rfl)
theorem dX0_about_160 : decode cX0_about 160 = .ok (.iconst 1, 1) := dk_4 (dk_at dksX0_about_6 17 rfl rfl)
theorem dX0_about_161 : decode cX0_about 161 = .ok (.goto 4, 3) := dk_167 0 4 (dk_at dksX0_about_6 18 rfl rfl)
theorem dX0_about_164 : decode cX0_about 164 = .ok (.iconst 0, 1) := dk_3 (dk_at dksX0_about_6 21 rfl rfl)
theorem dX0_about_165 : decode cX0_about 165 = .ok (.iadd, 1) := dk_96 (dk_at dksX0_about_6 22 rfl rfl)
theorem dX0_about_166 : decode cX0_about 166 = .ok (.istore_n 3, 1) := dk_62 (dk_at dksX0_about_6 23 rfl rfl)
theorem dX0_about_167 : decode cX0_about 167 = .ok (.iinc 4 1, 3) := dk_132 4 1 (dk_at dksX0_about_7 0 rfl rfl)
theorem dX0_about_170 : decode cX0_about 170 = .ok (.goto (-45), 3) := dk_167 255 211 (dk_at dksX0_about_7 3 rfl rfl)
theorem dX0_about_173 : decode cX0_about 173 = .ok (.iload_n 3, 1) := dk_29 (dk_at dksX0_about_7 6 rfl rfl)
theorem dX0_about_174 : decode cX0_about 174 = .ok (.ireturn, 1) := dk_172 (dk_at dksX0_about_7 7 rfl rfl)
abbrev cX0_struck : ByteArray := prog_1_method_13_code
def yX0_struck : MethodName := ⟨RX0, "struck", "(II)I"⟩
def dkwX0_struck_4 : List UInt8 := [16, 254, 172]
abbrev dktX0_struck_4 : List UInt8 := dkwX0_struck_4 ++ []
def dkwX0_struck_3 : List UInt8 := [172, 45, 182, 0, 111, 153, 0, 7, 4, 167, 0, 4, 3, 172, 42, 180, 0, 30, 27, 182, 0, 143, 172]
abbrev dktX0_struck_3 : List UInt8 := dkwX0_struck_3 ++ dktX0_struck_4
def dkwX0_struck_2 : List UInt8 := [45, 180, 0, 108, 172, 45, 180, 0, 130, 172, 45, 182, 0, 133, 172, 45, 182, 0, 137, 172, 45, 182, 0, 140]
abbrev dktX0_struck_2 : List UInt8 := dkwX0_struck_2 ++ dktX0_struck_3
def dkwX0_struck_1 : List UInt8 := [170, 0, 0, 0, 0, 89, 0, 0, 0, 0, 0, 0, 0, 6, 0, 0, 0, 42, 0, 0, 0, 47, 0, 0, 0, 52, 0, 0, 0, 57, 0, 0, 0, 62, 0, 0, 0, 67, 0, 0, 0, 80]
abbrev dktX0_struck_1 : List UInt8 := dkwX0_struck_1 ++ dktX0_struck_2
def dkwX0_struck_0 : List UInt8 := [42, 27, 182, 0, 127, 153, 0, 5, 2, 172, 42, 180, 0, 19, 27, 50, 78, 28]
abbrev dktX0_struck_0 : List UInt8 := dkwX0_struck_0 ++ dktX0_struck_1
theorem dksX0_struck_0 : cX0_struck.data.toList.drop 0 = dktX0_struck_0 := by decide +kernel
theorem dksX0_struck_1 : cX0_struck.data.toList.drop 18 = dktX0_struck_1 := dk_seg dksX0_struck_0 18 rfl rfl
theorem dksX0_struck_2 : cX0_struck.data.toList.drop 60 = dktX0_struck_2 := dk_seg dksX0_struck_1 42 rfl rfl
theorem dksX0_struck_3 : cX0_struck.data.toList.drop 84 = dktX0_struck_3 := dk_seg dksX0_struck_2 24 rfl rfl
theorem dksX0_struck_4 : cX0_struck.data.toList.drop 107 = dktX0_struck_4 := dk_seg dksX0_struck_3 23 rfl rfl
theorem dX0_struck_0 : decode cX0_struck 0 = .ok (.aload_n 0, 1) := dk_42 (dk_at dksX0_struck_0 0 rfl rfl)
theorem dX0_struck_1 : decode cX0_struck 1 = .ok (.iload_n 1, 1) := dk_27 (dk_at dksX0_struck_0 1 rfl rfl)
theorem dX0_struck_2 : decode cX0_struck 2 = .ok (.invokevirtual 127, 3) := dk_182 0 127 (dk_at dksX0_struck_0 2 rfl rfl)
theorem dX0_struck_5 : decode cX0_struck 5 = .ok (.ifCond .eq 5, 3) := dk_153 0 5 (dk_at dksX0_struck_0 5 rfl rfl)
theorem dX0_struck_8 : decode cX0_struck 8 = .ok (.iconst (-1), 1) := dk_2 (dk_at dksX0_struck_0 8 rfl rfl)
theorem dX0_struck_9 : decode cX0_struck 9 = .ok (.ireturn, 1) := dk_172 (dk_at dksX0_struck_0 9 rfl rfl)
theorem dX0_struck_10 : decode cX0_struck 10 = .ok (.aload_n 0, 1) := dk_42 (dk_at dksX0_struck_0 10 rfl rfl)
theorem dX0_struck_11 : decode cX0_struck 11 = .ok (.getfield 19, 3) := dk_180 0 19 (dk_at dksX0_struck_0 11 rfl rfl)
theorem dX0_struck_14 : decode cX0_struck 14 = .ok (.iload_n 1, 1) := dk_27 (dk_at dksX0_struck_0 14 rfl rfl)
theorem dX0_struck_15 : decode cX0_struck 15 = .ok (.aaload, 1) := dk_50 (dk_at dksX0_struck_0 15 rfl rfl)
theorem dX0_struck_16 : decode cX0_struck 16 = .ok (.astore_n 3, 1) := dk_78 (dk_at dksX0_struck_0 16 rfl rfl)
theorem dX0_struck_17 : decode cX0_struck 17 = .ok (.iload_n 2, 1) := dk_28 (dk_at dksX0_struck_0 17 rfl rfl)
theorem dX0_struck_18 : decode cX0_struck 18 = .ok (.tableswitch 89 0 6 #[42, 47, 52, 57, 62, 67, 80], 42) := by decide +kernel
theorem dX0_struck_60 : decode cX0_struck 60 = .ok (.aload_n 3, 1) := dk_45 (dk_at dksX0_struck_2 0 rfl rfl)
theorem dX0_struck_61 : decode cX0_struck 61 = .ok (.getfield 108, 3) := dk_180 0 108 (dk_at dksX0_struck_2 1 rfl rfl)
theorem dX0_struck_64 : decode cX0_struck 64 = .ok (.ireturn, 1) := dk_172 (dk_at dksX0_struck_2 4 rfl rfl)
theorem dX0_struck_65 : decode cX0_struck 65 = .ok (.aload_n 3, 1) := dk_45 (dk_at dksX0_struck_2 5 rfl rfl)
theorem dX0_struck_66 : decode cX0_struck 66 = .ok (.getfield 130, 3) := dk_180 0 130 (dk_at dksX0_struck_2 6 rfl rfl)
theorem dX0_struck_69 : decode cX0_struck 69 = .ok (.ireturn, 1) := dk_172 (dk_at dksX0_struck_2 9 rfl rfl)
theorem dX0_struck_70 : decode cX0_struck 70 = .ok (.aload_n 3, 1) := dk_45 (dk_at dksX0_struck_2 10 rfl rfl)
theorem dX0_struck_71 : decode cX0_struck 71 = .ok (.invokevirtual 133, 3) := dk_182 0 133 (dk_at dksX0_struck_2 11 rfl rfl)
theorem dX0_struck_74 : decode cX0_struck 74 = .ok (.ireturn, 1) := dk_172 (dk_at dksX0_struck_2 14 rfl rfl)
theorem dX0_struck_75 : decode cX0_struck 75 = .ok (.aload_n 3, 1) := dk_45 (dk_at dksX0_struck_2 15 rfl rfl)
theorem dX0_struck_76 : decode cX0_struck 76 = .ok (.invokevirtual 137, 3) := dk_182 0 137 (dk_at dksX0_struck_2 16 rfl rfl)
theorem dX0_struck_79 : decode cX0_struck 79 = .ok (.ireturn, 1) := dk_172 (dk_at dksX0_struck_2 19 rfl rfl)
theorem dX0_struck_80 : decode cX0_struck 80 = .ok (.aload_n 3, 1) := dk_45 (dk_at dksX0_struck_2 20 rfl rfl)
theorem dX0_struck_81 : decode cX0_struck 81 = .ok (.invokevirtual 140, 3) := dk_182 0 140 (dk_at dksX0_struck_2 21 rfl rfl)
theorem dX0_struck_84 : decode cX0_struck 84 = .ok (.ireturn, 1) := dk_172 (dk_at dksX0_struck_3 0 rfl rfl)
theorem dX0_struck_85 : decode cX0_struck 85 = .ok (.aload_n 3, 1) := dk_45 (dk_at dksX0_struck_3 1 rfl rfl)
theorem dX0_struck_86 : decode cX0_struck 86 = .ok (.invokevirtual 111, 3) := dk_182 0 111 (dk_at dksX0_struck_3 2 rfl rfl)
theorem dX0_struck_89 : decode cX0_struck 89 = .ok (.ifCond .eq 7, 3) := dk_153 0 7 (dk_at dksX0_struck_3 5 rfl rfl)
theorem dX0_struck_92 : decode cX0_struck 92 = .ok (.iconst 1, 1) := dk_4 (dk_at dksX0_struck_3 8 rfl rfl)
theorem dX0_struck_93 : decode cX0_struck 93 = .ok (.goto 4, 3) := dk_167 0 4 (dk_at dksX0_struck_3 9 rfl rfl)
theorem dX0_struck_96 : decode cX0_struck 96 = .ok (.iconst 0, 1) := dk_3 (dk_at dksX0_struck_3 12 rfl rfl)
theorem dX0_struck_97 : decode cX0_struck 97 = .ok (.ireturn, 1) := dk_172 (dk_at dksX0_struck_3 13 rfl rfl)
theorem dX0_struck_98 : decode cX0_struck 98 = .ok (.aload_n 0, 1) := dk_42 (dk_at dksX0_struck_3 14 rfl rfl)
theorem dX0_struck_99 : decode cX0_struck 99 = .ok (.getfield 30, 3) := dk_180 0 30 (dk_at dksX0_struck_3 15 rfl rfl)
theorem dX0_struck_102 : decode cX0_struck 102 = .ok (.iload_n 1, 1) := dk_27 (dk_at dksX0_struck_3 18 rfl rfl)
theorem dX0_struck_103 : decode cX0_struck 103 = .ok (.invokevirtual 143, 3) := dk_182 0 143 (dk_at dksX0_struck_3 19 rfl rfl)
theorem dX0_struck_106 : decode cX0_struck 106 = .ok (.ireturn, 1) := dk_172 (dk_at dksX0_struck_3 22 rfl rfl)
theorem dX0_struck_107 : decode cX0_struck 107 = .ok (.bipush (-2), 2) := dk_16 254 (dk_at dksX0_struck_4 0 rfl rfl)
theorem dX0_struck_109 : decode cX0_struck 109 = .ok (.ireturn, 1) := dk_172 (dk_at dksX0_struck_4 2 rfl rfl)
abbrev cX0_noHit : ByteArray := prog_1_method_8_code
def yX0_noHit : MethodName := ⟨RX0, "noHit", "(I)Z"⟩
def dkwX0_noHit_0 : List UInt8 := [27, 3, 42, 180, 0, 79, 4, 100, 184, 0, 50, 154, 0, 7, 4, 167, 0, 4, 3, 172]
abbrev dktX0_noHit_0 : List UInt8 := dkwX0_noHit_0 ++ []
theorem dksX0_noHit_0 : cX0_noHit.data.toList.drop 0 = dktX0_noHit_0 := by decide +kernel
theorem dX0_noHit_0 : decode cX0_noHit 0 = .ok (.iload_n 1, 1) := dk_27 (dk_at dksX0_noHit_0 0 rfl rfl)
theorem dX0_noHit_1 : decode cX0_noHit 1 = .ok (.iconst 0, 1) := dk_3 (dk_at dksX0_noHit_0 1 rfl rfl)
theorem dX0_noHit_2 : decode cX0_noHit 2 = .ok (.aload_n 0, 1) := dk_42 (dk_at dksX0_noHit_0 2 rfl rfl)
theorem dX0_noHit_3 : decode cX0_noHit 3 = .ok (.getfield 79, 3) := dk_180 0 79 (dk_at dksX0_noHit_0 3 rfl rfl)
theorem dX0_noHit_6 : decode cX0_noHit 6 = .ok (.iconst 1, 1) := dk_4 (dk_at dksX0_noHit_0 6 rfl rfl)
theorem dX0_noHit_7 : decode cX0_noHit 7 = .ok (.isub, 1) := dk_100 (dk_at dksX0_noHit_0 7 rfl rfl)
theorem dX0_noHit_8 : decode cX0_noHit 8 = .ok (.invokestatic 50, 3) := dk_184 0 50 (dk_at dksX0_noHit_0 8 rfl rfl)
theorem dX0_noHit_11 : decode cX0_noHit 11 = .ok (.ifCond .ne 7, 3) := dk_154 0 7 (dk_at dksX0_noHit_0 11 rfl rfl)
theorem dX0_noHit_14 : decode cX0_noHit 14 = .ok (.iconst 1, 1) := dk_4 (dk_at dksX0_noHit_0 14 rfl rfl)
theorem dX0_noHit_15 : decode cX0_noHit 15 = .ok (.goto 4, 3) := dk_167 0 4 (dk_at dksX0_noHit_0 15 rfl rfl)
theorem dX0_noHit_18 : decode cX0_noHit 18 = .ok (.iconst 0, 1) := dk_3 (dk_at dksX0_noHit_0 18 rfl rfl)
theorem dX0_noHit_19 : decode cX0_noHit 19 = .ok (.ireturn, 1) := dk_172 (dk_at dksX0_noHit_0 19 rfl rfl)
abbrev cX0_rule : ByteArray := prog_1_method_14_code
def yX0_rule : MethodName := ⟨RX0, "rule", "(II)I"⟩
def dkwX0_rule_3 : List UInt8 := [180, 0, 23, 27, 28, 79, 29, 172]
abbrev dktX0_rule_3 : List UInt8 := dkwX0_rule_3 ++ []
def dkwX0_rule_2 : List UInt8 := [28, 3, 17, 15, 240, 184, 0, 50, 154, 0, 6, 16, 254, 172, 42, 180, 0, 23, 27, 46, 62, 42]
abbrev dktX0_rule_2 : List UInt8 := dkwX0_rule_2 ++ dktX0_rule_3
def dkwX0_rule_1 : List UInt8 := [154, 0, 38, 167, 0, 32, 27, 5, 160, 0, 16, 28, 4, 16, 12, 184, 0, 50, 154, 0, 20, 167, 0, 14]
abbrev dktX0_rule_1 : List UInt8 := dkwX0_rule_1 ++ dktX0_rule_2
def dkwX0_rule_0 : List UInt8 := [27, 3, 6, 184, 0, 50, 154, 0, 5, 2, 172, 27, 5, 162, 0, 17, 28, 4, 17, 1, 44, 184, 0, 50]
abbrev dktX0_rule_0 : List UInt8 := dkwX0_rule_0 ++ dktX0_rule_1
theorem dksX0_rule_0 : cX0_rule.data.toList.drop 0 = dktX0_rule_0 := by decide +kernel
theorem dksX0_rule_1 : cX0_rule.data.toList.drop 24 = dktX0_rule_1 := dk_seg dksX0_rule_0 24 rfl rfl
theorem dksX0_rule_2 : cX0_rule.data.toList.drop 48 = dktX0_rule_2 := dk_seg dksX0_rule_1 24 rfl rfl
theorem dksX0_rule_3 : cX0_rule.data.toList.drop 70 = dktX0_rule_3 := dk_seg dksX0_rule_2 22 rfl rfl
theorem dX0_rule_0 : decode cX0_rule 0 = .ok (.iload_n 1, 1) := dk_27 (dk_at dksX0_rule_0 0 rfl rfl)
theorem dX0_rule_1 : decode cX0_rule 1 = .ok (.iconst 0, 1) := dk_3 (dk_at dksX0_rule_0 1 rfl rfl)
theorem dX0_rule_2 : decode cX0_rule 2 = .ok (.iconst 3, 1) := dk_6 (dk_at dksX0_rule_0 2 rfl rfl)
theorem dX0_rule_3 : decode cX0_rule 3 = .ok (.invokestatic 50, 3) := dk_184 0 50 (dk_at dksX0_rule_0 3 rfl rfl)
theorem dX0_rule_6 : decode cX0_rule 6 = .ok (.ifCond .ne 5, 3) := dk_154 0 5 (dk_at dksX0_rule_0 6 rfl rfl)
theorem dX0_rule_9 : decode cX0_rule 9 = .ok (.iconst (-1), 1) := dk_2 (dk_at dksX0_rule_0 9 rfl rfl)
theorem dX0_rule_10 : decode cX0_rule 10 = .ok (.ireturn, 1) := dk_172 (dk_at dksX0_rule_0 10 rfl rfl)
theorem dX0_rule_11 : decode cX0_rule 11 = .ok (.iload_n 1, 1) := dk_27 (dk_at dksX0_rule_0 11 rfl rfl)
theorem dX0_rule_12 : decode cX0_rule 12 = .ok (.iconst 2, 1) := dk_5 (dk_at dksX0_rule_0 12 rfl rfl)
theorem dX0_rule_13 : decode cX0_rule 13 = .ok (.if_icmp .ge 17, 3) := dk_162 0 17 (dk_at dksX0_rule_0 13 rfl rfl)
theorem dX0_rule_16 : decode cX0_rule 16 = .ok (.iload_n 2, 1) := dk_28 (dk_at dksX0_rule_0 16 rfl rfl)
theorem dX0_rule_17 : decode cX0_rule 17 = .ok (.iconst 1, 1) := dk_4 (dk_at dksX0_rule_0 17 rfl rfl)
theorem dX0_rule_18 : decode cX0_rule 18 = .ok (.sipush 300, 3) := dk_17 1 44 (dk_at dksX0_rule_0 18 rfl rfl)
theorem dX0_rule_21 : decode cX0_rule 21 = .ok (.invokestatic 50, 3) := dk_184 0 50 (dk_at dksX0_rule_0 21 rfl rfl)
theorem dX0_rule_24 : decode cX0_rule 24 = .ok (.ifCond .ne 38, 3) := dk_154 0 38 (dk_at dksX0_rule_1 0 rfl rfl)
theorem dX0_rule_27 : decode cX0_rule 27 = .ok (.goto 32, 3) := dk_167 0 32 (dk_at dksX0_rule_1 3 rfl rfl)
theorem dX0_rule_30 : decode cX0_rule 30 = .ok (.iload_n 1, 1) := dk_27 (dk_at dksX0_rule_1 6 rfl rfl)
theorem dX0_rule_31 : decode cX0_rule 31 = .ok (.iconst 2, 1) := dk_5 (dk_at dksX0_rule_1 7 rfl rfl)
theorem dX0_rule_32 : decode cX0_rule 32 = .ok (.if_icmp .ne 16, 3) := dk_160 0 16 (dk_at dksX0_rule_1 8 rfl rfl)
theorem dX0_rule_35 : decode cX0_rule 35 = .ok (.iload_n 2, 1) := dk_28 (dk_at dksX0_rule_1 11 rfl rfl)
theorem dX0_rule_36 : decode cX0_rule 36 = .ok (.iconst 1, 1) := dk_4 (dk_at dksX0_rule_1 12 rfl rfl)
theorem dX0_rule_37 : decode cX0_rule 37 = .ok (.bipush 12, 2) := dk_16 12 (dk_at dksX0_rule_1 13 rfl rfl)
theorem dX0_rule_39 : decode cX0_rule 39 = .ok (.invokestatic 50, 3) := dk_184 0 50 (dk_at dksX0_rule_1 15 rfl rfl)
theorem dX0_rule_42 : decode cX0_rule 42 = .ok (.ifCond .ne 20, 3) := dk_154 0 20 (dk_at dksX0_rule_1 18 rfl rfl)
theorem dX0_rule_45 : decode cX0_rule 45 = .ok (.goto 14, 3) := dk_167 0 14 (dk_at dksX0_rule_1 21 rfl rfl)
theorem dX0_rule_48 : decode cX0_rule 48 = .ok (.iload_n 2, 1) := dk_28 (dk_at dksX0_rule_2 0 rfl rfl)
theorem dX0_rule_49 : decode cX0_rule 49 = .ok (.iconst 0, 1) := dk_3 (dk_at dksX0_rule_2 1 rfl rfl)
theorem dX0_rule_50 : decode cX0_rule 50 = .ok (.sipush 4080, 3) := dk_17 15 240 (dk_at dksX0_rule_2 2 rfl rfl)
theorem dX0_rule_53 : decode cX0_rule 53 = .ok (.invokestatic 50, 3) := dk_184 0 50 (dk_at dksX0_rule_2 5 rfl rfl)
theorem dX0_rule_56 : decode cX0_rule 56 = .ok (.ifCond .ne 6, 3) := dk_154 0 6 (dk_at dksX0_rule_2 8 rfl rfl)
theorem dX0_rule_59 : decode cX0_rule 59 = .ok (.bipush (-2), 2) := dk_16 254 (dk_at dksX0_rule_2 11 rfl rfl)
theorem dX0_rule_61 : decode cX0_rule 61 = .ok (.ireturn, 1) := dk_172 (dk_at dksX0_rule_2 13 rfl rfl)
theorem dX0_rule_62 : decode cX0_rule 62 = .ok (.aload_n 0, 1) := dk_42 (dk_at dksX0_rule_2 14 rfl rfl)
theorem dX0_rule_63 : decode cX0_rule 63 = .ok (.getfield 23, 3) := dk_180 0 23 (dk_at dksX0_rule_2 15 rfl rfl)
theorem dX0_rule_66 : decode cX0_rule 66 = .ok (.iload_n 1, 1) := dk_27 (dk_at dksX0_rule_2 18 rfl rfl)
theorem dX0_rule_67 : decode cX0_rule 67 = .ok (.iaload, 1) := dk_46 (dk_at dksX0_rule_2 19 rfl rfl)
theorem dX0_rule_68 : decode cX0_rule 68 = .ok (.istore_n 3, 1) := dk_62 (dk_at dksX0_rule_2 20 rfl rfl)
theorem dX0_rule_69 : decode cX0_rule 69 = .ok (.aload_n 0, 1) := dk_42 (dk_at dksX0_rule_2 21 rfl rfl)
theorem dX0_rule_70 : decode cX0_rule 70 = .ok (.getfield 23, 3) := dk_180 0 23 (dk_at dksX0_rule_3 0 rfl rfl)
theorem dX0_rule_73 : decode cX0_rule 73 = .ok (.iload_n 1, 1) := dk_27 (dk_at dksX0_rule_3 3 rfl rfl)
theorem dX0_rule_74 : decode cX0_rule 74 = .ok (.iload_n 2, 1) := dk_28 (dk_at dksX0_rule_3 4 rfl rfl)
theorem dX0_rule_75 : decode cX0_rule 75 = .ok (.iastore, 1) := dk_79 (dk_at dksX0_rule_3 5 rfl rfl)
theorem dX0_rule_76 : decode cX0_rule 76 = .ok (.iload_n 3, 1) := dk_29 (dk_at dksX0_rule_3 6 rfl rfl)
theorem dX0_rule_77 : decode cX0_rule 77 = .ok (.ireturn, 1) := dk_172 (dk_at dksX0_rule_3 7 rfl rfl)
abbrev cX0_build : ByteArray := prog_1_method_20_code
def yX0_build : MethodName := ⟨RX0, "build", "()I"⟩
def dkwX0_build_1 : List UInt8 := [181, 0, 184, 42, 180, 0, 30, 180, 0, 115, 172]
abbrev dktX0_build_1 : List UInt8 := dkwX0_build_1 ++ []
def dkwX0_build_0 : List UInt8 := [42, 42, 180, 0, 30, 181, 0, 177, 42, 42, 2, 182, 0, 180, 181, 0, 30, 42, 89, 180, 0, 184, 4, 96]
abbrev dktX0_build_0 : List UInt8 := dkwX0_build_0 ++ dktX0_build_1
theorem dksX0_build_0 : cX0_build.data.toList.drop 0 = dktX0_build_0 := by decide +kernel
theorem dksX0_build_1 : cX0_build.data.toList.drop 24 = dktX0_build_1 := dk_seg dksX0_build_0 24 rfl rfl
theorem dX0_build_0 : decode cX0_build 0 = .ok (.aload_n 0, 1) := dk_42 (dk_at dksX0_build_0 0 rfl rfl)
theorem dX0_build_1 : decode cX0_build 1 = .ok (.aload_n 0, 1) := dk_42 (dk_at dksX0_build_0 1 rfl rfl)
theorem dX0_build_2 : decode cX0_build 2 = .ok (.getfield 30, 3) := dk_180 0 30 (dk_at dksX0_build_0 2 rfl rfl)
theorem dX0_build_5 : decode cX0_build 5 = .ok (.putfield 177, 3) := dk_181 0 177 (dk_at dksX0_build_0 5 rfl rfl)
theorem dX0_build_8 : decode cX0_build 8 = .ok (.aload_n 0, 1) := dk_42 (dk_at dksX0_build_0 8 rfl rfl)
theorem dX0_build_9 : decode cX0_build 9 = .ok (.aload_n 0, 1) := dk_42 (dk_at dksX0_build_0 9 rfl rfl)
theorem dX0_build_10 : decode cX0_build 10 = .ok (.iconst (-1), 1) := dk_2 (dk_at dksX0_build_0 10 rfl rfl)
theorem dX0_build_11 : decode cX0_build 11 = .ok (.invokevirtual 180, 3) := dk_182 0 180 (dk_at dksX0_build_0 11 rfl rfl)
theorem dX0_build_14 : decode cX0_build 14 = .ok (.putfield 30, 3) := dk_181 0 30 (dk_at dksX0_build_0 14 rfl rfl)
theorem dX0_build_17 : decode cX0_build 17 = .ok (.aload_n 0, 1) := dk_42 (dk_at dksX0_build_0 17 rfl rfl)
theorem dX0_build_18 : decode cX0_build 18 = .ok (.dup, 1) := dk_89 (dk_at dksX0_build_0 18 rfl rfl)
theorem dX0_build_19 : decode cX0_build 19 = .ok (.getfield 184, 3) := dk_180 0 184 (dk_at dksX0_build_0 19 rfl rfl)
theorem dX0_build_22 : decode cX0_build 22 = .ok (.iconst 1, 1) := dk_4 (dk_at dksX0_build_0 22 rfl rfl)
theorem dX0_build_23 : decode cX0_build 23 = .ok (.iadd, 1) := dk_96 (dk_at dksX0_build_0 23 rfl rfl)
theorem dX0_build_24 : decode cX0_build 24 = .ok (.putfield 184, 3) := dk_181 0 184 (dk_at dksX0_build_1 0 rfl rfl)
theorem dX0_build_27 : decode cX0_build 27 = .ok (.aload_n 0, 1) := dk_42 (dk_at dksX0_build_1 3 rfl rfl)
theorem dX0_build_28 : decode cX0_build 28 = .ok (.getfield 30, 3) := dk_180 0 30 (dk_at dksX0_build_1 4 rfl rfl)
theorem dX0_build_31 : decode cX0_build 31 = .ok (.getfield 115, 3) := dk_180 0 115 (dk_at dksX0_build_1 7 rfl rfl)
theorem dX0_build_34 : decode cX0_build 34 = .ok (.ireturn, 1) := dk_172 (dk_at dksX0_build_1 10 rfl rfl)
abbrev cX0_built : ByteArray := prog_1_method_19_code
def yX0_built : MethodName := ⟨RX0, "built", "(I)LTankField$Building;"⟩
def dkwX0_built_2 : List UInt8 := [58, 4, 25, 4, 198, 0, 9, 44, 25, 4, 182, 0, 173, 132, 3, 1, 167, 255, 207, 44, 176]
abbrev dktX0_built_2 : List UInt8 := dkwX0_built_2 ++ []
def dkwX0_built_1 : List UInt8 := [29, 27, 182, 0, 147, 153, 0, 32, 42, 180, 0, 34, 29, 46, 29, 160, 0, 22, 42, 29, 27, 182, 0, 170]
abbrev dktX0_built_1 : List UInt8 := dkwX0_built_1 ++ dktX0_built_2
def dkwX0_built_0 : List UInt8 := [42, 27, 182, 0, 166, 187, 0, 27, 89, 183, 0, 29, 77, 3, 62, 29, 42, 180, 0, 79, 162, 0, 47, 42]
abbrev dktX0_built_0 : List UInt8 := dkwX0_built_0 ++ dktX0_built_1
theorem dksX0_built_0 : cX0_built.data.toList.drop 0 = dktX0_built_0 := by decide +kernel
theorem dksX0_built_1 : cX0_built.data.toList.drop 24 = dktX0_built_1 := dk_seg dksX0_built_0 24 rfl rfl
theorem dksX0_built_2 : cX0_built.data.toList.drop 48 = dktX0_built_2 := dk_seg dksX0_built_1 24 rfl rfl
theorem dX0_built_0 : decode cX0_built 0 = .ok (.aload_n 0, 1) := dk_42 (dk_at dksX0_built_0 0 rfl rfl)
theorem dX0_built_1 : decode cX0_built 1 = .ok (.iload_n 1, 1) := dk_27 (dk_at dksX0_built_0 1 rfl rfl)
theorem dX0_built_2 : decode cX0_built 2 = .ok (.invokevirtual 166, 3) := dk_182 0 166 (dk_at dksX0_built_0 2 rfl rfl)
theorem dX0_built_5 : decode cX0_built 5 = .ok (.new 27, 3) := dk_187 0 27 (dk_at dksX0_built_0 5 rfl rfl)
theorem dX0_built_8 : decode cX0_built 8 = .ok (.dup, 1) := dk_89 (dk_at dksX0_built_0 8 rfl rfl)
theorem dX0_built_9 : decode cX0_built 9 = .ok (.invokespecial 29, 3) := dk_183 0 29 (dk_at dksX0_built_0 9 rfl rfl)
theorem dX0_built_12 : decode cX0_built 12 = .ok (.astore_n 2, 1) := dk_77 (dk_at dksX0_built_0 12 rfl rfl)
theorem dX0_built_13 : decode cX0_built 13 = .ok (.iconst 0, 1) := dk_3 (dk_at dksX0_built_0 13 rfl rfl)
theorem dX0_built_14 : decode cX0_built 14 = .ok (.istore_n 3, 1) := dk_62 (dk_at dksX0_built_0 14 rfl rfl)
theorem dX0_built_15 : decode cX0_built 15 = .ok (.iload_n 3, 1) := dk_29 (dk_at dksX0_built_0 15 rfl rfl)
theorem dX0_built_16 : decode cX0_built 16 = .ok (.aload_n 0, 1) := dk_42 (dk_at dksX0_built_0 16 rfl rfl)
theorem dX0_built_17 : decode cX0_built 17 = .ok (.getfield 79, 3) := dk_180 0 79 (dk_at dksX0_built_0 17 rfl rfl)
theorem dX0_built_20 : decode cX0_built 20 = .ok (.if_icmp .ge 47, 3) := dk_162 0 47 (dk_at dksX0_built_0 20 rfl rfl)
theorem dX0_built_23 : decode cX0_built 23 = .ok (.aload_n 0, 1) := dk_42 (dk_at dksX0_built_0 23 rfl rfl)
theorem dX0_built_24 : decode cX0_built 24 = .ok (.iload_n 3, 1) := dk_29 (dk_at dksX0_built_1 0 rfl rfl)
theorem dX0_built_25 : decode cX0_built 25 = .ok (.iload_n 1, 1) := dk_27 (dk_at dksX0_built_1 1 rfl rfl)
theorem dX0_built_26 : decode cX0_built 26 = .ok (.invokevirtual 147, 3) := dk_182 0 147 (dk_at dksX0_built_1 2 rfl rfl)
theorem dX0_built_29 : decode cX0_built 29 = .ok (.ifCond .eq 32, 3) := dk_153 0 32 (dk_at dksX0_built_1 5 rfl rfl)
theorem dX0_built_32 : decode cX0_built 32 = .ok (.aload_n 0, 1) := dk_42 (dk_at dksX0_built_1 8 rfl rfl)
theorem dX0_built_33 : decode cX0_built 33 = .ok (.getfield 34, 3) := dk_180 0 34 (dk_at dksX0_built_1 9 rfl rfl)
theorem dX0_built_36 : decode cX0_built 36 = .ok (.iload_n 3, 1) := dk_29 (dk_at dksX0_built_1 12 rfl rfl)
theorem dX0_built_37 : decode cX0_built 37 = .ok (.iaload, 1) := dk_46 (dk_at dksX0_built_1 13 rfl rfl)
theorem dX0_built_38 : decode cX0_built 38 = .ok (.iload_n 3, 1) := dk_29 (dk_at dksX0_built_1 14 rfl rfl)
theorem dX0_built_39 : decode cX0_built 39 = .ok (.if_icmp .ne 22, 3) := dk_160 0 22 (dk_at dksX0_built_1 15 rfl rfl)
theorem dX0_built_42 : decode cX0_built 42 = .ok (.aload_n 0, 1) := dk_42 (dk_at dksX0_built_1 18 rfl rfl)
theorem dX0_built_43 : decode cX0_built 43 = .ok (.iload_n 3, 1) := dk_29 (dk_at dksX0_built_1 19 rfl rfl)
theorem dX0_built_44 : decode cX0_built 44 = .ok (.iload_n 1, 1) := dk_27 (dk_at dksX0_built_1 20 rfl rfl)
theorem dX0_built_45 : decode cX0_built 45 = .ok (.invokevirtual 170, 3) := dk_182 0 170 (dk_at dksX0_built_1 21 rfl rfl)
theorem dX0_built_48 : decode cX0_built 48 = .ok (.astore 4, 2) := dk_58 4 (dk_at dksX0_built_2 0 rfl rfl)
theorem dX0_built_50 : decode cX0_built 50 = .ok (.aload 4, 2) := dk_25 4 (dk_at dksX0_built_2 2 rfl rfl)
theorem dX0_built_52 : decode cX0_built 52 = .ok (.ifnull 9, 3) := dk_198 0 9 (dk_at dksX0_built_2 4 rfl rfl)
theorem dX0_built_55 : decode cX0_built 55 = .ok (.aload_n 2, 1) := dk_44 (dk_at dksX0_built_2 7 rfl rfl)
theorem dX0_built_56 : decode cX0_built 56 = .ok (.aload 4, 2) := dk_25 4 (dk_at dksX0_built_2 8 rfl rfl)
theorem dX0_built_58 : decode cX0_built 58 = .ok (.invokevirtual 173, 3) := dk_182 0 173 (dk_at dksX0_built_2 10 rfl rfl)
theorem dX0_built_61 : decode cX0_built 61 = .ok (.iinc 3 1, 3) := dk_132 3 1 (dk_at dksX0_built_2 13 rfl rfl)
theorem dX0_built_64 : decode cX0_built 64 = .ok (.goto (-49), 3) := dk_167 255 207 (dk_at dksX0_built_2 16 rfl rfl)
theorem dX0_built_67 : decode cX0_built 67 = .ok (.aload_n 2, 1) := dk_44 (dk_at dksX0_built_2 19 rfl rfl)
theorem dX0_built_68 : decode cX0_built 68 = .ok (.areturn, 1) := dk_176 (dk_at dksX0_built_2 20 rfl rfl)
abbrev cX0_joinNear : ByteArray := prog_1_method_17_code
def yX0_joinNear : MethodName := ⟨RX0, "joinNear", "(I)V"⟩
def dkwX0_joinNear_7 : List UInt8 := [132, 2, 1, 167, 255, 115, 177]
abbrev dktX0_joinNear_7 : List UInt8 := dkwX0_joinNear_7 ++ []
def dkwX0_joinNear_6 : List UInt8 := [153, 0, 18, 42, 180, 0, 34, 42, 28, 182, 0, 160, 42, 29, 182, 0, 160, 79, 132, 3, 1, 167, 255, 131]
abbrev dktX0_joinNear_6 : List UInt8 := dkwX0_joinNear_6 ++ dktX0_joinNear_7
def dkwX0_joinNear_5 : List UInt8 := [180, 0, 108, 50, 42, 180, 0, 13, 25, 5, 180, 0, 108, 50, 42, 180, 0, 23, 4, 46, 182, 0, 156]
abbrev dktX0_joinNear_5 : List UInt8 := dkwX0_joinNear_5 ++ dktX0_joinNear_6
def dkwX0_joinNear_4 : List UInt8 := [182, 0, 133, 100, 184, 0, 151, 42, 180, 0, 23, 3, 46, 163, 0, 50, 42, 180, 0, 13, 25, 4]
abbrev dktX0_joinNear_4 : List UInt8 := dkwX0_joinNear_4 ++ dktX0_joinNear_5
def dkwX0_joinNear_3 : List UInt8 := [25, 5, 180, 0, 108, 159, 0, 82, 42, 29, 27, 182, 0, 147, 153, 0, 73, 25, 4, 182, 0, 133, 25, 5]
abbrev dktX0_joinNear_3 : List UInt8 := dkwX0_joinNear_3 ++ dktX0_joinNear_4
def dkwX0_joinNear_2 : List UInt8 := [162, 0, 117, 42, 180, 0, 19, 28, 50, 58, 4, 42, 180, 0, 19, 29, 50, 58, 5, 25, 4, 180, 0, 108]
abbrev dktX0_joinNear_2 : List UInt8 := dkwX0_joinNear_2 ++ dktX0_joinNear_3
def dkwX0_joinNear_1 : List UInt8 := [61, 28, 42, 180, 0, 79, 162, 0, 139, 3, 62, 42, 28, 27, 182, 0, 147, 153, 0, 122, 29, 28]
abbrev dktX0_joinNear_1 : List UInt8 := dkwX0_joinNear_1 ++ dktX0_joinNear_2
def dkwX0_joinNear_0 : List UInt8 := [3, 61, 28, 42, 180, 0, 79, 162, 0, 16, 42, 180, 0, 34, 28, 28, 79, 132, 2, 1, 167, 255, 238, 3]
abbrev dktX0_joinNear_0 : List UInt8 := dkwX0_joinNear_0 ++ dktX0_joinNear_1
theorem dksX0_joinNear_0 : cX0_joinNear.data.toList.drop 0 = dktX0_joinNear_0 := by decide +kernel
theorem dksX0_joinNear_1 : cX0_joinNear.data.toList.drop 24 = dktX0_joinNear_1 := dk_seg dksX0_joinNear_0 24 rfl rfl
theorem dksX0_joinNear_2 : cX0_joinNear.data.toList.drop 46 = dktX0_joinNear_2 := dk_seg dksX0_joinNear_1 22 rfl rfl
theorem dksX0_joinNear_3 : cX0_joinNear.data.toList.drop 70 = dktX0_joinNear_3 := dk_seg dksX0_joinNear_2 24 rfl rfl
theorem dksX0_joinNear_4 : cX0_joinNear.data.toList.drop 94 = dktX0_joinNear_4 := dk_seg dksX0_joinNear_3 24 rfl rfl
theorem dksX0_joinNear_5 : cX0_joinNear.data.toList.drop 116 = dktX0_joinNear_5 := dk_seg dksX0_joinNear_4 22 rfl rfl
theorem dksX0_joinNear_6 : cX0_joinNear.data.toList.drop 139 = dktX0_joinNear_6 := dk_seg dksX0_joinNear_5 23 rfl rfl
theorem dksX0_joinNear_7 : cX0_joinNear.data.toList.drop 163 = dktX0_joinNear_7 := dk_seg dksX0_joinNear_6 24 rfl rfl
theorem dX0_joinNear_0 : decode cX0_joinNear 0 = .ok (.iconst 0, 1) := dk_3 (dk_at dksX0_joinNear_0 0 rfl rfl)
theorem dX0_joinNear_1 : decode cX0_joinNear 1 = .ok (.istore_n 2, 1) := dk_61 (dk_at dksX0_joinNear_0 1 rfl rfl)
theorem dX0_joinNear_2 : decode cX0_joinNear 2 = .ok (.iload_n 2, 1) := dk_28 (dk_at dksX0_joinNear_0 2 rfl rfl)
theorem dX0_joinNear_3 : decode cX0_joinNear 3 = .ok (.aload_n 0, 1) := dk_42 (dk_at dksX0_joinNear_0 3 rfl rfl)
theorem dX0_joinNear_4 : decode cX0_joinNear 4 = .ok (.getfield 79, 3) := dk_180 0 79 (dk_at dksX0_joinNear_0 4 rfl rfl)
theorem dX0_joinNear_7 : decode cX0_joinNear 7 = .ok (.if_icmp .ge 16, 3) := dk_162 0 16 (dk_at dksX0_joinNear_0 7 rfl rfl)
theorem dX0_joinNear_10 : decode cX0_joinNear 10 = .ok (.aload_n 0, 1) := dk_42 (dk_at dksX0_joinNear_0 10 rfl rfl)
theorem dX0_joinNear_11 : decode cX0_joinNear 11 = .ok (.getfield 34, 3) := dk_180 0 34 (dk_at dksX0_joinNear_0 11 rfl rfl)
theorem dX0_joinNear_14 : decode cX0_joinNear 14 = .ok (.iload_n 2, 1) := dk_28 (dk_at dksX0_joinNear_0 14 rfl rfl)
theorem dX0_joinNear_15 : decode cX0_joinNear 15 = .ok (.iload_n 2, 1) := dk_28 (dk_at dksX0_joinNear_0 15 rfl rfl)
theorem dX0_joinNear_16 : decode cX0_joinNear 16 = .ok (.iastore, 1) := dk_79 (dk_at dksX0_joinNear_0 16 rfl rfl)
theorem dX0_joinNear_17 : decode cX0_joinNear 17 = .ok (.iinc 2 1, 3) := dk_132 2 1 (dk_at dksX0_joinNear_0 17 rfl rfl)
theorem dX0_joinNear_20 : decode cX0_joinNear 20 = .ok (.goto (-18), 3) := dk_167 255 238 (dk_at dksX0_joinNear_0 20 rfl rfl)
theorem dX0_joinNear_23 : decode cX0_joinNear 23 = .ok (.iconst 0, 1) := dk_3 (dk_at dksX0_joinNear_0 23 rfl rfl)
theorem dX0_joinNear_24 : decode cX0_joinNear 24 = .ok (.istore_n 2, 1) := dk_61 (dk_at dksX0_joinNear_1 0 rfl rfl)
theorem dX0_joinNear_25 : decode cX0_joinNear 25 = .ok (.iload_n 2, 1) := dk_28 (dk_at dksX0_joinNear_1 1 rfl rfl)
theorem dX0_joinNear_26 : decode cX0_joinNear 26 = .ok (.aload_n 0, 1) := dk_42 (dk_at dksX0_joinNear_1 2 rfl rfl)
theorem dX0_joinNear_27 : decode cX0_joinNear 27 = .ok (.getfield 79, 3) := dk_180 0 79 (dk_at dksX0_joinNear_1 3 rfl rfl)
theorem dX0_joinNear_30 : decode cX0_joinNear 30 = .ok (.if_icmp .ge 139, 3) := dk_162 0 139 (dk_at dksX0_joinNear_1 6 rfl rfl)
theorem dX0_joinNear_33 : decode cX0_joinNear 33 = .ok (.iconst 0, 1) := dk_3 (dk_at dksX0_joinNear_1 9 rfl rfl)
theorem dX0_joinNear_34 : decode cX0_joinNear 34 = .ok (.istore_n 3, 1) := dk_62 (dk_at dksX0_joinNear_1 10 rfl rfl)
theorem dX0_joinNear_35 : decode cX0_joinNear 35 = .ok (.aload_n 0, 1) := dk_42 (dk_at dksX0_joinNear_1 11 rfl rfl)
theorem dX0_joinNear_36 : decode cX0_joinNear 36 = .ok (.iload_n 2, 1) := dk_28 (dk_at dksX0_joinNear_1 12 rfl rfl)
theorem dX0_joinNear_37 : decode cX0_joinNear 37 = .ok (.iload_n 1, 1) := dk_27 (dk_at dksX0_joinNear_1 13 rfl rfl)
theorem dX0_joinNear_38 : decode cX0_joinNear 38 = .ok (.invokevirtual 147, 3) := dk_182 0 147 (dk_at dksX0_joinNear_1 14 rfl rfl)
theorem dX0_joinNear_41 : decode cX0_joinNear 41 = .ok (.ifCond .eq 122, 3) := dk_153 0 122 (dk_at dksX0_joinNear_1 17 rfl rfl)
theorem dX0_joinNear_44 : decode cX0_joinNear 44 = .ok (.iload_n 3, 1) := dk_29 (dk_at dksX0_joinNear_1 20 rfl rfl)
theorem dX0_joinNear_45 : decode cX0_joinNear 45 = .ok (.iload_n 2, 1) := dk_28 (dk_at dksX0_joinNear_1 21 rfl rfl)
theorem dX0_joinNear_46 : decode cX0_joinNear 46 = .ok (.if_icmp .ge 117, 3) := dk_162 0 117 (dk_at dksX0_joinNear_2 0 rfl rfl)
theorem dX0_joinNear_49 : decode cX0_joinNear 49 = .ok (.aload_n 0, 1) := dk_42 (dk_at dksX0_joinNear_2 3 rfl rfl)
theorem dX0_joinNear_50 : decode cX0_joinNear 50 = .ok (.getfield 19, 3) := dk_180 0 19 (dk_at dksX0_joinNear_2 4 rfl rfl)
theorem dX0_joinNear_53 : decode cX0_joinNear 53 = .ok (.iload_n 2, 1) := dk_28 (dk_at dksX0_joinNear_2 7 rfl rfl)
theorem dX0_joinNear_54 : decode cX0_joinNear 54 = .ok (.aaload, 1) := dk_50 (dk_at dksX0_joinNear_2 8 rfl rfl)
theorem dX0_joinNear_55 : decode cX0_joinNear 55 = .ok (.astore 4, 2) := dk_58 4 (dk_at dksX0_joinNear_2 9 rfl rfl)
theorem dX0_joinNear_57 : decode cX0_joinNear 57 = .ok (.aload_n 0, 1) := dk_42 (dk_at dksX0_joinNear_2 11 rfl rfl)
theorem dX0_joinNear_58 : decode cX0_joinNear 58 = .ok (.getfield 19, 3) := dk_180 0 19 (dk_at dksX0_joinNear_2 12 rfl rfl)
theorem dX0_joinNear_61 : decode cX0_joinNear 61 = .ok (.iload_n 3, 1) := dk_29 (dk_at dksX0_joinNear_2 15 rfl rfl)
theorem dX0_joinNear_62 : decode cX0_joinNear 62 = .ok (.aaload, 1) := dk_50 (dk_at dksX0_joinNear_2 16 rfl rfl)
theorem dX0_joinNear_63 : decode cX0_joinNear 63 = .ok (.astore 5, 2) := dk_58 5 (dk_at dksX0_joinNear_2 17 rfl rfl)
theorem dX0_joinNear_65 : decode cX0_joinNear 65 = .ok (.aload 4, 2) := dk_25 4 (dk_at dksX0_joinNear_2 19 rfl rfl)
theorem dX0_joinNear_67 : decode cX0_joinNear 67 = .ok (.getfield 108, 3) := dk_180 0 108 (dk_at dksX0_joinNear_2 21 rfl rfl)
theorem dX0_joinNear_70 : decode cX0_joinNear 70 = .ok (.aload 5, 2) := dk_25 5 (dk_at dksX0_joinNear_3 0 rfl rfl)
theorem dX0_joinNear_72 : decode cX0_joinNear 72 = .ok (.getfield 108, 3) := dk_180 0 108 (dk_at dksX0_joinNear_3 2 rfl rfl)
theorem dX0_joinNear_75 : decode cX0_joinNear 75 = .ok (.if_icmp .eq 82, 3) := dk_159 0 82 (dk_at dksX0_joinNear_3 5 rfl rfl)
theorem dX0_joinNear_78 : decode cX0_joinNear 78 = .ok (.aload_n 0, 1) := dk_42 (dk_at dksX0_joinNear_3 8 rfl rfl)
theorem dX0_joinNear_79 : decode cX0_joinNear 79 = .ok (.iload_n 3, 1) := dk_29 (dk_at dksX0_joinNear_3 9 rfl rfl)
theorem dX0_joinNear_80 : decode cX0_joinNear 80 = .ok (.iload_n 1, 1) := dk_27 (dk_at dksX0_joinNear_3 10 rfl rfl)
theorem dX0_joinNear_81 : decode cX0_joinNear 81 = .ok (.invokevirtual 147, 3) := dk_182 0 147 (dk_at dksX0_joinNear_3 11 rfl rfl)
theorem dX0_joinNear_84 : decode cX0_joinNear 84 = .ok (.ifCond .eq 73, 3) := dk_153 0 73 (dk_at dksX0_joinNear_3 14 rfl rfl)
theorem dX0_joinNear_87 : decode cX0_joinNear 87 = .ok (.aload 4, 2) := dk_25 4 (dk_at dksX0_joinNear_3 17 rfl rfl)
theorem dX0_joinNear_89 : decode cX0_joinNear 89 = .ok (.invokevirtual 133, 3) := dk_182 0 133 (dk_at dksX0_joinNear_3 19 rfl rfl)
theorem dX0_joinNear_92 : decode cX0_joinNear 92 = .ok (.aload 5, 2) := dk_25 5 (dk_at dksX0_joinNear_3 22 rfl rfl)
theorem dX0_joinNear_94 : decode cX0_joinNear 94 = .ok (.invokevirtual 133, 3) := dk_182 0 133 (dk_at dksX0_joinNear_4 0 rfl rfl)
theorem dX0_joinNear_97 : decode cX0_joinNear 97 = .ok (.isub, 1) := dk_100 (dk_at dksX0_joinNear_4 3 rfl rfl)
theorem dX0_joinNear_98 : decode cX0_joinNear 98 = .ok (.invokestatic 151, 3) := dk_184 0 151 (dk_at dksX0_joinNear_4 4 rfl rfl)
theorem dX0_joinNear_101 : decode cX0_joinNear 101 = .ok (.aload_n 0, 1) := dk_42 (dk_at dksX0_joinNear_4 7 rfl rfl)
theorem dX0_joinNear_102 : decode cX0_joinNear 102 = .ok (.getfield 23, 3) := dk_180 0 23 (dk_at dksX0_joinNear_4 8 rfl rfl)
theorem dX0_joinNear_105 : decode cX0_joinNear 105 = .ok (.iconst 0, 1) := dk_3 (dk_at dksX0_joinNear_4 11 rfl rfl)
theorem dX0_joinNear_106 : decode cX0_joinNear 106 = .ok (.iaload, 1) := dk_46 (dk_at dksX0_joinNear_4 12 rfl rfl)
theorem dX0_joinNear_107 : decode cX0_joinNear 107 = .ok (.if_icmp .gt 50, 3) := dk_163 0 50 (dk_at dksX0_joinNear_4 13 rfl rfl)
theorem dX0_joinNear_110 : decode cX0_joinNear 110 = .ok (.aload_n 0, 1) := dk_42 (dk_at dksX0_joinNear_4 16 rfl rfl)
theorem dX0_joinNear_111 : decode cX0_joinNear 111 = .ok (.getfield 13, 3) := dk_180 0 13 (dk_at dksX0_joinNear_4 17 rfl rfl)
theorem dX0_joinNear_114 : decode cX0_joinNear 114 = .ok (.aload 4, 2) := dk_25 4 (dk_at dksX0_joinNear_4 20 rfl rfl)
theorem dX0_joinNear_116 : decode cX0_joinNear 116 = .ok (.getfield 108, 3) := dk_180 0 108 (dk_at dksX0_joinNear_5 0 rfl rfl)
theorem dX0_joinNear_119 : decode cX0_joinNear 119 = .ok (.aaload, 1) := dk_50 (dk_at dksX0_joinNear_5 3 rfl rfl)
theorem dX0_joinNear_120 : decode cX0_joinNear 120 = .ok (.aload_n 0, 1) := dk_42 (dk_at dksX0_joinNear_5 4 rfl rfl)
theorem dX0_joinNear_121 : decode cX0_joinNear 121 = .ok (.getfield 13, 3) := dk_180 0 13 (dk_at dksX0_joinNear_5 5 rfl rfl)
theorem dX0_joinNear_124 : decode cX0_joinNear 124 = .ok (.aload 5, 2) := dk_25 5 (dk_at dksX0_joinNear_5 8 rfl rfl)
theorem dX0_joinNear_126 : decode cX0_joinNear 126 = .ok (.getfield 108, 3) := dk_180 0 108 (dk_at dksX0_joinNear_5 10 rfl rfl)
theorem dX0_joinNear_129 : decode cX0_joinNear 129 = .ok (.aaload, 1) := dk_50 (dk_at dksX0_joinNear_5 13 rfl rfl)
theorem dX0_joinNear_130 : decode cX0_joinNear 130 = .ok (.aload_n 0, 1) := dk_42 (dk_at dksX0_joinNear_5 14 rfl rfl)
theorem dX0_joinNear_131 : decode cX0_joinNear 131 = .ok (.getfield 23, 3) := dk_180 0 23 (dk_at dksX0_joinNear_5 15 rfl rfl)
theorem dX0_joinNear_134 : decode cX0_joinNear 134 = .ok (.iconst 1, 1) := dk_4 (dk_at dksX0_joinNear_5 18 rfl rfl)
theorem dX0_joinNear_135 : decode cX0_joinNear 135 = .ok (.iaload, 1) := dk_46 (dk_at dksX0_joinNear_5 19 rfl rfl)
theorem dX0_joinNear_136 : decode cX0_joinNear 136 = .ok (.invokevirtual 156, 3) := dk_182 0 156 (dk_at dksX0_joinNear_5 20 rfl rfl)
theorem dX0_joinNear_139 : decode cX0_joinNear 139 = .ok (.ifCond .eq 18, 3) := dk_153 0 18 (dk_at dksX0_joinNear_6 0 rfl rfl)
theorem dX0_joinNear_142 : decode cX0_joinNear 142 = .ok (.aload_n 0, 1) := dk_42 (dk_at dksX0_joinNear_6 3 rfl rfl)
theorem dX0_joinNear_143 : decode cX0_joinNear 143 = .ok (.getfield 34, 3) := dk_180 0 34 (dk_at dksX0_joinNear_6 4 rfl rfl)
theorem dX0_joinNear_146 : decode cX0_joinNear 146 = .ok (.aload_n 0, 1) := dk_42 (dk_at dksX0_joinNear_6 7 rfl rfl)
theorem dX0_joinNear_147 : decode cX0_joinNear 147 = .ok (.iload_n 2, 1) := dk_28 (dk_at dksX0_joinNear_6 8 rfl rfl)
theorem dX0_joinNear_148 : decode cX0_joinNear 148 = .ok (.invokevirtual 160, 3) := dk_182 0 160 (dk_at dksX0_joinNear_6 9 rfl rfl)
theorem dX0_joinNear_151 : decode cX0_joinNear 151 = .ok (.aload_n 0, 1) := dk_42 (dk_at dksX0_joinNear_6 12 rfl rfl)
theorem dX0_joinNear_152 : decode cX0_joinNear 152 = .ok (.iload_n 3, 1) := dk_29 (dk_at dksX0_joinNear_6 13 rfl rfl)
theorem dX0_joinNear_153 : decode cX0_joinNear 153 = .ok (.invokevirtual 160, 3) := dk_182 0 160 (dk_at dksX0_joinNear_6 14 rfl rfl)
theorem dX0_joinNear_156 : decode cX0_joinNear 156 = .ok (.iastore, 1) := dk_79 (dk_at dksX0_joinNear_6 17 rfl rfl)
theorem dX0_joinNear_157 : decode cX0_joinNear 157 = .ok (.iinc 3 1, 3) := dk_132 3 1 (dk_at dksX0_joinNear_6 18 rfl rfl)
theorem dX0_joinNear_160 : decode cX0_joinNear 160 = .ok (.goto (-125), 3) := dk_167 255 131 (dk_at dksX0_joinNear_6 21 rfl rfl)
theorem dX0_joinNear_163 : decode cX0_joinNear 163 = .ok (.iinc 2 1, 3) := dk_132 2 1 (dk_at dksX0_joinNear_7 0 rfl rfl)
theorem dX0_joinNear_166 : decode cX0_joinNear 166 = .ok (.goto (-141), 3) := dk_167 255 115 (dk_at dksX0_joinNear_7 3 rfl rfl)
theorem dX0_joinNear_169 : decode cX0_joinNear 169 = .ok (.return_, 1) := dk_177 (dk_at dksX0_joinNear_7 6 rfl rfl)
abbrev cX0_isAsked : ByteArray := prog_1_method_16_code
def yX0_isAsked : MethodName := ⟨RX0, "isAsked", "(II)Z"⟩
def dkwX0_isAsked_2 : List UInt8 := [167, 0, 4, 3, 172]
abbrev dktX0_isAsked_2 : List UInt8 := dkwX0_isAsked_2 ++ []
def dkwX0_isAsked_1 : List UInt8 := [153, 0, 25, 42, 180, 0, 19, 27, 50, 182, 0, 140, 42, 180, 0, 23, 6, 46, 161, 0, 7, 4]
abbrev dktX0_isAsked_1 : List UInt8 := dkwX0_isAsked_1 ++ dktX0_isAsked_2
def dkwX0_isAsked_0 : List UInt8 := [42, 180, 0, 19, 27, 50, 180, 0, 108, 28, 159, 0, 37, 42, 180, 0, 19, 27, 50, 182, 0, 111]
abbrev dktX0_isAsked_0 : List UInt8 := dkwX0_isAsked_0 ++ dktX0_isAsked_1
theorem dksX0_isAsked_0 : cX0_isAsked.data.toList.drop 0 = dktX0_isAsked_0 := by decide +kernel
theorem dksX0_isAsked_1 : cX0_isAsked.data.toList.drop 22 = dktX0_isAsked_1 := dk_seg dksX0_isAsked_0 22 rfl rfl
theorem dksX0_isAsked_2 : cX0_isAsked.data.toList.drop 44 = dktX0_isAsked_2 := dk_seg dksX0_isAsked_1 22 rfl rfl
theorem dX0_isAsked_0 : decode cX0_isAsked 0 = .ok (.aload_n 0, 1) := dk_42 (dk_at dksX0_isAsked_0 0 rfl rfl)
theorem dX0_isAsked_1 : decode cX0_isAsked 1 = .ok (.getfield 19, 3) := dk_180 0 19 (dk_at dksX0_isAsked_0 1 rfl rfl)
theorem dX0_isAsked_4 : decode cX0_isAsked 4 = .ok (.iload_n 1, 1) := dk_27 (dk_at dksX0_isAsked_0 4 rfl rfl)
theorem dX0_isAsked_5 : decode cX0_isAsked 5 = .ok (.aaload, 1) := dk_50 (dk_at dksX0_isAsked_0 5 rfl rfl)
theorem dX0_isAsked_6 : decode cX0_isAsked 6 = .ok (.getfield 108, 3) := dk_180 0 108 (dk_at dksX0_isAsked_0 6 rfl rfl)
theorem dX0_isAsked_9 : decode cX0_isAsked 9 = .ok (.iload_n 2, 1) := dk_28 (dk_at dksX0_isAsked_0 9 rfl rfl)
theorem dX0_isAsked_10 : decode cX0_isAsked 10 = .ok (.if_icmp .eq 37, 3) := dk_159 0 37 (dk_at dksX0_isAsked_0 10 rfl rfl)
theorem dX0_isAsked_13 : decode cX0_isAsked 13 = .ok (.aload_n 0, 1) := dk_42 (dk_at dksX0_isAsked_0 13 rfl rfl)
theorem dX0_isAsked_14 : decode cX0_isAsked 14 = .ok (.getfield 19, 3) := dk_180 0 19 (dk_at dksX0_isAsked_0 14 rfl rfl)
theorem dX0_isAsked_17 : decode cX0_isAsked 17 = .ok (.iload_n 1, 1) := dk_27 (dk_at dksX0_isAsked_0 17 rfl rfl)
theorem dX0_isAsked_18 : decode cX0_isAsked 18 = .ok (.aaload, 1) := dk_50 (dk_at dksX0_isAsked_0 18 rfl rfl)
theorem dX0_isAsked_19 : decode cX0_isAsked 19 = .ok (.invokevirtual 111, 3) := dk_182 0 111 (dk_at dksX0_isAsked_0 19 rfl rfl)
theorem dX0_isAsked_22 : decode cX0_isAsked 22 = .ok (.ifCond .eq 25, 3) := dk_153 0 25 (dk_at dksX0_isAsked_1 0 rfl rfl)
theorem dX0_isAsked_25 : decode cX0_isAsked 25 = .ok (.aload_n 0, 1) := dk_42 (dk_at dksX0_isAsked_1 3 rfl rfl)
theorem dX0_isAsked_26 : decode cX0_isAsked 26 = .ok (.getfield 19, 3) := dk_180 0 19 (dk_at dksX0_isAsked_1 4 rfl rfl)
theorem dX0_isAsked_29 : decode cX0_isAsked 29 = .ok (.iload_n 1, 1) := dk_27 (dk_at dksX0_isAsked_1 7 rfl rfl)
theorem dX0_isAsked_30 : decode cX0_isAsked 30 = .ok (.aaload, 1) := dk_50 (dk_at dksX0_isAsked_1 8 rfl rfl)
theorem dX0_isAsked_31 : decode cX0_isAsked 31 = .ok (.invokevirtual 140, 3) := dk_182 0 140 (dk_at dksX0_isAsked_1 9 rfl rfl)
theorem dX0_isAsked_34 : decode cX0_isAsked 34 = .ok (.aload_n 0, 1) := dk_42 (dk_at dksX0_isAsked_1 12 rfl rfl)
theorem dX0_isAsked_35 : decode cX0_isAsked 35 = .ok (.getfield 23, 3) := dk_180 0 23 (dk_at dksX0_isAsked_1 13 rfl rfl)
theorem dX0_isAsked_38 : decode cX0_isAsked 38 = .ok (.iconst 3, 1) := dk_6 (dk_at dksX0_isAsked_1 16 rfl rfl)
theorem dX0_isAsked_39 : decode cX0_isAsked 39 = .ok (.iaload, 1) := dk_46 (dk_at dksX0_isAsked_1 17 rfl rfl)
theorem dX0_isAsked_40 : decode cX0_isAsked 40 = .ok (.if_icmp .lt 7, 3) := dk_161 0 7 (dk_at dksX0_isAsked_1 18 rfl rfl)
theorem dX0_isAsked_43 : decode cX0_isAsked 43 = .ok (.iconst 1, 1) := dk_4 (dk_at dksX0_isAsked_1 21 rfl rfl)
theorem dX0_isAsked_44 : decode cX0_isAsked 44 = .ok (.goto 4, 3) := dk_167 0 4 (dk_at dksX0_isAsked_2 0 rfl rfl)
theorem dX0_isAsked_47 : decode cX0_isAsked 47 = .ok (.iconst 0, 1) := dk_3 (dk_at dksX0_isAsked_2 3 rfl rfl)
theorem dX0_isAsked_48 : decode cX0_isAsked 48 = .ok (.ireturn, 1) := dk_172 (dk_at dksX0_isAsked_2 4 rfl rfl)
abbrev cX0_rootOf : ByteArray := prog_1_method_15_code
def yX0_rootOf : MethodName := ⟨RX0, "rootOf", "(I)I"⟩
def dkwX0_rootOf_1 : List UInt8 := [180, 0, 34, 28, 46, 46, 79, 42, 180, 0, 34, 28, 46, 61, 167, 255, 222, 28, 172]
abbrev dktX0_rootOf_1 : List UInt8 := dkwX0_rootOf_1 ++ []
def dkwX0_rootOf_0 : List UInt8 := [27, 61, 42, 180, 0, 34, 28, 46, 28, 159, 0, 30, 42, 180, 0, 34, 28, 42, 180, 0, 34, 42]
abbrev dktX0_rootOf_0 : List UInt8 := dkwX0_rootOf_0 ++ dktX0_rootOf_1
theorem dksX0_rootOf_0 : cX0_rootOf.data.toList.drop 0 = dktX0_rootOf_0 := by decide +kernel
theorem dksX0_rootOf_1 : cX0_rootOf.data.toList.drop 22 = dktX0_rootOf_1 := dk_seg dksX0_rootOf_0 22 rfl rfl
theorem dX0_rootOf_0 : decode cX0_rootOf 0 = .ok (.iload_n 1, 1) := dk_27 (dk_at dksX0_rootOf_0 0 rfl rfl)
theorem dX0_rootOf_1 : decode cX0_rootOf 1 = .ok (.istore_n 2, 1) := dk_61 (dk_at dksX0_rootOf_0 1 rfl rfl)
theorem dX0_rootOf_2 : decode cX0_rootOf 2 = .ok (.aload_n 0, 1) := dk_42 (dk_at dksX0_rootOf_0 2 rfl rfl)
theorem dX0_rootOf_3 : decode cX0_rootOf 3 = .ok (.getfield 34, 3) := dk_180 0 34 (dk_at dksX0_rootOf_0 3 rfl rfl)
theorem dX0_rootOf_6 : decode cX0_rootOf 6 = .ok (.iload_n 2, 1) := dk_28 (dk_at dksX0_rootOf_0 6 rfl rfl)
theorem dX0_rootOf_7 : decode cX0_rootOf 7 = .ok (.iaload, 1) := dk_46 (dk_at dksX0_rootOf_0 7 rfl rfl)
theorem dX0_rootOf_8 : decode cX0_rootOf 8 = .ok (.iload_n 2, 1) := dk_28 (dk_at dksX0_rootOf_0 8 rfl rfl)
theorem dX0_rootOf_9 : decode cX0_rootOf 9 = .ok (.if_icmp .eq 30, 3) := dk_159 0 30 (dk_at dksX0_rootOf_0 9 rfl rfl)
theorem dX0_rootOf_12 : decode cX0_rootOf 12 = .ok (.aload_n 0, 1) := dk_42 (dk_at dksX0_rootOf_0 12 rfl rfl)
theorem dX0_rootOf_13 : decode cX0_rootOf 13 = .ok (.getfield 34, 3) := dk_180 0 34 (dk_at dksX0_rootOf_0 13 rfl rfl)
theorem dX0_rootOf_16 : decode cX0_rootOf 16 = .ok (.iload_n 2, 1) := dk_28 (dk_at dksX0_rootOf_0 16 rfl rfl)
theorem dX0_rootOf_17 : decode cX0_rootOf 17 = .ok (.aload_n 0, 1) := dk_42 (dk_at dksX0_rootOf_0 17 rfl rfl)
theorem dX0_rootOf_18 : decode cX0_rootOf 18 = .ok (.getfield 34, 3) := dk_180 0 34 (dk_at dksX0_rootOf_0 18 rfl rfl)
theorem dX0_rootOf_21 : decode cX0_rootOf 21 = .ok (.aload_n 0, 1) := dk_42 (dk_at dksX0_rootOf_0 21 rfl rfl)
theorem dX0_rootOf_22 : decode cX0_rootOf 22 = .ok (.getfield 34, 3) := dk_180 0 34 (dk_at dksX0_rootOf_1 0 rfl rfl)
theorem dX0_rootOf_25 : decode cX0_rootOf 25 = .ok (.iload_n 2, 1) := dk_28 (dk_at dksX0_rootOf_1 3 rfl rfl)
theorem dX0_rootOf_26 : decode cX0_rootOf 26 = .ok (.iaload, 1) := dk_46 (dk_at dksX0_rootOf_1 4 rfl rfl)
theorem dX0_rootOf_27 : decode cX0_rootOf 27 = .ok (.iaload, 1) := dk_46 (dk_at dksX0_rootOf_1 5 rfl rfl)
theorem dX0_rootOf_28 : decode cX0_rootOf 28 = .ok (.iastore, 1) := dk_79 (dk_at dksX0_rootOf_1 6 rfl rfl)
theorem dX0_rootOf_29 : decode cX0_rootOf 29 = .ok (.aload_n 0, 1) := dk_42 (dk_at dksX0_rootOf_1 7 rfl rfl)
theorem dX0_rootOf_30 : decode cX0_rootOf 30 = .ok (.getfield 34, 3) := dk_180 0 34 (dk_at dksX0_rootOf_1 8 rfl rfl)
theorem dX0_rootOf_33 : decode cX0_rootOf 33 = .ok (.iload_n 2, 1) := dk_28 (dk_at dksX0_rootOf_1 11 rfl rfl)
theorem dX0_rootOf_34 : decode cX0_rootOf 34 = .ok (.iaload, 1) := dk_46 (dk_at dksX0_rootOf_1 12 rfl rfl)
theorem dX0_rootOf_35 : decode cX0_rootOf 35 = .ok (.istore_n 2, 1) := dk_61 (dk_at dksX0_rootOf_1 13 rfl rfl)
theorem dX0_rootOf_36 : decode cX0_rootOf 36 = .ok (.goto (-34), 3) := dk_167 255 222 (dk_at dksX0_rootOf_1 14 rfl rfl)
theorem dX0_rootOf_39 : decode cX0_rootOf 39 = .ok (.iload_n 2, 1) := dk_28 (dk_at dksX0_rootOf_1 17 rfl rfl)
theorem dX0_rootOf_40 : decode cX0_rootOf 40 = .ok (.ireturn, 1) := dk_172 (dk_at dksX0_rootOf_1 18 rfl rfl)
abbrev cX0_eventOf : ByteArray := prog_1_method_18_code
def yX0_eventOf : MethodName := ⟨RX0, "eventOf", "(II)LTankField$Event;"⟩
def dkwX0_eventOf_9 : List UInt8 := [187, 0, 123, 89, 42, 25, 5, 21, 4, 183, 0, 163, 176]
abbrev dktX0_eventOf_9 : List UInt8 := dkwX0_eventOf_9 ++ []
def dkwX0_eventOf_8 : List UInt8 := [155, 0, 18, 25, 5, 21, 6, 42, 180, 0, 37, 21, 7, 46, 79, 132, 6, 1, 132, 7, 1, 167, 255, 219]
abbrev dktX0_eventOf_8 : List UInt8 := dkwX0_eventOf_8 ++ dktX0_eventOf_9
def dkwX0_eventOf_7 : List UInt8 := [3, 54, 6, 3, 54, 7, 21, 7, 42, 180, 0, 46, 162, 0, 34, 42, 180, 0, 37, 21, 7, 46]
abbrev dktX0_eventOf_7 : List UInt8 := dkwX0_eventOf_7 ++ dktX0_eventOf_8
def dkwX0_eventOf_6 : List UInt8 := [79, 132, 5, 1, 167, 255, 141, 29, 42, 180, 0, 23, 5, 46, 162, 0, 5, 1, 176, 29, 188, 10, 58, 5]
abbrev dktX0_eventOf_6 : List UInt8 := dkwX0_eventOf_6 ++ dktX0_eventOf_7
def dkwX0_eventOf_5 : List UInt8 := [50, 182, 0, 133, 42, 180, 0, 19, 21, 6, 50, 182, 0, 133, 162, 0, 8, 21, 5, 167, 0, 5, 21, 6]
abbrev dktX0_eventOf_5 : List UInt8 := dkwX0_eventOf_5 ++ dktX0_eventOf_6
def dkwX0_eventOf_4 : List UInt8 := [180, 0, 37, 42, 180, 0, 19, 21, 5, 50, 180, 0, 108, 21, 6, 155, 0, 26, 42, 180, 0, 19, 21, 5]
abbrev dktX0_eventOf_4 : List UInt8 := dkwX0_eventOf_4 ++ dktX0_eventOf_5
def dkwX0_eventOf_3 : List UInt8 := [21, 5, 50, 180, 0, 108, 46, 54, 6, 29, 21, 6, 156, 0, 7, 4, 167, 0, 4, 3, 96, 62, 42]
abbrev dktX0_eventOf_3 : List UInt8 := dkwX0_eventOf_3 ++ dktX0_eventOf_4
def dkwX0_eventOf_2 : List UInt8 := [153, 0, 96, 42, 21, 5, 182, 0, 160, 27, 160, 0, 86, 132, 4, 1, 42, 180, 0, 37, 42, 180, 0, 19]
abbrev dktX0_eventOf_2 : List UInt8 := dkwX0_eventOf_2 ++ dktX0_eventOf_3
def dkwX0_eventOf_1 : List UInt8 := [62, 3, 54, 4, 3, 54, 5, 21, 5, 42, 180, 0, 79, 162, 0, 112, 42, 21, 5, 28, 182, 0, 147]
abbrev dktX0_eventOf_1 : List UInt8 := dkwX0_eventOf_1 ++ dktX0_eventOf_2
def dkwX0_eventOf_0 : List UInt8 := [3, 62, 29, 42, 180, 0, 46, 162, 0, 16, 42, 180, 0, 37, 29, 2, 79, 132, 3, 1, 167, 255, 238, 3]
abbrev dktX0_eventOf_0 : List UInt8 := dkwX0_eventOf_0 ++ dktX0_eventOf_1
theorem dksX0_eventOf_0 : cX0_eventOf.data.toList.drop 0 = dktX0_eventOf_0 := by decide +kernel
theorem dksX0_eventOf_1 : cX0_eventOf.data.toList.drop 24 = dktX0_eventOf_1 := dk_seg dksX0_eventOf_0 24 rfl rfl
theorem dksX0_eventOf_2 : cX0_eventOf.data.toList.drop 47 = dktX0_eventOf_2 := dk_seg dksX0_eventOf_1 23 rfl rfl
theorem dksX0_eventOf_3 : cX0_eventOf.data.toList.drop 71 = dktX0_eventOf_3 := dk_seg dksX0_eventOf_2 24 rfl rfl
theorem dksX0_eventOf_4 : cX0_eventOf.data.toList.drop 94 = dktX0_eventOf_4 := dk_seg dksX0_eventOf_3 23 rfl rfl
theorem dksX0_eventOf_5 : cX0_eventOf.data.toList.drop 118 = dktX0_eventOf_5 := dk_seg dksX0_eventOf_4 24 rfl rfl
theorem dksX0_eventOf_6 : cX0_eventOf.data.toList.drop 142 = dktX0_eventOf_6 := dk_seg dksX0_eventOf_5 24 rfl rfl
theorem dksX0_eventOf_7 : cX0_eventOf.data.toList.drop 166 = dktX0_eventOf_7 := dk_seg dksX0_eventOf_6 24 rfl rfl
theorem dksX0_eventOf_8 : cX0_eventOf.data.toList.drop 188 = dktX0_eventOf_8 := dk_seg dksX0_eventOf_7 22 rfl rfl
theorem dksX0_eventOf_9 : cX0_eventOf.data.toList.drop 212 = dktX0_eventOf_9 := dk_seg dksX0_eventOf_8 24 rfl rfl
theorem dX0_eventOf_0 : decode cX0_eventOf 0 = .ok (.iconst 0, 1) := dk_3 (dk_at dksX0_eventOf_0 0 rfl rfl)
theorem dX0_eventOf_1 : decode cX0_eventOf 1 = .ok (.istore_n 3, 1) := dk_62 (dk_at dksX0_eventOf_0 1 rfl rfl)
theorem dX0_eventOf_2 : decode cX0_eventOf 2 = .ok (.iload_n 3, 1) := dk_29 (dk_at dksX0_eventOf_0 2 rfl rfl)
theorem dX0_eventOf_3 : decode cX0_eventOf 3 = .ok (.aload_n 0, 1) := dk_42 (dk_at dksX0_eventOf_0 3 rfl rfl)
theorem dX0_eventOf_4 : decode cX0_eventOf 4 = .ok (.getfield 46, 3) := dk_180 0 46 (dk_at dksX0_eventOf_0 4 rfl rfl)
theorem dX0_eventOf_7 : decode cX0_eventOf 7 = .ok (.if_icmp .ge 16, 3) := dk_162 0 16 (dk_at dksX0_eventOf_0 7 rfl rfl)
theorem dX0_eventOf_10 : decode cX0_eventOf 10 = .ok (.aload_n 0, 1) := dk_42 (dk_at dksX0_eventOf_0 10 rfl rfl)
theorem dX0_eventOf_11 : decode cX0_eventOf 11 = .ok (.getfield 37, 3) := dk_180 0 37 (dk_at dksX0_eventOf_0 11 rfl rfl)
theorem dX0_eventOf_14 : decode cX0_eventOf 14 = .ok (.iload_n 3, 1) := dk_29 (dk_at dksX0_eventOf_0 14 rfl rfl)
theorem dX0_eventOf_15 : decode cX0_eventOf 15 = .ok (.iconst (-1), 1) := dk_2 (dk_at dksX0_eventOf_0 15 rfl rfl)
theorem dX0_eventOf_16 : decode cX0_eventOf 16 = .ok (.iastore, 1) := dk_79 (dk_at dksX0_eventOf_0 16 rfl rfl)
theorem dX0_eventOf_17 : decode cX0_eventOf 17 = .ok (.iinc 3 1, 3) := dk_132 3 1 (dk_at dksX0_eventOf_0 17 rfl rfl)
theorem dX0_eventOf_20 : decode cX0_eventOf 20 = .ok (.goto (-18), 3) := dk_167 255 238 (dk_at dksX0_eventOf_0 20 rfl rfl)
theorem dX0_eventOf_23 : decode cX0_eventOf 23 = .ok (.iconst 0, 1) := dk_3 (dk_at dksX0_eventOf_0 23 rfl rfl)
theorem dX0_eventOf_24 : decode cX0_eventOf 24 = .ok (.istore_n 3, 1) := dk_62 (dk_at dksX0_eventOf_1 0 rfl rfl)
theorem dX0_eventOf_25 : decode cX0_eventOf 25 = .ok (.iconst 0, 1) := dk_3 (dk_at dksX0_eventOf_1 1 rfl rfl)
theorem dX0_eventOf_26 : decode cX0_eventOf 26 = .ok (.istore 4, 2) := dk_54 4 (dk_at dksX0_eventOf_1 2 rfl rfl)
theorem dX0_eventOf_28 : decode cX0_eventOf 28 = .ok (.iconst 0, 1) := dk_3 (dk_at dksX0_eventOf_1 4 rfl rfl)
theorem dX0_eventOf_29 : decode cX0_eventOf 29 = .ok (.istore 5, 2) := dk_54 5 (dk_at dksX0_eventOf_1 5 rfl rfl)
theorem dX0_eventOf_31 : decode cX0_eventOf 31 = .ok (.iload 5, 2) := dk_21 5 (dk_at dksX0_eventOf_1 7 rfl rfl)
theorem dX0_eventOf_33 : decode cX0_eventOf 33 = .ok (.aload_n 0, 1) := dk_42 (dk_at dksX0_eventOf_1 9 rfl rfl)
theorem dX0_eventOf_34 : decode cX0_eventOf 34 = .ok (.getfield 79, 3) := dk_180 0 79 (dk_at dksX0_eventOf_1 10 rfl rfl)
theorem dX0_eventOf_37 : decode cX0_eventOf 37 = .ok (.if_icmp .ge 112, 3) := dk_162 0 112 (dk_at dksX0_eventOf_1 13 rfl rfl)
theorem dX0_eventOf_40 : decode cX0_eventOf 40 = .ok (.aload_n 0, 1) := dk_42 (dk_at dksX0_eventOf_1 16 rfl rfl)
theorem dX0_eventOf_41 : decode cX0_eventOf 41 = .ok (.iload 5, 2) := dk_21 5 (dk_at dksX0_eventOf_1 17 rfl rfl)
theorem dX0_eventOf_43 : decode cX0_eventOf 43 = .ok (.iload_n 2, 1) := dk_28 (dk_at dksX0_eventOf_1 19 rfl rfl)
theorem dX0_eventOf_44 : decode cX0_eventOf 44 = .ok (.invokevirtual 147, 3) := dk_182 0 147 (dk_at dksX0_eventOf_1 20 rfl rfl)
theorem dX0_eventOf_47 : decode cX0_eventOf 47 = .ok (.ifCond .eq 96, 3) := dk_153 0 96 (dk_at dksX0_eventOf_2 0 rfl rfl)
theorem dX0_eventOf_50 : decode cX0_eventOf 50 = .ok (.aload_n 0, 1) := dk_42 (dk_at dksX0_eventOf_2 3 rfl rfl)
theorem dX0_eventOf_51 : decode cX0_eventOf 51 = .ok (.iload 5, 2) := dk_21 5 (dk_at dksX0_eventOf_2 4 rfl rfl)
theorem dX0_eventOf_53 : decode cX0_eventOf 53 = .ok (.invokevirtual 160, 3) := dk_182 0 160 (dk_at dksX0_eventOf_2 6 rfl rfl)
theorem dX0_eventOf_56 : decode cX0_eventOf 56 = .ok (.iload_n 1, 1) := dk_27 (dk_at dksX0_eventOf_2 9 rfl rfl)
theorem dX0_eventOf_57 : decode cX0_eventOf 57 = .ok (.if_icmp .ne 86, 3) := dk_160 0 86 (dk_at dksX0_eventOf_2 10 rfl rfl)
theorem dX0_eventOf_60 : decode cX0_eventOf 60 = .ok (.iinc 4 1, 3) := dk_132 4 1 (dk_at dksX0_eventOf_2 13 rfl rfl)
theorem dX0_eventOf_63 : decode cX0_eventOf 63 = .ok (.aload_n 0, 1) := dk_42 (dk_at dksX0_eventOf_2 16 rfl rfl)
theorem dX0_eventOf_64 : decode cX0_eventOf 64 = .ok (.getfield 37, 3) := dk_180 0 37 (dk_at dksX0_eventOf_2 17 rfl rfl)
theorem dX0_eventOf_67 : decode cX0_eventOf 67 = .ok (.aload_n 0, 1) := dk_42 (dk_at dksX0_eventOf_2 20 rfl rfl)
theorem dX0_eventOf_68 : decode cX0_eventOf 68 = .ok (.getfield 19, 3) := dk_180 0 19 (dk_at dksX0_eventOf_2 21 rfl rfl)
theorem dX0_eventOf_71 : decode cX0_eventOf 71 = .ok (.iload 5, 2) := dk_21 5 (dk_at dksX0_eventOf_3 0 rfl rfl)
theorem dX0_eventOf_73 : decode cX0_eventOf 73 = .ok (.aaload, 1) := dk_50 (dk_at dksX0_eventOf_3 2 rfl rfl)
theorem dX0_eventOf_74 : decode cX0_eventOf 74 = .ok (.getfield 108, 3) := dk_180 0 108 (dk_at dksX0_eventOf_3 3 rfl rfl)
theorem dX0_eventOf_77 : decode cX0_eventOf 77 = .ok (.iaload, 1) := dk_46 (dk_at dksX0_eventOf_3 6 rfl rfl)
theorem dX0_eventOf_78 : decode cX0_eventOf 78 = .ok (.istore 6, 2) := dk_54 6 (dk_at dksX0_eventOf_3 7 rfl rfl)
theorem dX0_eventOf_80 : decode cX0_eventOf 80 = .ok (.iload_n 3, 1) := dk_29 (dk_at dksX0_eventOf_3 9 rfl rfl)
theorem dX0_eventOf_81 : decode cX0_eventOf 81 = .ok (.iload 6, 2) := dk_21 6 (dk_at dksX0_eventOf_3 10 rfl rfl)
theorem dX0_eventOf_83 : decode cX0_eventOf 83 = .ok (.ifCond .ge 7, 3) := dk_156 0 7 (dk_at dksX0_eventOf_3 12 rfl rfl)
theorem dX0_eventOf_86 : decode cX0_eventOf 86 = .ok (.iconst 1, 1) := dk_4 (dk_at dksX0_eventOf_3 15 rfl rfl)
theorem dX0_eventOf_87 : decode cX0_eventOf 87 = .ok (.goto 4, 3) := dk_167 0 4 (dk_at dksX0_eventOf_3 16 rfl rfl)
theorem dX0_eventOf_90 : decode cX0_eventOf 90 = .ok (.iconst 0, 1) := dk_3 (dk_at dksX0_eventOf_3 19 rfl rfl)
theorem dX0_eventOf_91 : decode cX0_eventOf 91 = .ok (.iadd, 1) := dk_96 (dk_at dksX0_eventOf_3 20 rfl rfl)
theorem dX0_eventOf_92 : decode cX0_eventOf 92 = .ok (.istore_n 3, 1) := dk_62 (dk_at dksX0_eventOf_3 21 rfl rfl)
theorem dX0_eventOf_93 : decode cX0_eventOf 93 = .ok (.aload_n 0, 1) := dk_42 (dk_at dksX0_eventOf_3 22 rfl rfl)
theorem dX0_eventOf_94 : decode cX0_eventOf 94 = .ok (.getfield 37, 3) := dk_180 0 37 (dk_at dksX0_eventOf_4 0 rfl rfl)
theorem dX0_eventOf_97 : decode cX0_eventOf 97 = .ok (.aload_n 0, 1) := dk_42 (dk_at dksX0_eventOf_4 3 rfl rfl)
theorem dX0_eventOf_98 : decode cX0_eventOf 98 = .ok (.getfield 19, 3) := dk_180 0 19 (dk_at dksX0_eventOf_4 4 rfl rfl)
theorem dX0_eventOf_101 : decode cX0_eventOf 101 = .ok (.iload 5, 2) := dk_21 5 (dk_at dksX0_eventOf_4 7 rfl rfl)
theorem dX0_eventOf_103 : decode cX0_eventOf 103 = .ok (.aaload, 1) := dk_50 (dk_at dksX0_eventOf_4 9 rfl rfl)
theorem dX0_eventOf_104 : decode cX0_eventOf 104 = .ok (.getfield 108, 3) := dk_180 0 108 (dk_at dksX0_eventOf_4 10 rfl rfl)
theorem dX0_eventOf_107 : decode cX0_eventOf 107 = .ok (.iload 6, 2) := dk_21 6 (dk_at dksX0_eventOf_4 13 rfl rfl)
theorem dX0_eventOf_109 : decode cX0_eventOf 109 = .ok (.ifCond .lt 26, 3) := dk_155 0 26 (dk_at dksX0_eventOf_4 15 rfl rfl)
theorem dX0_eventOf_112 : decode cX0_eventOf 112 = .ok (.aload_n 0, 1) := dk_42 (dk_at dksX0_eventOf_4 18 rfl rfl)
theorem dX0_eventOf_113 : decode cX0_eventOf 113 = .ok (.getfield 19, 3) := dk_180 0 19 (dk_at dksX0_eventOf_4 19 rfl rfl)
theorem dX0_eventOf_116 : decode cX0_eventOf 116 = .ok (.iload 5, 2) := dk_21 5 (dk_at dksX0_eventOf_4 22 rfl rfl)
theorem dX0_eventOf_118 : decode cX0_eventOf 118 = .ok (.aaload, 1) := dk_50 (dk_at dksX0_eventOf_5 0 rfl rfl)
theorem dX0_eventOf_119 : decode cX0_eventOf 119 = .ok (.invokevirtual 133, 3) := dk_182 0 133 (dk_at dksX0_eventOf_5 1 rfl rfl)
theorem dX0_eventOf_122 : decode cX0_eventOf 122 = .ok (.aload_n 0, 1) := dk_42 (dk_at dksX0_eventOf_5 4 rfl rfl)
theorem dX0_eventOf_123 : decode cX0_eventOf 123 = .ok (.getfield 19, 3) := dk_180 0 19 (dk_at dksX0_eventOf_5 5 rfl rfl)
theorem dX0_eventOf_126 : decode cX0_eventOf 126 = .ok (.iload 6, 2) := dk_21 6 (dk_at dksX0_eventOf_5 8 rfl rfl)
theorem dX0_eventOf_128 : decode cX0_eventOf 128 = .ok (.aaload, 1) := dk_50 (dk_at dksX0_eventOf_5 10 rfl rfl)
theorem dX0_eventOf_129 : decode cX0_eventOf 129 = .ok (.invokevirtual 133, 3) := dk_182 0 133 (dk_at dksX0_eventOf_5 11 rfl rfl)
theorem dX0_eventOf_132 : decode cX0_eventOf 132 = .ok (.if_icmp .ge 8, 3) := dk_162 0 8 (dk_at dksX0_eventOf_5 14 rfl rfl)
theorem dX0_eventOf_135 : decode cX0_eventOf 135 = .ok (.iload 5, 2) := dk_21 5 (dk_at dksX0_eventOf_5 17 rfl rfl)
theorem dX0_eventOf_137 : decode cX0_eventOf 137 = .ok (.goto 5, 3) := dk_167 0 5 (dk_at dksX0_eventOf_5 19 rfl rfl)
theorem dX0_eventOf_140 : decode cX0_eventOf 140 = .ok (.iload 6, 2) := dk_21 6 (dk_at dksX0_eventOf_5 22 rfl rfl)
theorem dX0_eventOf_142 : decode cX0_eventOf 142 = .ok (.iastore, 1) := dk_79 (dk_at dksX0_eventOf_6 0 rfl rfl)
theorem dX0_eventOf_143 : decode cX0_eventOf 143 = .ok (.iinc 5 1, 3) := dk_132 5 1 (dk_at dksX0_eventOf_6 1 rfl rfl)
theorem dX0_eventOf_146 : decode cX0_eventOf 146 = .ok (.goto (-115), 3) := dk_167 255 141 (dk_at dksX0_eventOf_6 4 rfl rfl)
theorem dX0_eventOf_149 : decode cX0_eventOf 149 = .ok (.iload_n 3, 1) := dk_29 (dk_at dksX0_eventOf_6 7 rfl rfl)
theorem dX0_eventOf_150 : decode cX0_eventOf 150 = .ok (.aload_n 0, 1) := dk_42 (dk_at dksX0_eventOf_6 8 rfl rfl)
theorem dX0_eventOf_151 : decode cX0_eventOf 151 = .ok (.getfield 23, 3) := dk_180 0 23 (dk_at dksX0_eventOf_6 9 rfl rfl)
theorem dX0_eventOf_154 : decode cX0_eventOf 154 = .ok (.iconst 2, 1) := dk_5 (dk_at dksX0_eventOf_6 12 rfl rfl)
theorem dX0_eventOf_155 : decode cX0_eventOf 155 = .ok (.iaload, 1) := dk_46 (dk_at dksX0_eventOf_6 13 rfl rfl)
theorem dX0_eventOf_156 : decode cX0_eventOf 156 = .ok (.if_icmp .ge 5, 3) := dk_162 0 5 (dk_at dksX0_eventOf_6 14 rfl rfl)
theorem dX0_eventOf_159 : decode cX0_eventOf 159 = .ok (.aconst_null, 1) := dk_1 (dk_at dksX0_eventOf_6 17 rfl rfl)
theorem dX0_eventOf_160 : decode cX0_eventOf 160 = .ok (.areturn, 1) := dk_176 (dk_at dksX0_eventOf_6 18 rfl rfl)
theorem dX0_eventOf_161 : decode cX0_eventOf 161 = .ok (.iload_n 3, 1) := dk_29 (dk_at dksX0_eventOf_6 19 rfl rfl)
theorem dX0_eventOf_162 : decode cX0_eventOf 162 = .ok (.newarray .int, 2) := dk_188_10 (dk_at dksX0_eventOf_6 20 rfl rfl)
theorem dX0_eventOf_164 : decode cX0_eventOf 164 = .ok (.astore 5, 2) := dk_58 5 (dk_at dksX0_eventOf_6 22 rfl rfl)
theorem dX0_eventOf_166 : decode cX0_eventOf 166 = .ok (.iconst 0, 1) := dk_3 (dk_at dksX0_eventOf_7 0 rfl rfl)
theorem dX0_eventOf_167 : decode cX0_eventOf 167 = .ok (.istore 6, 2) := dk_54 6 (dk_at dksX0_eventOf_7 1 rfl rfl)
theorem dX0_eventOf_169 : decode cX0_eventOf 169 = .ok (.iconst 0, 1) := dk_3 (dk_at dksX0_eventOf_7 3 rfl rfl)
theorem dX0_eventOf_170 : decode cX0_eventOf 170 = .ok (.istore 7, 2) := dk_54 7 (dk_at dksX0_eventOf_7 4 rfl rfl)
theorem dX0_eventOf_172 : decode cX0_eventOf 172 = .ok (.iload 7, 2) := dk_21 7 (dk_at dksX0_eventOf_7 6 rfl rfl)
theorem dX0_eventOf_174 : decode cX0_eventOf 174 = .ok (.aload_n 0, 1) := dk_42 (dk_at dksX0_eventOf_7 8 rfl rfl)
theorem dX0_eventOf_175 : decode cX0_eventOf 175 = .ok (.getfield 46, 3) := dk_180 0 46 (dk_at dksX0_eventOf_7 9 rfl rfl)
theorem dX0_eventOf_178 : decode cX0_eventOf 178 = .ok (.if_icmp .ge 34, 3) := dk_162 0 34 (dk_at dksX0_eventOf_7 12 rfl rfl)
theorem dX0_eventOf_181 : decode cX0_eventOf 181 = .ok (.aload_n 0, 1) := dk_42 (dk_at dksX0_eventOf_7 15 rfl rfl)
theorem dX0_eventOf_182 : decode cX0_eventOf 182 = .ok (.getfield 37, 3) := dk_180 0 37 (dk_at dksX0_eventOf_7 16 rfl rfl)
theorem dX0_eventOf_185 : decode cX0_eventOf 185 = .ok (.iload 7, 2) := dk_21 7 (dk_at dksX0_eventOf_7 19 rfl rfl)
theorem dX0_eventOf_187 : decode cX0_eventOf 187 = .ok (.iaload, 1) := dk_46 (dk_at dksX0_eventOf_7 21 rfl rfl)
theorem dX0_eventOf_188 : decode cX0_eventOf 188 = .ok (.ifCond .lt 18, 3) := dk_155 0 18 (dk_at dksX0_eventOf_8 0 rfl rfl)
theorem dX0_eventOf_191 : decode cX0_eventOf 191 = .ok (.aload 5, 2) := dk_25 5 (dk_at dksX0_eventOf_8 3 rfl rfl)
theorem dX0_eventOf_193 : decode cX0_eventOf 193 = .ok (.iload 6, 2) := dk_21 6 (dk_at dksX0_eventOf_8 5 rfl rfl)
theorem dX0_eventOf_195 : decode cX0_eventOf 195 = .ok (.aload_n 0, 1) := dk_42 (dk_at dksX0_eventOf_8 7 rfl rfl)
theorem dX0_eventOf_196 : decode cX0_eventOf 196 = .ok (.getfield 37, 3) := dk_180 0 37 (dk_at dksX0_eventOf_8 8 rfl rfl)
theorem dX0_eventOf_199 : decode cX0_eventOf 199 = .ok (.iload 7, 2) := dk_21 7 (dk_at dksX0_eventOf_8 11 rfl rfl)
theorem dX0_eventOf_201 : decode cX0_eventOf 201 = .ok (.iaload, 1) := dk_46 (dk_at dksX0_eventOf_8 13 rfl rfl)
theorem dX0_eventOf_202 : decode cX0_eventOf 202 = .ok (.iastore, 1) := dk_79 (dk_at dksX0_eventOf_8 14 rfl rfl)
theorem dX0_eventOf_203 : decode cX0_eventOf 203 = .ok (.iinc 6 1, 3) := dk_132 6 1 (dk_at dksX0_eventOf_8 15 rfl rfl)
theorem dX0_eventOf_206 : decode cX0_eventOf 206 = .ok (.iinc 7 1, 3) := dk_132 7 1 (dk_at dksX0_eventOf_8 18 rfl rfl)
theorem dX0_eventOf_209 : decode cX0_eventOf 209 = .ok (.goto (-37), 3) := dk_167 255 219 (dk_at dksX0_eventOf_8 21 rfl rfl)
theorem dX0_eventOf_212 : decode cX0_eventOf 212 = .ok (.new 123, 3) := dk_187 0 123 (dk_at dksX0_eventOf_9 0 rfl rfl)
theorem dX0_eventOf_215 : decode cX0_eventOf 215 = .ok (.dup, 1) := dk_89 (dk_at dksX0_eventOf_9 3 rfl rfl)
theorem dX0_eventOf_216 : decode cX0_eventOf 216 = .ok (.aload_n 0, 1) := dk_42 (dk_at dksX0_eventOf_9 4 rfl rfl)
theorem dX0_eventOf_217 : decode cX0_eventOf 217 = .ok (.aload 5, 2) := dk_25 5 (dk_at dksX0_eventOf_9 5 rfl rfl)
theorem dX0_eventOf_219 : decode cX0_eventOf 219 = .ok (.iload 4, 2) := dk_21 4 (dk_at dksX0_eventOf_9 7 rfl rfl)
theorem dX0_eventOf_221 : decode cX0_eventOf 221 = .ok (.invokespecial 163, 3) := dk_183 0 163 (dk_at dksX0_eventOf_9 9 rfl rfl)
theorem dX0_eventOf_224 : decode cX0_eventOf 224 = .ok (.areturn, 1) := dk_176 (dk_at dksX0_eventOf_9 12 rfl rfl)
abbrev cX0_others : ByteArray := prog_1_method_21_code
def yX0_others : MethodName := ⟨RX0, "others", "()I"⟩
def dkwX0_others_2 : List UInt8 := [167, 0, 4, 4, 96, 60, 132, 2, 1, 167, 255, 215, 27, 172]
abbrev dktX0_others_2 : List UInt8 := dkwX0_others_2 ++ []
def dkwX0_others_1 : List UInt8 := [162, 0, 36, 27, 42, 180, 0, 177, 42, 180, 0, 30, 180, 0, 118, 28, 50, 182, 0, 187, 153, 0, 7, 3]
abbrev dktX0_others_1 : List UInt8 := dkwX0_others_1 ++ dktX0_others_2
def dkwX0_others_0 : List UInt8 := [42, 180, 0, 184, 5, 162, 0, 6, 16, 253, 172, 3, 60, 3, 61, 28, 42, 180, 0, 30, 180, 0, 115]
abbrev dktX0_others_0 : List UInt8 := dkwX0_others_0 ++ dktX0_others_1
theorem dksX0_others_0 : cX0_others.data.toList.drop 0 = dktX0_others_0 := by decide +kernel
theorem dksX0_others_1 : cX0_others.data.toList.drop 23 = dktX0_others_1 := dk_seg dksX0_others_0 23 rfl rfl
theorem dksX0_others_2 : cX0_others.data.toList.drop 47 = dktX0_others_2 := dk_seg dksX0_others_1 24 rfl rfl
theorem dX0_others_0 : decode cX0_others 0 = .ok (.aload_n 0, 1) := dk_42 (dk_at dksX0_others_0 0 rfl rfl)
theorem dX0_others_1 : decode cX0_others 1 = .ok (.getfield 184, 3) := dk_180 0 184 (dk_at dksX0_others_0 1 rfl rfl)
theorem dX0_others_4 : decode cX0_others 4 = .ok (.iconst 2, 1) := dk_5 (dk_at dksX0_others_0 4 rfl rfl)
theorem dX0_others_5 : decode cX0_others 5 = .ok (.if_icmp .ge 6, 3) := dk_162 0 6 (dk_at dksX0_others_0 5 rfl rfl)
theorem dX0_others_8 : decode cX0_others 8 = .ok (.bipush (-3), 2) := dk_16 253 (dk_at dksX0_others_0 8 rfl rfl)
theorem dX0_others_10 : decode cX0_others 10 = .ok (.ireturn, 1) := dk_172 (dk_at dksX0_others_0 10 rfl rfl)
theorem dX0_others_11 : decode cX0_others 11 = .ok (.iconst 0, 1) := dk_3 (dk_at dksX0_others_0 11 rfl rfl)
theorem dX0_others_12 : decode cX0_others 12 = .ok (.istore_n 1, 1) := dk_60 (dk_at dksX0_others_0 12 rfl rfl)
theorem dX0_others_13 : decode cX0_others 13 = .ok (.iconst 0, 1) := dk_3 (dk_at dksX0_others_0 13 rfl rfl)
theorem dX0_others_14 : decode cX0_others 14 = .ok (.istore_n 2, 1) := dk_61 (dk_at dksX0_others_0 14 rfl rfl)
theorem dX0_others_15 : decode cX0_others 15 = .ok (.iload_n 2, 1) := dk_28 (dk_at dksX0_others_0 15 rfl rfl)
theorem dX0_others_16 : decode cX0_others 16 = .ok (.aload_n 0, 1) := dk_42 (dk_at dksX0_others_0 16 rfl rfl)
theorem dX0_others_17 : decode cX0_others 17 = .ok (.getfield 30, 3) := dk_180 0 30 (dk_at dksX0_others_0 17 rfl rfl)
theorem dX0_others_20 : decode cX0_others 20 = .ok (.getfield 115, 3) := dk_180 0 115 (dk_at dksX0_others_0 20 rfl rfl)
theorem dX0_others_23 : decode cX0_others 23 = .ok (.if_icmp .ge 36, 3) := dk_162 0 36 (dk_at dksX0_others_1 0 rfl rfl)
theorem dX0_others_26 : decode cX0_others 26 = .ok (.iload_n 1, 1) := dk_27 (dk_at dksX0_others_1 3 rfl rfl)
theorem dX0_others_27 : decode cX0_others 27 = .ok (.aload_n 0, 1) := dk_42 (dk_at dksX0_others_1 4 rfl rfl)
theorem dX0_others_28 : decode cX0_others 28 = .ok (.getfield 177, 3) := dk_180 0 177 (dk_at dksX0_others_1 5 rfl rfl)
theorem dX0_others_31 : decode cX0_others 31 = .ok (.aload_n 0, 1) := dk_42 (dk_at dksX0_others_1 8 rfl rfl)
theorem dX0_others_32 : decode cX0_others 32 = .ok (.getfield 30, 3) := dk_180 0 30 (dk_at dksX0_others_1 9 rfl rfl)
theorem dX0_others_35 : decode cX0_others 35 = .ok (.getfield 118, 3) := dk_180 0 118 (dk_at dksX0_others_1 12 rfl rfl)
theorem dX0_others_38 : decode cX0_others 38 = .ok (.iload_n 2, 1) := dk_28 (dk_at dksX0_others_1 15 rfl rfl)
theorem dX0_others_39 : decode cX0_others 39 = .ok (.aaload, 1) := dk_50 (dk_at dksX0_others_1 16 rfl rfl)
theorem dX0_others_40 : decode cX0_others 40 = .ok (.invokevirtual 187, 3) := dk_182 0 187 (dk_at dksX0_others_1 17 rfl rfl)
theorem dX0_others_43 : decode cX0_others 43 = .ok (.ifCond .eq 7, 3) := dk_153 0 7 (dk_at dksX0_others_1 20 rfl rfl)
theorem dX0_others_46 : decode cX0_others 46 = .ok (.iconst 0, 1) := dk_3 (dk_at dksX0_others_1 23 rfl rfl)
theorem dX0_others_47 : decode cX0_others 47 = .ok (.goto 4, 3) := dk_167 0 4 (dk_at dksX0_others_2 0 rfl rfl)
theorem dX0_others_50 : decode cX0_others 50 = .ok (.iconst 1, 1) := dk_4 (dk_at dksX0_others_2 3 rfl rfl)
theorem dX0_others_51 : decode cX0_others 51 = .ok (.iadd, 1) := dk_96 (dk_at dksX0_others_2 4 rfl rfl)
theorem dX0_others_52 : decode cX0_others 52 = .ok (.istore_n 1, 1) := dk_60 (dk_at dksX0_others_2 5 rfl rfl)
theorem dX0_others_53 : decode cX0_others 53 = .ok (.iinc 2 1, 3) := dk_132 2 1 (dk_at dksX0_others_2 6 rfl rfl)
theorem dX0_others_56 : decode cX0_others 56 = .ok (.goto (-41), 3) := dk_167 255 215 (dk_at dksX0_others_2 9 rfl rfl)
theorem dX0_others_59 : decode cX0_others 59 = .ok (.iload_n 1, 1) := dk_27 (dk_at dksX0_others_2 12 rfl rfl)
theorem dX0_others_60 : decode cX0_others 60 = .ok (.ireturn, 1) := dk_172 (dk_at dksX0_others_2 13 rfl rfl)
abbrev cX0_isOther : ByteArray := prog_1_method_23_code
def yX0_isOther : MethodName := ⟨RX0, "isOther", "(I)I"⟩
def dkwX0_isOther_2 : List UInt8 := [167, 0, 4, 4, 172]
abbrev dktX0_isOther_2 : List UInt8 := dkwX0_isOther_2 ++ []
def dkwX0_isOther_1 : List UInt8 := [167, 0, 27, 42, 180, 0, 177, 42, 180, 0, 30, 180, 0, 118, 27, 50, 182, 0, 187, 153, 0, 7, 3]
abbrev dktX0_isOther_1 : List UInt8 := dkwX0_isOther_1 ++ dktX0_isOther_2
def dkwX0_isOther_0 : List UInt8 := [42, 27, 182, 0, 191, 153, 0, 7, 2, 167, 0, 40, 42, 180, 0, 184, 5, 162, 0, 8, 16, 253]
abbrev dktX0_isOther_0 : List UInt8 := dkwX0_isOther_0 ++ dktX0_isOther_1
theorem dksX0_isOther_0 : cX0_isOther.data.toList.drop 0 = dktX0_isOther_0 := by decide +kernel
theorem dksX0_isOther_1 : cX0_isOther.data.toList.drop 22 = dktX0_isOther_1 := dk_seg dksX0_isOther_0 22 rfl rfl
theorem dksX0_isOther_2 : cX0_isOther.data.toList.drop 45 = dktX0_isOther_2 := dk_seg dksX0_isOther_1 23 rfl rfl
theorem dX0_isOther_0 : decode cX0_isOther 0 = .ok (.aload_n 0, 1) := dk_42 (dk_at dksX0_isOther_0 0 rfl rfl)
theorem dX0_isOther_1 : decode cX0_isOther 1 = .ok (.iload_n 1, 1) := dk_27 (dk_at dksX0_isOther_0 1 rfl rfl)
theorem dX0_isOther_2 : decode cX0_isOther 2 = .ok (.invokevirtual 191, 3) := dk_182 0 191 (dk_at dksX0_isOther_0 2 rfl rfl)
theorem dX0_isOther_5 : decode cX0_isOther 5 = .ok (.ifCond .eq 7, 3) := dk_153 0 7 (dk_at dksX0_isOther_0 5 rfl rfl)
theorem dX0_isOther_8 : decode cX0_isOther 8 = .ok (.iconst (-1), 1) := dk_2 (dk_at dksX0_isOther_0 8 rfl rfl)
theorem dX0_isOther_9 : decode cX0_isOther 9 = .ok (.goto 40, 3) := dk_167 0 40 (dk_at dksX0_isOther_0 9 rfl rfl)
theorem dX0_isOther_12 : decode cX0_isOther 12 = .ok (.aload_n 0, 1) := dk_42 (dk_at dksX0_isOther_0 12 rfl rfl)
theorem dX0_isOther_13 : decode cX0_isOther 13 = .ok (.getfield 184, 3) := dk_180 0 184 (dk_at dksX0_isOther_0 13 rfl rfl)
theorem dX0_isOther_16 : decode cX0_isOther 16 = .ok (.iconst 2, 1) := dk_5 (dk_at dksX0_isOther_0 16 rfl rfl)
theorem dX0_isOther_17 : decode cX0_isOther 17 = .ok (.if_icmp .ge 8, 3) := dk_162 0 8 (dk_at dksX0_isOther_0 17 rfl rfl)
theorem dX0_isOther_20 : decode cX0_isOther 20 = .ok (.bipush (-3), 2) := dk_16 253 (dk_at dksX0_isOther_0 20 rfl rfl)
theorem dX0_isOther_22 : decode cX0_isOther 22 = .ok (.goto 27, 3) := dk_167 0 27 (dk_at dksX0_isOther_1 0 rfl rfl)
theorem dX0_isOther_25 : decode cX0_isOther 25 = .ok (.aload_n 0, 1) := dk_42 (dk_at dksX0_isOther_1 3 rfl rfl)
theorem dX0_isOther_26 : decode cX0_isOther 26 = .ok (.getfield 177, 3) := dk_180 0 177 (dk_at dksX0_isOther_1 4 rfl rfl)
theorem dX0_isOther_29 : decode cX0_isOther 29 = .ok (.aload_n 0, 1) := dk_42 (dk_at dksX0_isOther_1 7 rfl rfl)
theorem dX0_isOther_30 : decode cX0_isOther 30 = .ok (.getfield 30, 3) := dk_180 0 30 (dk_at dksX0_isOther_1 8 rfl rfl)
theorem dX0_isOther_33 : decode cX0_isOther 33 = .ok (.getfield 118, 3) := dk_180 0 118 (dk_at dksX0_isOther_1 11 rfl rfl)
theorem dX0_isOther_36 : decode cX0_isOther 36 = .ok (.iload_n 1, 1) := dk_27 (dk_at dksX0_isOther_1 14 rfl rfl)
theorem dX0_isOther_37 : decode cX0_isOther 37 = .ok (.aaload, 1) := dk_50 (dk_at dksX0_isOther_1 15 rfl rfl)
theorem dX0_isOther_38 : decode cX0_isOther 38 = .ok (.invokevirtual 187, 3) := dk_182 0 187 (dk_at dksX0_isOther_1 16 rfl rfl)
theorem dX0_isOther_41 : decode cX0_isOther 41 = .ok (.ifCond .eq 7, 3) := dk_153 0 7 (dk_at dksX0_isOther_1 19 rfl rfl)
theorem dX0_isOther_44 : decode cX0_isOther 44 = .ok (.iconst 0, 1) := dk_3 (dk_at dksX0_isOther_1 22 rfl rfl)
theorem dX0_isOther_45 : decode cX0_isOther 45 = .ok (.goto 4, 3) := dk_167 0 4 (dk_at dksX0_isOther_2 0 rfl rfl)
theorem dX0_isOther_48 : decode cX0_isOther 48 = .ok (.iconst 1, 1) := dk_4 (dk_at dksX0_isOther_2 3 rfl rfl)
theorem dX0_isOther_49 : decode cX0_isOther 49 = .ok (.ireturn, 1) := dk_172 (dk_at dksX0_isOther_2 4 rfl rfl)
abbrev cX0_noEvent : ByteArray := prog_1_method_22_code
def yX0_noEvent : MethodName := ⟨RX0, "noEvent", "(I)Z"⟩
def dkwX0_noEvent_0 : List UInt8 := [27, 3, 42, 180, 0, 30, 180, 0, 115, 4, 100, 184, 0, 50, 154, 0, 7, 4, 167, 0, 4, 3, 172]
abbrev dktX0_noEvent_0 : List UInt8 := dkwX0_noEvent_0 ++ []
theorem dksX0_noEvent_0 : cX0_noEvent.data.toList.drop 0 = dktX0_noEvent_0 := by decide +kernel
theorem dX0_noEvent_0 : decode cX0_noEvent 0 = .ok (.iload_n 1, 1) := dk_27 (dk_at dksX0_noEvent_0 0 rfl rfl)
theorem dX0_noEvent_1 : decode cX0_noEvent 1 = .ok (.iconst 0, 1) := dk_3 (dk_at dksX0_noEvent_0 1 rfl rfl)
theorem dX0_noEvent_2 : decode cX0_noEvent 2 = .ok (.aload_n 0, 1) := dk_42 (dk_at dksX0_noEvent_0 2 rfl rfl)
theorem dX0_noEvent_3 : decode cX0_noEvent 3 = .ok (.getfield 30, 3) := dk_180 0 30 (dk_at dksX0_noEvent_0 3 rfl rfl)
theorem dX0_noEvent_6 : decode cX0_noEvent 6 = .ok (.getfield 115, 3) := dk_180 0 115 (dk_at dksX0_noEvent_0 6 rfl rfl)
theorem dX0_noEvent_9 : decode cX0_noEvent 9 = .ok (.iconst 1, 1) := dk_4 (dk_at dksX0_noEvent_0 9 rfl rfl)
theorem dX0_noEvent_10 : decode cX0_noEvent 10 = .ok (.isub, 1) := dk_100 (dk_at dksX0_noEvent_0 10 rfl rfl)
theorem dX0_noEvent_11 : decode cX0_noEvent 11 = .ok (.invokestatic 50, 3) := dk_184 0 50 (dk_at dksX0_noEvent_0 11 rfl rfl)
theorem dX0_noEvent_14 : decode cX0_noEvent 14 = .ok (.ifCond .ne 7, 3) := dk_154 0 7 (dk_at dksX0_noEvent_0 14 rfl rfl)
theorem dX0_noEvent_17 : decode cX0_noEvent 17 = .ok (.iconst 1, 1) := dk_4 (dk_at dksX0_noEvent_0 17 rfl rfl)
theorem dX0_noEvent_18 : decode cX0_noEvent 18 = .ok (.goto 4, 3) := dk_167 0 4 (dk_at dksX0_noEvent_0 18 rfl rfl)
theorem dX0_noEvent_21 : decode cX0_noEvent 21 = .ok (.iconst 0, 1) := dk_3 (dk_at dksX0_noEvent_0 21 rfl rfl)
theorem dX0_noEvent_22 : decode cX0_noEvent 22 = .ok (.ireturn, 1) := dk_172 (dk_at dksX0_noEvent_0 22 rfl rfl)
abbrev cX0_without : ByteArray := prog_1_method_24_code
def yX0_without : MethodName := ⟨RX0, "without", "(I)I"⟩
def dkwX0_without_0 : List UInt8 := [42, 27, 182, 0, 57, 153, 0, 7, 2, 167, 0, 11, 42, 27, 182, 0, 180, 180, 0, 115, 172]
abbrev dktX0_without_0 : List UInt8 := dkwX0_without_0 ++ []
theorem dksX0_without_0 : cX0_without.data.toList.drop 0 = dktX0_without_0 := by decide +kernel
theorem dX0_without_0 : decode cX0_without 0 = .ok (.aload_n 0, 1) := dk_42 (dk_at dksX0_without_0 0 rfl rfl)
theorem dX0_without_1 : decode cX0_without 1 = .ok (.iload_n 1, 1) := dk_27 (dk_at dksX0_without_0 1 rfl rfl)
theorem dX0_without_2 : decode cX0_without 2 = .ok (.invokevirtual 57, 3) := dk_182 0 57 (dk_at dksX0_without_0 2 rfl rfl)
theorem dX0_without_5 : decode cX0_without 5 = .ok (.ifCond .eq 7, 3) := dk_153 0 7 (dk_at dksX0_without_0 5 rfl rfl)
theorem dX0_without_8 : decode cX0_without 8 = .ok (.iconst (-1), 1) := dk_2 (dk_at dksX0_without_0 8 rfl rfl)
theorem dX0_without_9 : decode cX0_without 9 = .ok (.goto 11, 3) := dk_167 0 11 (dk_at dksX0_without_0 9 rfl rfl)
theorem dX0_without_12 : decode cX0_without 12 = .ok (.aload_n 0, 1) := dk_42 (dk_at dksX0_without_0 12 rfl rfl)
theorem dX0_without_13 : decode cX0_without 13 = .ok (.iload_n 1, 1) := dk_27 (dk_at dksX0_without_0 13 rfl rfl)
theorem dX0_without_14 : decode cX0_without 14 = .ok (.invokevirtual 180, 3) := dk_182 0 180 (dk_at dksX0_without_0 14 rfl rfl)
theorem dX0_without_17 : decode cX0_without 17 = .ok (.getfield 115, 3) := dk_180 0 115 (dk_at dksX0_without_0 17 rfl rfl)
theorem dX0_without_20 : decode cX0_without 20 = .ok (.ireturn, 1) := dk_172 (dk_at dksX0_without_0 20 rfl rfl)
abbrev cX0_event : ByteArray := prog_1_method_25_code
def yX0_event : MethodName := ⟨RX0, "event", "(II)I"⟩
def dkwX0_event_3 : List UInt8 := [180, 0, 206, 172, 45, 182, 0, 209, 153, 0, 7, 4, 167, 0, 4, 3, 172, 16, 254, 172]
abbrev dktX0_event_3 : List UInt8 := dkwX0_event_3 ++ []
def dkwX0_event_2 : List UInt8 := [45, 180, 0, 194, 190, 172, 45, 180, 0, 197, 45, 182, 0, 200, 46, 172, 45, 182, 0, 203, 172, 45]
abbrev dktX0_event_2 : List UInt8 := dkwX0_event_2 ++ dktX0_event_3
def dkwX0_event_1 : List UInt8 := [170, 0, 0, 0, 0, 0, 74, 0, 0, 0, 0, 0, 0, 0, 4, 0, 0, 0, 35, 0, 0, 0, 41, 0, 0, 0, 51, 0, 0, 0, 56, 0, 0, 0, 61]
abbrev dktX0_event_1 : List UInt8 := dkwX0_event_1 ++ dktX0_event_2
def dkwX0_event_0 : List UInt8 := [42, 27, 182, 0, 191, 153, 0, 5, 2, 172, 42, 180, 0, 30, 180, 0, 118, 27, 50, 78, 28]
abbrev dktX0_event_0 : List UInt8 := dkwX0_event_0 ++ dktX0_event_1
theorem dksX0_event_0 : cX0_event.data.toList.drop 0 = dktX0_event_0 := by decide +kernel
theorem dksX0_event_1 : cX0_event.data.toList.drop 21 = dktX0_event_1 := dk_seg dksX0_event_0 21 rfl rfl
theorem dksX0_event_2 : cX0_event.data.toList.drop 56 = dktX0_event_2 := dk_seg dksX0_event_1 35 rfl rfl
theorem dksX0_event_3 : cX0_event.data.toList.drop 78 = dktX0_event_3 := dk_seg dksX0_event_2 22 rfl rfl
theorem dX0_event_0 : decode cX0_event 0 = .ok (.aload_n 0, 1) := dk_42 (dk_at dksX0_event_0 0 rfl rfl)
theorem dX0_event_1 : decode cX0_event 1 = .ok (.iload_n 1, 1) := dk_27 (dk_at dksX0_event_0 1 rfl rfl)
theorem dX0_event_2 : decode cX0_event 2 = .ok (.invokevirtual 191, 3) := dk_182 0 191 (dk_at dksX0_event_0 2 rfl rfl)
theorem dX0_event_5 : decode cX0_event 5 = .ok (.ifCond .eq 5, 3) := dk_153 0 5 (dk_at dksX0_event_0 5 rfl rfl)
theorem dX0_event_8 : decode cX0_event 8 = .ok (.iconst (-1), 1) := dk_2 (dk_at dksX0_event_0 8 rfl rfl)
theorem dX0_event_9 : decode cX0_event 9 = .ok (.ireturn, 1) := dk_172 (dk_at dksX0_event_0 9 rfl rfl)
theorem dX0_event_10 : decode cX0_event 10 = .ok (.aload_n 0, 1) := dk_42 (dk_at dksX0_event_0 10 rfl rfl)
theorem dX0_event_11 : decode cX0_event 11 = .ok (.getfield 30, 3) := dk_180 0 30 (dk_at dksX0_event_0 11 rfl rfl)
theorem dX0_event_14 : decode cX0_event 14 = .ok (.getfield 118, 3) := dk_180 0 118 (dk_at dksX0_event_0 14 rfl rfl)
theorem dX0_event_17 : decode cX0_event 17 = .ok (.iload_n 1, 1) := dk_27 (dk_at dksX0_event_0 17 rfl rfl)
theorem dX0_event_18 : decode cX0_event 18 = .ok (.aaload, 1) := dk_50 (dk_at dksX0_event_0 18 rfl rfl)
theorem dX0_event_19 : decode cX0_event 19 = .ok (.astore_n 3, 1) := dk_78 (dk_at dksX0_event_0 19 rfl rfl)
theorem dX0_event_20 : decode cX0_event 20 = .ok (.iload_n 2, 1) := dk_28 (dk_at dksX0_event_0 20 rfl rfl)
theorem dX0_event_21 : decode cX0_event 21 = .ok (.tableswitch 74 0 4 #[35, 41, 51, 56, 61], 35) := by decide +kernel
theorem dX0_event_56 : decode cX0_event 56 = .ok (.aload_n 3, 1) := dk_45 (dk_at dksX0_event_2 0 rfl rfl)
theorem dX0_event_57 : decode cX0_event 57 = .ok (.getfield 194, 3) := dk_180 0 194 (dk_at dksX0_event_2 1 rfl rfl)
theorem dX0_event_60 : decode cX0_event 60 = .ok (.arraylength, 1) := dk_190 (dk_at dksX0_event_2 4 rfl rfl)
theorem dX0_event_61 : decode cX0_event 61 = .ok (.ireturn, 1) := dk_172 (dk_at dksX0_event_2 5 rfl rfl)
theorem dX0_event_62 : decode cX0_event 62 = .ok (.aload_n 3, 1) := dk_45 (dk_at dksX0_event_2 6 rfl rfl)
theorem dX0_event_63 : decode cX0_event 63 = .ok (.getfield 197, 3) := dk_180 0 197 (dk_at dksX0_event_2 7 rfl rfl)
theorem dX0_event_66 : decode cX0_event 66 = .ok (.aload_n 3, 1) := dk_45 (dk_at dksX0_event_2 10 rfl rfl)
theorem dX0_event_67 : decode cX0_event 67 = .ok (.invokevirtual 200, 3) := dk_182 0 200 (dk_at dksX0_event_2 11 rfl rfl)
theorem dX0_event_70 : decode cX0_event 70 = .ok (.iaload, 1) := dk_46 (dk_at dksX0_event_2 14 rfl rfl)
theorem dX0_event_71 : decode cX0_event 71 = .ok (.ireturn, 1) := dk_172 (dk_at dksX0_event_2 15 rfl rfl)
theorem dX0_event_72 : decode cX0_event 72 = .ok (.aload_n 3, 1) := dk_45 (dk_at dksX0_event_2 16 rfl rfl)
theorem dX0_event_73 : decode cX0_event 73 = .ok (.invokevirtual 203, 3) := dk_182 0 203 (dk_at dksX0_event_2 17 rfl rfl)
theorem dX0_event_76 : decode cX0_event 76 = .ok (.ireturn, 1) := dk_172 (dk_at dksX0_event_2 20 rfl rfl)
theorem dX0_event_77 : decode cX0_event 77 = .ok (.aload_n 3, 1) := dk_45 (dk_at dksX0_event_2 21 rfl rfl)
theorem dX0_event_78 : decode cX0_event 78 = .ok (.getfield 206, 3) := dk_180 0 206 (dk_at dksX0_event_3 0 rfl rfl)
theorem dX0_event_81 : decode cX0_event 81 = .ok (.ireturn, 1) := dk_172 (dk_at dksX0_event_3 3 rfl rfl)
theorem dX0_event_82 : decode cX0_event 82 = .ok (.aload_n 3, 1) := dk_45 (dk_at dksX0_event_3 4 rfl rfl)
theorem dX0_event_83 : decode cX0_event 83 = .ok (.invokevirtual 209, 3) := dk_182 0 209 (dk_at dksX0_event_3 5 rfl rfl)
theorem dX0_event_86 : decode cX0_event 86 = .ok (.ifCond .eq 7, 3) := dk_153 0 7 (dk_at dksX0_event_3 8 rfl rfl)
theorem dX0_event_89 : decode cX0_event 89 = .ok (.iconst 1, 1) := dk_4 (dk_at dksX0_event_3 11 rfl rfl)
theorem dX0_event_90 : decode cX0_event 90 = .ok (.goto 4, 3) := dk_167 0 4 (dk_at dksX0_event_3 12 rfl rfl)
theorem dX0_event_93 : decode cX0_event 93 = .ok (.iconst 0, 1) := dk_3 (dk_at dksX0_event_3 15 rfl rfl)
theorem dX0_event_94 : decode cX0_event 94 = .ok (.ireturn, 1) := dk_172 (dk_at dksX0_event_3 16 rfl rfl)
theorem dX0_event_95 : decode cX0_event 95 = .ok (.bipush (-2), 2) := dk_16 254 (dk_at dksX0_event_3 17 rfl rfl)
theorem dX0_event_97 : decode cX0_event 97 = .ok (.ireturn, 1) := dk_172 (dk_at dksX0_event_3 19 rfl rfl)
abbrev cX0_member : ByteArray := prog_1_method_27_code
def yX0_member : MethodName := ⟨RX0, "member", "(II)I"⟩
def dkwX0_member_1 : List UInt8 := [180, 0, 194, 28, 46, 172]
abbrev dktX0_member_1 : List UInt8 := dkwX0_member_1 ++ []
def dkwX0_member_0 : List UInt8 := [42, 27, 28, 182, 0, 212, 153, 0, 7, 2, 167, 0, 17, 42, 180, 0, 30, 180, 0, 118, 27, 50]
abbrev dktX0_member_0 : List UInt8 := dkwX0_member_0 ++ dktX0_member_1
theorem dksX0_member_0 : cX0_member.data.toList.drop 0 = dktX0_member_0 := by decide +kernel
theorem dksX0_member_1 : cX0_member.data.toList.drop 22 = dktX0_member_1 := dk_seg dksX0_member_0 22 rfl rfl
theorem dX0_member_0 : decode cX0_member 0 = .ok (.aload_n 0, 1) := dk_42 (dk_at dksX0_member_0 0 rfl rfl)
theorem dX0_member_1 : decode cX0_member 1 = .ok (.iload_n 1, 1) := dk_27 (dk_at dksX0_member_0 1 rfl rfl)
theorem dX0_member_2 : decode cX0_member 2 = .ok (.iload_n 2, 1) := dk_28 (dk_at dksX0_member_0 2 rfl rfl)
theorem dX0_member_3 : decode cX0_member 3 = .ok (.invokevirtual 212, 3) := dk_182 0 212 (dk_at dksX0_member_0 3 rfl rfl)
theorem dX0_member_6 : decode cX0_member 6 = .ok (.ifCond .eq 7, 3) := dk_153 0 7 (dk_at dksX0_member_0 6 rfl rfl)
theorem dX0_member_9 : decode cX0_member 9 = .ok (.iconst (-1), 1) := dk_2 (dk_at dksX0_member_0 9 rfl rfl)
theorem dX0_member_10 : decode cX0_member 10 = .ok (.goto 17, 3) := dk_167 0 17 (dk_at dksX0_member_0 10 rfl rfl)
theorem dX0_member_13 : decode cX0_member 13 = .ok (.aload_n 0, 1) := dk_42 (dk_at dksX0_member_0 13 rfl rfl)
theorem dX0_member_14 : decode cX0_member 14 = .ok (.getfield 30, 3) := dk_180 0 30 (dk_at dksX0_member_0 14 rfl rfl)
theorem dX0_member_17 : decode cX0_member 17 = .ok (.getfield 118, 3) := dk_180 0 118 (dk_at dksX0_member_0 17 rfl rfl)
theorem dX0_member_20 : decode cX0_member 20 = .ok (.iload_n 1, 1) := dk_27 (dk_at dksX0_member_0 20 rfl rfl)
theorem dX0_member_21 : decode cX0_member 21 = .ok (.aaload, 1) := dk_50 (dk_at dksX0_member_0 21 rfl rfl)
theorem dX0_member_22 : decode cX0_member 22 = .ok (.getfield 194, 3) := dk_180 0 194 (dk_at dksX0_member_1 0 rfl rfl)
theorem dX0_member_25 : decode cX0_member 25 = .ok (.iload_n 2, 1) := dk_28 (dk_at dksX0_member_1 3 rfl rfl)
theorem dX0_member_26 : decode cX0_member 26 = .ok (.iaload, 1) := dk_46 (dk_at dksX0_member_1 4 rfl rfl)
theorem dX0_member_27 : decode cX0_member 27 = .ok (.ireturn, 1) := dk_172 (dk_at dksX0_member_1 5 rfl rfl)
abbrev cX0_noMember : ByteArray := prog_1_method_26_code
def yX0_noMember : MethodName := ⟨RX0, "noMember", "(II)Z"⟩
def dkwX0_noMember_1 : List UInt8 := [100, 184, 0, 50, 154, 0, 7, 4, 167, 0, 4, 3, 172]
abbrev dktX0_noMember_1 : List UInt8 := dkwX0_noMember_1 ++ []
def dkwX0_noMember_0 : List UInt8 := [42, 27, 182, 0, 191, 154, 0, 26, 28, 3, 42, 180, 0, 30, 180, 0, 118, 27, 50, 180, 0, 194, 190, 4]
abbrev dktX0_noMember_0 : List UInt8 := dkwX0_noMember_0 ++ dktX0_noMember_1
theorem dksX0_noMember_0 : cX0_noMember.data.toList.drop 0 = dktX0_noMember_0 := by decide +kernel
theorem dksX0_noMember_1 : cX0_noMember.data.toList.drop 24 = dktX0_noMember_1 := dk_seg dksX0_noMember_0 24 rfl rfl
theorem dX0_noMember_0 : decode cX0_noMember 0 = .ok (.aload_n 0, 1) := dk_42 (dk_at dksX0_noMember_0 0 rfl rfl)
theorem dX0_noMember_1 : decode cX0_noMember 1 = .ok (.iload_n 1, 1) := dk_27 (dk_at dksX0_noMember_0 1 rfl rfl)
theorem dX0_noMember_2 : decode cX0_noMember 2 = .ok (.invokevirtual 191, 3) := dk_182 0 191 (dk_at dksX0_noMember_0 2 rfl rfl)
theorem dX0_noMember_5 : decode cX0_noMember 5 = .ok (.ifCond .ne 26, 3) := dk_154 0 26 (dk_at dksX0_noMember_0 5 rfl rfl)
theorem dX0_noMember_8 : decode cX0_noMember 8 = .ok (.iload_n 2, 1) := dk_28 (dk_at dksX0_noMember_0 8 rfl rfl)
theorem dX0_noMember_9 : decode cX0_noMember 9 = .ok (.iconst 0, 1) := dk_3 (dk_at dksX0_noMember_0 9 rfl rfl)
theorem dX0_noMember_10 : decode cX0_noMember 10 = .ok (.aload_n 0, 1) := dk_42 (dk_at dksX0_noMember_0 10 rfl rfl)
theorem dX0_noMember_11 : decode cX0_noMember 11 = .ok (.getfield 30, 3) := dk_180 0 30 (dk_at dksX0_noMember_0 11 rfl rfl)
theorem dX0_noMember_14 : decode cX0_noMember 14 = .ok (.getfield 118, 3) := dk_180 0 118 (dk_at dksX0_noMember_0 14 rfl rfl)
theorem dX0_noMember_17 : decode cX0_noMember 17 = .ok (.iload_n 1, 1) := dk_27 (dk_at dksX0_noMember_0 17 rfl rfl)
theorem dX0_noMember_18 : decode cX0_noMember 18 = .ok (.aaload, 1) := dk_50 (dk_at dksX0_noMember_0 18 rfl rfl)
theorem dX0_noMember_19 : decode cX0_noMember 19 = .ok (.getfield 194, 3) := dk_180 0 194 (dk_at dksX0_noMember_0 19 rfl rfl)
theorem dX0_noMember_22 : decode cX0_noMember 22 = .ok (.arraylength, 1) := dk_190 (dk_at dksX0_noMember_0 22 rfl rfl)
theorem dX0_noMember_23 : decode cX0_noMember 23 = .ok (.iconst 1, 1) := dk_4 (dk_at dksX0_noMember_0 23 rfl rfl)
theorem dX0_noMember_24 : decode cX0_noMember 24 = .ok (.isub, 1) := dk_100 (dk_at dksX0_noMember_1 0 rfl rfl)
theorem dX0_noMember_25 : decode cX0_noMember 25 = .ok (.invokestatic 50, 3) := dk_184 0 50 (dk_at dksX0_noMember_1 1 rfl rfl)
theorem dX0_noMember_28 : decode cX0_noMember 28 = .ok (.ifCond .ne 7, 3) := dk_154 0 7 (dk_at dksX0_noMember_1 4 rfl rfl)
theorem dX0_noMember_31 : decode cX0_noMember 31 = .ok (.iconst 1, 1) := dk_4 (dk_at dksX0_noMember_1 7 rfl rfl)
theorem dX0_noMember_32 : decode cX0_noMember 32 = .ok (.goto 4, 3) := dk_167 0 4 (dk_at dksX0_noMember_1 8 rfl rfl)
theorem dX0_noMember_35 : decode cX0_noMember 35 = .ok (.iconst 0, 1) := dk_3 (dk_at dksX0_noMember_1 11 rfl rfl)
theorem dX0_noMember_36 : decode cX0_noMember 36 = .ok (.ireturn, 1) := dk_172 (dk_at dksX0_noMember_1 12 rfl rfl)
abbrev cX0_front : ByteArray := prog_1_method_28_code
def yX0_front : MethodName := ⟨RX0, "front", "(II)J"⟩
def dkwX0_front_2 : List UInt8 := [20, 0, 73, 167, 0, 6, 45, 28, 47, 173]
abbrev dktX0_front_2 : List UInt8 := dkwX0_front_2 ++ []
def dkwX0_front_1 : List UInt8 := [180, 0, 30, 180, 0, 118, 27, 50, 182, 0, 215, 78, 28, 158, 0, 17, 45, 3, 47, 9, 148, 154, 0, 9]
abbrev dktX0_front_1 : List UInt8 := dkwX0_front_1 ++ dktX0_front_2
def dkwX0_front_0 : List UInt8 := [42, 27, 182, 0, 191, 154, 0, 12, 28, 3, 6, 184, 0, 50, 154, 0, 7, 20, 0, 73, 173, 42]
abbrev dktX0_front_0 : List UInt8 := dkwX0_front_0 ++ dktX0_front_1
theorem dksX0_front_0 : cX0_front.data.toList.drop 0 = dktX0_front_0 := by decide +kernel
theorem dksX0_front_1 : cX0_front.data.toList.drop 22 = dktX0_front_1 := dk_seg dksX0_front_0 22 rfl rfl
theorem dksX0_front_2 : cX0_front.data.toList.drop 46 = dktX0_front_2 := dk_seg dksX0_front_1 24 rfl rfl
theorem dX0_front_0 : decode cX0_front 0 = .ok (.aload_n 0, 1) := dk_42 (dk_at dksX0_front_0 0 rfl rfl)
theorem dX0_front_1 : decode cX0_front 1 = .ok (.iload_n 1, 1) := dk_27 (dk_at dksX0_front_0 1 rfl rfl)
theorem dX0_front_2 : decode cX0_front 2 = .ok (.invokevirtual 191, 3) := dk_182 0 191 (dk_at dksX0_front_0 2 rfl rfl)
theorem dX0_front_5 : decode cX0_front 5 = .ok (.ifCond .ne 12, 3) := dk_154 0 12 (dk_at dksX0_front_0 5 rfl rfl)
theorem dX0_front_8 : decode cX0_front 8 = .ok (.iload_n 2, 1) := dk_28 (dk_at dksX0_front_0 8 rfl rfl)
theorem dX0_front_9 : decode cX0_front 9 = .ok (.iconst 0, 1) := dk_3 (dk_at dksX0_front_0 9 rfl rfl)
theorem dX0_front_10 : decode cX0_front 10 = .ok (.iconst 3, 1) := dk_6 (dk_at dksX0_front_0 10 rfl rfl)
theorem dX0_front_11 : decode cX0_front 11 = .ok (.invokestatic 50, 3) := dk_184 0 50 (dk_at dksX0_front_0 11 rfl rfl)
theorem dX0_front_14 : decode cX0_front 14 = .ok (.ifCond .ne 7, 3) := dk_154 0 7 (dk_at dksX0_front_0 14 rfl rfl)
theorem dX0_front_17 : decode cX0_front 17 = .ok (.ldc2_w 73, 3) := dk_20 0 73 (dk_at dksX0_front_0 17 rfl rfl)
theorem dX0_front_20 : decode cX0_front 20 = .ok (.lreturn, 1) := dk_173 (dk_at dksX0_front_0 20 rfl rfl)
theorem dX0_front_21 : decode cX0_front 21 = .ok (.aload_n 0, 1) := dk_42 (dk_at dksX0_front_0 21 rfl rfl)
theorem dX0_front_22 : decode cX0_front 22 = .ok (.getfield 30, 3) := dk_180 0 30 (dk_at dksX0_front_1 0 rfl rfl)
theorem dX0_front_25 : decode cX0_front 25 = .ok (.getfield 118, 3) := dk_180 0 118 (dk_at dksX0_front_1 3 rfl rfl)
theorem dX0_front_28 : decode cX0_front 28 = .ok (.iload_n 1, 1) := dk_27 (dk_at dksX0_front_1 6 rfl rfl)
theorem dX0_front_29 : decode cX0_front 29 = .ok (.aaload, 1) := dk_50 (dk_at dksX0_front_1 7 rfl rfl)
theorem dX0_front_30 : decode cX0_front 30 = .ok (.invokevirtual 215, 3) := dk_182 0 215 (dk_at dksX0_front_1 8 rfl rfl)
theorem dX0_front_33 : decode cX0_front 33 = .ok (.astore_n 3, 1) := dk_78 (dk_at dksX0_front_1 11 rfl rfl)
theorem dX0_front_34 : decode cX0_front 34 = .ok (.iload_n 2, 1) := dk_28 (dk_at dksX0_front_1 12 rfl rfl)
theorem dX0_front_35 : decode cX0_front 35 = .ok (.ifCond .le 17, 3) := dk_158 0 17 (dk_at dksX0_front_1 13 rfl rfl)
theorem dX0_front_38 : decode cX0_front 38 = .ok (.aload_n 3, 1) := dk_45 (dk_at dksX0_front_1 16 rfl rfl)
theorem dX0_front_39 : decode cX0_front 39 = .ok (.iconst 0, 1) := dk_3 (dk_at dksX0_front_1 17 rfl rfl)
theorem dX0_front_40 : decode cX0_front 40 = .ok (.laload, 1) := dk_47 (dk_at dksX0_front_1 18 rfl rfl)
theorem dX0_front_41 : decode cX0_front 41 = .ok (.lconst 0, 1) := dk_9 (dk_at dksX0_front_1 19 rfl rfl)
theorem dX0_front_42 : decode cX0_front 42 = .ok (.lcmp, 1) := dk_148 (dk_at dksX0_front_1 20 rfl rfl)
theorem dX0_front_43 : decode cX0_front 43 = .ok (.ifCond .ne 9, 3) := dk_154 0 9 (dk_at dksX0_front_1 21 rfl rfl)
theorem dX0_front_46 : decode cX0_front 46 = .ok (.ldc2_w 73, 3) := dk_20 0 73 (dk_at dksX0_front_2 0 rfl rfl)
theorem dX0_front_49 : decode cX0_front 49 = .ok (.goto 6, 3) := dk_167 0 6 (dk_at dksX0_front_2 3 rfl rfl)
theorem dX0_front_52 : decode cX0_front 52 = .ok (.aload_n 3, 1) := dk_45 (dk_at dksX0_front_2 6 rfl rfl)
theorem dX0_front_53 : decode cX0_front 53 = .ok (.iload_n 2, 1) := dk_28 (dk_at dksX0_front_2 7 rfl rfl)
theorem dX0_front_54 : decode cX0_front 54 = .ok (.laload, 1) := dk_47 (dk_at dksX0_front_2 8 rfl rfl)
theorem dX0_front_55 : decode cX0_front 55 = .ok (.lreturn, 1) := dk_173 (dk_at dksX0_front_2 9 rfl rfl)
abbrev cX0_error : ByteArray := prog_1_method_29_code
def yX0_error : MethodName := ⟨RX0, "error", "(II)J"⟩
def dkwX0_error_2 : List UInt8 := [180, 0, 118, 27, 50, 28, 45, 182, 0, 219, 173]
abbrev dktX0_error_2 : List UInt8 := dkwX0_error_2 ++ []
def dkwX0_error_1 : List UInt8 := [182, 0, 215, 78, 45, 3, 47, 9, 148, 154, 0, 9, 20, 0, 73, 167, 0, 17, 42, 180, 0, 30]
abbrev dktX0_error_1 : List UInt8 := dkwX0_error_1 ++ dktX0_error_2
def dkwX0_error_0 : List UInt8 := [42, 27, 28, 182, 0, 212, 153, 0, 7, 20, 0, 73, 173, 42, 180, 0, 30, 180, 0, 118, 27, 50]
abbrev dktX0_error_0 : List UInt8 := dkwX0_error_0 ++ dktX0_error_1
theorem dksX0_error_0 : cX0_error.data.toList.drop 0 = dktX0_error_0 := by decide +kernel
theorem dksX0_error_1 : cX0_error.data.toList.drop 22 = dktX0_error_1 := dk_seg dksX0_error_0 22 rfl rfl
theorem dksX0_error_2 : cX0_error.data.toList.drop 44 = dktX0_error_2 := dk_seg dksX0_error_1 22 rfl rfl
theorem dX0_error_0 : decode cX0_error 0 = .ok (.aload_n 0, 1) := dk_42 (dk_at dksX0_error_0 0 rfl rfl)
theorem dX0_error_1 : decode cX0_error 1 = .ok (.iload_n 1, 1) := dk_27 (dk_at dksX0_error_0 1 rfl rfl)
theorem dX0_error_2 : decode cX0_error 2 = .ok (.iload_n 2, 1) := dk_28 (dk_at dksX0_error_0 2 rfl rfl)
theorem dX0_error_3 : decode cX0_error 3 = .ok (.invokevirtual 212, 3) := dk_182 0 212 (dk_at dksX0_error_0 3 rfl rfl)
theorem dX0_error_6 : decode cX0_error 6 = .ok (.ifCond .eq 7, 3) := dk_153 0 7 (dk_at dksX0_error_0 6 rfl rfl)
theorem dX0_error_9 : decode cX0_error 9 = .ok (.ldc2_w 73, 3) := dk_20 0 73 (dk_at dksX0_error_0 9 rfl rfl)
theorem dX0_error_12 : decode cX0_error 12 = .ok (.lreturn, 1) := dk_173 (dk_at dksX0_error_0 12 rfl rfl)
theorem dX0_error_13 : decode cX0_error 13 = .ok (.aload_n 0, 1) := dk_42 (dk_at dksX0_error_0 13 rfl rfl)
theorem dX0_error_14 : decode cX0_error 14 = .ok (.getfield 30, 3) := dk_180 0 30 (dk_at dksX0_error_0 14 rfl rfl)
theorem dX0_error_17 : decode cX0_error 17 = .ok (.getfield 118, 3) := dk_180 0 118 (dk_at dksX0_error_0 17 rfl rfl)
theorem dX0_error_20 : decode cX0_error 20 = .ok (.iload_n 1, 1) := dk_27 (dk_at dksX0_error_0 20 rfl rfl)
theorem dX0_error_21 : decode cX0_error 21 = .ok (.aaload, 1) := dk_50 (dk_at dksX0_error_0 21 rfl rfl)
theorem dX0_error_22 : decode cX0_error 22 = .ok (.invokevirtual 215, 3) := dk_182 0 215 (dk_at dksX0_error_1 0 rfl rfl)
theorem dX0_error_25 : decode cX0_error 25 = .ok (.astore_n 3, 1) := dk_78 (dk_at dksX0_error_1 3 rfl rfl)
theorem dX0_error_26 : decode cX0_error 26 = .ok (.aload_n 3, 1) := dk_45 (dk_at dksX0_error_1 4 rfl rfl)
theorem dX0_error_27 : decode cX0_error 27 = .ok (.iconst 0, 1) := dk_3 (dk_at dksX0_error_1 5 rfl rfl)
theorem dX0_error_28 : decode cX0_error 28 = .ok (.laload, 1) := dk_47 (dk_at dksX0_error_1 6 rfl rfl)
theorem dX0_error_29 : decode cX0_error 29 = .ok (.lconst 0, 1) := dk_9 (dk_at dksX0_error_1 7 rfl rfl)
theorem dX0_error_30 : decode cX0_error 30 = .ok (.lcmp, 1) := dk_148 (dk_at dksX0_error_1 8 rfl rfl)
theorem dX0_error_31 : decode cX0_error 31 = .ok (.ifCond .ne 9, 3) := dk_154 0 9 (dk_at dksX0_error_1 9 rfl rfl)
theorem dX0_error_34 : decode cX0_error 34 = .ok (.ldc2_w 73, 3) := dk_20 0 73 (dk_at dksX0_error_1 12 rfl rfl)
theorem dX0_error_37 : decode cX0_error 37 = .ok (.goto 17, 3) := dk_167 0 17 (dk_at dksX0_error_1 15 rfl rfl)
theorem dX0_error_40 : decode cX0_error 40 = .ok (.aload_n 0, 1) := dk_42 (dk_at dksX0_error_1 18 rfl rfl)
theorem dX0_error_41 : decode cX0_error 41 = .ok (.getfield 30, 3) := dk_180 0 30 (dk_at dksX0_error_1 19 rfl rfl)
theorem dX0_error_44 : decode cX0_error 44 = .ok (.getfield 118, 3) := dk_180 0 118 (dk_at dksX0_error_2 0 rfl rfl)
theorem dX0_error_47 : decode cX0_error 47 = .ok (.iload_n 1, 1) := dk_27 (dk_at dksX0_error_2 3 rfl rfl)
theorem dX0_error_48 : decode cX0_error 48 = .ok (.aaload, 1) := dk_50 (dk_at dksX0_error_2 4 rfl rfl)
theorem dX0_error_49 : decode cX0_error 49 = .ok (.iload_n 2, 1) := dk_28 (dk_at dksX0_error_2 5 rfl rfl)
theorem dX0_error_50 : decode cX0_error 50 = .ok (.aload_n 3, 1) := dk_45 (dk_at dksX0_error_2 6 rfl rfl)
theorem dX0_error_51 : decode cX0_error 51 = .ok (.invokevirtual 219, 3) := dk_182 0 219 (dk_at dksX0_error_2 7 rfl rfl)
theorem dX0_error_54 : decode cX0_error 54 = .ok (.lreturn, 1) := dk_173 (dk_at dksX0_error_2 10 rfl rfl)
abbrev cX0_worst : ByteArray := prog_1_method_30_code
def yX0_worst : MethodName := ⟨RX0, "worst", "(I)I"⟩
def dkwX0_worst_3 : List UInt8 := [148, 158, 0, 8, 21, 5, 167, 0, 5, 21, 4, 54, 4, 132, 5, 1, 167, 255, 210, 21, 4, 172]
abbrev dktX0_worst_3 : List UInt8 := dkwX0_worst_3 ++ []
def dkwX0_worst_2 : List UInt8 := [190, 162, 0, 42, 44, 21, 5, 45, 182, 0, 219, 184, 0, 223, 44, 21, 4, 45, 182, 0, 219, 184, 0, 223]
abbrev dktX0_worst_2 : List UInt8 := dkwX0_worst_2 ++ dktX0_worst_3
def dkwX0_worst_1 : List UInt8 := [78, 45, 3, 47, 9, 148, 154, 0, 6, 16, 247, 172, 3, 54, 4, 4, 54, 5, 21, 5, 44, 180, 0, 194]
abbrev dktX0_worst_1 : List UInt8 := dkwX0_worst_1 ++ dktX0_worst_2
def dkwX0_worst_0 : List UInt8 := [42, 27, 182, 0, 191, 153, 0, 5, 2, 172, 42, 180, 0, 30, 180, 0, 118, 27, 50, 77, 44, 182, 0, 215]
abbrev dktX0_worst_0 : List UInt8 := dkwX0_worst_0 ++ dktX0_worst_1
theorem dksX0_worst_0 : cX0_worst.data.toList.drop 0 = dktX0_worst_0 := by decide +kernel
theorem dksX0_worst_1 : cX0_worst.data.toList.drop 24 = dktX0_worst_1 := dk_seg dksX0_worst_0 24 rfl rfl
theorem dksX0_worst_2 : cX0_worst.data.toList.drop 48 = dktX0_worst_2 := dk_seg dksX0_worst_1 24 rfl rfl
theorem dksX0_worst_3 : cX0_worst.data.toList.drop 72 = dktX0_worst_3 := dk_seg dksX0_worst_2 24 rfl rfl
theorem dX0_worst_0 : decode cX0_worst 0 = .ok (.aload_n 0, 1) := dk_42 (dk_at dksX0_worst_0 0 rfl rfl)
theorem dX0_worst_1 : decode cX0_worst 1 = .ok (.iload_n 1, 1) := dk_27 (dk_at dksX0_worst_0 1 rfl rfl)
theorem dX0_worst_2 : decode cX0_worst 2 = .ok (.invokevirtual 191, 3) := dk_182 0 191 (dk_at dksX0_worst_0 2 rfl rfl)
theorem dX0_worst_5 : decode cX0_worst 5 = .ok (.ifCond .eq 5, 3) := dk_153 0 5 (dk_at dksX0_worst_0 5 rfl rfl)
theorem dX0_worst_8 : decode cX0_worst 8 = .ok (.iconst (-1), 1) := dk_2 (dk_at dksX0_worst_0 8 rfl rfl)
theorem dX0_worst_9 : decode cX0_worst 9 = .ok (.ireturn, 1) := dk_172 (dk_at dksX0_worst_0 9 rfl rfl)
theorem dX0_worst_10 : decode cX0_worst 10 = .ok (.aload_n 0, 1) := dk_42 (dk_at dksX0_worst_0 10 rfl rfl)
theorem dX0_worst_11 : decode cX0_worst 11 = .ok (.getfield 30, 3) := dk_180 0 30 (dk_at dksX0_worst_0 11 rfl rfl)
theorem dX0_worst_14 : decode cX0_worst 14 = .ok (.getfield 118, 3) := dk_180 0 118 (dk_at dksX0_worst_0 14 rfl rfl)
theorem dX0_worst_17 : decode cX0_worst 17 = .ok (.iload_n 1, 1) := dk_27 (dk_at dksX0_worst_0 17 rfl rfl)
theorem dX0_worst_18 : decode cX0_worst 18 = .ok (.aaload, 1) := dk_50 (dk_at dksX0_worst_0 18 rfl rfl)
theorem dX0_worst_19 : decode cX0_worst 19 = .ok (.astore_n 2, 1) := dk_77 (dk_at dksX0_worst_0 19 rfl rfl)
theorem dX0_worst_20 : decode cX0_worst 20 = .ok (.aload_n 2, 1) := dk_44 (dk_at dksX0_worst_0 20 rfl rfl)
theorem dX0_worst_21 : decode cX0_worst 21 = .ok (.invokevirtual 215, 3) := dk_182 0 215 (dk_at dksX0_worst_0 21 rfl rfl)
theorem dX0_worst_24 : decode cX0_worst 24 = .ok (.astore_n 3, 1) := dk_78 (dk_at dksX0_worst_1 0 rfl rfl)
theorem dX0_worst_25 : decode cX0_worst 25 = .ok (.aload_n 3, 1) := dk_45 (dk_at dksX0_worst_1 1 rfl rfl)
theorem dX0_worst_26 : decode cX0_worst 26 = .ok (.iconst 0, 1) := dk_3 (dk_at dksX0_worst_1 2 rfl rfl)
theorem dX0_worst_27 : decode cX0_worst 27 = .ok (.laload, 1) := dk_47 (dk_at dksX0_worst_1 3 rfl rfl)
theorem dX0_worst_28 : decode cX0_worst 28 = .ok (.lconst 0, 1) := dk_9 (dk_at dksX0_worst_1 4 rfl rfl)
theorem dX0_worst_29 : decode cX0_worst 29 = .ok (.lcmp, 1) := dk_148 (dk_at dksX0_worst_1 5 rfl rfl)
theorem dX0_worst_30 : decode cX0_worst 30 = .ok (.ifCond .ne 6, 3) := dk_154 0 6 (dk_at dksX0_worst_1 6 rfl rfl)
theorem dX0_worst_33 : decode cX0_worst 33 = .ok (.bipush (-9), 2) := dk_16 247 (dk_at dksX0_worst_1 9 rfl rfl)
theorem dX0_worst_35 : decode cX0_worst 35 = .ok (.ireturn, 1) := dk_172 (dk_at dksX0_worst_1 11 rfl rfl)
theorem dX0_worst_36 : decode cX0_worst 36 = .ok (.iconst 0, 1) := dk_3 (dk_at dksX0_worst_1 12 rfl rfl)
theorem dX0_worst_37 : decode cX0_worst 37 = .ok (.istore 4, 2) := dk_54 4 (dk_at dksX0_worst_1 13 rfl rfl)
theorem dX0_worst_39 : decode cX0_worst 39 = .ok (.iconst 1, 1) := dk_4 (dk_at dksX0_worst_1 15 rfl rfl)
theorem dX0_worst_40 : decode cX0_worst 40 = .ok (.istore 5, 2) := dk_54 5 (dk_at dksX0_worst_1 16 rfl rfl)
theorem dX0_worst_42 : decode cX0_worst 42 = .ok (.iload 5, 2) := dk_21 5 (dk_at dksX0_worst_1 18 rfl rfl)
theorem dX0_worst_44 : decode cX0_worst 44 = .ok (.aload_n 2, 1) := dk_44 (dk_at dksX0_worst_1 20 rfl rfl)
theorem dX0_worst_45 : decode cX0_worst 45 = .ok (.getfield 194, 3) := dk_180 0 194 (dk_at dksX0_worst_1 21 rfl rfl)
theorem dX0_worst_48 : decode cX0_worst 48 = .ok (.arraylength, 1) := dk_190 (dk_at dksX0_worst_2 0 rfl rfl)
theorem dX0_worst_49 : decode cX0_worst 49 = .ok (.if_icmp .ge 42, 3) := dk_162 0 42 (dk_at dksX0_worst_2 1 rfl rfl)
theorem dX0_worst_52 : decode cX0_worst 52 = .ok (.aload_n 2, 1) := dk_44 (dk_at dksX0_worst_2 4 rfl rfl)
theorem dX0_worst_53 : decode cX0_worst 53 = .ok (.iload 5, 2) := dk_21 5 (dk_at dksX0_worst_2 5 rfl rfl)
theorem dX0_worst_55 : decode cX0_worst 55 = .ok (.aload_n 3, 1) := dk_45 (dk_at dksX0_worst_2 7 rfl rfl)
theorem dX0_worst_56 : decode cX0_worst 56 = .ok (.invokevirtual 219, 3) := dk_182 0 219 (dk_at dksX0_worst_2 8 rfl rfl)
theorem dX0_worst_59 : decode cX0_worst 59 = .ok (.invokestatic 223, 3) := dk_184 0 223 (dk_at dksX0_worst_2 11 rfl rfl)
theorem dX0_worst_62 : decode cX0_worst 62 = .ok (.aload_n 2, 1) := dk_44 (dk_at dksX0_worst_2 14 rfl rfl)
theorem dX0_worst_63 : decode cX0_worst 63 = .ok (.iload 4, 2) := dk_21 4 (dk_at dksX0_worst_2 15 rfl rfl)
theorem dX0_worst_65 : decode cX0_worst 65 = .ok (.aload_n 3, 1) := dk_45 (dk_at dksX0_worst_2 17 rfl rfl)
theorem dX0_worst_66 : decode cX0_worst 66 = .ok (.invokevirtual 219, 3) := dk_182 0 219 (dk_at dksX0_worst_2 18 rfl rfl)
theorem dX0_worst_69 : decode cX0_worst 69 = .ok (.invokestatic 223, 3) := dk_184 0 223 (dk_at dksX0_worst_2 21 rfl rfl)
theorem dX0_worst_72 : decode cX0_worst 72 = .ok (.lcmp, 1) := dk_148 (dk_at dksX0_worst_3 0 rfl rfl)
theorem dX0_worst_73 : decode cX0_worst 73 = .ok (.ifCond .le 8, 3) := dk_158 0 8 (dk_at dksX0_worst_3 1 rfl rfl)
theorem dX0_worst_76 : decode cX0_worst 76 = .ok (.iload 5, 2) := dk_21 5 (dk_at dksX0_worst_3 4 rfl rfl)
theorem dX0_worst_78 : decode cX0_worst 78 = .ok (.goto 5, 3) := dk_167 0 5 (dk_at dksX0_worst_3 6 rfl rfl)
theorem dX0_worst_81 : decode cX0_worst 81 = .ok (.iload 4, 2) := dk_21 4 (dk_at dksX0_worst_3 9 rfl rfl)
theorem dX0_worst_83 : decode cX0_worst 83 = .ok (.istore 4, 2) := dk_54 4 (dk_at dksX0_worst_3 11 rfl rfl)
theorem dX0_worst_85 : decode cX0_worst 85 = .ok (.iinc 5 1, 3) := dk_132 5 1 (dk_at dksX0_worst_3 13 rfl rfl)
theorem dX0_worst_88 : decode cX0_worst 88 = .ok (.goto (-46), 3) := dk_167 255 210 (dk_at dksX0_worst_3 16 rfl rfl)
theorem dX0_worst_91 : decode cX0_worst 91 = .ok (.iload 4, 2) := dk_21 4 (dk_at dksX0_worst_3 19 rfl rfl)
theorem dX0_worst_93 : decode cX0_worst 93 = .ok (.ireturn, 1) := dk_172 (dk_at dksX0_worst_3 21 rfl rfl)
abbrev cX0_core : ByteArray := prog_1_method_31_code
def yX0_core : MethodName := ⟨RX0, "core", "(II)J"⟩
def dkwX0_core_4 : List UInt8 := [167, 0, 4, 4, 133, 105, 97, 55, 4, 132, 6, 1, 167, 255, 192, 22, 4, 173]
abbrev dktX0_core_4 : List UInt8 := dkwX0_core_4 ++ []
def dkwX0_core_3 : List UInt8 := [182, 0, 230, 180, 0, 102, 167, 0, 21, 28, 4, 160, 0, 15, 45, 21, 6, 182, 0, 230, 180, 0, 105]
abbrev dktX0_core_3 : List UInt8 := dkwX0_core_3 ++ dktX0_core_4
def dkwX0_core_2 : List UInt8 := [162, 0, 60, 22, 4, 45, 21, 6, 182, 0, 226, 182, 0, 140, 133, 28, 154, 0, 15, 45, 21, 6]
abbrev dktX0_core_2 : List UInt8 := dkwX0_core_2 ++ dktX0_core_3
def dkwX0_core_1 : List UInt8 := [180, 0, 30, 180, 0, 118, 27, 50, 78, 9, 55, 4, 3, 54, 6, 21, 6, 45, 180, 0, 194, 190]
abbrev dktX0_core_1 : List UInt8 := dkwX0_core_1 ++ dktX0_core_2
def dkwX0_core_0 : List UInt8 := [42, 27, 182, 0, 191, 154, 0, 12, 28, 3, 5, 184, 0, 50, 154, 0, 7, 20, 0, 73, 173, 42]
abbrev dktX0_core_0 : List UInt8 := dkwX0_core_0 ++ dktX0_core_1
theorem dksX0_core_0 : cX0_core.data.toList.drop 0 = dktX0_core_0 := by decide +kernel
theorem dksX0_core_1 : cX0_core.data.toList.drop 22 = dktX0_core_1 := dk_seg dksX0_core_0 22 rfl rfl
theorem dksX0_core_2 : cX0_core.data.toList.drop 44 = dktX0_core_2 := dk_seg dksX0_core_1 22 rfl rfl
theorem dksX0_core_3 : cX0_core.data.toList.drop 66 = dktX0_core_3 := dk_seg dksX0_core_2 22 rfl rfl
theorem dksX0_core_4 : cX0_core.data.toList.drop 89 = dktX0_core_4 := dk_seg dksX0_core_3 23 rfl rfl
theorem dX0_core_0 : decode cX0_core 0 = .ok (.aload_n 0, 1) := dk_42 (dk_at dksX0_core_0 0 rfl rfl)
theorem dX0_core_1 : decode cX0_core 1 = .ok (.iload_n 1, 1) := dk_27 (dk_at dksX0_core_0 1 rfl rfl)
theorem dX0_core_2 : decode cX0_core 2 = .ok (.invokevirtual 191, 3) := dk_182 0 191 (dk_at dksX0_core_0 2 rfl rfl)
theorem dX0_core_5 : decode cX0_core 5 = .ok (.ifCond .ne 12, 3) := dk_154 0 12 (dk_at dksX0_core_0 5 rfl rfl)
theorem dX0_core_8 : decode cX0_core 8 = .ok (.iload_n 2, 1) := dk_28 (dk_at dksX0_core_0 8 rfl rfl)
theorem dX0_core_9 : decode cX0_core 9 = .ok (.iconst 0, 1) := dk_3 (dk_at dksX0_core_0 9 rfl rfl)
theorem dX0_core_10 : decode cX0_core 10 = .ok (.iconst 2, 1) := dk_5 (dk_at dksX0_core_0 10 rfl rfl)
theorem dX0_core_11 : decode cX0_core 11 = .ok (.invokestatic 50, 3) := dk_184 0 50 (dk_at dksX0_core_0 11 rfl rfl)
theorem dX0_core_14 : decode cX0_core 14 = .ok (.ifCond .ne 7, 3) := dk_154 0 7 (dk_at dksX0_core_0 14 rfl rfl)
theorem dX0_core_17 : decode cX0_core 17 = .ok (.ldc2_w 73, 3) := dk_20 0 73 (dk_at dksX0_core_0 17 rfl rfl)
theorem dX0_core_20 : decode cX0_core 20 = .ok (.lreturn, 1) := dk_173 (dk_at dksX0_core_0 20 rfl rfl)
theorem dX0_core_21 : decode cX0_core 21 = .ok (.aload_n 0, 1) := dk_42 (dk_at dksX0_core_0 21 rfl rfl)
theorem dX0_core_22 : decode cX0_core 22 = .ok (.getfield 30, 3) := dk_180 0 30 (dk_at dksX0_core_1 0 rfl rfl)
theorem dX0_core_25 : decode cX0_core 25 = .ok (.getfield 118, 3) := dk_180 0 118 (dk_at dksX0_core_1 3 rfl rfl)
theorem dX0_core_28 : decode cX0_core 28 = .ok (.iload_n 1, 1) := dk_27 (dk_at dksX0_core_1 6 rfl rfl)
theorem dX0_core_29 : decode cX0_core 29 = .ok (.aaload, 1) := dk_50 (dk_at dksX0_core_1 7 rfl rfl)
theorem dX0_core_30 : decode cX0_core 30 = .ok (.astore_n 3, 1) := dk_78 (dk_at dksX0_core_1 8 rfl rfl)
theorem dX0_core_31 : decode cX0_core 31 = .ok (.lconst 0, 1) := dk_9 (dk_at dksX0_core_1 9 rfl rfl)
theorem dX0_core_32 : decode cX0_core 32 = .ok (.lstore 4, 2) := dk_55 4 (dk_at dksX0_core_1 10 rfl rfl)
theorem dX0_core_34 : decode cX0_core 34 = .ok (.iconst 0, 1) := dk_3 (dk_at dksX0_core_1 12 rfl rfl)
theorem dX0_core_35 : decode cX0_core 35 = .ok (.istore 6, 2) := dk_54 6 (dk_at dksX0_core_1 13 rfl rfl)
theorem dX0_core_37 : decode cX0_core 37 = .ok (.iload 6, 2) := dk_21 6 (dk_at dksX0_core_1 15 rfl rfl)
theorem dX0_core_39 : decode cX0_core 39 = .ok (.aload_n 3, 1) := dk_45 (dk_at dksX0_core_1 17 rfl rfl)
theorem dX0_core_40 : decode cX0_core 40 = .ok (.getfield 194, 3) := dk_180 0 194 (dk_at dksX0_core_1 18 rfl rfl)
theorem dX0_core_43 : decode cX0_core 43 = .ok (.arraylength, 1) := dk_190 (dk_at dksX0_core_1 21 rfl rfl)
theorem dX0_core_44 : decode cX0_core 44 = .ok (.if_icmp .ge 60, 3) := dk_162 0 60 (dk_at dksX0_core_2 0 rfl rfl)
theorem dX0_core_47 : decode cX0_core 47 = .ok (.lload 4, 2) := dk_22 4 (dk_at dksX0_core_2 3 rfl rfl)
theorem dX0_core_49 : decode cX0_core 49 = .ok (.aload_n 3, 1) := dk_45 (dk_at dksX0_core_2 5 rfl rfl)
theorem dX0_core_50 : decode cX0_core 50 = .ok (.iload 6, 2) := dk_21 6 (dk_at dksX0_core_2 6 rfl rfl)
theorem dX0_core_52 : decode cX0_core 52 = .ok (.invokevirtual 226, 3) := dk_182 0 226 (dk_at dksX0_core_2 8 rfl rfl)
theorem dX0_core_55 : decode cX0_core 55 = .ok (.invokevirtual 140, 3) := dk_182 0 140 (dk_at dksX0_core_2 11 rfl rfl)
theorem dX0_core_58 : decode cX0_core 58 = .ok (.i2l, 1) := dk_133 (dk_at dksX0_core_2 14 rfl rfl)
theorem dX0_core_59 : decode cX0_core 59 = .ok (.iload_n 2, 1) := dk_28 (dk_at dksX0_core_2 15 rfl rfl)
theorem dX0_core_60 : decode cX0_core 60 = .ok (.ifCond .ne 15, 3) := dk_154 0 15 (dk_at dksX0_core_2 16 rfl rfl)
theorem dX0_core_63 : decode cX0_core 63 = .ok (.aload_n 3, 1) := dk_45 (dk_at dksX0_core_2 19 rfl rfl)
theorem dX0_core_64 : decode cX0_core 64 = .ok (.iload 6, 2) := dk_21 6 (dk_at dksX0_core_2 20 rfl rfl)
theorem dX0_core_66 : decode cX0_core 66 = .ok (.invokevirtual 230, 3) := dk_182 0 230 (dk_at dksX0_core_3 0 rfl rfl)
theorem dX0_core_69 : decode cX0_core 69 = .ok (.getfield 102, 3) := dk_180 0 102 (dk_at dksX0_core_3 3 rfl rfl)
theorem dX0_core_72 : decode cX0_core 72 = .ok (.goto 21, 3) := dk_167 0 21 (dk_at dksX0_core_3 6 rfl rfl)
theorem dX0_core_75 : decode cX0_core 75 = .ok (.iload_n 2, 1) := dk_28 (dk_at dksX0_core_3 9 rfl rfl)
theorem dX0_core_76 : decode cX0_core 76 = .ok (.iconst 1, 1) := dk_4 (dk_at dksX0_core_3 10 rfl rfl)
theorem dX0_core_77 : decode cX0_core 77 = .ok (.if_icmp .ne 15, 3) := dk_160 0 15 (dk_at dksX0_core_3 11 rfl rfl)
theorem dX0_core_80 : decode cX0_core 80 = .ok (.aload_n 3, 1) := dk_45 (dk_at dksX0_core_3 14 rfl rfl)
theorem dX0_core_81 : decode cX0_core 81 = .ok (.iload 6, 2) := dk_21 6 (dk_at dksX0_core_3 15 rfl rfl)
theorem dX0_core_83 : decode cX0_core 83 = .ok (.invokevirtual 230, 3) := dk_182 0 230 (dk_at dksX0_core_3 17 rfl rfl)
theorem dX0_core_86 : decode cX0_core 86 = .ok (.getfield 105, 3) := dk_180 0 105 (dk_at dksX0_core_3 20 rfl rfl)
theorem dX0_core_89 : decode cX0_core 89 = .ok (.goto 4, 3) := dk_167 0 4 (dk_at dksX0_core_4 0 rfl rfl)
theorem dX0_core_92 : decode cX0_core 92 = .ok (.iconst 1, 1) := dk_4 (dk_at dksX0_core_4 3 rfl rfl)
theorem dX0_core_93 : decode cX0_core 93 = .ok (.i2l, 1) := dk_133 (dk_at dksX0_core_4 4 rfl rfl)
theorem dX0_core_94 : decode cX0_core 94 = .ok (.lmul, 1) := dk_105 (dk_at dksX0_core_4 5 rfl rfl)
theorem dX0_core_95 : decode cX0_core 95 = .ok (.ladd, 1) := dk_97 (dk_at dksX0_core_4 6 rfl rfl)
theorem dX0_core_96 : decode cX0_core 96 = .ok (.lstore 4, 2) := dk_55 4 (dk_at dksX0_core_4 7 rfl rfl)
theorem dX0_core_98 : decode cX0_core 98 = .ok (.iinc 6 1, 3) := dk_132 6 1 (dk_at dksX0_core_4 9 rfl rfl)
theorem dX0_core_101 : decode cX0_core 101 = .ok (.goto (-64), 3) := dk_167 255 192 (dk_at dksX0_core_4 12 rfl rfl)
theorem dX0_core_104 : decode cX0_core 104 = .ok (.lload 4, 2) := dk_22 4 (dk_at dksX0_core_4 15 rfl rfl)
theorem dX0_core_106 : decode cX0_core 106 = .ok (.lreturn, 1) := dk_173 (dk_at dksX0_core_4 17 rfl rfl)
abbrev cX0_sheet : ByteArray := prog_1_method_41_code
def yX0_sheet : MethodName := ⟨RX0, "sheet", "(III)I"⟩
def dkwX0_sheet_2 : List UInt8 := [187, 0, 40, 89, 28, 29, 184, 0, 252, 183, 1, 0, 83, 4, 172, 58, 4, 42, 7, 182, 1, 5, 172]
abbrev dktX0_sheet_2 : List UInt8 := dkwX0_sheet_2 ++ []
def dkwX0_sheet_1 : List UInt8 := [16, 40, 164, 0, 10, 42, 16, 254, 182, 0, 249, 172, 42, 3, 181, 0, 234, 42, 180, 0, 42, 27]
abbrev dktX0_sheet_1 : List UInt8 := dkwX0_sheet_1 ++ dktX0_sheet_2
def dkwX0_sheet_0 : List UInt8 := [27, 184, 0, 246, 153, 0, 9, 42, 2, 182, 0, 249, 172, 28, 3, 5, 184, 0, 50, 153, 0, 9, 29]
abbrev dktX0_sheet_0 : List UInt8 := dkwX0_sheet_0 ++ dktX0_sheet_1
theorem dksX0_sheet_0 : cX0_sheet.data.toList.drop 0 = dktX0_sheet_0 := by decide +kernel
theorem dksX0_sheet_1 : cX0_sheet.data.toList.drop 23 = dktX0_sheet_1 := dk_seg dksX0_sheet_0 23 rfl rfl
theorem dksX0_sheet_2 : cX0_sheet.data.toList.drop 45 = dktX0_sheet_2 := dk_seg dksX0_sheet_1 22 rfl rfl
theorem dX0_sheet_0 : decode cX0_sheet 0 = .ok (.iload_n 1, 1) := dk_27 (dk_at dksX0_sheet_0 0 rfl rfl)
theorem dX0_sheet_1 : decode cX0_sheet 1 = .ok (.invokestatic 246, 3) := dk_184 0 246 (dk_at dksX0_sheet_0 1 rfl rfl)
theorem dX0_sheet_4 : decode cX0_sheet 4 = .ok (.ifCond .eq 9, 3) := dk_153 0 9 (dk_at dksX0_sheet_0 4 rfl rfl)
theorem dX0_sheet_7 : decode cX0_sheet 7 = .ok (.aload_n 0, 1) := dk_42 (dk_at dksX0_sheet_0 7 rfl rfl)
theorem dX0_sheet_8 : decode cX0_sheet 8 = .ok (.iconst (-1), 1) := dk_2 (dk_at dksX0_sheet_0 8 rfl rfl)
theorem dX0_sheet_9 : decode cX0_sheet 9 = .ok (.invokevirtual 249, 3) := dk_182 0 249 (dk_at dksX0_sheet_0 9 rfl rfl)
theorem dX0_sheet_12 : decode cX0_sheet 12 = .ok (.ireturn, 1) := dk_172 (dk_at dksX0_sheet_0 12 rfl rfl)
theorem dX0_sheet_13 : decode cX0_sheet 13 = .ok (.iload_n 2, 1) := dk_28 (dk_at dksX0_sheet_0 13 rfl rfl)
theorem dX0_sheet_14 : decode cX0_sheet 14 = .ok (.iconst 0, 1) := dk_3 (dk_at dksX0_sheet_0 14 rfl rfl)
theorem dX0_sheet_15 : decode cX0_sheet 15 = .ok (.iconst 2, 1) := dk_5 (dk_at dksX0_sheet_0 15 rfl rfl)
theorem dX0_sheet_16 : decode cX0_sheet 16 = .ok (.invokestatic 50, 3) := dk_184 0 50 (dk_at dksX0_sheet_0 16 rfl rfl)
theorem dX0_sheet_19 : decode cX0_sheet 19 = .ok (.ifCond .eq 9, 3) := dk_153 0 9 (dk_at dksX0_sheet_0 19 rfl rfl)
theorem dX0_sheet_22 : decode cX0_sheet 22 = .ok (.iload_n 3, 1) := dk_29 (dk_at dksX0_sheet_0 22 rfl rfl)
theorem dX0_sheet_23 : decode cX0_sheet 23 = .ok (.bipush 40, 2) := dk_16 40 (dk_at dksX0_sheet_1 0 rfl rfl)
theorem dX0_sheet_25 : decode cX0_sheet 25 = .ok (.if_icmp .le 10, 3) := dk_164 0 10 (dk_at dksX0_sheet_1 2 rfl rfl)
theorem dX0_sheet_28 : decode cX0_sheet 28 = .ok (.aload_n 0, 1) := dk_42 (dk_at dksX0_sheet_1 5 rfl rfl)
theorem dX0_sheet_29 : decode cX0_sheet 29 = .ok (.bipush (-2), 2) := dk_16 254 (dk_at dksX0_sheet_1 6 rfl rfl)
theorem dX0_sheet_31 : decode cX0_sheet 31 = .ok (.invokevirtual 249, 3) := dk_182 0 249 (dk_at dksX0_sheet_1 8 rfl rfl)
theorem dX0_sheet_34 : decode cX0_sheet 34 = .ok (.ireturn, 1) := dk_172 (dk_at dksX0_sheet_1 11 rfl rfl)
theorem dX0_sheet_35 : decode cX0_sheet 35 = .ok (.aload_n 0, 1) := dk_42 (dk_at dksX0_sheet_1 12 rfl rfl)
theorem dX0_sheet_36 : decode cX0_sheet 36 = .ok (.iconst 0, 1) := dk_3 (dk_at dksX0_sheet_1 13 rfl rfl)
theorem dX0_sheet_37 : decode cX0_sheet 37 = .ok (.putfield 234, 3) := dk_181 0 234 (dk_at dksX0_sheet_1 14 rfl rfl)
theorem dX0_sheet_40 : decode cX0_sheet 40 = .ok (.aload_n 0, 1) := dk_42 (dk_at dksX0_sheet_1 17 rfl rfl)
theorem dX0_sheet_41 : decode cX0_sheet 41 = .ok (.getfield 42, 3) := dk_180 0 42 (dk_at dksX0_sheet_1 18 rfl rfl)
theorem dX0_sheet_44 : decode cX0_sheet 44 = .ok (.iload_n 1, 1) := dk_27 (dk_at dksX0_sheet_1 21 rfl rfl)
theorem dX0_sheet_45 : decode cX0_sheet 45 = .ok (.new 40, 3) := dk_187 0 40 (dk_at dksX0_sheet_2 0 rfl rfl)
theorem dX0_sheet_48 : decode cX0_sheet 48 = .ok (.dup, 1) := dk_89 (dk_at dksX0_sheet_2 3 rfl rfl)
theorem dX0_sheet_49 : decode cX0_sheet 49 = .ok (.iload_n 2, 1) := dk_28 (dk_at dksX0_sheet_2 4 rfl rfl)
theorem dX0_sheet_50 : decode cX0_sheet 50 = .ok (.iload_n 3, 1) := dk_29 (dk_at dksX0_sheet_2 5 rfl rfl)
theorem dX0_sheet_51 : decode cX0_sheet 51 = .ok (.invokestatic 252, 3) := dk_184 0 252 (dk_at dksX0_sheet_2 6 rfl rfl)
theorem dX0_sheet_54 : decode cX0_sheet 54 = .ok (.invokespecial 256, 3) := dk_183 1 0 (dk_at dksX0_sheet_2 9 rfl rfl)
theorem dX0_sheet_57 : decode cX0_sheet 57 = .ok (.aastore, 1) := dk_83 (dk_at dksX0_sheet_2 12 rfl rfl)
theorem dX0_sheet_58 : decode cX0_sheet 58 = .ok (.iconst 1, 1) := dk_4 (dk_at dksX0_sheet_2 13 rfl rfl)
theorem dX0_sheet_59 : decode cX0_sheet 59 = .ok (.ireturn, 1) := dk_172 (dk_at dksX0_sheet_2 14 rfl rfl)
theorem dX0_sheet_60 : decode cX0_sheet 60 = .ok (.astore 4, 2) := dk_58 4 (dk_at dksX0_sheet_2 15 rfl rfl)
theorem dX0_sheet_62 : decode cX0_sheet 62 = .ok (.aload_n 0, 1) := dk_42 (dk_at dksX0_sheet_2 17 rfl rfl)
theorem dX0_sheet_63 : decode cX0_sheet 63 = .ok (.iconst 4, 1) := dk_7 (dk_at dksX0_sheet_2 18 rfl rfl)
theorem dX0_sheet_64 : decode cX0_sheet 64 = .ok (.invokevirtual 261, 3) := dk_182 1 5 (dk_at dksX0_sheet_2 19 rfl rfl)
theorem dX0_sheet_67 : decode cX0_sheet 67 = .ok (.ireturn, 1) := dk_172 (dk_at dksX0_sheet_2 22 rfl rfl)
abbrev cX0_noSheet : ByteArray := prog_1_method_39_code
def yX0_noSheet : MethodName := ⟨RX0, "noSheet", "(I)Z"⟩
def dkwX0_noSheet_0 : List UInt8 := [26, 3, 6, 184, 0, 50, 154, 0, 7, 4, 167, 0, 4, 3, 172]
abbrev dktX0_noSheet_0 : List UInt8 := dkwX0_noSheet_0 ++ []
theorem dksX0_noSheet_0 : cX0_noSheet.data.toList.drop 0 = dktX0_noSheet_0 := by decide +kernel
theorem dX0_noSheet_0 : decode cX0_noSheet 0 = .ok (.iload_n 0, 1) := dk_26 (dk_at dksX0_noSheet_0 0 rfl rfl)
theorem dX0_noSheet_1 : decode cX0_noSheet 1 = .ok (.iconst 0, 1) := dk_3 (dk_at dksX0_noSheet_0 1 rfl rfl)
theorem dX0_noSheet_2 : decode cX0_noSheet 2 = .ok (.iconst 3, 1) := dk_6 (dk_at dksX0_noSheet_0 2 rfl rfl)
theorem dX0_noSheet_3 : decode cX0_noSheet 3 = .ok (.invokestatic 50, 3) := dk_184 0 50 (dk_at dksX0_noSheet_0 3 rfl rfl)
theorem dX0_noSheet_6 : decode cX0_noSheet 6 = .ok (.ifCond .ne 7, 3) := dk_154 0 7 (dk_at dksX0_noSheet_0 6 rfl rfl)
theorem dX0_noSheet_9 : decode cX0_noSheet 9 = .ok (.iconst 1, 1) := dk_4 (dk_at dksX0_noSheet_0 9 rfl rfl)
theorem dX0_noSheet_10 : decode cX0_noSheet 10 = .ok (.goto 4, 3) := dk_167 0 4 (dk_at dksX0_noSheet_0 10 rfl rfl)
theorem dX0_noSheet_13 : decode cX0_noSheet 13 = .ok (.iconst 0, 1) := dk_3 (dk_at dksX0_noSheet_0 13 rfl rfl)
theorem dX0_noSheet_14 : decode cX0_noSheet 14 = .ok (.ireturn, 1) := dk_172 (dk_at dksX0_noSheet_0 14 rfl rfl)
abbrev cX0_refused : ByteArray := prog_1_method_32_code
def yX0_refused : MethodName := ⟨RX0, "refused", "(I)I"⟩
def dkwX0_refused_0 : List UInt8 := [42, 3, 181, 0, 234, 27, 172]
abbrev dktX0_refused_0 : List UInt8 := dkwX0_refused_0 ++ []
theorem dksX0_refused_0 : cX0_refused.data.toList.drop 0 = dktX0_refused_0 := by decide +kernel
theorem dX0_refused_0 : decode cX0_refused 0 = .ok (.aload_n 0, 1) := dk_42 (dk_at dksX0_refused_0 0 rfl rfl)
theorem dX0_refused_1 : decode cX0_refused 1 = .ok (.iconst 0, 1) := dk_3 (dk_at dksX0_refused_0 1 rfl rfl)
theorem dX0_refused_2 : decode cX0_refused 2 = .ok (.putfield 234, 3) := dk_181 0 234 (dk_at dksX0_refused_0 2 rfl rfl)
theorem dX0_refused_5 : decode cX0_refused 5 = .ok (.iload_n 1, 1) := dk_27 (dk_at dksX0_refused_0 5 rfl rfl)
theorem dX0_refused_6 : decode cX0_refused 6 = .ok (.ireturn, 1) := dk_172 (dk_at dksX0_refused_0 6 rfl rfl)
abbrev cX0_rowOf : ByteArray := prog_1_method_35_code
def yX0_rowOf : MethodName := ⟨RX0, "rowOf", "(II)Ljava/lang/Object;"⟩
def dkwX0_rowOf_1 : List UInt8 := [176]
abbrev dktX0_rowOf_1 : List UInt8 := dkwX0_rowOf_1 ++ []
def dkwX0_rowOf_0 : List UInt8 := [26, 154, 0, 9, 27, 188, 8, 167, 0, 17, 26, 4, 160, 0, 9, 27, 188, 9, 167, 0, 6, 27, 188, 10]
abbrev dktX0_rowOf_0 : List UInt8 := dkwX0_rowOf_0 ++ dktX0_rowOf_1
theorem dksX0_rowOf_0 : cX0_rowOf.data.toList.drop 0 = dktX0_rowOf_0 := by decide +kernel
theorem dksX0_rowOf_1 : cX0_rowOf.data.toList.drop 24 = dktX0_rowOf_1 := dk_seg dksX0_rowOf_0 24 rfl rfl
theorem dX0_rowOf_0 : decode cX0_rowOf 0 = .ok (.iload_n 0, 1) := dk_26 (dk_at dksX0_rowOf_0 0 rfl rfl)
theorem dX0_rowOf_1 : decode cX0_rowOf 1 = .ok (.ifCond .ne 9, 3) := dk_154 0 9 (dk_at dksX0_rowOf_0 1 rfl rfl)
theorem dX0_rowOf_4 : decode cX0_rowOf 4 = .ok (.iload_n 1, 1) := dk_27 (dk_at dksX0_rowOf_0 4 rfl rfl)
theorem dX0_rowOf_5 : decode cX0_rowOf 5 = .ok (.newarray .byte, 2) := dk_188_8 (dk_at dksX0_rowOf_0 5 rfl rfl)
theorem dX0_rowOf_7 : decode cX0_rowOf 7 = .ok (.goto 17, 3) := dk_167 0 17 (dk_at dksX0_rowOf_0 7 rfl rfl)
theorem dX0_rowOf_10 : decode cX0_rowOf 10 = .ok (.iload_n 0, 1) := dk_26 (dk_at dksX0_rowOf_0 10 rfl rfl)
theorem dX0_rowOf_11 : decode cX0_rowOf 11 = .ok (.iconst 1, 1) := dk_4 (dk_at dksX0_rowOf_0 11 rfl rfl)
theorem dX0_rowOf_12 : decode cX0_rowOf 12 = .ok (.if_icmp .ne 9, 3) := dk_160 0 9 (dk_at dksX0_rowOf_0 12 rfl rfl)
theorem dX0_rowOf_15 : decode cX0_rowOf 15 = .ok (.iload_n 1, 1) := dk_27 (dk_at dksX0_rowOf_0 15 rfl rfl)
theorem dX0_rowOf_16 : decode cX0_rowOf 16 = .ok (.newarray .short, 2) := dk_188_9 (dk_at dksX0_rowOf_0 16 rfl rfl)
theorem dX0_rowOf_18 : decode cX0_rowOf 18 = .ok (.goto 6, 3) := dk_167 0 6 (dk_at dksX0_rowOf_0 18 rfl rfl)
theorem dX0_rowOf_21 : decode cX0_rowOf 21 = .ok (.iload_n 1, 1) := dk_27 (dk_at dksX0_rowOf_0 21 rfl rfl)
theorem dX0_rowOf_22 : decode cX0_rowOf 22 = .ok (.newarray .int, 2) := dk_188_10 (dk_at dksX0_rowOf_0 22 rfl rfl)
theorem dX0_rowOf_24 : decode cX0_rowOf 24 = .ok (.areturn, 1) := dk_176 (dk_at dksX0_rowOf_1 0 rfl rfl)
abbrev cX0_fails : ByteArray := prog_1_method_33_code
def yX0_fails : MethodName := ⟨RX0, "fails", "(I)I"⟩
def dkwX0_fails_0 : List UInt8 := [42, 27, 181, 0, 234, 16, 246, 27, 100, 172]
abbrev dktX0_fails_0 : List UInt8 := dkwX0_fails_0 ++ []
theorem dksX0_fails_0 : cX0_fails.data.toList.drop 0 = dktX0_fails_0 := by decide +kernel
theorem dX0_fails_0 : decode cX0_fails 0 = .ok (.aload_n 0, 1) := dk_42 (dk_at dksX0_fails_0 0 rfl rfl)
theorem dX0_fails_1 : decode cX0_fails 1 = .ok (.iload_n 1, 1) := dk_27 (dk_at dksX0_fails_0 1 rfl rfl)
theorem dX0_fails_2 : decode cX0_fails 2 = .ok (.putfield 234, 3) := dk_181 0 234 (dk_at dksX0_fails_0 2 rfl rfl)
theorem dX0_fails_5 : decode cX0_fails 5 = .ok (.bipush (-10), 2) := dk_16 246 (dk_at dksX0_fails_0 5 rfl rfl)
theorem dX0_fails_7 : decode cX0_fails 7 = .ok (.iload_n 1, 1) := dk_27 (dk_at dksX0_fails_0 7 rfl rfl)
theorem dX0_fails_8 : decode cX0_fails 8 = .ok (.isub, 1) := dk_100 (dk_at dksX0_fails_0 8 rfl rfl)
theorem dX0_fails_9 : decode cX0_fails 9 = .ok (.ireturn, 1) := dk_172 (dk_at dksX0_fails_0 9 rfl rfl)
abbrev cX0_drop : ByteArray := prog_1_method_42_code
def yX0_drop : MethodName := ⟨RX0, "drop", "(I)I"⟩
def dkwX0_drop_1 : List UInt8 := [42, 180, 0, 42, 27, 1, 83, 28, 172]
abbrev dktX0_drop_1 : List UInt8 := dkwX0_drop_1 ++ []
def dkwX0_drop_0 : List UInt8 := [27, 184, 0, 246, 153, 0, 5, 2, 172, 42, 180, 0, 42, 27, 50, 199, 0, 7, 3, 167, 0, 4, 4, 61]
abbrev dktX0_drop_0 : List UInt8 := dkwX0_drop_0 ++ dktX0_drop_1
theorem dksX0_drop_0 : cX0_drop.data.toList.drop 0 = dktX0_drop_0 := by decide +kernel
theorem dksX0_drop_1 : cX0_drop.data.toList.drop 24 = dktX0_drop_1 := dk_seg dksX0_drop_0 24 rfl rfl
theorem dX0_drop_0 : decode cX0_drop 0 = .ok (.iload_n 1, 1) := dk_27 (dk_at dksX0_drop_0 0 rfl rfl)
theorem dX0_drop_1 : decode cX0_drop 1 = .ok (.invokestatic 246, 3) := dk_184 0 246 (dk_at dksX0_drop_0 1 rfl rfl)
theorem dX0_drop_4 : decode cX0_drop 4 = .ok (.ifCond .eq 5, 3) := dk_153 0 5 (dk_at dksX0_drop_0 4 rfl rfl)
theorem dX0_drop_7 : decode cX0_drop 7 = .ok (.iconst (-1), 1) := dk_2 (dk_at dksX0_drop_0 7 rfl rfl)
theorem dX0_drop_8 : decode cX0_drop 8 = .ok (.ireturn, 1) := dk_172 (dk_at dksX0_drop_0 8 rfl rfl)
theorem dX0_drop_9 : decode cX0_drop 9 = .ok (.aload_n 0, 1) := dk_42 (dk_at dksX0_drop_0 9 rfl rfl)
theorem dX0_drop_10 : decode cX0_drop 10 = .ok (.getfield 42, 3) := dk_180 0 42 (dk_at dksX0_drop_0 10 rfl rfl)
theorem dX0_drop_13 : decode cX0_drop 13 = .ok (.iload_n 1, 1) := dk_27 (dk_at dksX0_drop_0 13 rfl rfl)
theorem dX0_drop_14 : decode cX0_drop 14 = .ok (.aaload, 1) := dk_50 (dk_at dksX0_drop_0 14 rfl rfl)
theorem dX0_drop_15 : decode cX0_drop 15 = .ok (.ifnonnull 7, 3) := dk_199 0 7 (dk_at dksX0_drop_0 15 rfl rfl)
theorem dX0_drop_18 : decode cX0_drop 18 = .ok (.iconst 0, 1) := dk_3 (dk_at dksX0_drop_0 18 rfl rfl)
theorem dX0_drop_19 : decode cX0_drop 19 = .ok (.goto 4, 3) := dk_167 0 4 (dk_at dksX0_drop_0 19 rfl rfl)
theorem dX0_drop_22 : decode cX0_drop 22 = .ok (.iconst 1, 1) := dk_4 (dk_at dksX0_drop_0 22 rfl rfl)
theorem dX0_drop_23 : decode cX0_drop 23 = .ok (.istore_n 2, 1) := dk_61 (dk_at dksX0_drop_0 23 rfl rfl)
theorem dX0_drop_24 : decode cX0_drop 24 = .ok (.aload_n 0, 1) := dk_42 (dk_at dksX0_drop_1 0 rfl rfl)
theorem dX0_drop_25 : decode cX0_drop 25 = .ok (.getfield 42, 3) := dk_180 0 42 (dk_at dksX0_drop_1 1 rfl rfl)
theorem dX0_drop_28 : decode cX0_drop 28 = .ok (.iload_n 1, 1) := dk_27 (dk_at dksX0_drop_1 4 rfl rfl)
theorem dX0_drop_29 : decode cX0_drop 29 = .ok (.aconst_null, 1) := dk_1 (dk_at dksX0_drop_1 5 rfl rfl)
theorem dX0_drop_30 : decode cX0_drop 30 = .ok (.aastore, 1) := dk_83 (dk_at dksX0_drop_1 6 rfl rfl)
theorem dX0_drop_31 : decode cX0_drop 31 = .ok (.iload_n 2, 1) := dk_28 (dk_at dksX0_drop_1 7 rfl rfl)
theorem dX0_drop_32 : decode cX0_drop 32 = .ok (.ireturn, 1) := dk_172 (dk_at dksX0_drop_1 8 rfl rfl)
abbrev cX0_put : ByteArray := prog_1_method_43_code
def yX0_put : MethodName := ⟨RX0, "put", "(III)I"⟩
def dkwX0_put_2 : List UInt8 := [182, 1, 5, 172]
abbrev dktX0_put_2 : List UInt8 := dkwX0_put_2 ++ []
def dkwX0_put_1 : List UInt8 := [180, 0, 242, 28, 29, 184, 1, 8, 4, 172, 58, 4, 42, 4, 182, 1, 5, 172, 58, 4, 42, 6]
abbrev dktX0_put_1 : List UInt8 := dkwX0_put_1 ++ dktX0_put_2
def dkwX0_put_0 : List UInt8 := [27, 184, 0, 246, 153, 0, 9, 42, 2, 182, 0, 249, 172, 42, 3, 181, 0, 234, 42, 180, 0, 42, 27, 50]
abbrev dktX0_put_0 : List UInt8 := dkwX0_put_0 ++ dktX0_put_1
theorem dksX0_put_0 : cX0_put.data.toList.drop 0 = dktX0_put_0 := by decide +kernel
theorem dksX0_put_1 : cX0_put.data.toList.drop 24 = dktX0_put_1 := dk_seg dksX0_put_0 24 rfl rfl
theorem dksX0_put_2 : cX0_put.data.toList.drop 46 = dktX0_put_2 := dk_seg dksX0_put_1 22 rfl rfl
theorem dX0_put_0 : decode cX0_put 0 = .ok (.iload_n 1, 1) := dk_27 (dk_at dksX0_put_0 0 rfl rfl)
theorem dX0_put_1 : decode cX0_put 1 = .ok (.invokestatic 246, 3) := dk_184 0 246 (dk_at dksX0_put_0 1 rfl rfl)
theorem dX0_put_4 : decode cX0_put 4 = .ok (.ifCond .eq 9, 3) := dk_153 0 9 (dk_at dksX0_put_0 4 rfl rfl)
theorem dX0_put_7 : decode cX0_put 7 = .ok (.aload_n 0, 1) := dk_42 (dk_at dksX0_put_0 7 rfl rfl)
theorem dX0_put_8 : decode cX0_put 8 = .ok (.iconst (-1), 1) := dk_2 (dk_at dksX0_put_0 8 rfl rfl)
theorem dX0_put_9 : decode cX0_put 9 = .ok (.invokevirtual 249, 3) := dk_182 0 249 (dk_at dksX0_put_0 9 rfl rfl)
theorem dX0_put_12 : decode cX0_put 12 = .ok (.ireturn, 1) := dk_172 (dk_at dksX0_put_0 12 rfl rfl)
theorem dX0_put_13 : decode cX0_put 13 = .ok (.aload_n 0, 1) := dk_42 (dk_at dksX0_put_0 13 rfl rfl)
theorem dX0_put_14 : decode cX0_put 14 = .ok (.iconst 0, 1) := dk_3 (dk_at dksX0_put_0 14 rfl rfl)
theorem dX0_put_15 : decode cX0_put 15 = .ok (.putfield 234, 3) := dk_181 0 234 (dk_at dksX0_put_0 15 rfl rfl)
theorem dX0_put_18 : decode cX0_put 18 = .ok (.aload_n 0, 1) := dk_42 (dk_at dksX0_put_0 18 rfl rfl)
theorem dX0_put_19 : decode cX0_put 19 = .ok (.getfield 42, 3) := dk_180 0 42 (dk_at dksX0_put_0 19 rfl rfl)
theorem dX0_put_22 : decode cX0_put 22 = .ok (.iload_n 1, 1) := dk_27 (dk_at dksX0_put_0 22 rfl rfl)
theorem dX0_put_23 : decode cX0_put 23 = .ok (.aaload, 1) := dk_50 (dk_at dksX0_put_0 23 rfl rfl)
theorem dX0_put_24 : decode cX0_put 24 = .ok (.getfield 242, 3) := dk_180 0 242 (dk_at dksX0_put_1 0 rfl rfl)
theorem dX0_put_27 : decode cX0_put 27 = .ok (.iload_n 2, 1) := dk_28 (dk_at dksX0_put_1 3 rfl rfl)
theorem dX0_put_28 : decode cX0_put 28 = .ok (.iload_n 3, 1) := dk_29 (dk_at dksX0_put_1 4 rfl rfl)
theorem dX0_put_29 : decode cX0_put 29 = .ok (.invokestatic 264, 3) := dk_184 1 8 (dk_at dksX0_put_1 5 rfl rfl)
theorem dX0_put_32 : decode cX0_put 32 = .ok (.iconst 1, 1) := dk_4 (dk_at dksX0_put_1 8 rfl rfl)
theorem dX0_put_33 : decode cX0_put 33 = .ok (.ireturn, 1) := dk_172 (dk_at dksX0_put_1 9 rfl rfl)
theorem dX0_put_34 : decode cX0_put 34 = .ok (.astore 4, 2) := dk_58 4 (dk_at dksX0_put_1 10 rfl rfl)
theorem dX0_put_36 : decode cX0_put 36 = .ok (.aload_n 0, 1) := dk_42 (dk_at dksX0_put_1 12 rfl rfl)
theorem dX0_put_37 : decode cX0_put 37 = .ok (.iconst 1, 1) := dk_4 (dk_at dksX0_put_1 13 rfl rfl)
theorem dX0_put_38 : decode cX0_put 38 = .ok (.invokevirtual 261, 3) := dk_182 1 5 (dk_at dksX0_put_1 14 rfl rfl)
theorem dX0_put_41 : decode cX0_put 41 = .ok (.ireturn, 1) := dk_172 (dk_at dksX0_put_1 17 rfl rfl)
theorem dX0_put_42 : decode cX0_put 42 = .ok (.astore 4, 2) := dk_58 4 (dk_at dksX0_put_1 18 rfl rfl)
theorem dX0_put_44 : decode cX0_put 44 = .ok (.aload_n 0, 1) := dk_42 (dk_at dksX0_put_1 20 rfl rfl)
theorem dX0_put_45 : decode cX0_put 45 = .ok (.iconst 3, 1) := dk_6 (dk_at dksX0_put_1 21 rfl rfl)
theorem dX0_put_46 : decode cX0_put 46 = .ok (.invokevirtual 261, 3) := dk_182 1 5 (dk_at dksX0_put_2 0 rfl rfl)
theorem dX0_put_49 : decode cX0_put 49 = .ok (.ireturn, 1) := dk_172 (dk_at dksX0_put_2 3 rfl rfl)
abbrev cX0_setIn : ByteArray := prog_1_method_38_code
def yX0_setIn : MethodName := ⟨RX0, "setIn", "(Ljava/lang/Object;II)V"⟩
def dkwX0_setIn_1 : List UInt8 := [153, 0, 14, 42, 192, 0, 239, 27, 28, 147, 86, 167, 0, 10, 42, 192, 0, 241, 27, 28, 79, 177]
abbrev dktX0_setIn_1 : List UInt8 := dkwX0_setIn_1 ++ []
def dkwX0_setIn_0 : List UInt8 := [42, 193, 0, 237, 153, 0, 14, 42, 192, 0, 237, 27, 28, 145, 84, 167, 0, 28, 42, 193, 0, 239]
abbrev dktX0_setIn_0 : List UInt8 := dkwX0_setIn_0 ++ dktX0_setIn_1
theorem dksX0_setIn_0 : cX0_setIn.data.toList.drop 0 = dktX0_setIn_0 := by decide +kernel
theorem dksX0_setIn_1 : cX0_setIn.data.toList.drop 22 = dktX0_setIn_1 := dk_seg dksX0_setIn_0 22 rfl rfl
theorem dX0_setIn_0 : decode cX0_setIn 0 = .ok (.aload_n 0, 1) := dk_42 (dk_at dksX0_setIn_0 0 rfl rfl)
theorem dX0_setIn_1 : decode cX0_setIn 1 = .ok (.instanceof 237, 3) := dk_193 0 237 (dk_at dksX0_setIn_0 1 rfl rfl)
theorem dX0_setIn_4 : decode cX0_setIn 4 = .ok (.ifCond .eq 14, 3) := dk_153 0 14 (dk_at dksX0_setIn_0 4 rfl rfl)
theorem dX0_setIn_7 : decode cX0_setIn 7 = .ok (.aload_n 0, 1) := dk_42 (dk_at dksX0_setIn_0 7 rfl rfl)
theorem dX0_setIn_8 : decode cX0_setIn 8 = .ok (.checkcast 237, 3) := dk_192 0 237 (dk_at dksX0_setIn_0 8 rfl rfl)
theorem dX0_setIn_11 : decode cX0_setIn 11 = .ok (.iload_n 1, 1) := dk_27 (dk_at dksX0_setIn_0 11 rfl rfl)
theorem dX0_setIn_12 : decode cX0_setIn 12 = .ok (.iload_n 2, 1) := dk_28 (dk_at dksX0_setIn_0 12 rfl rfl)
theorem dX0_setIn_13 : decode cX0_setIn 13 = .ok (.i2b, 1) := dk_145 (dk_at dksX0_setIn_0 13 rfl rfl)
theorem dX0_setIn_14 : decode cX0_setIn 14 = .ok (.bastore, 1) := dk_84 (dk_at dksX0_setIn_0 14 rfl rfl)
theorem dX0_setIn_15 : decode cX0_setIn 15 = .ok (.goto 28, 3) := dk_167 0 28 (dk_at dksX0_setIn_0 15 rfl rfl)
theorem dX0_setIn_18 : decode cX0_setIn 18 = .ok (.aload_n 0, 1) := dk_42 (dk_at dksX0_setIn_0 18 rfl rfl)
theorem dX0_setIn_19 : decode cX0_setIn 19 = .ok (.instanceof 239, 3) := dk_193 0 239 (dk_at dksX0_setIn_0 19 rfl rfl)
theorem dX0_setIn_22 : decode cX0_setIn 22 = .ok (.ifCond .eq 14, 3) := dk_153 0 14 (dk_at dksX0_setIn_1 0 rfl rfl)
theorem dX0_setIn_25 : decode cX0_setIn 25 = .ok (.aload_n 0, 1) := dk_42 (dk_at dksX0_setIn_1 3 rfl rfl)
theorem dX0_setIn_26 : decode cX0_setIn 26 = .ok (.checkcast 239, 3) := dk_192 0 239 (dk_at dksX0_setIn_1 4 rfl rfl)
theorem dX0_setIn_29 : decode cX0_setIn 29 = .ok (.iload_n 1, 1) := dk_27 (dk_at dksX0_setIn_1 7 rfl rfl)
theorem dX0_setIn_30 : decode cX0_setIn 30 = .ok (.iload_n 2, 1) := dk_28 (dk_at dksX0_setIn_1 8 rfl rfl)
theorem dX0_setIn_31 : decode cX0_setIn 31 = .ok (.i2s, 1) := dk_147 (dk_at dksX0_setIn_1 9 rfl rfl)
theorem dX0_setIn_32 : decode cX0_setIn 32 = .ok (.sastore, 1) := dk_86 (dk_at dksX0_setIn_1 10 rfl rfl)
theorem dX0_setIn_33 : decode cX0_setIn 33 = .ok (.goto 10, 3) := dk_167 0 10 (dk_at dksX0_setIn_1 11 rfl rfl)
theorem dX0_setIn_36 : decode cX0_setIn 36 = .ok (.aload_n 0, 1) := dk_42 (dk_at dksX0_setIn_1 14 rfl rfl)
theorem dX0_setIn_37 : decode cX0_setIn 37 = .ok (.checkcast 241, 3) := dk_192 0 241 (dk_at dksX0_setIn_1 15 rfl rfl)
theorem dX0_setIn_40 : decode cX0_setIn 40 = .ok (.iload_n 1, 1) := dk_27 (dk_at dksX0_setIn_1 18 rfl rfl)
theorem dX0_setIn_41 : decode cX0_setIn 41 = .ok (.iload_n 2, 1) := dk_28 (dk_at dksX0_setIn_1 19 rfl rfl)
theorem dX0_setIn_42 : decode cX0_setIn 42 = .ok (.iastore, 1) := dk_79 (dk_at dksX0_setIn_1 20 rfl rfl)
theorem dX0_setIn_43 : decode cX0_setIn 43 = .ok (.return_, 1) := dk_177 (dk_at dksX0_setIn_1 21 rfl rfl)
abbrev cX0_at : ByteArray := prog_1_method_44_code
def yX0_at : MethodName := ⟨RX0, "at", "(III)J"⟩
def dkwX0_at_2 : List UInt8 := [5, 182, 1, 24, 173, 58, 4, 42, 6, 182, 1, 24, 173]
abbrev dktX0_at_2 : List UInt8 := dkwX0_at_2 ++ []
def dkwX0_at_1 : List UInt8 := [173, 42, 27, 182, 1, 16, 29, 28, 184, 1, 20, 133, 173, 58, 4, 42, 4, 182, 1, 24, 173, 58, 4, 42]
abbrev dktX0_at_1 : List UInt8 := dkwX0_at_1 ++ dktX0_at_2
def dkwX0_at_0 : List UInt8 := [42, 3, 181, 0, 234, 27, 184, 0, 246, 154, 0, 12, 29, 3, 5, 184, 0, 50, 154, 0, 7, 20, 0, 73]
abbrev dktX0_at_0 : List UInt8 := dkwX0_at_0 ++ dktX0_at_1
theorem dksX0_at_0 : cX0_at.data.toList.drop 0 = dktX0_at_0 := by decide +kernel
theorem dksX0_at_1 : cX0_at.data.toList.drop 24 = dktX0_at_1 := dk_seg dksX0_at_0 24 rfl rfl
theorem dksX0_at_2 : cX0_at.data.toList.drop 48 = dktX0_at_2 := dk_seg dksX0_at_1 24 rfl rfl
theorem dX0_at_0 : decode cX0_at 0 = .ok (.aload_n 0, 1) := dk_42 (dk_at dksX0_at_0 0 rfl rfl)
theorem dX0_at_1 : decode cX0_at 1 = .ok (.iconst 0, 1) := dk_3 (dk_at dksX0_at_0 1 rfl rfl)
theorem dX0_at_2 : decode cX0_at 2 = .ok (.putfield 234, 3) := dk_181 0 234 (dk_at dksX0_at_0 2 rfl rfl)
theorem dX0_at_5 : decode cX0_at 5 = .ok (.iload_n 1, 1) := dk_27 (dk_at dksX0_at_0 5 rfl rfl)
theorem dX0_at_6 : decode cX0_at 6 = .ok (.invokestatic 246, 3) := dk_184 0 246 (dk_at dksX0_at_0 6 rfl rfl)
theorem dX0_at_9 : decode cX0_at 9 = .ok (.ifCond .ne 12, 3) := dk_154 0 12 (dk_at dksX0_at_0 9 rfl rfl)
theorem dX0_at_12 : decode cX0_at 12 = .ok (.iload_n 3, 1) := dk_29 (dk_at dksX0_at_0 12 rfl rfl)
theorem dX0_at_13 : decode cX0_at 13 = .ok (.iconst 0, 1) := dk_3 (dk_at dksX0_at_0 13 rfl rfl)
theorem dX0_at_14 : decode cX0_at 14 = .ok (.iconst 2, 1) := dk_5 (dk_at dksX0_at_0 14 rfl rfl)
theorem dX0_at_15 : decode cX0_at 15 = .ok (.invokestatic 50, 3) := dk_184 0 50 (dk_at dksX0_at_0 15 rfl rfl)
theorem dX0_at_18 : decode cX0_at 18 = .ok (.ifCond .ne 7, 3) := dk_154 0 7 (dk_at dksX0_at_0 18 rfl rfl)
theorem dX0_at_21 : decode cX0_at 21 = .ok (.ldc2_w 73, 3) := dk_20 0 73 (dk_at dksX0_at_0 21 rfl rfl)
theorem dX0_at_24 : decode cX0_at 24 = .ok (.lreturn, 1) := dk_173 (dk_at dksX0_at_1 0 rfl rfl)
theorem dX0_at_25 : decode cX0_at 25 = .ok (.aload_n 0, 1) := dk_42 (dk_at dksX0_at_1 1 rfl rfl)
theorem dX0_at_26 : decode cX0_at 26 = .ok (.iload_n 1, 1) := dk_27 (dk_at dksX0_at_1 2 rfl rfl)
theorem dX0_at_27 : decode cX0_at 27 = .ok (.invokevirtual 272, 3) := dk_182 1 16 (dk_at dksX0_at_1 3 rfl rfl)
theorem dX0_at_30 : decode cX0_at 30 = .ok (.iload_n 3, 1) := dk_29 (dk_at dksX0_at_1 6 rfl rfl)
theorem dX0_at_31 : decode cX0_at 31 = .ok (.iload_n 2, 1) := dk_28 (dk_at dksX0_at_1 7 rfl rfl)
theorem dX0_at_32 : decode cX0_at 32 = .ok (.invokestatic 276, 3) := dk_184 1 20 (dk_at dksX0_at_1 8 rfl rfl)
theorem dX0_at_35 : decode cX0_at 35 = .ok (.i2l, 1) := dk_133 (dk_at dksX0_at_1 11 rfl rfl)
theorem dX0_at_36 : decode cX0_at 36 = .ok (.lreturn, 1) := dk_173 (dk_at dksX0_at_1 12 rfl rfl)
theorem dX0_at_37 : decode cX0_at 37 = .ok (.astore 4, 2) := dk_58 4 (dk_at dksX0_at_1 13 rfl rfl)
theorem dX0_at_39 : decode cX0_at 39 = .ok (.aload_n 0, 1) := dk_42 (dk_at dksX0_at_1 15 rfl rfl)
theorem dX0_at_40 : decode cX0_at 40 = .ok (.iconst 1, 1) := dk_4 (dk_at dksX0_at_1 16 rfl rfl)
theorem dX0_at_41 : decode cX0_at 41 = .ok (.invokevirtual 280, 3) := dk_182 1 24 (dk_at dksX0_at_1 17 rfl rfl)
theorem dX0_at_44 : decode cX0_at 44 = .ok (.lreturn, 1) := dk_173 (dk_at dksX0_at_1 20 rfl rfl)
theorem dX0_at_45 : decode cX0_at 45 = .ok (.astore 4, 2) := dk_58 4 (dk_at dksX0_at_1 21 rfl rfl)
theorem dX0_at_47 : decode cX0_at 47 = .ok (.aload_n 0, 1) := dk_42 (dk_at dksX0_at_1 23 rfl rfl)
theorem dX0_at_48 : decode cX0_at 48 = .ok (.iconst 2, 1) := dk_5 (dk_at dksX0_at_2 0 rfl rfl)
theorem dX0_at_49 : decode cX0_at 49 = .ok (.invokevirtual 280, 3) := dk_182 1 24 (dk_at dksX0_at_2 1 rfl rfl)
theorem dX0_at_52 : decode cX0_at 52 = .ok (.lreturn, 1) := dk_173 (dk_at dksX0_at_2 4 rfl rfl)
theorem dX0_at_53 : decode cX0_at 53 = .ok (.astore 4, 2) := dk_58 4 (dk_at dksX0_at_2 5 rfl rfl)
theorem dX0_at_55 : decode cX0_at 55 = .ok (.aload_n 0, 1) := dk_42 (dk_at dksX0_at_2 7 rfl rfl)
theorem dX0_at_56 : decode cX0_at 56 = .ok (.iconst 3, 1) := dk_6 (dk_at dksX0_at_2 8 rfl rfl)
theorem dX0_at_57 : decode cX0_at 57 = .ok (.invokevirtual 280, 3) := dk_182 1 24 (dk_at dksX0_at_2 9 rfl rfl)
theorem dX0_at_60 : decode cX0_at 60 = .ok (.lreturn, 1) := dk_173 (dk_at dksX0_at_2 12 rfl rfl)
abbrev cX0_rowIn : ByteArray := prog_1_method_40_code
def yX0_rowIn : MethodName := ⟨RX0, "rowIn", "(I)Ljava/lang/Object;"⟩
def dkwX0_rowIn_0 : List UInt8 := [42, 180, 0, 42, 27, 50, 199, 0, 7, 1, 167, 0, 12, 42, 180, 0, 42, 27, 50, 180, 0, 242, 176]
abbrev dktX0_rowIn_0 : List UInt8 := dkwX0_rowIn_0 ++ []
theorem dksX0_rowIn_0 : cX0_rowIn.data.toList.drop 0 = dktX0_rowIn_0 := by decide +kernel
theorem dX0_rowIn_0 : decode cX0_rowIn 0 = .ok (.aload_n 0, 1) := dk_42 (dk_at dksX0_rowIn_0 0 rfl rfl)
theorem dX0_rowIn_1 : decode cX0_rowIn 1 = .ok (.getfield 42, 3) := dk_180 0 42 (dk_at dksX0_rowIn_0 1 rfl rfl)
theorem dX0_rowIn_4 : decode cX0_rowIn 4 = .ok (.iload_n 1, 1) := dk_27 (dk_at dksX0_rowIn_0 4 rfl rfl)
theorem dX0_rowIn_5 : decode cX0_rowIn 5 = .ok (.aaload, 1) := dk_50 (dk_at dksX0_rowIn_0 5 rfl rfl)
theorem dX0_rowIn_6 : decode cX0_rowIn 6 = .ok (.ifnonnull 7, 3) := dk_199 0 7 (dk_at dksX0_rowIn_0 6 rfl rfl)
theorem dX0_rowIn_9 : decode cX0_rowIn 9 = .ok (.aconst_null, 1) := dk_1 (dk_at dksX0_rowIn_0 9 rfl rfl)
theorem dX0_rowIn_10 : decode cX0_rowIn 10 = .ok (.goto 12, 3) := dk_167 0 12 (dk_at dksX0_rowIn_0 10 rfl rfl)
theorem dX0_rowIn_13 : decode cX0_rowIn 13 = .ok (.aload_n 0, 1) := dk_42 (dk_at dksX0_rowIn_0 13 rfl rfl)
theorem dX0_rowIn_14 : decode cX0_rowIn 14 = .ok (.getfield 42, 3) := dk_180 0 42 (dk_at dksX0_rowIn_0 14 rfl rfl)
theorem dX0_rowIn_17 : decode cX0_rowIn 17 = .ok (.iload_n 1, 1) := dk_27 (dk_at dksX0_rowIn_0 17 rfl rfl)
theorem dX0_rowIn_18 : decode cX0_rowIn 18 = .ok (.aaload, 1) := dk_50 (dk_at dksX0_rowIn_0 18 rfl rfl)
theorem dX0_rowIn_19 : decode cX0_rowIn 19 = .ok (.getfield 242, 3) := dk_180 0 242 (dk_at dksX0_rowIn_0 19 rfl rfl)
theorem dX0_rowIn_22 : decode cX0_rowIn 22 = .ok (.areturn, 1) := dk_176 (dk_at dksX0_rowIn_0 22 rfl rfl)
abbrev cX0_cellOf : ByteArray := prog_1_method_36_code
def yX0_cellOf : MethodName := ⟨RX0, "cellOf", "(Ljava/lang/Object;II)I"⟩
def dkwX0_cellOf_1 : List UInt8 := [167, 0, 9, 42, 192, 0, 241, 28, 46, 172]
abbrev dktX0_cellOf_1 : List UInt8 := dkwX0_cellOf_1 ++ []
def dkwX0_cellOf_0 : List UInt8 := [27, 154, 0, 12, 42, 192, 0, 237, 28, 51, 167, 0, 23, 27, 4, 160, 0, 12, 42, 192, 0, 239, 28, 53]
abbrev dktX0_cellOf_0 : List UInt8 := dkwX0_cellOf_0 ++ dktX0_cellOf_1
theorem dksX0_cellOf_0 : cX0_cellOf.data.toList.drop 0 = dktX0_cellOf_0 := by decide +kernel
theorem dksX0_cellOf_1 : cX0_cellOf.data.toList.drop 24 = dktX0_cellOf_1 := dk_seg dksX0_cellOf_0 24 rfl rfl
theorem dX0_cellOf_0 : decode cX0_cellOf 0 = .ok (.iload_n 1, 1) := dk_27 (dk_at dksX0_cellOf_0 0 rfl rfl)
theorem dX0_cellOf_1 : decode cX0_cellOf 1 = .ok (.ifCond .ne 12, 3) := dk_154 0 12 (dk_at dksX0_cellOf_0 1 rfl rfl)
theorem dX0_cellOf_4 : decode cX0_cellOf 4 = .ok (.aload_n 0, 1) := dk_42 (dk_at dksX0_cellOf_0 4 rfl rfl)
theorem dX0_cellOf_5 : decode cX0_cellOf 5 = .ok (.checkcast 237, 3) := dk_192 0 237 (dk_at dksX0_cellOf_0 5 rfl rfl)
theorem dX0_cellOf_8 : decode cX0_cellOf 8 = .ok (.iload_n 2, 1) := dk_28 (dk_at dksX0_cellOf_0 8 rfl rfl)
theorem dX0_cellOf_9 : decode cX0_cellOf 9 = .ok (.baload, 1) := dk_51 (dk_at dksX0_cellOf_0 9 rfl rfl)
theorem dX0_cellOf_10 : decode cX0_cellOf 10 = .ok (.goto 23, 3) := dk_167 0 23 (dk_at dksX0_cellOf_0 10 rfl rfl)
theorem dX0_cellOf_13 : decode cX0_cellOf 13 = .ok (.iload_n 1, 1) := dk_27 (dk_at dksX0_cellOf_0 13 rfl rfl)
theorem dX0_cellOf_14 : decode cX0_cellOf 14 = .ok (.iconst 1, 1) := dk_4 (dk_at dksX0_cellOf_0 14 rfl rfl)
theorem dX0_cellOf_15 : decode cX0_cellOf 15 = .ok (.if_icmp .ne 12, 3) := dk_160 0 12 (dk_at dksX0_cellOf_0 15 rfl rfl)
theorem dX0_cellOf_18 : decode cX0_cellOf 18 = .ok (.aload_n 0, 1) := dk_42 (dk_at dksX0_cellOf_0 18 rfl rfl)
theorem dX0_cellOf_19 : decode cX0_cellOf 19 = .ok (.checkcast 239, 3) := dk_192 0 239 (dk_at dksX0_cellOf_0 19 rfl rfl)
theorem dX0_cellOf_22 : decode cX0_cellOf 22 = .ok (.iload_n 2, 1) := dk_28 (dk_at dksX0_cellOf_0 22 rfl rfl)
theorem dX0_cellOf_23 : decode cX0_cellOf 23 = .ok (.saload, 1) := dk_53 (dk_at dksX0_cellOf_0 23 rfl rfl)
theorem dX0_cellOf_24 : decode cX0_cellOf 24 = .ok (.goto 9, 3) := dk_167 0 9 (dk_at dksX0_cellOf_1 0 rfl rfl)
theorem dX0_cellOf_27 : decode cX0_cellOf 27 = .ok (.aload_n 0, 1) := dk_42 (dk_at dksX0_cellOf_1 3 rfl rfl)
theorem dX0_cellOf_28 : decode cX0_cellOf 28 = .ok (.checkcast 241, 3) := dk_192 0 241 (dk_at dksX0_cellOf_1 4 rfl rfl)
theorem dX0_cellOf_31 : decode cX0_cellOf 31 = .ok (.iload_n 2, 1) := dk_28 (dk_at dksX0_cellOf_1 7 rfl rfl)
theorem dX0_cellOf_32 : decode cX0_cellOf 32 = .ok (.iaload, 1) := dk_46 (dk_at dksX0_cellOf_1 8 rfl rfl)
theorem dX0_cellOf_33 : decode cX0_cellOf 33 = .ok (.ireturn, 1) := dk_172 (dk_at dksX0_cellOf_1 9 rfl rfl)
abbrev cX0_failsLong : ByteArray := prog_1_method_34_code
def yX0_failsLong : MethodName := ⟨RX0, "failsLong", "(I)J"⟩
def dkwX0_failsLong_0 : List UInt8 := [42, 27, 181, 0, 234, 20, 0, 73, 173]
abbrev dktX0_failsLong_0 : List UInt8 := dkwX0_failsLong_0 ++ []
theorem dksX0_failsLong_0 : cX0_failsLong.data.toList.drop 0 = dktX0_failsLong_0 := by decide +kernel
theorem dX0_failsLong_0 : decode cX0_failsLong 0 = .ok (.aload_n 0, 1) := dk_42 (dk_at dksX0_failsLong_0 0 rfl rfl)
theorem dX0_failsLong_1 : decode cX0_failsLong 1 = .ok (.iload_n 1, 1) := dk_27 (dk_at dksX0_failsLong_0 1 rfl rfl)
theorem dX0_failsLong_2 : decode cX0_failsLong 2 = .ok (.putfield 234, 3) := dk_181 0 234 (dk_at dksX0_failsLong_0 2 rfl rfl)
theorem dX0_failsLong_5 : decode cX0_failsLong 5 = .ok (.ldc2_w 73, 3) := dk_20 0 73 (dk_at dksX0_failsLong_0 5 rfl rfl)
theorem dX0_failsLong_8 : decode cX0_failsLong 8 = .ok (.lreturn, 1) := dk_173 (dk_at dksX0_failsLong_0 8 rfl rfl)
abbrev cX0_load : ByteArray := prog_1_method_48_code
def yX0_load : MethodName := ⟨RX0, "load", "(IIII)I"⟩
def dkwX0_load_3 : List UInt8 := [182, 1, 5, 172, 58, 5, 42, 6, 182, 1, 5, 172]
abbrev dktX0_load_3 : List UInt8 := dkwX0_load_3 ++ []
def dkwX0_load_2 : List UInt8 := [182, 1, 51, 172, 58, 5, 42, 4, 182, 1, 5, 172, 58, 5, 42, 5, 182, 1, 5, 172, 58, 5, 42, 7]
abbrev dktX0_load_2 : List UInt8 := dkwX0_load_2 ++ dktX0_load_3
def dkwX0_load_1 : List UInt8 := [16, 254, 182, 0, 249, 172, 42, 3, 181, 0, 234, 42, 42, 27, 182, 1, 16, 28, 29, 21, 4, 184, 1, 47]
abbrev dktX0_load_1 : List UInt8 := dkwX0_load_1 ++ dktX0_load_2
def dkwX0_load_0 : List UInt8 := [27, 184, 0, 246, 153, 0, 9, 42, 2, 182, 0, 249, 172, 28, 3, 5, 184, 0, 50, 154, 0, 10, 42]
abbrev dktX0_load_0 : List UInt8 := dkwX0_load_0 ++ dktX0_load_1
theorem dksX0_load_0 : cX0_load.data.toList.drop 0 = dktX0_load_0 := by decide +kernel
theorem dksX0_load_1 : cX0_load.data.toList.drop 23 = dktX0_load_1 := dk_seg dksX0_load_0 23 rfl rfl
theorem dksX0_load_2 : cX0_load.data.toList.drop 47 = dktX0_load_2 := dk_seg dksX0_load_1 24 rfl rfl
theorem dksX0_load_3 : cX0_load.data.toList.drop 71 = dktX0_load_3 := dk_seg dksX0_load_2 24 rfl rfl
theorem dX0_load_0 : decode cX0_load 0 = .ok (.iload_n 1, 1) := dk_27 (dk_at dksX0_load_0 0 rfl rfl)
theorem dX0_load_1 : decode cX0_load 1 = .ok (.invokestatic 246, 3) := dk_184 0 246 (dk_at dksX0_load_0 1 rfl rfl)
theorem dX0_load_4 : decode cX0_load 4 = .ok (.ifCond .eq 9, 3) := dk_153 0 9 (dk_at dksX0_load_0 4 rfl rfl)
theorem dX0_load_7 : decode cX0_load 7 = .ok (.aload_n 0, 1) := dk_42 (dk_at dksX0_load_0 7 rfl rfl)
theorem dX0_load_8 : decode cX0_load 8 = .ok (.iconst (-1), 1) := dk_2 (dk_at dksX0_load_0 8 rfl rfl)
theorem dX0_load_9 : decode cX0_load 9 = .ok (.invokevirtual 249, 3) := dk_182 0 249 (dk_at dksX0_load_0 9 rfl rfl)
theorem dX0_load_12 : decode cX0_load 12 = .ok (.ireturn, 1) := dk_172 (dk_at dksX0_load_0 12 rfl rfl)
theorem dX0_load_13 : decode cX0_load 13 = .ok (.iload_n 2, 1) := dk_28 (dk_at dksX0_load_0 13 rfl rfl)
theorem dX0_load_14 : decode cX0_load 14 = .ok (.iconst 0, 1) := dk_3 (dk_at dksX0_load_0 14 rfl rfl)
theorem dX0_load_15 : decode cX0_load 15 = .ok (.iconst 2, 1) := dk_5 (dk_at dksX0_load_0 15 rfl rfl)
theorem dX0_load_16 : decode cX0_load 16 = .ok (.invokestatic 50, 3) := dk_184 0 50 (dk_at dksX0_load_0 16 rfl rfl)
theorem dX0_load_19 : decode cX0_load 19 = .ok (.ifCond .ne 10, 3) := dk_154 0 10 (dk_at dksX0_load_0 19 rfl rfl)
theorem dX0_load_22 : decode cX0_load 22 = .ok (.aload_n 0, 1) := dk_42 (dk_at dksX0_load_0 22 rfl rfl)
theorem dX0_load_23 : decode cX0_load 23 = .ok (.bipush (-2), 2) := dk_16 254 (dk_at dksX0_load_1 0 rfl rfl)
theorem dX0_load_25 : decode cX0_load 25 = .ok (.invokevirtual 249, 3) := dk_182 0 249 (dk_at dksX0_load_1 2 rfl rfl)
theorem dX0_load_28 : decode cX0_load 28 = .ok (.ireturn, 1) := dk_172 (dk_at dksX0_load_1 5 rfl rfl)
theorem dX0_load_29 : decode cX0_load 29 = .ok (.aload_n 0, 1) := dk_42 (dk_at dksX0_load_1 6 rfl rfl)
theorem dX0_load_30 : decode cX0_load 30 = .ok (.iconst 0, 1) := dk_3 (dk_at dksX0_load_1 7 rfl rfl)
theorem dX0_load_31 : decode cX0_load 31 = .ok (.putfield 234, 3) := dk_181 0 234 (dk_at dksX0_load_1 8 rfl rfl)
theorem dX0_load_34 : decode cX0_load 34 = .ok (.aload_n 0, 1) := dk_42 (dk_at dksX0_load_1 11 rfl rfl)
theorem dX0_load_35 : decode cX0_load 35 = .ok (.aload_n 0, 1) := dk_42 (dk_at dksX0_load_1 12 rfl rfl)
theorem dX0_load_36 : decode cX0_load 36 = .ok (.iload_n 1, 1) := dk_27 (dk_at dksX0_load_1 13 rfl rfl)
theorem dX0_load_37 : decode cX0_load 37 = .ok (.invokevirtual 272, 3) := dk_182 1 16 (dk_at dksX0_load_1 14 rfl rfl)
theorem dX0_load_40 : decode cX0_load 40 = .ok (.iload_n 2, 1) := dk_28 (dk_at dksX0_load_1 17 rfl rfl)
theorem dX0_load_41 : decode cX0_load 41 = .ok (.iload_n 3, 1) := dk_29 (dk_at dksX0_load_1 18 rfl rfl)
theorem dX0_load_42 : decode cX0_load 42 = .ok (.iload 4, 2) := dk_21 4 (dk_at dksX0_load_1 19 rfl rfl)
theorem dX0_load_44 : decode cX0_load 44 = .ok (.invokestatic 303, 3) := dk_184 1 47 (dk_at dksX0_load_1 21 rfl rfl)
theorem dX0_load_47 : decode cX0_load 47 = .ok (.invokevirtual 307, 3) := dk_182 1 51 (dk_at dksX0_load_2 0 rfl rfl)
theorem dX0_load_50 : decode cX0_load 50 = .ok (.ireturn, 1) := dk_172 (dk_at dksX0_load_2 3 rfl rfl)
theorem dX0_load_51 : decode cX0_load 51 = .ok (.astore 5, 2) := dk_58 5 (dk_at dksX0_load_2 4 rfl rfl)
theorem dX0_load_53 : decode cX0_load 53 = .ok (.aload_n 0, 1) := dk_42 (dk_at dksX0_load_2 6 rfl rfl)
theorem dX0_load_54 : decode cX0_load 54 = .ok (.iconst 1, 1) := dk_4 (dk_at dksX0_load_2 7 rfl rfl)
theorem dX0_load_55 : decode cX0_load 55 = .ok (.invokevirtual 261, 3) := dk_182 1 5 (dk_at dksX0_load_2 8 rfl rfl)
theorem dX0_load_58 : decode cX0_load 58 = .ok (.ireturn, 1) := dk_172 (dk_at dksX0_load_2 11 rfl rfl)
theorem dX0_load_59 : decode cX0_load 59 = .ok (.astore 5, 2) := dk_58 5 (dk_at dksX0_load_2 12 rfl rfl)
theorem dX0_load_61 : decode cX0_load 61 = .ok (.aload_n 0, 1) := dk_42 (dk_at dksX0_load_2 14 rfl rfl)
theorem dX0_load_62 : decode cX0_load 62 = .ok (.iconst 2, 1) := dk_5 (dk_at dksX0_load_2 15 rfl rfl)
theorem dX0_load_63 : decode cX0_load 63 = .ok (.invokevirtual 261, 3) := dk_182 1 5 (dk_at dksX0_load_2 16 rfl rfl)
theorem dX0_load_66 : decode cX0_load 66 = .ok (.ireturn, 1) := dk_172 (dk_at dksX0_load_2 19 rfl rfl)
theorem dX0_load_67 : decode cX0_load 67 = .ok (.astore 5, 2) := dk_58 5 (dk_at dksX0_load_2 20 rfl rfl)
theorem dX0_load_69 : decode cX0_load 69 = .ok (.aload_n 0, 1) := dk_42 (dk_at dksX0_load_2 22 rfl rfl)
theorem dX0_load_70 : decode cX0_load 70 = .ok (.iconst 4, 1) := dk_7 (dk_at dksX0_load_2 23 rfl rfl)
theorem dX0_load_71 : decode cX0_load 71 = .ok (.invokevirtual 261, 3) := dk_182 1 5 (dk_at dksX0_load_3 0 rfl rfl)
theorem dX0_load_74 : decode cX0_load 74 = .ok (.ireturn, 1) := dk_172 (dk_at dksX0_load_3 3 rfl rfl)
theorem dX0_load_75 : decode cX0_load 75 = .ok (.astore 5, 2) := dk_58 5 (dk_at dksX0_load_3 4 rfl rfl)
theorem dX0_load_77 : decode cX0_load 77 = .ok (.aload_n 0, 1) := dk_42 (dk_at dksX0_load_3 6 rfl rfl)
theorem dX0_load_78 : decode cX0_load 78 = .ok (.iconst 3, 1) := dk_6 (dk_at dksX0_load_3 7 rfl rfl)
theorem dX0_load_79 : decode cX0_load 79 = .ok (.invokevirtual 261, 3) := dk_182 1 5 (dk_at dksX0_load_3 8 rfl rfl)
theorem dX0_load_82 : decode cX0_load 82 = .ok (.ireturn, 1) := dk_172 (dk_at dksX0_load_3 11 rfl rfl)
abbrev cX0_cellsOf : ByteArray := prog_1_method_46_code
def yX0_cellsOf : MethodName := ⟨RX0, "cellsOf", "(Ljava/lang/Object;III)[I"⟩
def dkwX0_cellsOf_3 : List UInt8 := [21, 7, 96, 184, 1, 20, 79, 132, 7, 1, 167, 255, 231, 25, 6, 176]
abbrev dktX0_cellsOf_3 : List UInt8 := dkwX0_cellsOf_3 ++ []
def dkwX0_cellsOf_2 : List UInt8 := [190, 104, 188, 10, 58, 6, 3, 54, 7, 21, 7, 25, 6, 190, 162, 0, 23, 25, 6, 21, 7, 42, 27, 28]
abbrev dktX0_cellsOf_2 : List UInt8 := dkwX0_cellsOf_2 ++ dktX0_cellsOf_3
def dkwX0_cellsOf_1 : List UInt8 := [155, 0, 17, 28, 21, 4, 7, 29, 104, 100, 163, 0, 7, 4, 167, 0, 4, 3, 184, 1, 43, 7, 25, 5]
abbrev dktX0_cellsOf_1 : List UInt8 := dkwX0_cellsOf_1 ++ dktX0_cellsOf_2
def dkwX0_cellsOf_0 : List UInt8 := [42, 27, 184, 1, 35, 54, 4, 29, 16, 11, 184, 1, 39, 188, 8, 58, 5, 29, 16, 11, 162, 0, 21, 28]
abbrev dktX0_cellsOf_0 : List UInt8 := dkwX0_cellsOf_0 ++ dktX0_cellsOf_1
theorem dksX0_cellsOf_0 : cX0_cellsOf.data.toList.drop 0 = dktX0_cellsOf_0 := by decide +kernel
theorem dksX0_cellsOf_1 : cX0_cellsOf.data.toList.drop 24 = dktX0_cellsOf_1 := dk_seg dksX0_cellsOf_0 24 rfl rfl
theorem dksX0_cellsOf_2 : cX0_cellsOf.data.toList.drop 48 = dktX0_cellsOf_2 := dk_seg dksX0_cellsOf_1 24 rfl rfl
theorem dksX0_cellsOf_3 : cX0_cellsOf.data.toList.drop 72 = dktX0_cellsOf_3 := dk_seg dksX0_cellsOf_2 24 rfl rfl
theorem dX0_cellsOf_0 : decode cX0_cellsOf 0 = .ok (.aload_n 0, 1) := dk_42 (dk_at dksX0_cellsOf_0 0 rfl rfl)
theorem dX0_cellsOf_1 : decode cX0_cellsOf 1 = .ok (.iload_n 1, 1) := dk_27 (dk_at dksX0_cellsOf_0 1 rfl rfl)
theorem dX0_cellsOf_2 : decode cX0_cellsOf 2 = .ok (.invokestatic 291, 3) := dk_184 1 35 (dk_at dksX0_cellsOf_0 2 rfl rfl)
theorem dX0_cellsOf_5 : decode cX0_cellsOf 5 = .ok (.istore 4, 2) := dk_54 4 (dk_at dksX0_cellsOf_0 5 rfl rfl)
theorem dX0_cellsOf_7 : decode cX0_cellsOf 7 = .ok (.iload_n 3, 1) := dk_29 (dk_at dksX0_cellsOf_0 7 rfl rfl)
theorem dX0_cellsOf_8 : decode cX0_cellsOf 8 = .ok (.bipush 11, 2) := dk_16 11 (dk_at dksX0_cellsOf_0 8 rfl rfl)
theorem dX0_cellsOf_10 : decode cX0_cellsOf 10 = .ok (.invokestatic 295, 3) := dk_184 1 39 (dk_at dksX0_cellsOf_0 10 rfl rfl)
theorem dX0_cellsOf_13 : decode cX0_cellsOf 13 = .ok (.newarray .byte, 2) := dk_188_8 (dk_at dksX0_cellsOf_0 13 rfl rfl)
theorem dX0_cellsOf_15 : decode cX0_cellsOf 15 = .ok (.astore 5, 2) := dk_58 5 (dk_at dksX0_cellsOf_0 15 rfl rfl)
theorem dX0_cellsOf_17 : decode cX0_cellsOf 17 = .ok (.iload_n 3, 1) := dk_29 (dk_at dksX0_cellsOf_0 17 rfl rfl)
theorem dX0_cellsOf_18 : decode cX0_cellsOf 18 = .ok (.bipush 11, 2) := dk_16 11 (dk_at dksX0_cellsOf_0 18 rfl rfl)
theorem dX0_cellsOf_20 : decode cX0_cellsOf 20 = .ok (.if_icmp .ge 21, 3) := dk_162 0 21 (dk_at dksX0_cellsOf_0 20 rfl rfl)
theorem dX0_cellsOf_23 : decode cX0_cellsOf 23 = .ok (.iload_n 2, 1) := dk_28 (dk_at dksX0_cellsOf_0 23 rfl rfl)
theorem dX0_cellsOf_24 : decode cX0_cellsOf 24 = .ok (.ifCond .lt 17, 3) := dk_155 0 17 (dk_at dksX0_cellsOf_1 0 rfl rfl)
theorem dX0_cellsOf_27 : decode cX0_cellsOf 27 = .ok (.iload_n 2, 1) := dk_28 (dk_at dksX0_cellsOf_1 3 rfl rfl)
theorem dX0_cellsOf_28 : decode cX0_cellsOf 28 = .ok (.iload 4, 2) := dk_21 4 (dk_at dksX0_cellsOf_1 4 rfl rfl)
theorem dX0_cellsOf_30 : decode cX0_cellsOf 30 = .ok (.iconst 4, 1) := dk_7 (dk_at dksX0_cellsOf_1 6 rfl rfl)
theorem dX0_cellsOf_31 : decode cX0_cellsOf 31 = .ok (.iload_n 3, 1) := dk_29 (dk_at dksX0_cellsOf_1 7 rfl rfl)
theorem dX0_cellsOf_32 : decode cX0_cellsOf 32 = .ok (.imul, 1) := dk_104 (dk_at dksX0_cellsOf_1 8 rfl rfl)
theorem dX0_cellsOf_33 : decode cX0_cellsOf 33 = .ok (.isub, 1) := dk_100 (dk_at dksX0_cellsOf_1 9 rfl rfl)
theorem dX0_cellsOf_34 : decode cX0_cellsOf 34 = .ok (.if_icmp .gt 7, 3) := dk_163 0 7 (dk_at dksX0_cellsOf_1 10 rfl rfl)
theorem dX0_cellsOf_37 : decode cX0_cellsOf 37 = .ok (.iconst 1, 1) := dk_4 (dk_at dksX0_cellsOf_1 13 rfl rfl)
theorem dX0_cellsOf_38 : decode cX0_cellsOf 38 = .ok (.goto 4, 3) := dk_167 0 4 (dk_at dksX0_cellsOf_1 14 rfl rfl)
theorem dX0_cellsOf_41 : decode cX0_cellsOf 41 = .ok (.iconst 0, 1) := dk_3 (dk_at dksX0_cellsOf_1 17 rfl rfl)
theorem dX0_cellsOf_42 : decode cX0_cellsOf 42 = .ok (.invokestatic 299, 3) := dk_184 1 43 (dk_at dksX0_cellsOf_1 18 rfl rfl)
theorem dX0_cellsOf_45 : decode cX0_cellsOf 45 = .ok (.iconst 4, 1) := dk_7 (dk_at dksX0_cellsOf_1 21 rfl rfl)
theorem dX0_cellsOf_46 : decode cX0_cellsOf 46 = .ok (.aload 5, 2) := dk_25 5 (dk_at dksX0_cellsOf_1 22 rfl rfl)
theorem dX0_cellsOf_48 : decode cX0_cellsOf 48 = .ok (.arraylength, 1) := dk_190 (dk_at dksX0_cellsOf_2 0 rfl rfl)
theorem dX0_cellsOf_49 : decode cX0_cellsOf 49 = .ok (.imul, 1) := dk_104 (dk_at dksX0_cellsOf_2 1 rfl rfl)
theorem dX0_cellsOf_50 : decode cX0_cellsOf 50 = .ok (.newarray .int, 2) := dk_188_10 (dk_at dksX0_cellsOf_2 2 rfl rfl)
theorem dX0_cellsOf_52 : decode cX0_cellsOf 52 = .ok (.astore 6, 2) := dk_58 6 (dk_at dksX0_cellsOf_2 4 rfl rfl)
theorem dX0_cellsOf_54 : decode cX0_cellsOf 54 = .ok (.iconst 0, 1) := dk_3 (dk_at dksX0_cellsOf_2 6 rfl rfl)
theorem dX0_cellsOf_55 : decode cX0_cellsOf 55 = .ok (.istore 7, 2) := dk_54 7 (dk_at dksX0_cellsOf_2 7 rfl rfl)
theorem dX0_cellsOf_57 : decode cX0_cellsOf 57 = .ok (.iload 7, 2) := dk_21 7 (dk_at dksX0_cellsOf_2 9 rfl rfl)
theorem dX0_cellsOf_59 : decode cX0_cellsOf 59 = .ok (.aload 6, 2) := dk_25 6 (dk_at dksX0_cellsOf_2 11 rfl rfl)
theorem dX0_cellsOf_61 : decode cX0_cellsOf 61 = .ok (.arraylength, 1) := dk_190 (dk_at dksX0_cellsOf_2 13 rfl rfl)
theorem dX0_cellsOf_62 : decode cX0_cellsOf 62 = .ok (.if_icmp .ge 23, 3) := dk_162 0 23 (dk_at dksX0_cellsOf_2 14 rfl rfl)
theorem dX0_cellsOf_65 : decode cX0_cellsOf 65 = .ok (.aload 6, 2) := dk_25 6 (dk_at dksX0_cellsOf_2 17 rfl rfl)
theorem dX0_cellsOf_67 : decode cX0_cellsOf 67 = .ok (.iload 7, 2) := dk_21 7 (dk_at dksX0_cellsOf_2 19 rfl rfl)
theorem dX0_cellsOf_69 : decode cX0_cellsOf 69 = .ok (.aload_n 0, 1) := dk_42 (dk_at dksX0_cellsOf_2 21 rfl rfl)
theorem dX0_cellsOf_70 : decode cX0_cellsOf 70 = .ok (.iload_n 1, 1) := dk_27 (dk_at dksX0_cellsOf_2 22 rfl rfl)
theorem dX0_cellsOf_71 : decode cX0_cellsOf 71 = .ok (.iload_n 2, 1) := dk_28 (dk_at dksX0_cellsOf_2 23 rfl rfl)
theorem dX0_cellsOf_72 : decode cX0_cellsOf 72 = .ok (.iload 7, 2) := dk_21 7 (dk_at dksX0_cellsOf_3 0 rfl rfl)
theorem dX0_cellsOf_74 : decode cX0_cellsOf 74 = .ok (.iadd, 1) := dk_96 (dk_at dksX0_cellsOf_3 2 rfl rfl)
theorem dX0_cellsOf_75 : decode cX0_cellsOf 75 = .ok (.invokestatic 276, 3) := dk_184 1 20 (dk_at dksX0_cellsOf_3 3 rfl rfl)
theorem dX0_cellsOf_78 : decode cX0_cellsOf 78 = .ok (.iastore, 1) := dk_79 (dk_at dksX0_cellsOf_3 6 rfl rfl)
theorem dX0_cellsOf_79 : decode cX0_cellsOf 79 = .ok (.iinc 7 1, 3) := dk_132 7 1 (dk_at dksX0_cellsOf_3 7 rfl rfl)
theorem dX0_cellsOf_82 : decode cX0_cellsOf 82 = .ok (.goto (-25), 3) := dk_167 255 231 (dk_at dksX0_cellsOf_3 10 rfl rfl)
theorem dX0_cellsOf_85 : decode cX0_cellsOf 85 = .ok (.aload 6, 2) := dk_25 6 (dk_at dksX0_cellsOf_3 13 rfl rfl)
theorem dX0_cellsOf_87 : decode cX0_cellsOf 87 = .ok (.areturn, 1) := dk_176 (dk_at dksX0_cellsOf_3 15 rfl rfl)
abbrev cX0_sizeOf : ByteArray := prog_1_method_37_code
def yX0_sizeOf : MethodName := ⟨RX0, "sizeOf", "(Ljava/lang/Object;I)I"⟩
def dkwX0_sizeOf_1 : List UInt8 := [167, 0, 8, 42, 192, 0, 241, 190, 172]
abbrev dktX0_sizeOf_1 : List UInt8 := dkwX0_sizeOf_1 ++ []
def dkwX0_sizeOf_0 : List UInt8 := [27, 154, 0, 11, 42, 192, 0, 237, 190, 167, 0, 21, 27, 4, 160, 0, 11, 42, 192, 0, 239, 190]
abbrev dktX0_sizeOf_0 : List UInt8 := dkwX0_sizeOf_0 ++ dktX0_sizeOf_1
theorem dksX0_sizeOf_0 : cX0_sizeOf.data.toList.drop 0 = dktX0_sizeOf_0 := by decide +kernel
theorem dksX0_sizeOf_1 : cX0_sizeOf.data.toList.drop 22 = dktX0_sizeOf_1 := dk_seg dksX0_sizeOf_0 22 rfl rfl
theorem dX0_sizeOf_0 : decode cX0_sizeOf 0 = .ok (.iload_n 1, 1) := dk_27 (dk_at dksX0_sizeOf_0 0 rfl rfl)
theorem dX0_sizeOf_1 : decode cX0_sizeOf 1 = .ok (.ifCond .ne 11, 3) := dk_154 0 11 (dk_at dksX0_sizeOf_0 1 rfl rfl)
theorem dX0_sizeOf_4 : decode cX0_sizeOf 4 = .ok (.aload_n 0, 1) := dk_42 (dk_at dksX0_sizeOf_0 4 rfl rfl)
theorem dX0_sizeOf_5 : decode cX0_sizeOf 5 = .ok (.checkcast 237, 3) := dk_192 0 237 (dk_at dksX0_sizeOf_0 5 rfl rfl)
theorem dX0_sizeOf_8 : decode cX0_sizeOf 8 = .ok (.arraylength, 1) := dk_190 (dk_at dksX0_sizeOf_0 8 rfl rfl)
theorem dX0_sizeOf_9 : decode cX0_sizeOf 9 = .ok (.goto 21, 3) := dk_167 0 21 (dk_at dksX0_sizeOf_0 9 rfl rfl)
theorem dX0_sizeOf_12 : decode cX0_sizeOf 12 = .ok (.iload_n 1, 1) := dk_27 (dk_at dksX0_sizeOf_0 12 rfl rfl)
theorem dX0_sizeOf_13 : decode cX0_sizeOf 13 = .ok (.iconst 1, 1) := dk_4 (dk_at dksX0_sizeOf_0 13 rfl rfl)
theorem dX0_sizeOf_14 : decode cX0_sizeOf 14 = .ok (.if_icmp .ne 11, 3) := dk_160 0 11 (dk_at dksX0_sizeOf_0 14 rfl rfl)
theorem dX0_sizeOf_17 : decode cX0_sizeOf 17 = .ok (.aload_n 0, 1) := dk_42 (dk_at dksX0_sizeOf_0 17 rfl rfl)
theorem dX0_sizeOf_18 : decode cX0_sizeOf 18 = .ok (.checkcast 239, 3) := dk_192 0 239 (dk_at dksX0_sizeOf_0 18 rfl rfl)
theorem dX0_sizeOf_21 : decode cX0_sizeOf 21 = .ok (.arraylength, 1) := dk_190 (dk_at dksX0_sizeOf_0 21 rfl rfl)
theorem dX0_sizeOf_22 : decode cX0_sizeOf 22 = .ok (.goto 8, 3) := dk_167 0 8 (dk_at dksX0_sizeOf_1 0 rfl rfl)
theorem dX0_sizeOf_25 : decode cX0_sizeOf 25 = .ok (.aload_n 0, 1) := dk_42 (dk_at dksX0_sizeOf_1 3 rfl rfl)
theorem dX0_sizeOf_26 : decode cX0_sizeOf 26 = .ok (.checkcast 241, 3) := dk_192 0 241 (dk_at dksX0_sizeOf_1 4 rfl rfl)
theorem dX0_sizeOf_29 : decode cX0_sizeOf 29 = .ok (.arraylength, 1) := dk_190 (dk_at dksX0_sizeOf_1 7 rfl rfl)
theorem dX0_sizeOf_30 : decode cX0_sizeOf 30 = .ok (.ireturn, 1) := dk_172 (dk_at dksX0_sizeOf_1 8 rfl rfl)
abbrev cX0_need : ByteArray := prog_1_method_45_code
def yX0_need : MethodName := ⟨RX0, "need", "(Z)V"⟩
def dkwX0_need_0 : List UInt8 := [26, 154, 0, 14, 187, 1, 14, 89, 19, 1, 30, 183, 1, 32, 191, 177]
abbrev dktX0_need_0 : List UInt8 := dkwX0_need_0 ++ []
theorem dksX0_need_0 : cX0_need.data.toList.drop 0 = dktX0_need_0 := by decide +kernel
theorem dX0_need_0 : decode cX0_need 0 = .ok (.iload_n 0, 1) := dk_26 (dk_at dksX0_need_0 0 rfl rfl)
theorem dX0_need_1 : decode cX0_need 1 = .ok (.ifCond .ne 14, 3) := dk_154 0 14 (dk_at dksX0_need_0 1 rfl rfl)
theorem dX0_need_4 : decode cX0_need 4 = .ok (.new 270, 3) := dk_187 1 14 (dk_at dksX0_need_0 4 rfl rfl)
theorem dX0_need_7 : decode cX0_need 7 = .ok (.dup, 1) := dk_89 (dk_at dksX0_need_0 7 rfl rfl)
theorem dX0_need_8 : decode cX0_need 8 = .ok (.ldc_w 286, 3) := dk_19 1 30 (dk_at dksX0_need_0 8 rfl rfl)
theorem dX0_need_11 : decode cX0_need 11 = .ok (.invokespecial 288, 3) := dk_183 1 32 (dk_at dksX0_need_0 11 rfl rfl)
theorem dX0_need_14 : decode cX0_need 14 = .ok (.athrow, 1) := dk_191 (dk_at dksX0_need_0 14 rfl rfl)
theorem dX0_need_15 : decode cX0_need 15 = .ok (.return_, 1) := dk_177 (dk_at dksX0_need_0 15 rfl rfl)
abbrev cX0_added : ByteArray := prog_1_method_47_code
def yX0_added : MethodName := ⟨RX0, "added", "([I)I"⟩
def dkwX0_added_5 : List UInt8 := [83, 42, 89, 180, 0, 79, 4, 96, 181, 0, 79, 132, 3, 1, 167, 255, 199, 42, 180, 0, 79, 172]
abbrev dktX0_added_5 : List UInt8 := dkwX0_added_5 ++ []
def dkwX0_added_4 : List UInt8 := [43, 7, 29, 104, 4, 96, 46, 43, 7, 29, 104, 5, 96, 46, 43, 7, 29, 104, 6, 96, 46, 182, 0, 98]
abbrev dktX0_added_4 : List UInt8 := dkwX0_added_4 ++ dktX0_added_5
def dkwX0_added_3 : List UInt8 := [16, 252, 172, 3, 62, 29, 28, 162, 0, 58, 42, 180, 0, 19, 42, 180, 0, 79, 42, 43, 7, 29, 104, 46]
abbrev dktX0_added_3 : List UInt8 := dkwX0_added_3 ++ dktX0_added_4
def dkwX0_added_2 : List UInt8 := [156, 0, 6, 21, 4, 172, 132, 3, 1, 167, 255, 208, 42, 180, 0, 79, 28, 96, 17, 0, 240, 164, 0, 6]
abbrev dktX0_added_2 : List UInt8 := dkwX0_added_2 ++ dktX0_added_3
def dkwX0_added_1 : List UInt8 := [46, 43, 7, 29, 104, 5, 96, 46, 43, 7, 29, 104, 6, 96, 46, 182, 0, 94, 54, 4, 21, 4]
abbrev dktX0_added_1 : List UInt8 := dkwX0_added_1 ++ dktX0_added_2
def dkwX0_added_0 : List UInt8 := [43, 190, 7, 108, 61, 3, 62, 29, 28, 162, 0, 49, 42, 43, 7, 29, 104, 46, 43, 7, 29, 104, 4, 96]
abbrev dktX0_added_0 : List UInt8 := dkwX0_added_0 ++ dktX0_added_1
theorem dksX0_added_0 : cX0_added.data.toList.drop 0 = dktX0_added_0 := by decide +kernel
theorem dksX0_added_1 : cX0_added.data.toList.drop 24 = dktX0_added_1 := dk_seg dksX0_added_0 24 rfl rfl
theorem dksX0_added_2 : cX0_added.data.toList.drop 46 = dktX0_added_2 := dk_seg dksX0_added_1 22 rfl rfl
theorem dksX0_added_3 : cX0_added.data.toList.drop 70 = dktX0_added_3 := dk_seg dksX0_added_2 24 rfl rfl
theorem dksX0_added_4 : cX0_added.data.toList.drop 94 = dktX0_added_4 := dk_seg dksX0_added_3 24 rfl rfl
theorem dksX0_added_5 : cX0_added.data.toList.drop 118 = dktX0_added_5 := dk_seg dksX0_added_4 24 rfl rfl
theorem dX0_added_0 : decode cX0_added 0 = .ok (.aload_n 1, 1) := dk_43 (dk_at dksX0_added_0 0 rfl rfl)
theorem dX0_added_1 : decode cX0_added 1 = .ok (.arraylength, 1) := dk_190 (dk_at dksX0_added_0 1 rfl rfl)
theorem dX0_added_2 : decode cX0_added 2 = .ok (.iconst 4, 1) := dk_7 (dk_at dksX0_added_0 2 rfl rfl)
theorem dX0_added_3 : decode cX0_added 3 = .ok (.idiv, 1) := dk_108 (dk_at dksX0_added_0 3 rfl rfl)
theorem dX0_added_4 : decode cX0_added 4 = .ok (.istore_n 2, 1) := dk_61 (dk_at dksX0_added_0 4 rfl rfl)
theorem dX0_added_5 : decode cX0_added 5 = .ok (.iconst 0, 1) := dk_3 (dk_at dksX0_added_0 5 rfl rfl)
theorem dX0_added_6 : decode cX0_added 6 = .ok (.istore_n 3, 1) := dk_62 (dk_at dksX0_added_0 6 rfl rfl)
theorem dX0_added_7 : decode cX0_added 7 = .ok (.iload_n 3, 1) := dk_29 (dk_at dksX0_added_0 7 rfl rfl)
theorem dX0_added_8 : decode cX0_added 8 = .ok (.iload_n 2, 1) := dk_28 (dk_at dksX0_added_0 8 rfl rfl)
theorem dX0_added_9 : decode cX0_added 9 = .ok (.if_icmp .ge 49, 3) := dk_162 0 49 (dk_at dksX0_added_0 9 rfl rfl)
theorem dX0_added_12 : decode cX0_added 12 = .ok (.aload_n 0, 1) := dk_42 (dk_at dksX0_added_0 12 rfl rfl)
theorem dX0_added_13 : decode cX0_added 13 = .ok (.aload_n 1, 1) := dk_43 (dk_at dksX0_added_0 13 rfl rfl)
theorem dX0_added_14 : decode cX0_added 14 = .ok (.iconst 4, 1) := dk_7 (dk_at dksX0_added_0 14 rfl rfl)
theorem dX0_added_15 : decode cX0_added 15 = .ok (.iload_n 3, 1) := dk_29 (dk_at dksX0_added_0 15 rfl rfl)
theorem dX0_added_16 : decode cX0_added 16 = .ok (.imul, 1) := dk_104 (dk_at dksX0_added_0 16 rfl rfl)
theorem dX0_added_17 : decode cX0_added 17 = .ok (.iaload, 1) := dk_46 (dk_at dksX0_added_0 17 rfl rfl)
theorem dX0_added_18 : decode cX0_added 18 = .ok (.aload_n 1, 1) := dk_43 (dk_at dksX0_added_0 18 rfl rfl)
theorem dX0_added_19 : decode cX0_added 19 = .ok (.iconst 4, 1) := dk_7 (dk_at dksX0_added_0 19 rfl rfl)
theorem dX0_added_20 : decode cX0_added 20 = .ok (.iload_n 3, 1) := dk_29 (dk_at dksX0_added_0 20 rfl rfl)
theorem dX0_added_21 : decode cX0_added 21 = .ok (.imul, 1) := dk_104 (dk_at dksX0_added_0 21 rfl rfl)
theorem dX0_added_22 : decode cX0_added 22 = .ok (.iconst 1, 1) := dk_4 (dk_at dksX0_added_0 22 rfl rfl)
theorem dX0_added_23 : decode cX0_added 23 = .ok (.iadd, 1) := dk_96 (dk_at dksX0_added_0 23 rfl rfl)
theorem dX0_added_24 : decode cX0_added 24 = .ok (.iaload, 1) := dk_46 (dk_at dksX0_added_1 0 rfl rfl)
theorem dX0_added_25 : decode cX0_added 25 = .ok (.aload_n 1, 1) := dk_43 (dk_at dksX0_added_1 1 rfl rfl)
theorem dX0_added_26 : decode cX0_added 26 = .ok (.iconst 4, 1) := dk_7 (dk_at dksX0_added_1 2 rfl rfl)
theorem dX0_added_27 : decode cX0_added 27 = .ok (.iload_n 3, 1) := dk_29 (dk_at dksX0_added_1 3 rfl rfl)
theorem dX0_added_28 : decode cX0_added 28 = .ok (.imul, 1) := dk_104 (dk_at dksX0_added_1 4 rfl rfl)
theorem dX0_added_29 : decode cX0_added 29 = .ok (.iconst 2, 1) := dk_5 (dk_at dksX0_added_1 5 rfl rfl)
theorem dX0_added_30 : decode cX0_added 30 = .ok (.iadd, 1) := dk_96 (dk_at dksX0_added_1 6 rfl rfl)
theorem dX0_added_31 : decode cX0_added 31 = .ok (.iaload, 1) := dk_46 (dk_at dksX0_added_1 7 rfl rfl)
theorem dX0_added_32 : decode cX0_added 32 = .ok (.aload_n 1, 1) := dk_43 (dk_at dksX0_added_1 8 rfl rfl)
theorem dX0_added_33 : decode cX0_added 33 = .ok (.iconst 4, 1) := dk_7 (dk_at dksX0_added_1 9 rfl rfl)
theorem dX0_added_34 : decode cX0_added 34 = .ok (.iload_n 3, 1) := dk_29 (dk_at dksX0_added_1 10 rfl rfl)
theorem dX0_added_35 : decode cX0_added 35 = .ok (.imul, 1) := dk_104 (dk_at dksX0_added_1 11 rfl rfl)
theorem dX0_added_36 : decode cX0_added 36 = .ok (.iconst 3, 1) := dk_6 (dk_at dksX0_added_1 12 rfl rfl)
theorem dX0_added_37 : decode cX0_added 37 = .ok (.iadd, 1) := dk_96 (dk_at dksX0_added_1 13 rfl rfl)
theorem dX0_added_38 : decode cX0_added 38 = .ok (.iaload, 1) := dk_46 (dk_at dksX0_added_1 14 rfl rfl)
theorem dX0_added_39 : decode cX0_added 39 = .ok (.invokevirtual 94, 3) := dk_182 0 94 (dk_at dksX0_added_1 15 rfl rfl)
theorem dX0_added_42 : decode cX0_added 42 = .ok (.istore 4, 2) := dk_54 4 (dk_at dksX0_added_1 18 rfl rfl)
theorem dX0_added_44 : decode cX0_added 44 = .ok (.iload 4, 2) := dk_21 4 (dk_at dksX0_added_1 20 rfl rfl)
theorem dX0_added_46 : decode cX0_added 46 = .ok (.ifCond .ge 6, 3) := dk_156 0 6 (dk_at dksX0_added_2 0 rfl rfl)
theorem dX0_added_49 : decode cX0_added 49 = .ok (.iload 4, 2) := dk_21 4 (dk_at dksX0_added_2 3 rfl rfl)
theorem dX0_added_51 : decode cX0_added 51 = .ok (.ireturn, 1) := dk_172 (dk_at dksX0_added_2 5 rfl rfl)
theorem dX0_added_52 : decode cX0_added 52 = .ok (.iinc 3 1, 3) := dk_132 3 1 (dk_at dksX0_added_2 6 rfl rfl)
theorem dX0_added_55 : decode cX0_added 55 = .ok (.goto (-48), 3) := dk_167 255 208 (dk_at dksX0_added_2 9 rfl rfl)
theorem dX0_added_58 : decode cX0_added 58 = .ok (.aload_n 0, 1) := dk_42 (dk_at dksX0_added_2 12 rfl rfl)
theorem dX0_added_59 : decode cX0_added 59 = .ok (.getfield 79, 3) := dk_180 0 79 (dk_at dksX0_added_2 13 rfl rfl)
theorem dX0_added_62 : decode cX0_added 62 = .ok (.iload_n 2, 1) := dk_28 (dk_at dksX0_added_2 16 rfl rfl)
theorem dX0_added_63 : decode cX0_added 63 = .ok (.iadd, 1) := dk_96 (dk_at dksX0_added_2 17 rfl rfl)
theorem dX0_added_64 : decode cX0_added 64 = .ok (.sipush 240, 3) := dk_17 0 240 (dk_at dksX0_added_2 18 rfl rfl)
theorem dX0_added_67 : decode cX0_added 67 = .ok (.if_icmp .le 6, 3) := dk_164 0 6 (dk_at dksX0_added_2 21 rfl rfl)
theorem dX0_added_70 : decode cX0_added 70 = .ok (.bipush (-4), 2) := dk_16 252 (dk_at dksX0_added_3 0 rfl rfl)
theorem dX0_added_72 : decode cX0_added 72 = .ok (.ireturn, 1) := dk_172 (dk_at dksX0_added_3 2 rfl rfl)
theorem dX0_added_73 : decode cX0_added 73 = .ok (.iconst 0, 1) := dk_3 (dk_at dksX0_added_3 3 rfl rfl)
theorem dX0_added_74 : decode cX0_added 74 = .ok (.istore_n 3, 1) := dk_62 (dk_at dksX0_added_3 4 rfl rfl)
theorem dX0_added_75 : decode cX0_added 75 = .ok (.iload_n 3, 1) := dk_29 (dk_at dksX0_added_3 5 rfl rfl)
theorem dX0_added_76 : decode cX0_added 76 = .ok (.iload_n 2, 1) := dk_28 (dk_at dksX0_added_3 6 rfl rfl)
theorem dX0_added_77 : decode cX0_added 77 = .ok (.if_icmp .ge 58, 3) := dk_162 0 58 (dk_at dksX0_added_3 7 rfl rfl)
theorem dX0_added_80 : decode cX0_added 80 = .ok (.aload_n 0, 1) := dk_42 (dk_at dksX0_added_3 10 rfl rfl)
theorem dX0_added_81 : decode cX0_added 81 = .ok (.getfield 19, 3) := dk_180 0 19 (dk_at dksX0_added_3 11 rfl rfl)
theorem dX0_added_84 : decode cX0_added 84 = .ok (.aload_n 0, 1) := dk_42 (dk_at dksX0_added_3 14 rfl rfl)
theorem dX0_added_85 : decode cX0_added 85 = .ok (.getfield 79, 3) := dk_180 0 79 (dk_at dksX0_added_3 15 rfl rfl)
theorem dX0_added_88 : decode cX0_added 88 = .ok (.aload_n 0, 1) := dk_42 (dk_at dksX0_added_3 18 rfl rfl)
theorem dX0_added_89 : decode cX0_added 89 = .ok (.aload_n 1, 1) := dk_43 (dk_at dksX0_added_3 19 rfl rfl)
theorem dX0_added_90 : decode cX0_added 90 = .ok (.iconst 4, 1) := dk_7 (dk_at dksX0_added_3 20 rfl rfl)
theorem dX0_added_91 : decode cX0_added 91 = .ok (.iload_n 3, 1) := dk_29 (dk_at dksX0_added_3 21 rfl rfl)
theorem dX0_added_92 : decode cX0_added 92 = .ok (.imul, 1) := dk_104 (dk_at dksX0_added_3 22 rfl rfl)
theorem dX0_added_93 : decode cX0_added 93 = .ok (.iaload, 1) := dk_46 (dk_at dksX0_added_3 23 rfl rfl)
theorem dX0_added_94 : decode cX0_added 94 = .ok (.aload_n 1, 1) := dk_43 (dk_at dksX0_added_4 0 rfl rfl)
theorem dX0_added_95 : decode cX0_added 95 = .ok (.iconst 4, 1) := dk_7 (dk_at dksX0_added_4 1 rfl rfl)
theorem dX0_added_96 : decode cX0_added 96 = .ok (.iload_n 3, 1) := dk_29 (dk_at dksX0_added_4 2 rfl rfl)
theorem dX0_added_97 : decode cX0_added 97 = .ok (.imul, 1) := dk_104 (dk_at dksX0_added_4 3 rfl rfl)
theorem dX0_added_98 : decode cX0_added 98 = .ok (.iconst 1, 1) := dk_4 (dk_at dksX0_added_4 4 rfl rfl)
theorem dX0_added_99 : decode cX0_added 99 = .ok (.iadd, 1) := dk_96 (dk_at dksX0_added_4 5 rfl rfl)
theorem dX0_added_100 : decode cX0_added 100 = .ok (.iaload, 1) := dk_46 (dk_at dksX0_added_4 6 rfl rfl)
theorem dX0_added_101 : decode cX0_added 101 = .ok (.aload_n 1, 1) := dk_43 (dk_at dksX0_added_4 7 rfl rfl)
theorem dX0_added_102 : decode cX0_added 102 = .ok (.iconst 4, 1) := dk_7 (dk_at dksX0_added_4 8 rfl rfl)
theorem dX0_added_103 : decode cX0_added 103 = .ok (.iload_n 3, 1) := dk_29 (dk_at dksX0_added_4 9 rfl rfl)
theorem dX0_added_104 : decode cX0_added 104 = .ok (.imul, 1) := dk_104 (dk_at dksX0_added_4 10 rfl rfl)
theorem dX0_added_105 : decode cX0_added 105 = .ok (.iconst 2, 1) := dk_5 (dk_at dksX0_added_4 11 rfl rfl)
theorem dX0_added_106 : decode cX0_added 106 = .ok (.iadd, 1) := dk_96 (dk_at dksX0_added_4 12 rfl rfl)
theorem dX0_added_107 : decode cX0_added 107 = .ok (.iaload, 1) := dk_46 (dk_at dksX0_added_4 13 rfl rfl)
theorem dX0_added_108 : decode cX0_added 108 = .ok (.aload_n 1, 1) := dk_43 (dk_at dksX0_added_4 14 rfl rfl)
theorem dX0_added_109 : decode cX0_added 109 = .ok (.iconst 4, 1) := dk_7 (dk_at dksX0_added_4 15 rfl rfl)
theorem dX0_added_110 : decode cX0_added 110 = .ok (.iload_n 3, 1) := dk_29 (dk_at dksX0_added_4 16 rfl rfl)
theorem dX0_added_111 : decode cX0_added 111 = .ok (.imul, 1) := dk_104 (dk_at dksX0_added_4 17 rfl rfl)
theorem dX0_added_112 : decode cX0_added 112 = .ok (.iconst 3, 1) := dk_6 (dk_at dksX0_added_4 18 rfl rfl)
theorem dX0_added_113 : decode cX0_added 113 = .ok (.iadd, 1) := dk_96 (dk_at dksX0_added_4 19 rfl rfl)
theorem dX0_added_114 : decode cX0_added 114 = .ok (.iaload, 1) := dk_46 (dk_at dksX0_added_4 20 rfl rfl)
theorem dX0_added_115 : decode cX0_added 115 = .ok (.invokevirtual 98, 3) := dk_182 0 98 (dk_at dksX0_added_4 21 rfl rfl)
theorem dX0_added_118 : decode cX0_added 118 = .ok (.aastore, 1) := dk_83 (dk_at dksX0_added_5 0 rfl rfl)
theorem dX0_added_119 : decode cX0_added 119 = .ok (.aload_n 0, 1) := dk_42 (dk_at dksX0_added_5 1 rfl rfl)
theorem dX0_added_120 : decode cX0_added 120 = .ok (.dup, 1) := dk_89 (dk_at dksX0_added_5 2 rfl rfl)
theorem dX0_added_121 : decode cX0_added 121 = .ok (.getfield 79, 3) := dk_180 0 79 (dk_at dksX0_added_5 3 rfl rfl)
theorem dX0_added_124 : decode cX0_added 124 = .ok (.iconst 1, 1) := dk_4 (dk_at dksX0_added_5 6 rfl rfl)
theorem dX0_added_125 : decode cX0_added 125 = .ok (.iadd, 1) := dk_96 (dk_at dksX0_added_5 7 rfl rfl)
theorem dX0_added_126 : decode cX0_added 126 = .ok (.putfield 79, 3) := dk_181 0 79 (dk_at dksX0_added_5 8 rfl rfl)
theorem dX0_added_129 : decode cX0_added 129 = .ok (.iinc 3 1, 3) := dk_132 3 1 (dk_at dksX0_added_5 11 rfl rfl)
theorem dX0_added_132 : decode cX0_added 132 = .ok (.goto (-57), 3) := dk_167 255 199 (dk_at dksX0_added_5 14 rfl rfl)
theorem dX0_added_135 : decode cX0_added 135 = .ok (.aload_n 0, 1) := dk_42 (dk_at dksX0_added_5 17 rfl rfl)
theorem dX0_added_136 : decode cX0_added 136 = .ok (.getfield 79, 3) := dk_180 0 79 (dk_at dksX0_added_5 18 rfl rfl)
theorem dX0_added_139 : decode cX0_added 139 = .ok (.ireturn, 1) := dk_172 (dk_at dksX0_added_5 21 rfl rfl)
abbrev cX0_tell : ByteArray := prog_1_method_49_code
def yX0_tell : MethodName := ⟨RX0, "tell", "(I)I"⟩
def dkwX0_tell_0 : List UInt8 := [42, 27, 182, 0, 127, 153, 0, 7, 2, 167, 0, 12, 42, 180, 0, 19, 27, 50, 182, 1, 55, 172]
abbrev dktX0_tell_0 : List UInt8 := dkwX0_tell_0 ++ []
theorem dksX0_tell_0 : cX0_tell.data.toList.drop 0 = dktX0_tell_0 := by decide +kernel
theorem dX0_tell_0 : decode cX0_tell 0 = .ok (.aload_n 0, 1) := dk_42 (dk_at dksX0_tell_0 0 rfl rfl)
theorem dX0_tell_1 : decode cX0_tell 1 = .ok (.iload_n 1, 1) := dk_27 (dk_at dksX0_tell_0 1 rfl rfl)
theorem dX0_tell_2 : decode cX0_tell 2 = .ok (.invokevirtual 127, 3) := dk_182 0 127 (dk_at dksX0_tell_0 2 rfl rfl)
theorem dX0_tell_5 : decode cX0_tell 5 = .ok (.ifCond .eq 7, 3) := dk_153 0 7 (dk_at dksX0_tell_0 5 rfl rfl)
theorem dX0_tell_8 : decode cX0_tell 8 = .ok (.iconst (-1), 1) := dk_2 (dk_at dksX0_tell_0 8 rfl rfl)
theorem dX0_tell_9 : decode cX0_tell 9 = .ok (.goto 12, 3) := dk_167 0 12 (dk_at dksX0_tell_0 9 rfl rfl)
theorem dX0_tell_12 : decode cX0_tell 12 = .ok (.aload_n 0, 1) := dk_42 (dk_at dksX0_tell_0 12 rfl rfl)
theorem dX0_tell_13 : decode cX0_tell 13 = .ok (.getfield 19, 3) := dk_180 0 19 (dk_at dksX0_tell_0 13 rfl rfl)
theorem dX0_tell_16 : decode cX0_tell 16 = .ok (.iload_n 1, 1) := dk_27 (dk_at dksX0_tell_0 16 rfl rfl)
theorem dX0_tell_17 : decode cX0_tell 17 = .ok (.aaload, 1) := dk_50 (dk_at dksX0_tell_0 17 rfl rfl)
theorem dX0_tell_18 : decode cX0_tell 18 = .ok (.invokevirtual 311, 3) := dk_182 1 55 (dk_at dksX0_tell_0 18 rfl rfl)
theorem dX0_tell_21 : decode cX0_tell 21 = .ok (.ireturn, 1) := dk_172 (dk_at dksX0_tell_0 21 rfl rfl)
abbrev cX0_weigh : ByteArray := prog_1_method_50_code
def yX0_weigh : MethodName := ⟨RX0, "weigh", "(I)I"⟩
def dkwX0_weigh_0 : List UInt8 := [42, 27, 182, 0, 127, 153, 0, 7, 2, 167, 0, 12, 42, 180, 0, 19, 27, 50, 182, 1, 58, 172]
abbrev dktX0_weigh_0 : List UInt8 := dkwX0_weigh_0 ++ []
theorem dksX0_weigh_0 : cX0_weigh.data.toList.drop 0 = dktX0_weigh_0 := by decide +kernel
theorem dX0_weigh_0 : decode cX0_weigh 0 = .ok (.aload_n 0, 1) := dk_42 (dk_at dksX0_weigh_0 0 rfl rfl)
theorem dX0_weigh_1 : decode cX0_weigh 1 = .ok (.iload_n 1, 1) := dk_27 (dk_at dksX0_weigh_0 1 rfl rfl)
theorem dX0_weigh_2 : decode cX0_weigh 2 = .ok (.invokevirtual 127, 3) := dk_182 0 127 (dk_at dksX0_weigh_0 2 rfl rfl)
theorem dX0_weigh_5 : decode cX0_weigh 5 = .ok (.ifCond .eq 7, 3) := dk_153 0 7 (dk_at dksX0_weigh_0 5 rfl rfl)
theorem dX0_weigh_8 : decode cX0_weigh 8 = .ok (.iconst (-1), 1) := dk_2 (dk_at dksX0_weigh_0 8 rfl rfl)
theorem dX0_weigh_9 : decode cX0_weigh 9 = .ok (.goto 12, 3) := dk_167 0 12 (dk_at dksX0_weigh_0 9 rfl rfl)
theorem dX0_weigh_12 : decode cX0_weigh 12 = .ok (.aload_n 0, 1) := dk_42 (dk_at dksX0_weigh_0 12 rfl rfl)
theorem dX0_weigh_13 : decode cX0_weigh 13 = .ok (.getfield 19, 3) := dk_180 0 19 (dk_at dksX0_weigh_0 13 rfl rfl)
theorem dX0_weigh_16 : decode cX0_weigh 16 = .ok (.iload_n 1, 1) := dk_27 (dk_at dksX0_weigh_0 16 rfl rfl)
theorem dX0_weigh_17 : decode cX0_weigh 17 = .ok (.aaload, 1) := dk_50 (dk_at dksX0_weigh_0 17 rfl rfl)
theorem dX0_weigh_18 : decode cX0_weigh 18 = .ok (.invokevirtual 314, 3) := dk_182 1 58 (dk_at dksX0_weigh_0 18 rfl rfl)
theorem dX0_weigh_21 : decode cX0_weigh 21 = .ok (.ireturn, 1) := dk_172 (dk_at dksX0_weigh_0 21 rfl rfl)
abbrev cX0_as : ByteArray := prog_1_method_52_code
def yX0_as : MethodName := ⟨RX0, "as", "(II)I"⟩
def dkwX0_as_2 : List UInt8 := [4, 167, 0, 4, 3, 172, 78, 42, 5, 182, 1, 5, 172]
abbrev dktX0_as_2 : List UInt8 := dkwX0_as_2 ++ []
def dkwX0_as_1 : List UInt8 := [16, 254, 182, 0, 249, 172, 42, 3, 181, 0, 234, 42, 180, 0, 19, 27, 50, 28, 184, 1, 64, 155, 0, 7]
abbrev dktX0_as_1 : List UInt8 := dkwX0_as_1 ++ dktX0_as_2
def dkwX0_as_0 : List UInt8 := [42, 27, 182, 0, 127, 153, 0, 9, 42, 2, 182, 0, 249, 172, 28, 3, 6, 184, 0, 50, 154, 0, 10, 42]
abbrev dktX0_as_0 : List UInt8 := dkwX0_as_0 ++ dktX0_as_1
theorem dksX0_as_0 : cX0_as.data.toList.drop 0 = dktX0_as_0 := by decide +kernel
theorem dksX0_as_1 : cX0_as.data.toList.drop 24 = dktX0_as_1 := dk_seg dksX0_as_0 24 rfl rfl
theorem dksX0_as_2 : cX0_as.data.toList.drop 48 = dktX0_as_2 := dk_seg dksX0_as_1 24 rfl rfl
theorem dX0_as_0 : decode cX0_as 0 = .ok (.aload_n 0, 1) := dk_42 (dk_at dksX0_as_0 0 rfl rfl)
theorem dX0_as_1 : decode cX0_as 1 = .ok (.iload_n 1, 1) := dk_27 (dk_at dksX0_as_0 1 rfl rfl)
theorem dX0_as_2 : decode cX0_as 2 = .ok (.invokevirtual 127, 3) := dk_182 0 127 (dk_at dksX0_as_0 2 rfl rfl)
theorem dX0_as_5 : decode cX0_as 5 = .ok (.ifCond .eq 9, 3) := dk_153 0 9 (dk_at dksX0_as_0 5 rfl rfl)
theorem dX0_as_8 : decode cX0_as 8 = .ok (.aload_n 0, 1) := dk_42 (dk_at dksX0_as_0 8 rfl rfl)
theorem dX0_as_9 : decode cX0_as 9 = .ok (.iconst (-1), 1) := dk_2 (dk_at dksX0_as_0 9 rfl rfl)
theorem dX0_as_10 : decode cX0_as 10 = .ok (.invokevirtual 249, 3) := dk_182 0 249 (dk_at dksX0_as_0 10 rfl rfl)
theorem dX0_as_13 : decode cX0_as 13 = .ok (.ireturn, 1) := dk_172 (dk_at dksX0_as_0 13 rfl rfl)
theorem dX0_as_14 : decode cX0_as 14 = .ok (.iload_n 2, 1) := dk_28 (dk_at dksX0_as_0 14 rfl rfl)
theorem dX0_as_15 : decode cX0_as 15 = .ok (.iconst 0, 1) := dk_3 (dk_at dksX0_as_0 15 rfl rfl)
theorem dX0_as_16 : decode cX0_as 16 = .ok (.iconst 3, 1) := dk_6 (dk_at dksX0_as_0 16 rfl rfl)
theorem dX0_as_17 : decode cX0_as 17 = .ok (.invokestatic 50, 3) := dk_184 0 50 (dk_at dksX0_as_0 17 rfl rfl)
theorem dX0_as_20 : decode cX0_as 20 = .ok (.ifCond .ne 10, 3) := dk_154 0 10 (dk_at dksX0_as_0 20 rfl rfl)
theorem dX0_as_23 : decode cX0_as 23 = .ok (.aload_n 0, 1) := dk_42 (dk_at dksX0_as_0 23 rfl rfl)
theorem dX0_as_24 : decode cX0_as 24 = .ok (.bipush (-2), 2) := dk_16 254 (dk_at dksX0_as_1 0 rfl rfl)
theorem dX0_as_26 : decode cX0_as 26 = .ok (.invokevirtual 249, 3) := dk_182 0 249 (dk_at dksX0_as_1 2 rfl rfl)
theorem dX0_as_29 : decode cX0_as 29 = .ok (.ireturn, 1) := dk_172 (dk_at dksX0_as_1 5 rfl rfl)
theorem dX0_as_30 : decode cX0_as 30 = .ok (.aload_n 0, 1) := dk_42 (dk_at dksX0_as_1 6 rfl rfl)
theorem dX0_as_31 : decode cX0_as 31 = .ok (.iconst 0, 1) := dk_3 (dk_at dksX0_as_1 7 rfl rfl)
theorem dX0_as_32 : decode cX0_as 32 = .ok (.putfield 234, 3) := dk_181 0 234 (dk_at dksX0_as_1 8 rfl rfl)
theorem dX0_as_35 : decode cX0_as 35 = .ok (.aload_n 0, 1) := dk_42 (dk_at dksX0_as_1 11 rfl rfl)
theorem dX0_as_36 : decode cX0_as 36 = .ok (.getfield 19, 3) := dk_180 0 19 (dk_at dksX0_as_1 12 rfl rfl)
theorem dX0_as_39 : decode cX0_as 39 = .ok (.iload_n 1, 1) := dk_27 (dk_at dksX0_as_1 15 rfl rfl)
theorem dX0_as_40 : decode cX0_as 40 = .ok (.aaload, 1) := dk_50 (dk_at dksX0_as_1 16 rfl rfl)
theorem dX0_as_41 : decode cX0_as 41 = .ok (.iload_n 2, 1) := dk_28 (dk_at dksX0_as_1 17 rfl rfl)
theorem dX0_as_42 : decode cX0_as 42 = .ok (.invokestatic 320, 3) := dk_184 1 64 (dk_at dksX0_as_1 18 rfl rfl)
theorem dX0_as_45 : decode cX0_as 45 = .ok (.ifCond .lt 7, 3) := dk_155 0 7 (dk_at dksX0_as_1 21 rfl rfl)
theorem dX0_as_48 : decode cX0_as 48 = .ok (.iconst 1, 1) := dk_4 (dk_at dksX0_as_2 0 rfl rfl)
theorem dX0_as_49 : decode cX0_as 49 = .ok (.goto 4, 3) := dk_167 0 4 (dk_at dksX0_as_2 1 rfl rfl)
theorem dX0_as_52 : decode cX0_as 52 = .ok (.iconst 0, 1) := dk_3 (dk_at dksX0_as_2 4 rfl rfl)
theorem dX0_as_53 : decode cX0_as 53 = .ok (.ireturn, 1) := dk_172 (dk_at dksX0_as_2 5 rfl rfl)
theorem dX0_as_54 : decode cX0_as 54 = .ok (.astore_n 3, 1) := dk_78 (dk_at dksX0_as_2 6 rfl rfl)
theorem dX0_as_55 : decode cX0_as 55 = .ok (.aload_n 0, 1) := dk_42 (dk_at dksX0_as_2 7 rfl rfl)
theorem dX0_as_56 : decode cX0_as 56 = .ok (.iconst 2, 1) := dk_5 (dk_at dksX0_as_2 8 rfl rfl)
theorem dX0_as_57 : decode cX0_as 57 = .ok (.invokevirtual 261, 3) := dk_182 1 5 (dk_at dksX0_as_2 9 rfl rfl)
theorem dX0_as_60 : decode cX0_as 60 = .ok (.ireturn, 1) := dk_172 (dk_at dksX0_as_2 12 rfl rfl)
abbrev cX0_taken : ByteArray := prog_1_method_51_code
def yX0_taken : MethodName := ⟨RX0, "taken", "(LTankField$Plain;I)I"⟩
def dkwX0_taken_3 : List UInt8 := [42, 180, 0, 108, 172]
abbrev dktX0_taken_3 : List UInt8 := dkwX0_taken_3 ++ []
def dkwX0_taken_2 : List UInt8 := [42, 192, 0, 88, 180, 1, 61, 172, 42, 192, 0, 85, 180, 1, 62, 172, 42, 192, 0, 91, 180, 1, 63, 172]
abbrev dktX0_taken_2 : List UInt8 := dkwX0_taken_2 ++ dktX0_taken_3
def dkwX0_taken_1 : List UInt8 := [170, 0, 0, 0, 0, 0, 51, 0, 0, 0, 1, 0, 0, 0, 3, 0, 0, 0, 27, 0, 0, 0, 35, 0, 0, 0, 43]
abbrev dktX0_taken_1 : List UInt8 := dkwX0_taken_1 ++ dktX0_taken_2
def dkwX0_taken_0 : List UInt8 := [27]
abbrev dktX0_taken_0 : List UInt8 := dkwX0_taken_0 ++ dktX0_taken_1
theorem dksX0_taken_0 : cX0_taken.data.toList.drop 0 = dktX0_taken_0 := by decide +kernel
theorem dksX0_taken_1 : cX0_taken.data.toList.drop 1 = dktX0_taken_1 := dk_seg dksX0_taken_0 1 rfl rfl
theorem dksX0_taken_2 : cX0_taken.data.toList.drop 28 = dktX0_taken_2 := dk_seg dksX0_taken_1 27 rfl rfl
theorem dksX0_taken_3 : cX0_taken.data.toList.drop 52 = dktX0_taken_3 := dk_seg dksX0_taken_2 24 rfl rfl
theorem dX0_taken_0 : decode cX0_taken 0 = .ok (.iload_n 1, 1) := dk_27 (dk_at dksX0_taken_0 0 rfl rfl)
theorem dX0_taken_1 : decode cX0_taken 1 = .ok (.tableswitch 51 1 3 #[27, 35, 43], 27) := by decide +kernel
theorem dX0_taken_28 : decode cX0_taken 28 = .ok (.aload_n 0, 1) := dk_42 (dk_at dksX0_taken_2 0 rfl rfl)
theorem dX0_taken_29 : decode cX0_taken 29 = .ok (.checkcast 88, 3) := dk_192 0 88 (dk_at dksX0_taken_2 1 rfl rfl)
theorem dX0_taken_32 : decode cX0_taken 32 = .ok (.getfield 317, 3) := dk_180 1 61 (dk_at dksX0_taken_2 4 rfl rfl)
theorem dX0_taken_35 : decode cX0_taken 35 = .ok (.ireturn, 1) := dk_172 (dk_at dksX0_taken_2 7 rfl rfl)
theorem dX0_taken_36 : decode cX0_taken 36 = .ok (.aload_n 0, 1) := dk_42 (dk_at dksX0_taken_2 8 rfl rfl)
theorem dX0_taken_37 : decode cX0_taken 37 = .ok (.checkcast 85, 3) := dk_192 0 85 (dk_at dksX0_taken_2 9 rfl rfl)
theorem dX0_taken_40 : decode cX0_taken 40 = .ok (.getfield 318, 3) := dk_180 1 62 (dk_at dksX0_taken_2 12 rfl rfl)
theorem dX0_taken_43 : decode cX0_taken 43 = .ok (.ireturn, 1) := dk_172 (dk_at dksX0_taken_2 15 rfl rfl)
theorem dX0_taken_44 : decode cX0_taken 44 = .ok (.aload_n 0, 1) := dk_42 (dk_at dksX0_taken_2 16 rfl rfl)
theorem dX0_taken_45 : decode cX0_taken 45 = .ok (.checkcast 91, 3) := dk_192 0 91 (dk_at dksX0_taken_2 17 rfl rfl)
theorem dX0_taken_48 : decode cX0_taken 48 = .ok (.getfield 319, 3) := dk_180 1 63 (dk_at dksX0_taken_2 20 rfl rfl)
theorem dX0_taken_51 : decode cX0_taken 51 = .ok (.ireturn, 1) := dk_172 (dk_at dksX0_taken_2 23 rfl rfl)
theorem dX0_taken_52 : decode cX0_taken 52 = .ok (.aload_n 0, 1) := dk_42 (dk_at dksX0_taken_3 0 rfl rfl)
theorem dX0_taken_53 : decode cX0_taken 53 = .ok (.getfield 108, 3) := dk_180 0 108 (dk_at dksX0_taken_3 1 rfl rfl)
theorem dX0_taken_56 : decode cX0_taken 56 = .ok (.ireturn, 1) := dk_172 (dk_at dksX0_taken_3 4 rfl rfl)
abbrev cX0_trace : ByteArray := prog_1_method_53_code
def yX0_trace : MethodName := ⟨RX0, "trace", "()I"⟩
theorem dX0_trace_0 : decode cX0_trace 0 = .ok (.aload_n 0, 1) := by decide +kernel
theorem dX0_trace_1 : decode cX0_trace 1 = .ok (.getfield 324, 3) := by decide +kernel
theorem dX0_trace_4 : decode cX0_trace 4 = .ok (.ireturn, 1) := by decide +kernel
abbrev cX0_fault : ByteArray := prog_1_method_54_code
def yX0_fault : MethodName := ⟨RX0, "fault", "()I"⟩
theorem dX0_fault_0 : decode cX0_fault 0 = .ok (.aload_n 0, 1) := by decide +kernel
theorem dX0_fault_1 : decode cX0_fault 1 = .ok (.getfield 234, 3) := by decide +kernel
theorem dX0_fault_4 : decode cX0_fault 4 = .ok (.ireturn, 1) := by decide +kernel
abbrev cX0_told : ByteArray := prog_1_method_55_code
def yX0_told : MethodName := ⟨RX0, "told", "(I)I"⟩
def dkwX0_told_3 : List UInt8 := [180, 0, 67, 172, 42, 180, 0, 184, 172, 42, 180, 0, 23, 27, 16, 6, 100, 46, 172, 16, 254, 172]
abbrev dktX0_told_3 : List UInt8 := dkwX0_told_3 ++ []
def dkwX0_told_2 : List UInt8 := [42, 180, 0, 46, 172, 42, 180, 0, 79, 172, 42, 180, 0, 30, 180, 0, 115, 172, 42, 180, 0, 61, 172, 42]
abbrev dktX0_told_2 : List UInt8 := dkwX0_told_2 ++ dktX0_told_3
def dkwX0_told_1 : List UInt8 := [170, 0, 0, 0, 0, 0, 98, 0, 0, 0, 0, 0, 0, 0, 9, 0, 0, 0, 55, 0, 0, 0, 60, 0, 0, 0, 65, 0, 0, 0, 73, 0, 0, 0, 78, 0, 0, 0, 83, 0, 0, 0, 88, 0, 0, 0, 88, 0, 0, 0, 88, 0, 0, 0, 88]
abbrev dktX0_told_1 : List UInt8 := dkwX0_told_1 ++ dktX0_told_2
def dkwX0_told_0 : List UInt8 := [27]
abbrev dktX0_told_0 : List UInt8 := dkwX0_told_0 ++ dktX0_told_1
theorem dksX0_told_0 : cX0_told.data.toList.drop 0 = dktX0_told_0 := by decide +kernel
theorem dksX0_told_1 : cX0_told.data.toList.drop 1 = dktX0_told_1 := dk_seg dksX0_told_0 1 rfl rfl
theorem dksX0_told_2 : cX0_told.data.toList.drop 56 = dktX0_told_2 := dk_seg dksX0_told_1 55 rfl rfl
theorem dksX0_told_3 : cX0_told.data.toList.drop 80 = dktX0_told_3 := dk_seg dksX0_told_2 24 rfl rfl
theorem dX0_told_0 : decode cX0_told 0 = .ok (.iload_n 1, 1) := dk_27 (dk_at dksX0_told_0 0 rfl rfl)
theorem dX0_told_1 : decode cX0_told 1 = .ok (.tableswitch 98 0 9 #[55, 60, 65, 73, 78, 83, 88, 88, 88, 88], 55) := by decide +kernel
theorem dX0_told_56 : decode cX0_told 56 = .ok (.aload_n 0, 1) := dk_42 (dk_at dksX0_told_2 0 rfl rfl)
theorem dX0_told_57 : decode cX0_told 57 = .ok (.getfield 46, 3) := dk_180 0 46 (dk_at dksX0_told_2 1 rfl rfl)
theorem dX0_told_60 : decode cX0_told 60 = .ok (.ireturn, 1) := dk_172 (dk_at dksX0_told_2 4 rfl rfl)
theorem dX0_told_61 : decode cX0_told 61 = .ok (.aload_n 0, 1) := dk_42 (dk_at dksX0_told_2 5 rfl rfl)
theorem dX0_told_62 : decode cX0_told 62 = .ok (.getfield 79, 3) := dk_180 0 79 (dk_at dksX0_told_2 6 rfl rfl)
theorem dX0_told_65 : decode cX0_told 65 = .ok (.ireturn, 1) := dk_172 (dk_at dksX0_told_2 9 rfl rfl)
theorem dX0_told_66 : decode cX0_told 66 = .ok (.aload_n 0, 1) := dk_42 (dk_at dksX0_told_2 10 rfl rfl)
theorem dX0_told_67 : decode cX0_told 67 = .ok (.getfield 30, 3) := dk_180 0 30 (dk_at dksX0_told_2 11 rfl rfl)
theorem dX0_told_70 : decode cX0_told 70 = .ok (.getfield 115, 3) := dk_180 0 115 (dk_at dksX0_told_2 14 rfl rfl)
theorem dX0_told_73 : decode cX0_told 73 = .ok (.ireturn, 1) := dk_172 (dk_at dksX0_told_2 17 rfl rfl)
theorem dX0_told_74 : decode cX0_told 74 = .ok (.aload_n 0, 1) := dk_42 (dk_at dksX0_told_2 18 rfl rfl)
theorem dX0_told_75 : decode cX0_told 75 = .ok (.getfield 61, 3) := dk_180 0 61 (dk_at dksX0_told_2 19 rfl rfl)
theorem dX0_told_78 : decode cX0_told 78 = .ok (.ireturn, 1) := dk_172 (dk_at dksX0_told_2 22 rfl rfl)
theorem dX0_told_79 : decode cX0_told 79 = .ok (.aload_n 0, 1) := dk_42 (dk_at dksX0_told_2 23 rfl rfl)
theorem dX0_told_80 : decode cX0_told 80 = .ok (.getfield 67, 3) := dk_180 0 67 (dk_at dksX0_told_3 0 rfl rfl)
theorem dX0_told_83 : decode cX0_told 83 = .ok (.ireturn, 1) := dk_172 (dk_at dksX0_told_3 3 rfl rfl)
theorem dX0_told_84 : decode cX0_told 84 = .ok (.aload_n 0, 1) := dk_42 (dk_at dksX0_told_3 4 rfl rfl)
theorem dX0_told_85 : decode cX0_told 85 = .ok (.getfield 184, 3) := dk_180 0 184 (dk_at dksX0_told_3 5 rfl rfl)
theorem dX0_told_88 : decode cX0_told 88 = .ok (.ireturn, 1) := dk_172 (dk_at dksX0_told_3 8 rfl rfl)
theorem dX0_told_89 : decode cX0_told 89 = .ok (.aload_n 0, 1) := dk_42 (dk_at dksX0_told_3 9 rfl rfl)
theorem dX0_told_90 : decode cX0_told 90 = .ok (.getfield 23, 3) := dk_180 0 23 (dk_at dksX0_told_3 10 rfl rfl)
theorem dX0_told_93 : decode cX0_told 93 = .ok (.iload_n 1, 1) := dk_27 (dk_at dksX0_told_3 13 rfl rfl)
theorem dX0_told_94 : decode cX0_told 94 = .ok (.bipush 6, 2) := dk_16 6 (dk_at dksX0_told_3 14 rfl rfl)
theorem dX0_told_96 : decode cX0_told 96 = .ok (.isub, 1) := dk_100 (dk_at dksX0_told_3 16 rfl rfl)
theorem dX0_told_97 : decode cX0_told 97 = .ok (.iaload, 1) := dk_46 (dk_at dksX0_told_3 17 rfl rfl)
theorem dX0_told_98 : decode cX0_told 98 = .ok (.ireturn, 1) := dk_172 (dk_at dksX0_told_3 18 rfl rfl)
theorem dX0_told_99 : decode cX0_told 99 = .ok (.bipush (-2), 2) := dk_16 254 (dk_at dksX0_told_3 19 rfl rfl)
theorem dX0_told_101 : decode cX0_told 101 = .ok (.ireturn, 1) := dk_172 (dk_at dksX0_told_3 21 rfl rfl)
theorem q43 : (Jvm.Cond.initialized "TankField") ∈ lw_all := lw_g (lw_at lw_m1 1 rfl) rfl
theorem q66 : (Jvm.Cond.instantiable "TankField" (15 : Nat)) ∈ lw_all := lw_g (lw_at lw_m1 24 rfl) rfl
theorem q68 : (Jvm.Cond.instanceMethod ({ cls := "TankField", name := "<init>", desc := "()V" } : Jvm.MethodName)) ∈ lw_all := lw_g (lw_at lw_m1 26 rfl) rfl
theorem q69 : (Jvm.Cond.code ({ cls := "TankField", name := "<init>", desc := "()V" } : Jvm.MethodName) prog_1_method_2_code (1 : Nat) (Option.none : Option Jvm.ClassFile.FieldType)) ∈ lw_all := lw_g (lw_at lw_m1 27 rfl) rfl
theorem q70 : (Jvm.Cond.methodLink "TankField" (3 : Nat) ({ cls := "java/lang/Object", name := "<init>", desc := "()V" } : Jvm.MethodName)) ∈ lw_all := lw_g (lw_at lw_m1 28 rfl) rfl
theorem q73 : (Jvm.Cond.classLink "TankField" (11 : Nat) "TankField$Tank") ∈ lw_all := lw_g (lw_at lw_m1 31 rfl) rfl
theorem q75 : (Jvm.Cond.classLink "TankField" (17 : Nat) "TankField$Plain") ∈ lw_all := lw_g (lw_at lw_m1 33 rfl) rfl
theorem q77 : (Jvm.Cond.classLink "TankField" (27 : Nat) "TankField$Building") ∈ lw_all := lw_g (lw_at lw_m1 35 rfl) rfl
theorem q79 : (Jvm.Cond.methodLinkNest "TankField" (29 : Nat) ({ cls := "TankField$Building", name := "<init>", desc := "()V" } : Jvm.MethodName) "TankField") ∈ lw_tbl := lw_at lw_m1 37 rfl
theorem q86 : (Jvm.Cond.fieldLink "TankField" (118 : Nat) "TankField$Building" "events" "[LTankField$Event;") ∈ lw_all := lw_g (lw_at lw_m1 44 rfl) rfl
theorem q88 : (Jvm.Cond.fieldLink "TankField" (115 : Nat) "TankField$Building" "many" "I") ∈ lw_all := lw_g (lw_at lw_m1 46 rfl) rfl
theorem q95 : (Jvm.Cond.classLink "TankField" (40 : Nat) "TankField$Sheet") ∈ lw_all := lw_g (lw_at lw_m1 53 rfl) rfl
theorem q97 : (Jvm.Cond.fieldLink "TankField" (13 : Nat) "TankField" "tanks" "[LTankField$Tank;") ∈ lw_all := lw_g (lw_at lw_m1 55 rfl) rfl
theorem q100 : (Jvm.Cond.fieldLink "TankField" (46 : Nat) "TankField" "tankMany" "I") ∈ lw_all := lw_g (lw_at lw_m1 58 rfl) rfl
theorem q101 : (Jvm.Cond.fieldLink "TankField" (61 : Nat) "TankField" "clockMany" "I") ∈ lw_all := lw_g (lw_at lw_m1 59 rfl) rfl
theorem q102 : (Jvm.Cond.fieldLink "TankField" (67 : Nat) "TankField" "downMany" "I") ∈ lw_all := lw_g (lw_at lw_m1 60 rfl) rfl
theorem q104 : (Jvm.Cond.fieldLink "TankField" (324 : Nat) "TankField" "trace" "I") ∈ lw_all := lw_g (lw_at lw_m1 62 rfl) rfl
theorem q106 : (Jvm.Cond.fieldLink "TankField" (19 : Nat) "TankField" "hits" "[LTankField$Plain;") ∈ lw_all := lw_g (lw_at lw_m1 64 rfl) rfl
theorem q107 : (Jvm.Cond.fieldLink "TankField" (79 : Nat) "TankField" "hitMany" "I") ∈ lw_all := lw_g (lw_at lw_m1 65 rfl) rfl
theorem q108 : (Jvm.Cond.fieldLink "TankField" (23 : Nat) "TankField" "rules" "[I") ∈ lw_all := lw_g (lw_at lw_m1 66 rfl) rfl
theorem q109 : (Jvm.Cond.fieldLink "TankField" (30 : Nat) "TankField" "latest" "LTankField$Building;") ∈ lw_all := lw_g (lw_at lw_m1 67 rfl) rfl
theorem q110 : (Jvm.Cond.fieldLink "TankField" (177 : Nat) "TankField" "ahead" "LTankField$Building;") ∈ lw_all := lw_g (lw_at lw_m1 68 rfl) rfl
theorem q111 : (Jvm.Cond.fieldLink "TankField" (184 : Nat) "TankField" "buildings" "I") ∈ lw_all := lw_g (lw_at lw_m1 69 rfl) rfl
theorem q112 : (Jvm.Cond.fieldLink "TankField" (34 : Nat) "TankField" "group" "[I") ∈ lw_all := lw_g (lw_at lw_m1 70 rfl) rfl
theorem q113 : (Jvm.Cond.fieldLink "TankField" (37 : Nat) "TankField" "memberOf" "[I") ∈ lw_all := lw_g (lw_at lw_m1 71 rfl) rfl
theorem q114 : (Jvm.Cond.fieldLink "TankField" (234 : Nat) "TankField" "fault" "I") ∈ lw_all := lw_g (lw_at lw_m1 72 rfl) rfl
theorem q115 : (Jvm.Cond.fieldLink "TankField" (42 : Nat) "TankField" "sheets" "[LTankField$Sheet;") ∈ lw_all := lw_g (lw_at lw_m1 73 rfl) rfl
theorem q116 : (Jvm.Cond.laysFinal "TankField" "TankField" "tanks" "[LTankField$Tank;") ∈ lw_all := lw_g (lw_at lw_m1 74 rfl) rfl
theorem q117 : (Jvm.Cond.soleField "TankField" "tanks") ∈ lw_all := lw_g (lw_at lw_m1 75 rfl) rfl
theorem q118 : (Jvm.Cond.lays "TankField" "TankField" "tankMany" "I") ∈ lw_all := lw_g (lw_at lw_m1 76 rfl) rfl
theorem q119 : (Jvm.Cond.soleField "TankField" "tankMany") ∈ lw_all := lw_g (lw_at lw_m1 77 rfl) rfl
theorem q120 : (Jvm.Cond.lays "TankField" "TankField" "clockMany" "I") ∈ lw_all := lw_g (lw_at lw_m1 78 rfl) rfl
theorem q121 : (Jvm.Cond.soleField "TankField" "clockMany") ∈ lw_all := lw_g (lw_at lw_m1 79 rfl) rfl
theorem q122 : (Jvm.Cond.lays "TankField" "TankField" "downMany" "I") ∈ lw_all := lw_g (lw_at lw_m1 80 rfl) rfl
theorem q123 : (Jvm.Cond.soleField "TankField" "downMany") ∈ lw_all := lw_g (lw_at lw_m1 81 rfl) rfl
theorem q124 : (Jvm.Cond.lays "TankField" "TankField" "trace" "I") ∈ lw_all := lw_g (lw_at lw_m1 82 rfl) rfl
theorem q125 : (Jvm.Cond.soleField "TankField" "trace") ∈ lw_all := lw_g (lw_at lw_m1 83 rfl) rfl
theorem q126 : (Jvm.Cond.laysFinal "TankField" "TankField" "hits" "[LTankField$Plain;") ∈ lw_all := lw_g (lw_at lw_m1 84 rfl) rfl
theorem q127 : (Jvm.Cond.soleField "TankField" "hits") ∈ lw_all := lw_g (lw_at lw_m1 85 rfl) rfl
theorem q128 : (Jvm.Cond.lays "TankField" "TankField" "hitMany" "I") ∈ lw_all := lw_g (lw_at lw_m1 86 rfl) rfl
theorem q129 : (Jvm.Cond.soleField "TankField" "hitMany") ∈ lw_all := lw_g (lw_at lw_m1 87 rfl) rfl
theorem q130 : (Jvm.Cond.laysFinal "TankField" "TankField" "rules" "[I") ∈ lw_all := lw_g (lw_at lw_m1 88 rfl) rfl
theorem q131 : (Jvm.Cond.soleField "TankField" "rules") ∈ lw_all := lw_g (lw_at lw_m1 89 rfl) rfl
theorem q132 : (Jvm.Cond.lays "TankField" "TankField" "latest" "LTankField$Building;") ∈ lw_all := lw_g (lw_at lw_m1 90 rfl) rfl
theorem q133 : (Jvm.Cond.soleField "TankField" "latest") ∈ lw_all := lw_g (lw_at lw_m1 91 rfl) rfl
theorem q134 : (Jvm.Cond.lays "TankField" "TankField" "ahead" "LTankField$Building;") ∈ lw_all := lw_g (lw_at lw_m1 92 rfl) rfl
theorem q135 : (Jvm.Cond.soleField "TankField" "ahead") ∈ lw_all := lw_g (lw_at lw_m1 93 rfl) rfl
theorem q136 : (Jvm.Cond.lays "TankField" "TankField" "buildings" "I") ∈ lw_all := lw_g (lw_at lw_m1 94 rfl) rfl
theorem q137 : (Jvm.Cond.soleField "TankField" "buildings") ∈ lw_all := lw_g (lw_at lw_m1 95 rfl) rfl
theorem q138 : (Jvm.Cond.laysFinal "TankField" "TankField" "group" "[I") ∈ lw_all := lw_g (lw_at lw_m1 96 rfl) rfl
theorem q139 : (Jvm.Cond.soleField "TankField" "group") ∈ lw_all := lw_g (lw_at lw_m1 97 rfl) rfl
theorem q140 : (Jvm.Cond.laysFinal "TankField" "TankField" "memberOf" "[I") ∈ lw_all := lw_g (lw_at lw_m1 98 rfl) rfl
theorem q141 : (Jvm.Cond.soleField "TankField" "memberOf") ∈ lw_all := lw_g (lw_at lw_m1 99 rfl) rfl
theorem q142 : (Jvm.Cond.lays "TankField" "TankField" "fault" "I") ∈ lw_all := lw_g (lw_at lw_m1 100 rfl) rfl
theorem q143 : (Jvm.Cond.soleField "TankField" "fault") ∈ lw_all := lw_g (lw_at lw_m1 101 rfl) rfl
theorem q144 : (Jvm.Cond.laysFinal "TankField" "TankField" "sheets" "[LTankField$Sheet;") ∈ lw_all := lw_g (lw_at lw_m1 102 rfl) rfl
theorem q145 : (Jvm.Cond.soleField "TankField" "sheets") ∈ lw_all := lw_g (lw_at lw_m1 103 rfl) rfl
theorem q146 : (Jvm.Cond.superclass "TankField" "java/lang/Object") ∈ lw_all := lw_g (lw_at lw_m1 104 rfl) rfl
theorem q148 : (Jvm.Cond.instanceMethod ({ cls := "TankField", name := "tank", desc := "(II)I" } : Jvm.MethodName)) ∈ lw_all := lw_g (lw_at lw_m1 106 rfl) rfl
theorem q149 : (Jvm.Cond.selects "TankField" ({ cls := "TankField", name := "tank", desc := "(II)I" } : Jvm.MethodName) ({ cls := "TankField", name := "tank", desc := "(II)I" } : Jvm.MethodName)) ∈ lw_all := lw_g (lw_at lw_m1 107 rfl) rfl
theorem q150 : (Jvm.Cond.code ({ cls := "TankField", name := "tank", desc := "(II)I" } : Jvm.MethodName) prog_1_method_4_code (3 : Nat) (Option.some Jvm.ClassFile.FieldType.int)) ∈ lw_all := lw_g (lw_at lw_m1 108 rfl) rfl
theorem q151 : (Jvm.Cond.methodLink "TankField" (50 : Nat) ({ cls := "TankField", name := "in", desc := "(III)Z" } : Jvm.MethodName)) ∈ lw_all := lw_g (lw_at lw_m1 109 rfl) rfl
theorem q152 : (Jvm.Cond.static ({ cls := "TankField", name := "in", desc := "(III)Z" } : Jvm.MethodName)) ∈ lw_all := lw_g (lw_at lw_m1 110 rfl) rfl
theorem q153 : (Jvm.Cond.code ({ cls := "TankField", name := "in", desc := "(III)Z" } : Jvm.MethodName) prog_1_method_1_code (3 : Nat) (Option.some Jvm.ClassFile.FieldType.boolean)) ∈ lw_all := lw_g (lw_at lw_m1 111 rfl) rfl
theorem q155 : (Jvm.Cond.methodLink "TankField" (54 : Nat) ({ cls := "TankField$Tank", name := "<init>", desc := "(II)V" } : Jvm.MethodName)) ∈ lw_all := lw_g (lw_at lw_m1 113 rfl) rfl
theorem q163 : (Jvm.Cond.fieldLink "TankField" (102 : Nat) "TankField$Tank" "x" "I") ∈ lw_all := lw_g (lw_at lw_m1 121 rfl) rfl
theorem q166 : (Jvm.Cond.fieldLink "TankField" (105 : Nat) "TankField$Tank" "y" "I") ∈ lw_all := lw_g (lw_at lw_m1 124 rfl) rfl
theorem q185 : (Jvm.Cond.instanceMethod ({ cls := "TankField", name := "clock", desc := "(III)I" } : Jvm.MethodName)) ∈ lw_all := lw_g (lw_at lw_m1 143 rfl) rfl
theorem q186 : (Jvm.Cond.selects "TankField" ({ cls := "TankField", name := "clock", desc := "(III)I" } : Jvm.MethodName) ({ cls := "TankField", name := "clock", desc := "(III)I" } : Jvm.MethodName)) ∈ lw_all := lw_g (lw_at lw_m1 144 rfl) rfl
theorem q187 : (Jvm.Cond.code ({ cls := "TankField", name := "clock", desc := "(III)I" } : Jvm.MethodName) prog_1_method_5_code (4 : Nat) (Option.some Jvm.ClassFile.FieldType.int)) ∈ lw_all := lw_g (lw_at lw_m1 145 rfl) rfl
theorem q188 : (Jvm.Cond.methodLink "TankField" (57 : Nat) ({ cls := "TankField", name := "noTank", desc := "(I)Z" } : Jvm.MethodName)) ∈ lw_all := lw_g (lw_at lw_m1 146 rfl) rfl
theorem q189 : (Jvm.Cond.privateMethod ({ cls := "TankField", name := "noTank", desc := "(I)Z" } : Jvm.MethodName)) ∈ lw_tbl := lw_at lw_m1 147 rfl
theorem q190 : (Jvm.Cond.instanceMethod ({ cls := "TankField", name := "noTank", desc := "(I)Z" } : Jvm.MethodName)) ∈ lw_all := lw_g (lw_at lw_m1 148 rfl) rfl
theorem q191 : (Jvm.Cond.code ({ cls := "TankField", name := "noTank", desc := "(I)Z" } : Jvm.MethodName) prog_1_method_3_code (2 : Nat) (Option.some Jvm.ClassFile.FieldType.boolean)) ∈ lw_all := lw_g (lw_at lw_m1 149 rfl) rfl
theorem q192 : (Jvm.Cond.methodLink "TankField" (64 : Nat) ({ cls := "TankField$Tank", name := "clock", desc := "(II)V" } : Jvm.MethodName)) ∈ lw_all := lw_g (lw_at lw_m1 150 rfl) rfl
theorem q211 : (Jvm.Cond.instanceMethod ({ cls := "TankField", name := "down", desc := "(III)I" } : Jvm.MethodName)) ∈ lw_all := lw_g (lw_at lw_m1 169 rfl) rfl
theorem q212 : (Jvm.Cond.selects "TankField" ({ cls := "TankField", name := "down", desc := "(III)I" } : Jvm.MethodName) ({ cls := "TankField", name := "down", desc := "(III)I" } : Jvm.MethodName)) ∈ lw_all := lw_g (lw_at lw_m1 170 rfl) rfl
theorem q213 : (Jvm.Cond.code ({ cls := "TankField", name := "down", desc := "(III)I" } : Jvm.MethodName) prog_1_method_6_code (4 : Nat) (Option.some Jvm.ClassFile.FieldType.int)) ∈ lw_all := lw_g (lw_at lw_m1 171 rfl) rfl
theorem q214 : (Jvm.Cond.methodLink "TankField" (70 : Nat) ({ cls := "TankField$Tank", name := "down", desc := "(II)V" } : Jvm.MethodName)) ∈ lw_all := lw_g (lw_at lw_m1 172 rfl) rfl
theorem q219 : (Jvm.Cond.instanceMethod ({ cls := "TankField", name := "exposure", desc := "(II)J" } : Jvm.MethodName)) ∈ lw_all := lw_g (lw_at lw_m1 177 rfl) rfl
theorem q220 : (Jvm.Cond.selects "TankField" ({ cls := "TankField", name := "exposure", desc := "(II)J" } : Jvm.MethodName) ({ cls := "TankField", name := "exposure", desc := "(II)J" } : Jvm.MethodName)) ∈ lw_all := lw_g (lw_at lw_m1 178 rfl) rfl
theorem q221 : (Jvm.Cond.code ({ cls := "TankField", name := "exposure", desc := "(II)J" } : Jvm.MethodName) prog_1_method_7_code (6 : Nat) (Option.some Jvm.ClassFile.FieldType.long)) ∈ lw_all := lw_g (lw_at lw_m1 179 rfl) rfl
theorem q222 : (Jvm.Cond.constantLong "TankField" (73 : Nat) (-9223372036854775808 : Int64)) ∈ lw_all := lw_g (lw_at lw_m1 180 rfl) rfl
theorem q223 : (Jvm.Cond.methodLink "TankField" (75 : Nat) ({ cls := "TankField$Tank", name := "up", desc := "(II)J" } : Jvm.MethodName)) ∈ lw_all := lw_g (lw_at lw_m1 181 rfl) rfl
theorem q239 : (Jvm.Cond.instanceMethod ({ cls := "TankField", name := "hit", desc := "(IIII)I" } : Jvm.MethodName)) ∈ lw_all := lw_g (lw_at lw_m1 197 rfl) rfl
theorem q240 : (Jvm.Cond.selects "TankField" ({ cls := "TankField", name := "hit", desc := "(IIII)I" } : Jvm.MethodName) ({ cls := "TankField", name := "hit", desc := "(IIII)I" } : Jvm.MethodName)) ∈ lw_all := lw_g (lw_at lw_m1 198 rfl) rfl
theorem q241 : (Jvm.Cond.code ({ cls := "TankField", name := "hit", desc := "(IIII)I" } : Jvm.MethodName) prog_1_method_11_code (6 : Nat) (Option.some Jvm.ClassFile.FieldType.int)) ∈ lw_all := lw_g (lw_at lw_m1 199 rfl) rfl
theorem q242 : (Jvm.Cond.methodLink "TankField" (94 : Nat) ({ cls := "TankField", name := "refusedHit", desc := "(IIII)I" } : Jvm.MethodName)) ∈ lw_all := lw_g (lw_at lw_m1 200 rfl) rfl
theorem q243 : (Jvm.Cond.privateMethod ({ cls := "TankField", name := "refusedHit", desc := "(IIII)I" } : Jvm.MethodName)) ∈ lw_tbl := lw_at lw_m1 201 rfl
theorem q244 : (Jvm.Cond.instanceMethod ({ cls := "TankField", name := "refusedHit", desc := "(IIII)I" } : Jvm.MethodName)) ∈ lw_all := lw_g (lw_at lw_m1 202 rfl) rfl
theorem q245 : (Jvm.Cond.code ({ cls := "TankField", name := "refusedHit", desc := "(IIII)I" } : Jvm.MethodName) prog_1_method_9_code (6 : Nat) (Option.some Jvm.ClassFile.FieldType.int)) ∈ lw_all := lw_g (lw_at lw_m1 203 rfl) rfl
theorem q246 : (Jvm.Cond.methodLink "TankField" (98 : Nat) ({ cls := "TankField", name := "made", desc := "(IIII)LTankField$Plain;" } : Jvm.MethodName)) ∈ lw_all := lw_g (lw_at lw_m1 204 rfl) rfl
theorem q247 : (Jvm.Cond.privateMethod ({ cls := "TankField", name := "made", desc := "(IIII)LTankField$Plain;" } : Jvm.MethodName)) ∈ lw_tbl := lw_at lw_m1 205 rfl
theorem q248 : (Jvm.Cond.instanceMethod ({ cls := "TankField", name := "made", desc := "(IIII)LTankField$Plain;" } : Jvm.MethodName)) ∈ lw_all := lw_g (lw_at lw_m1 206 rfl) rfl
theorem q249 : (Jvm.Cond.code ({ cls := "TankField", name := "made", desc := "(IIII)LTankField$Plain;" } : Jvm.MethodName) prog_1_method_10_code (5 : Nat) (Option.some (Jvm.ClassFile.FieldType.object "TankField$Plain"))) ∈ lw_all := lw_g (lw_at lw_m1 207 rfl) rfl
theorem q251 : (Jvm.Cond.methodLink "TankField" (82 : Nat) ({ cls := "TankField$Plain", name := "<init>", desc := "(LTankField;IIII)V" } : Jvm.MethodName)) ∈ lw_all := lw_g (lw_at lw_m1 209 rfl) rfl
theorem q257 : (Jvm.Cond.fieldLink "TankField" (108 : Nat) "TankField$Plain" "tank" "I") ∈ lw_all := lw_g (lw_at lw_m1 215 rfl) rfl
theorem q258 : (Jvm.Cond.fieldLink "TankField" (317 : Nat) "TankField$Steep" "tank" "I") ∈ lw_all := lw_g (lw_at lw_m1 216 rfl) rfl
theorem q260 : (Jvm.Cond.fieldLink "TankField" (318 : Nat) "TankField$Over" "tank" "I") ∈ lw_all := lw_g (lw_at lw_m1 218 rfl) rfl
theorem q262 : (Jvm.Cond.fieldLink "TankField" (319 : Nat) "TankField$Brim" "tank" "I") ∈ lw_all := lw_g (lw_at lw_m1 220 rfl) rfl
theorem q265 : (Jvm.Cond.fieldLink "TankField" (130 : Nat) "TankField$Plain" "time" "I") ∈ lw_all := lw_g (lw_at lw_m1 223 rfl) rfl
theorem q282 : (Jvm.Cond.classLink "TankField" (85 : Nat) "TankField$Over") ∈ lw_all := lw_g (lw_at lw_m2 0 rfl) rfl
theorem q284 : (Jvm.Cond.methodLink "TankField" (87 : Nat) ({ cls := "TankField$Over", name := "<init>", desc := "(LTankField;IIII)V" } : Jvm.MethodName)) ∈ lw_all := lw_g (lw_at lw_m2 2 rfl) rfl
theorem q297 : (Jvm.Cond.classLink "TankField" (88 : Nat) "TankField$Steep") ∈ lw_all := lw_g (lw_at lw_m2 15 rfl) rfl
theorem q299 : (Jvm.Cond.methodLink "TankField" (90 : Nat) ({ cls := "TankField$Steep", name := "<init>", desc := "(LTankField;IIII)V" } : Jvm.MethodName)) ∈ lw_all := lw_g (lw_at lw_m2 17 rfl) rfl
theorem q312 : (Jvm.Cond.classLink "TankField" (91 : Nat) "TankField$Brim") ∈ lw_all := lw_g (lw_at lw_m2 30 rfl) rfl
theorem q314 : (Jvm.Cond.methodLink "TankField" (93 : Nat) ({ cls := "TankField$Brim", name := "<init>", desc := "(LTankField;IIII)V" } : Jvm.MethodName)) ∈ lw_all := lw_g (lw_at lw_m2 32 rfl) rfl
theorem q329 : (Jvm.Cond.instanceMethod ({ cls := "TankField", name := "about", desc := "(II)I" } : Jvm.MethodName)) ∈ lw_all := lw_g (lw_at lw_m2 47 rfl) rfl
theorem q330 : (Jvm.Cond.selects "TankField" ({ cls := "TankField", name := "about", desc := "(II)I" } : Jvm.MethodName) ({ cls := "TankField", name := "about", desc := "(II)I" } : Jvm.MethodName)) ∈ lw_all := lw_g (lw_at lw_m2 48 rfl) rfl
theorem q331 : (Jvm.Cond.code ({ cls := "TankField", name := "about", desc := "(II)I" } : Jvm.MethodName) prog_1_method_12_code (5 : Nat) (Option.some Jvm.ClassFile.FieldType.int)) ∈ lw_all := lw_g (lw_at lw_m2 49 rfl) rfl
theorem q332 : (Jvm.Cond.methodLink "TankField" (111 : Nat) ({ cls := "TankField$Plain", name := "isLookedAt", desc := "()Z" } : Jvm.MethodName)) ∈ lw_all := lw_g (lw_at lw_m2 50 rfl) rfl
theorem q341 : (Jvm.Cond.methodLink "TankField" (122 : Nat) ({ cls := "TankField$Event", name := "hasTank", desc := "(I)Z" } : Jvm.MethodName)) ∈ lw_all := lw_g (lw_at lw_m2 59 rfl) rfl
theorem q346 : (Jvm.Cond.instanceMethod ({ cls := "TankField", name := "struck", desc := "(II)I" } : Jvm.MethodName)) ∈ lw_all := lw_g (lw_at lw_m2 64 rfl) rfl
theorem q347 : (Jvm.Cond.selects "TankField" ({ cls := "TankField", name := "struck", desc := "(II)I" } : Jvm.MethodName) ({ cls := "TankField", name := "struck", desc := "(II)I" } : Jvm.MethodName)) ∈ lw_all := lw_g (lw_at lw_m2 65 rfl) rfl
theorem q348 : (Jvm.Cond.code ({ cls := "TankField", name := "struck", desc := "(II)I" } : Jvm.MethodName) prog_1_method_13_code (4 : Nat) (Option.some Jvm.ClassFile.FieldType.int)) ∈ lw_all := lw_g (lw_at lw_m2 66 rfl) rfl
theorem q349 : (Jvm.Cond.methodLink "TankField" (127 : Nat) ({ cls := "TankField", name := "noHit", desc := "(I)Z" } : Jvm.MethodName)) ∈ lw_all := lw_g (lw_at lw_m2 67 rfl) rfl
theorem q350 : (Jvm.Cond.privateMethod ({ cls := "TankField", name := "noHit", desc := "(I)Z" } : Jvm.MethodName)) ∈ lw_tbl := lw_at lw_m2 68 rfl
theorem q351 : (Jvm.Cond.instanceMethod ({ cls := "TankField", name := "noHit", desc := "(I)Z" } : Jvm.MethodName)) ∈ lw_all := lw_g (lw_at lw_m2 69 rfl) rfl
theorem q352 : (Jvm.Cond.code ({ cls := "TankField", name := "noHit", desc := "(I)Z" } : Jvm.MethodName) prog_1_method_8_code (2 : Nat) (Option.some Jvm.ClassFile.FieldType.boolean)) ∈ lw_all := lw_g (lw_at lw_m2 70 rfl) rfl
theorem q353 : (Jvm.Cond.methodLink "TankField" (133 : Nat) ({ cls := "TankField$Plain", name := "right", desc := "()I" } : Jvm.MethodName)) ∈ lw_all := lw_g (lw_at lw_m2 71 rfl) rfl
theorem q365 : (Jvm.Cond.methodLink "TankField" (137 : Nat) ({ cls := "TankField$Plain", name := "kind", desc := "()I" } : Jvm.MethodName)) ∈ lw_all := lw_g (lw_at lw_m2 83 rfl) rfl
theorem q379 : (Jvm.Cond.methodLink "TankField" (140 : Nat) ({ cls := "TankField$Plain", name := "amount", desc := "()I" } : Jvm.MethodName)) ∈ lw_all := lw_g (lw_at lw_m2 97 rfl) rfl
theorem q391 : (Jvm.Cond.methodLink "TankField" (143 : Nat) ({ cls := "TankField$Building", name := "eventOf", desc := "(I)I" } : Jvm.MethodName)) ∈ lw_all := lw_g (lw_at lw_m2 109 rfl) rfl
theorem q400 : (Jvm.Cond.instanceMethod ({ cls := "TankField", name := "rule", desc := "(II)I" } : Jvm.MethodName)) ∈ lw_all := lw_g (lw_at lw_m2 118 rfl) rfl
theorem q401 : (Jvm.Cond.selects "TankField" ({ cls := "TankField", name := "rule", desc := "(II)I" } : Jvm.MethodName) ({ cls := "TankField", name := "rule", desc := "(II)I" } : Jvm.MethodName)) ∈ lw_all := lw_g (lw_at lw_m2 119 rfl) rfl
theorem q402 : (Jvm.Cond.code ({ cls := "TankField", name := "rule", desc := "(II)I" } : Jvm.MethodName) prog_1_method_14_code (4 : Nat) (Option.some Jvm.ClassFile.FieldType.int)) ∈ lw_all := lw_g (lw_at lw_m2 120 rfl) rfl
theorem q404 : (Jvm.Cond.instanceMethod ({ cls := "TankField", name := "build", desc := "()I" } : Jvm.MethodName)) ∈ lw_all := lw_g (lw_at lw_m2 122 rfl) rfl
theorem q405 : (Jvm.Cond.selects "TankField" ({ cls := "TankField", name := "build", desc := "()I" } : Jvm.MethodName) ({ cls := "TankField", name := "build", desc := "()I" } : Jvm.MethodName)) ∈ lw_all := lw_g (lw_at lw_m2 123 rfl) rfl
theorem q406 : (Jvm.Cond.code ({ cls := "TankField", name := "build", desc := "()I" } : Jvm.MethodName) prog_1_method_20_code (1 : Nat) (Option.some Jvm.ClassFile.FieldType.int)) ∈ lw_all := lw_g (lw_at lw_m2 124 rfl) rfl
theorem q407 : (Jvm.Cond.methodLink "TankField" (180 : Nat) ({ cls := "TankField", name := "built", desc := "(I)LTankField$Building;" } : Jvm.MethodName)) ∈ lw_all := lw_g (lw_at lw_m2 125 rfl) rfl
theorem q408 : (Jvm.Cond.privateMethod ({ cls := "TankField", name := "built", desc := "(I)LTankField$Building;" } : Jvm.MethodName)) ∈ lw_tbl := lw_at lw_m2 126 rfl
theorem q409 : (Jvm.Cond.instanceMethod ({ cls := "TankField", name := "built", desc := "(I)LTankField$Building;" } : Jvm.MethodName)) ∈ lw_all := lw_g (lw_at lw_m2 127 rfl) rfl
theorem q410 : (Jvm.Cond.code ({ cls := "TankField", name := "built", desc := "(I)LTankField$Building;" } : Jvm.MethodName) prog_1_method_19_code (5 : Nat) (Option.some (Jvm.ClassFile.FieldType.object "TankField$Building"))) ∈ lw_all := lw_g (lw_at lw_m2 128 rfl) rfl
theorem q411 : (Jvm.Cond.methodLink "TankField" (166 : Nat) ({ cls := "TankField", name := "joinNear", desc := "(I)V" } : Jvm.MethodName)) ∈ lw_all := lw_g (lw_at lw_m2 129 rfl) rfl
theorem q412 : (Jvm.Cond.privateMethod ({ cls := "TankField", name := "joinNear", desc := "(I)V" } : Jvm.MethodName)) ∈ lw_tbl := lw_at lw_m2 130 rfl
theorem q413 : (Jvm.Cond.instanceMethod ({ cls := "TankField", name := "joinNear", desc := "(I)V" } : Jvm.MethodName)) ∈ lw_all := lw_g (lw_at lw_m2 131 rfl) rfl
theorem q414 : (Jvm.Cond.code ({ cls := "TankField", name := "joinNear", desc := "(I)V" } : Jvm.MethodName) prog_1_method_17_code (6 : Nat) (Option.none : Option Jvm.ClassFile.FieldType)) ∈ lw_all := lw_g (lw_at lw_m2 132 rfl) rfl
theorem q415 : (Jvm.Cond.methodLink "TankField" (147 : Nat) ({ cls := "TankField", name := "isAsked", desc := "(II)Z" } : Jvm.MethodName)) ∈ lw_all := lw_g (lw_at lw_m2 133 rfl) rfl
theorem q416 : (Jvm.Cond.privateMethod ({ cls := "TankField", name := "isAsked", desc := "(II)Z" } : Jvm.MethodName)) ∈ lw_tbl := lw_at lw_m2 134 rfl
theorem q417 : (Jvm.Cond.instanceMethod ({ cls := "TankField", name := "isAsked", desc := "(II)Z" } : Jvm.MethodName)) ∈ lw_all := lw_g (lw_at lw_m2 135 rfl) rfl
theorem q418 : (Jvm.Cond.code ({ cls := "TankField", name := "isAsked", desc := "(II)Z" } : Jvm.MethodName) prog_1_method_16_code (3 : Nat) (Option.some Jvm.ClassFile.FieldType.boolean)) ∈ lw_all := lw_g (lw_at lw_m2 136 rfl) rfl
theorem q419 : (Jvm.Cond.methodLink "TankField" (151 : Nat) ({ cls := "java/lang/Math", name := "abs", desc := "(I)I" } : Jvm.MethodName)) ∈ lw_all := lw_g (lw_at lw_m2 137 rfl) rfl
theorem q422 : (Jvm.Cond.methodLink "TankField" (156 : Nat) ({ cls := "TankField$Tank", name := "isWithin", desc := "(LTankField$Tank;I)Z" } : Jvm.MethodName)) ∈ lw_all := lw_g (lw_at lw_m2 140 rfl) rfl
theorem q426 : (Jvm.Cond.methodLink "TankField" (160 : Nat) ({ cls := "TankField", name := "rootOf", desc := "(I)I" } : Jvm.MethodName)) ∈ lw_all := lw_g (lw_at lw_m2 144 rfl) rfl
theorem q427 : (Jvm.Cond.privateMethod ({ cls := "TankField", name := "rootOf", desc := "(I)I" } : Jvm.MethodName)) ∈ lw_tbl := lw_at lw_m2 145 rfl
theorem q428 : (Jvm.Cond.instanceMethod ({ cls := "TankField", name := "rootOf", desc := "(I)I" } : Jvm.MethodName)) ∈ lw_all := lw_g (lw_at lw_m2 146 rfl) rfl
theorem q429 : (Jvm.Cond.code ({ cls := "TankField", name := "rootOf", desc := "(I)I" } : Jvm.MethodName) prog_1_method_15_code (3 : Nat) (Option.some Jvm.ClassFile.FieldType.int)) ∈ lw_all := lw_g (lw_at lw_m2 147 rfl) rfl
theorem q430 : (Jvm.Cond.methodLink "TankField" (170 : Nat) ({ cls := "TankField", name := "eventOf", desc := "(II)LTankField$Event;" } : Jvm.MethodName)) ∈ lw_all := lw_g (lw_at lw_m2 148 rfl) rfl
theorem q431 : (Jvm.Cond.privateMethod ({ cls := "TankField", name := "eventOf", desc := "(II)LTankField$Event;" } : Jvm.MethodName)) ∈ lw_tbl := lw_at lw_m2 149 rfl
theorem q432 : (Jvm.Cond.instanceMethod ({ cls := "TankField", name := "eventOf", desc := "(II)LTankField$Event;" } : Jvm.MethodName)) ∈ lw_all := lw_g (lw_at lw_m2 150 rfl) rfl
theorem q433 : (Jvm.Cond.code ({ cls := "TankField", name := "eventOf", desc := "(II)LTankField$Event;" } : Jvm.MethodName) prog_1_method_18_code (8 : Nat) (Option.some (Jvm.ClassFile.FieldType.object "TankField$Event"))) ∈ lw_all := lw_g (lw_at lw_m2 151 rfl) rfl
theorem q434 : (Jvm.Cond.classLink "TankField" (123 : Nat) "TankField$Event") ∈ lw_all := lw_g (lw_at lw_m2 152 rfl) rfl
theorem q436 : (Jvm.Cond.methodLink "TankField" (163 : Nat) ({ cls := "TankField$Event", name := "<init>", desc := "(LTankField;[II)V" } : Jvm.MethodName)) ∈ lw_all := lw_g (lw_at lw_m2 154 rfl) rfl
theorem q442 : (Jvm.Cond.fieldLink "TankField" (194 : Nat) "TankField$Event" "members" "[I") ∈ lw_all := lw_g (lw_at lw_m2 160 rfl) rfl
theorem q444 : (Jvm.Cond.fieldLink "TankField" (197 : Nat) "TankField$Event" "times" "[I") ∈ lw_all := lw_g (lw_at lw_m2 162 rfl) rfl
theorem q446 : (Jvm.Cond.fieldLink "TankField" (206 : Nat) "TankField$Event" "all" "I") ∈ lw_all := lw_g (lw_at lw_m2 164 rfl) rfl
theorem q457 : (Jvm.Cond.methodLink "TankField" (173 : Nat) ({ cls := "TankField$Building", name := "add", desc := "(LTankField$Event;)V" } : Jvm.MethodName)) ∈ lw_all := lw_g (lw_at lw_m2 175 rfl) rfl
theorem q473 : (Jvm.Cond.instanceMethod ({ cls := "TankField", name := "others", desc := "()I" } : Jvm.MethodName)) ∈ lw_all := lw_g (lw_at lw_m2 191 rfl) rfl
theorem q474 : (Jvm.Cond.selects "TankField" ({ cls := "TankField", name := "others", desc := "()I" } : Jvm.MethodName) ({ cls := "TankField", name := "others", desc := "()I" } : Jvm.MethodName)) ∈ lw_all := lw_g (lw_at lw_m2 192 rfl) rfl
theorem q475 : (Jvm.Cond.code ({ cls := "TankField", name := "others", desc := "()I" } : Jvm.MethodName) prog_1_method_21_code (3 : Nat) (Option.some Jvm.ClassFile.FieldType.int)) ∈ lw_all := lw_g (lw_at lw_m2 193 rfl) rfl
theorem q476 : (Jvm.Cond.methodLink "TankField" (187 : Nat) ({ cls := "TankField$Building", name := "hasLike", desc := "(LTankField$Event;)Z" } : Jvm.MethodName)) ∈ lw_all := lw_g (lw_at lw_m2 194 rfl) rfl
theorem q485 : (Jvm.Cond.instanceMethod ({ cls := "TankField", name := "isOther", desc := "(I)I" } : Jvm.MethodName)) ∈ lw_all := lw_g (lw_at lw_m2 203 rfl) rfl
theorem q486 : (Jvm.Cond.selects "TankField" ({ cls := "TankField", name := "isOther", desc := "(I)I" } : Jvm.MethodName) ({ cls := "TankField", name := "isOther", desc := "(I)I" } : Jvm.MethodName)) ∈ lw_all := lw_g (lw_at lw_m2 204 rfl) rfl
theorem q487 : (Jvm.Cond.code ({ cls := "TankField", name := "isOther", desc := "(I)I" } : Jvm.MethodName) prog_1_method_23_code (2 : Nat) (Option.some Jvm.ClassFile.FieldType.int)) ∈ lw_all := lw_g (lw_at lw_m2 205 rfl) rfl
theorem q488 : (Jvm.Cond.methodLink "TankField" (191 : Nat) ({ cls := "TankField", name := "noEvent", desc := "(I)Z" } : Jvm.MethodName)) ∈ lw_all := lw_g (lw_at lw_m2 206 rfl) rfl
theorem q489 : (Jvm.Cond.privateMethod ({ cls := "TankField", name := "noEvent", desc := "(I)Z" } : Jvm.MethodName)) ∈ lw_tbl := lw_at lw_m2 207 rfl
theorem q490 : (Jvm.Cond.instanceMethod ({ cls := "TankField", name := "noEvent", desc := "(I)Z" } : Jvm.MethodName)) ∈ lw_all := lw_g (lw_at lw_m2 208 rfl) rfl
theorem q491 : (Jvm.Cond.code ({ cls := "TankField", name := "noEvent", desc := "(I)Z" } : Jvm.MethodName) prog_1_method_22_code (2 : Nat) (Option.some Jvm.ClassFile.FieldType.boolean)) ∈ lw_all := lw_g (lw_at lw_m2 209 rfl) rfl
theorem q493 : (Jvm.Cond.instanceMethod ({ cls := "TankField", name := "without", desc := "(I)I" } : Jvm.MethodName)) ∈ lw_all := lw_g (lw_at lw_m2 211 rfl) rfl
theorem q494 : (Jvm.Cond.selects "TankField" ({ cls := "TankField", name := "without", desc := "(I)I" } : Jvm.MethodName) ({ cls := "TankField", name := "without", desc := "(I)I" } : Jvm.MethodName)) ∈ lw_all := lw_g (lw_at lw_m2 212 rfl) rfl
theorem q495 : (Jvm.Cond.code ({ cls := "TankField", name := "without", desc := "(I)I" } : Jvm.MethodName) prog_1_method_24_code (2 : Nat) (Option.some Jvm.ClassFile.FieldType.int)) ∈ lw_all := lw_g (lw_at lw_m2 213 rfl) rfl
theorem q497 : (Jvm.Cond.instanceMethod ({ cls := "TankField", name := "event", desc := "(II)I" } : Jvm.MethodName)) ∈ lw_all := lw_g (lw_at lw_m2 215 rfl) rfl
theorem q498 : (Jvm.Cond.selects "TankField" ({ cls := "TankField", name := "event", desc := "(II)I" } : Jvm.MethodName) ({ cls := "TankField", name := "event", desc := "(II)I" } : Jvm.MethodName)) ∈ lw_all := lw_g (lw_at lw_m2 216 rfl) rfl
theorem q499 : (Jvm.Cond.code ({ cls := "TankField", name := "event", desc := "(II)I" } : Jvm.MethodName) prog_1_method_25_code (4 : Nat) (Option.some Jvm.ClassFile.FieldType.int)) ∈ lw_all := lw_g (lw_at lw_m2 217 rfl) rfl
theorem q500 : (Jvm.Cond.methodLink "TankField" (200 : Nat) ({ cls := "TankField$Event", name := "first", desc := "()I" } : Jvm.MethodName)) ∈ lw_all := lw_g (lw_at lw_m2 218 rfl) rfl
theorem q501 : (Jvm.Cond.methodLink "TankField" (203 : Nat) ({ cls := "TankField$Event", name := "last", desc := "()I" } : Jvm.MethodName)) ∈ lw_all := lw_g (lw_at lw_m2 219 rfl) rfl
theorem q508 : (Jvm.Cond.methodLink "TankField" (209 : Nat) ({ cls := "TankField$Event", name := "isSure", desc := "()Z" } : Jvm.MethodName)) ∈ lw_all := lw_g (lw_at lw_m2 226 rfl) rfl
theorem q523 : (Jvm.Cond.instanceMethod ({ cls := "TankField", name := "member", desc := "(II)I" } : Jvm.MethodName)) ∈ lw_all := lw_g (lw_at lw_m3 1 rfl) rfl
theorem q524 : (Jvm.Cond.selects "TankField" ({ cls := "TankField", name := "member", desc := "(II)I" } : Jvm.MethodName) ({ cls := "TankField", name := "member", desc := "(II)I" } : Jvm.MethodName)) ∈ lw_all := lw_g (lw_at lw_m3 2 rfl) rfl
theorem q525 : (Jvm.Cond.code ({ cls := "TankField", name := "member", desc := "(II)I" } : Jvm.MethodName) prog_1_method_27_code (3 : Nat) (Option.some Jvm.ClassFile.FieldType.int)) ∈ lw_all := lw_g (lw_at lw_m3 3 rfl) rfl
theorem q526 : (Jvm.Cond.methodLink "TankField" (212 : Nat) ({ cls := "TankField", name := "noMember", desc := "(II)Z" } : Jvm.MethodName)) ∈ lw_all := lw_g (lw_at lw_m3 4 rfl) rfl
theorem q527 : (Jvm.Cond.privateMethod ({ cls := "TankField", name := "noMember", desc := "(II)Z" } : Jvm.MethodName)) ∈ lw_tbl := lw_at lw_m3 5 rfl
theorem q528 : (Jvm.Cond.instanceMethod ({ cls := "TankField", name := "noMember", desc := "(II)Z" } : Jvm.MethodName)) ∈ lw_all := lw_g (lw_at lw_m3 6 rfl) rfl
theorem q529 : (Jvm.Cond.code ({ cls := "TankField", name := "noMember", desc := "(II)Z" } : Jvm.MethodName) prog_1_method_26_code (3 : Nat) (Option.some Jvm.ClassFile.FieldType.boolean)) ∈ lw_all := lw_g (lw_at lw_m3 7 rfl) rfl
theorem q531 : (Jvm.Cond.instanceMethod ({ cls := "TankField", name := "front", desc := "(II)J" } : Jvm.MethodName)) ∈ lw_all := lw_g (lw_at lw_m3 9 rfl) rfl
theorem q532 : (Jvm.Cond.selects "TankField" ({ cls := "TankField", name := "front", desc := "(II)J" } : Jvm.MethodName) ({ cls := "TankField", name := "front", desc := "(II)J" } : Jvm.MethodName)) ∈ lw_all := lw_g (lw_at lw_m3 10 rfl) rfl
theorem q533 : (Jvm.Cond.code ({ cls := "TankField", name := "front", desc := "(II)J" } : Jvm.MethodName) prog_1_method_28_code (4 : Nat) (Option.some Jvm.ClassFile.FieldType.long)) ∈ lw_all := lw_g (lw_at lw_m3 11 rfl) rfl
theorem q534 : (Jvm.Cond.methodLink "TankField" (215 : Nat) ({ cls := "TankField$Event", name := "front", desc := "()[J" } : Jvm.MethodName)) ∈ lw_all := lw_g (lw_at lw_m3 12 rfl) rfl
theorem q554 : (Jvm.Cond.instanceMethod ({ cls := "TankField", name := "error", desc := "(II)J" } : Jvm.MethodName)) ∈ lw_all := lw_g (lw_at lw_m3 32 rfl) rfl
theorem q555 : (Jvm.Cond.selects "TankField" ({ cls := "TankField", name := "error", desc := "(II)J" } : Jvm.MethodName) ({ cls := "TankField", name := "error", desc := "(II)J" } : Jvm.MethodName)) ∈ lw_all := lw_g (lw_at lw_m3 33 rfl) rfl
theorem q556 : (Jvm.Cond.code ({ cls := "TankField", name := "error", desc := "(II)J" } : Jvm.MethodName) prog_1_method_29_code (4 : Nat) (Option.some Jvm.ClassFile.FieldType.long)) ∈ lw_all := lw_g (lw_at lw_m3 34 rfl) rfl
theorem q557 : (Jvm.Cond.methodLink "TankField" (219 : Nat) ({ cls := "TankField$Event", name := "error", desc := "(I[J)J" } : Jvm.MethodName)) ∈ lw_all := lw_g (lw_at lw_m3 35 rfl) rfl
theorem q562 : (Jvm.Cond.instanceMethod ({ cls := "TankField", name := "worst", desc := "(I)I" } : Jvm.MethodName)) ∈ lw_all := lw_g (lw_at lw_m3 40 rfl) rfl
theorem q563 : (Jvm.Cond.selects "TankField" ({ cls := "TankField", name := "worst", desc := "(I)I" } : Jvm.MethodName) ({ cls := "TankField", name := "worst", desc := "(I)I" } : Jvm.MethodName)) ∈ lw_all := lw_g (lw_at lw_m3 41 rfl) rfl
theorem q564 : (Jvm.Cond.code ({ cls := "TankField", name := "worst", desc := "(I)I" } : Jvm.MethodName) prog_1_method_30_code (6 : Nat) (Option.some Jvm.ClassFile.FieldType.int)) ∈ lw_all := lw_g (lw_at lw_m3 42 rfl) rfl
theorem q565 : (Jvm.Cond.methodLink "TankField" (223 : Nat) ({ cls := "java/lang/Math", name := "abs", desc := "(J)J" } : Jvm.MethodName)) ∈ lw_all := lw_g (lw_at lw_m3 43 rfl) rfl
theorem q569 : (Jvm.Cond.instanceMethod ({ cls := "TankField", name := "core", desc := "(II)J" } : Jvm.MethodName)) ∈ lw_all := lw_g (lw_at lw_m3 47 rfl) rfl
theorem q570 : (Jvm.Cond.selects "TankField" ({ cls := "TankField", name := "core", desc := "(II)J" } : Jvm.MethodName) ({ cls := "TankField", name := "core", desc := "(II)J" } : Jvm.MethodName)) ∈ lw_all := lw_g (lw_at lw_m3 48 rfl) rfl
theorem q571 : (Jvm.Cond.code ({ cls := "TankField", name := "core", desc := "(II)J" } : Jvm.MethodName) prog_1_method_31_code (7 : Nat) (Option.some Jvm.ClassFile.FieldType.long)) ∈ lw_all := lw_g (lw_at lw_m3 49 rfl) rfl
theorem q572 : (Jvm.Cond.methodLink "TankField" (226 : Nat) ({ cls := "TankField$Event", name := "hitOf", desc := "(I)LTankField$Plain;" } : Jvm.MethodName)) ∈ lw_all := lw_g (lw_at lw_m3 50 rfl) rfl
theorem q573 : (Jvm.Cond.methodLink "TankField" (230 : Nat) ({ cls := "TankField$Event", name := "tankOf", desc := "(I)LTankField$Tank;" } : Jvm.MethodName)) ∈ lw_all := lw_g (lw_at lw_m3 51 rfl) rfl
theorem q575 : (Jvm.Cond.instanceMethod ({ cls := "TankField", name := "sheet", desc := "(III)I" } : Jvm.MethodName)) ∈ lw_all := lw_g (lw_at lw_m3 53 rfl) rfl
theorem q576 : (Jvm.Cond.selects "TankField" ({ cls := "TankField", name := "sheet", desc := "(III)I" } : Jvm.MethodName) ({ cls := "TankField", name := "sheet", desc := "(III)I" } : Jvm.MethodName)) ∈ lw_all := lw_g (lw_at lw_m3 54 rfl) rfl
theorem q577 : (Jvm.Cond.codeWith ({ cls := "TankField", name := "sheet", desc := "(III)I" } : Jvm.MethodName) prog_1_method_41_code (5 : Nat) (Option.some Jvm.ClassFile.FieldType.int) [((40 : Nat), (59 : Nat), (60 : Nat), (259 : Nat))]) ∈ lw_all := lw_g (lw_at lw_m3 55 rfl) rfl
theorem q578 : (Jvm.Cond.classLink "TankField" (259 : Nat) "java/lang/NegativeArraySizeException") ∈ lw_all := lw_g (lw_at lw_m3 56 rfl) rfl
theorem q664 : (Jvm.Cond.methodLink "TankField" (246 : Nat) ({ cls := "TankField", name := "noSheet", desc := "(I)Z" } : Jvm.MethodName)) ∈ lw_all := lw_g (lw_at lw_m3 142 rfl) rfl
theorem q665 : (Jvm.Cond.static ({ cls := "TankField", name := "noSheet", desc := "(I)Z" } : Jvm.MethodName)) ∈ lw_all := lw_g (lw_at lw_m3 143 rfl) rfl
theorem q666 : (Jvm.Cond.code ({ cls := "TankField", name := "noSheet", desc := "(I)Z" } : Jvm.MethodName) prog_1_method_39_code (1 : Nat) (Option.some Jvm.ClassFile.FieldType.boolean)) ∈ lw_all := lw_g (lw_at lw_m3 144 rfl) rfl
theorem q667 : (Jvm.Cond.methodLink "TankField" (249 : Nat) ({ cls := "TankField", name := "refused", desc := "(I)I" } : Jvm.MethodName)) ∈ lw_all := lw_g (lw_at lw_m3 145 rfl) rfl
theorem q668 : (Jvm.Cond.privateMethod ({ cls := "TankField", name := "refused", desc := "(I)I" } : Jvm.MethodName)) ∈ lw_tbl := lw_at lw_m3 146 rfl
theorem q669 : (Jvm.Cond.instanceMethod ({ cls := "TankField", name := "refused", desc := "(I)I" } : Jvm.MethodName)) ∈ lw_all := lw_g (lw_at lw_m3 147 rfl) rfl
theorem q670 : (Jvm.Cond.code ({ cls := "TankField", name := "refused", desc := "(I)I" } : Jvm.MethodName) prog_1_method_32_code (2 : Nat) (Option.some Jvm.ClassFile.FieldType.int)) ∈ lw_all := lw_g (lw_at lw_m3 148 rfl) rfl
theorem q672 : (Jvm.Cond.methodLink "TankField" (252 : Nat) ({ cls := "TankField", name := "rowOf", desc := "(II)Ljava/lang/Object;" } : Jvm.MethodName)) ∈ lw_all := lw_g (lw_at lw_m3 150 rfl) rfl
theorem q673 : (Jvm.Cond.static ({ cls := "TankField", name := "rowOf", desc := "(II)Ljava/lang/Object;" } : Jvm.MethodName)) ∈ lw_all := lw_g (lw_at lw_m3 151 rfl) rfl
theorem q674 : (Jvm.Cond.code ({ cls := "TankField", name := "rowOf", desc := "(II)Ljava/lang/Object;" } : Jvm.MethodName) prog_1_method_35_code (2 : Nat) (Option.some (Jvm.ClassFile.FieldType.object "java/lang/Object"))) ∈ lw_all := lw_g (lw_at lw_m3 152 rfl) rfl
theorem q675 : (Jvm.Cond.methodLink "TankField" (256 : Nat) ({ cls := "TankField$Sheet", name := "<init>", desc := "(Ljava/lang/Object;)V" } : Jvm.MethodName)) ∈ lw_all := lw_g (lw_at lw_m3 153 rfl) rfl
theorem q680 : (Jvm.Cond.fieldLink "TankField" (242 : Nat) "TankField$Sheet" "row" "Ljava/lang/Object;") ∈ lw_all := lw_g (lw_at lw_m3 158 rfl) rfl
theorem q685 : (Jvm.Cond.methodLink "TankField" (261 : Nat) ({ cls := "TankField", name := "fails", desc := "(I)I" } : Jvm.MethodName)) ∈ lw_all := lw_g (lw_at lw_m3 163 rfl) rfl
theorem q686 : (Jvm.Cond.privateMethod ({ cls := "TankField", name := "fails", desc := "(I)I" } : Jvm.MethodName)) ∈ lw_tbl := lw_at lw_m3 164 rfl
theorem q687 : (Jvm.Cond.instanceMethod ({ cls := "TankField", name := "fails", desc := "(I)I" } : Jvm.MethodName)) ∈ lw_all := lw_g (lw_at lw_m3 165 rfl) rfl
theorem q688 : (Jvm.Cond.code ({ cls := "TankField", name := "fails", desc := "(I)I" } : Jvm.MethodName) prog_1_method_33_code (2 : Nat) (Option.some Jvm.ClassFile.FieldType.int)) ∈ lw_all := lw_g (lw_at lw_m3 166 rfl) rfl
theorem q690 : (Jvm.Cond.instanceMethod ({ cls := "TankField", name := "drop", desc := "(I)I" } : Jvm.MethodName)) ∈ lw_all := lw_g (lw_at lw_m3 168 rfl) rfl
theorem q691 : (Jvm.Cond.selects "TankField" ({ cls := "TankField", name := "drop", desc := "(I)I" } : Jvm.MethodName) ({ cls := "TankField", name := "drop", desc := "(I)I" } : Jvm.MethodName)) ∈ lw_all := lw_g (lw_at lw_m3 169 rfl) rfl
theorem q692 : (Jvm.Cond.code ({ cls := "TankField", name := "drop", desc := "(I)I" } : Jvm.MethodName) prog_1_method_42_code (3 : Nat) (Option.some Jvm.ClassFile.FieldType.int)) ∈ lw_all := lw_g (lw_at lw_m3 170 rfl) rfl
theorem q694 : (Jvm.Cond.instanceMethod ({ cls := "TankField", name := "put", desc := "(III)I" } : Jvm.MethodName)) ∈ lw_all := lw_g (lw_at lw_m3 172 rfl) rfl
theorem q695 : (Jvm.Cond.selects "TankField" ({ cls := "TankField", name := "put", desc := "(III)I" } : Jvm.MethodName) ({ cls := "TankField", name := "put", desc := "(III)I" } : Jvm.MethodName)) ∈ lw_all := lw_g (lw_at lw_m3 173 rfl) rfl
theorem q696 : (Jvm.Cond.codeWith ({ cls := "TankField", name := "put", desc := "(III)I" } : Jvm.MethodName) prog_1_method_43_code (5 : Nat) (Option.some Jvm.ClassFile.FieldType.int) [((18 : Nat), (33 : Nat), (34 : Nat), (268 : Nat)), ((18 : Nat), (33 : Nat), (42 : Nat), (270 : Nat))]) ∈ lw_all := lw_g (lw_at lw_m3 174 rfl) rfl
theorem q697 : (Jvm.Cond.classLink "TankField" (268 : Nat) "java/lang/NullPointerException") ∈ lw_all := lw_g (lw_at lw_m3 175 rfl) rfl
theorem q722 : (Jvm.Cond.classLink "TankField" (270 : Nat) "java/lang/IndexOutOfBoundsException") ∈ lw_all := lw_g (lw_at lw_m3 200 rfl) rfl
theorem q741 : (Jvm.Cond.methodLink "TankField" (264 : Nat) ({ cls := "TankField", name := "setIn", desc := "(Ljava/lang/Object;II)V" } : Jvm.MethodName)) ∈ lw_all := lw_g (lw_at lw_m3 219 rfl) rfl
theorem q742 : (Jvm.Cond.static ({ cls := "TankField", name := "setIn", desc := "(Ljava/lang/Object;II)V" } : Jvm.MethodName)) ∈ lw_all := lw_g (lw_at lw_m3 220 rfl) rfl
theorem q743 : (Jvm.Cond.code ({ cls := "TankField", name := "setIn", desc := "(Ljava/lang/Object;II)V" } : Jvm.MethodName) prog_1_method_38_code (3 : Nat) (Option.none : Option Jvm.ClassFile.FieldType)) ∈ lw_all := lw_g (lw_at lw_m3 221 rfl) rfl
theorem q744 : (Jvm.Cond.classLink "TankField" (237 : Nat) "[B") ∈ lw_all := lw_g (lw_at lw_m3 222 rfl) rfl
theorem q745 : (Jvm.Cond.classLink "TankField" (239 : Nat) "[S") ∈ lw_all := lw_g (lw_at lw_m3 223 rfl) rfl
theorem q746 : (Jvm.Cond.classLink "TankField" (241 : Nat) "[I") ∈ lw_all := lw_g (lw_at lw_m3 224 rfl) rfl
theorem q748 : (Jvm.Cond.instanceMethod ({ cls := "TankField", name := "at", desc := "(III)J" } : Jvm.MethodName)) ∈ lw_all := lw_g (lw_at lw_m3 226 rfl) rfl
theorem q749 : (Jvm.Cond.selects "TankField" ({ cls := "TankField", name := "at", desc := "(III)J" } : Jvm.MethodName) ({ cls := "TankField", name := "at", desc := "(III)J" } : Jvm.MethodName)) ∈ lw_all := lw_g (lw_at lw_m3 227 rfl) rfl
theorem q750 : (Jvm.Cond.codeWith ({ cls := "TankField", name := "at", desc := "(III)J" } : Jvm.MethodName) prog_1_method_44_code (5 : Nat) (Option.some Jvm.ClassFile.FieldType.long) [((25 : Nat), (36 : Nat), (37 : Nat), (268 : Nat)), ((25 : Nat), (36 : Nat), (45 : Nat), (284 : Nat)), ((25 : Nat), (36 : Nat), (53 : Nat), (270 : Nat))]) ∈ lw_all := lw_g (lw_at lw_m3 228 rfl) rfl
theorem q751 : (Jvm.Cond.classLink "TankField" (284 : Nat) "java/lang/ClassCastException") ∈ lw_all := lw_g (lw_at lw_m3 229 rfl) rfl
theorem q765 : (Jvm.Cond.methodLink "TankField" (272 : Nat) ({ cls := "TankField", name := "rowIn", desc := "(I)Ljava/lang/Object;" } : Jvm.MethodName)) ∈ lw_all := lw_g (lw_at lw_m4 3 rfl) rfl
theorem q766 : (Jvm.Cond.privateMethod ({ cls := "TankField", name := "rowIn", desc := "(I)Ljava/lang/Object;" } : Jvm.MethodName)) ∈ lw_tbl := lw_at lw_m4 4 rfl
theorem q767 : (Jvm.Cond.instanceMethod ({ cls := "TankField", name := "rowIn", desc := "(I)Ljava/lang/Object;" } : Jvm.MethodName)) ∈ lw_all := lw_g (lw_at lw_m4 5 rfl) rfl
theorem q768 : (Jvm.Cond.code ({ cls := "TankField", name := "rowIn", desc := "(I)Ljava/lang/Object;" } : Jvm.MethodName) prog_1_method_40_code (2 : Nat) (Option.some (Jvm.ClassFile.FieldType.object "java/lang/Object"))) ∈ lw_all := lw_g (lw_at lw_m4 6 rfl) rfl
theorem q769 : (Jvm.Cond.methodLink "TankField" (276 : Nat) ({ cls := "TankField", name := "cellOf", desc := "(Ljava/lang/Object;II)I" } : Jvm.MethodName)) ∈ lw_all := lw_g (lw_at lw_m4 7 rfl) rfl
theorem q770 : (Jvm.Cond.static ({ cls := "TankField", name := "cellOf", desc := "(Ljava/lang/Object;II)I" } : Jvm.MethodName)) ∈ lw_all := lw_g (lw_at lw_m4 8 rfl) rfl
theorem q771 : (Jvm.Cond.code ({ cls := "TankField", name := "cellOf", desc := "(Ljava/lang/Object;II)I" } : Jvm.MethodName) prog_1_method_36_code (3 : Nat) (Option.some Jvm.ClassFile.FieldType.int)) ∈ lw_all := lw_g (lw_at lw_m4 9 rfl) rfl
theorem q772 : (Jvm.Cond.methodLink "TankField" (280 : Nat) ({ cls := "TankField", name := "failsLong", desc := "(I)J" } : Jvm.MethodName)) ∈ lw_all := lw_g (lw_at lw_m4 10 rfl) rfl
theorem q773 : (Jvm.Cond.privateMethod ({ cls := "TankField", name := "failsLong", desc := "(I)J" } : Jvm.MethodName)) ∈ lw_tbl := lw_at lw_m4 11 rfl
theorem q774 : (Jvm.Cond.instanceMethod ({ cls := "TankField", name := "failsLong", desc := "(I)J" } : Jvm.MethodName)) ∈ lw_all := lw_g (lw_at lw_m4 12 rfl) rfl
theorem q775 : (Jvm.Cond.code ({ cls := "TankField", name := "failsLong", desc := "(I)J" } : Jvm.MethodName) prog_1_method_34_code (2 : Nat) (Option.some Jvm.ClassFile.FieldType.long)) ∈ lw_all := lw_g (lw_at lw_m4 13 rfl) rfl
theorem q777 : (Jvm.Cond.instanceMethod ({ cls := "TankField", name := "load", desc := "(IIII)I" } : Jvm.MethodName)) ∈ lw_all := lw_g (lw_at lw_m4 15 rfl) rfl
theorem q778 : (Jvm.Cond.selects "TankField" ({ cls := "TankField", name := "load", desc := "(IIII)I" } : Jvm.MethodName) ({ cls := "TankField", name := "load", desc := "(IIII)I" } : Jvm.MethodName)) ∈ lw_all := lw_g (lw_at lw_m4 16 rfl) rfl
theorem q779 : (Jvm.Cond.codeWith ({ cls := "TankField", name := "load", desc := "(IIII)I" } : Jvm.MethodName) prog_1_method_48_code (6 : Nat) (Option.some Jvm.ClassFile.FieldType.int) [((34 : Nat), (50 : Nat), (51 : Nat), (268 : Nat)), ((34 : Nat), (50 : Nat), (59 : Nat), (284 : Nat)), ((34 : Nat), (50 : Nat), (67 : Nat), (259 : Nat)), ((34 : Nat), (50 : Nat), (75 : Nat), (270 : Nat))]) ∈ lw_all := lw_g (lw_at lw_m4 17 rfl) rfl
theorem q780 : (Jvm.Cond.methodLink "TankField" (303 : Nat) ({ cls := "TankField", name := "cellsOf", desc := "(Ljava/lang/Object;III)[I" } : Jvm.MethodName)) ∈ lw_all := lw_g (lw_at lw_m4 18 rfl) rfl
theorem q781 : (Jvm.Cond.static ({ cls := "TankField", name := "cellsOf", desc := "(Ljava/lang/Object;III)[I" } : Jvm.MethodName)) ∈ lw_all := lw_g (lw_at lw_m4 19 rfl) rfl
theorem q782 : (Jvm.Cond.code ({ cls := "TankField", name := "cellsOf", desc := "(Ljava/lang/Object;III)[I" } : Jvm.MethodName) prog_1_method_46_code (8 : Nat) (Option.some (Jvm.ClassFile.FieldType.array Jvm.ClassFile.FieldType.int))) ∈ lw_all := lw_g (lw_at lw_m4 20 rfl) rfl
theorem q783 : (Jvm.Cond.methodLink "TankField" (291 : Nat) ({ cls := "TankField", name := "sizeOf", desc := "(Ljava/lang/Object;I)I" } : Jvm.MethodName)) ∈ lw_all := lw_g (lw_at lw_m4 21 rfl) rfl
theorem q784 : (Jvm.Cond.static ({ cls := "TankField", name := "sizeOf", desc := "(Ljava/lang/Object;I)I" } : Jvm.MethodName)) ∈ lw_all := lw_g (lw_at lw_m4 22 rfl) rfl
theorem q785 : (Jvm.Cond.code ({ cls := "TankField", name := "sizeOf", desc := "(Ljava/lang/Object;I)I" } : Jvm.MethodName) prog_1_method_37_code (2 : Nat) (Option.some Jvm.ClassFile.FieldType.int)) ∈ lw_all := lw_g (lw_at lw_m4 23 rfl) rfl
theorem q786 : (Jvm.Cond.methodLink "TankField" (295 : Nat) ({ cls := "java/lang/Math", name := "min", desc := "(II)I" } : Jvm.MethodName)) ∈ lw_all := lw_g (lw_at lw_m4 24 rfl) rfl
theorem q787 : (Jvm.Cond.methodLink "TankField" (299 : Nat) ({ cls := "TankField", name := "need", desc := "(Z)V" } : Jvm.MethodName)) ∈ lw_all := lw_g (lw_at lw_m4 25 rfl) rfl
theorem q788 : (Jvm.Cond.static ({ cls := "TankField", name := "need", desc := "(Z)V" } : Jvm.MethodName)) ∈ lw_all := lw_g (lw_at lw_m4 26 rfl) rfl
theorem q789 : (Jvm.Cond.code ({ cls := "TankField", name := "need", desc := "(Z)V" } : Jvm.MethodName) prog_1_method_45_code (1 : Nat) (Option.none : Option Jvm.ClassFile.FieldType)) ∈ lw_all := lw_g (lw_at lw_m4 27 rfl) rfl
theorem q798 : (Jvm.Cond.stringRef "TankField" (286 : Nat) "not all there") ∈ lw_tbl := lw_at lw_m4 36 rfl
theorem q799 : (Jvm.Cond.methodLink "TankField" (288 : Nat) ({ cls := "java/lang/IndexOutOfBoundsException", name := "<init>", desc := "(Ljava/lang/String;)V" } : Jvm.MethodName)) ∈ lw_all := lw_g (lw_at lw_m4 37 rfl) rfl
theorem q802 : (Jvm.Cond.methodLink "TankField" (307 : Nat) ({ cls := "TankField", name := "added", desc := "([I)I" } : Jvm.MethodName)) ∈ lw_all := lw_g (lw_at lw_m4 40 rfl) rfl
theorem q803 : (Jvm.Cond.privateMethod ({ cls := "TankField", name := "added", desc := "([I)I" } : Jvm.MethodName)) ∈ lw_tbl := lw_at lw_m4 41 rfl
theorem q804 : (Jvm.Cond.instanceMethod ({ cls := "TankField", name := "added", desc := "([I)I" } : Jvm.MethodName)) ∈ lw_all := lw_g (lw_at lw_m4 42 rfl) rfl
theorem q805 : (Jvm.Cond.code ({ cls := "TankField", name := "added", desc := "([I)I" } : Jvm.MethodName) prog_1_method_47_code (5 : Nat) (Option.some Jvm.ClassFile.FieldType.int)) ∈ lw_all := lw_g (lw_at lw_m4 43 rfl) rfl
theorem q807 : (Jvm.Cond.instanceMethod ({ cls := "TankField", name := "tell", desc := "(I)I" } : Jvm.MethodName)) ∈ lw_all := lw_g (lw_at lw_m4 45 rfl) rfl
theorem q808 : (Jvm.Cond.selects "TankField" ({ cls := "TankField", name := "tell", desc := "(I)I" } : Jvm.MethodName) ({ cls := "TankField", name := "tell", desc := "(I)I" } : Jvm.MethodName)) ∈ lw_all := lw_g (lw_at lw_m4 46 rfl) rfl
theorem q809 : (Jvm.Cond.code ({ cls := "TankField", name := "tell", desc := "(I)I" } : Jvm.MethodName) prog_1_method_49_code (2 : Nat) (Option.some Jvm.ClassFile.FieldType.int)) ∈ lw_all := lw_g (lw_at lw_m4 47 rfl) rfl
theorem q810 : (Jvm.Cond.methodLink "TankField" (311 : Nat) ({ cls := "TankField$Plain", name := "said", desc := "()I" } : Jvm.MethodName)) ∈ lw_all := lw_g (lw_at lw_m4 48 rfl) rfl
theorem q837 : (Jvm.Cond.instanceMethod ({ cls := "TankField", name := "weigh", desc := "(I)I" } : Jvm.MethodName)) ∈ lw_all := lw_g (lw_at lw_m4 75 rfl) rfl
theorem q838 : (Jvm.Cond.selects "TankField" ({ cls := "TankField", name := "weigh", desc := "(I)I" } : Jvm.MethodName) ({ cls := "TankField", name := "weigh", desc := "(I)I" } : Jvm.MethodName)) ∈ lw_all := lw_g (lw_at lw_m4 76 rfl) rfl
theorem q839 : (Jvm.Cond.code ({ cls := "TankField", name := "weigh", desc := "(I)I" } : Jvm.MethodName) prog_1_method_50_code (2 : Nat) (Option.some Jvm.ClassFile.FieldType.int)) ∈ lw_all := lw_g (lw_at lw_m4 77 rfl) rfl
theorem q903 : (Jvm.Cond.instanceMethod ({ cls := "TankField", name := "as", desc := "(II)I" } : Jvm.MethodName)) ∈ lw_all := lw_g (lw_at lw_m4 141 rfl) rfl
theorem q904 : (Jvm.Cond.selects "TankField" ({ cls := "TankField", name := "as", desc := "(II)I" } : Jvm.MethodName) ({ cls := "TankField", name := "as", desc := "(II)I" } : Jvm.MethodName)) ∈ lw_all := lw_g (lw_at lw_m4 142 rfl) rfl
theorem q905 : (Jvm.Cond.codeWith ({ cls := "TankField", name := "as", desc := "(II)I" } : Jvm.MethodName) prog_1_method_52_code (4 : Nat) (Option.some Jvm.ClassFile.FieldType.int) [((35 : Nat), (53 : Nat), (54 : Nat), (284 : Nat))]) ∈ lw_all := lw_g (lw_at lw_m4 143 rfl) rfl
theorem q906 : (Jvm.Cond.methodLink "TankField" (320 : Nat) ({ cls := "TankField", name := "taken", desc := "(LTankField$Plain;I)I" } : Jvm.MethodName)) ∈ lw_all := lw_g (lw_at lw_m4 144 rfl) rfl
theorem q907 : (Jvm.Cond.static ({ cls := "TankField", name := "taken", desc := "(LTankField$Plain;I)I" } : Jvm.MethodName)) ∈ lw_all := lw_g (lw_at lw_m4 145 rfl) rfl
theorem q908 : (Jvm.Cond.code ({ cls := "TankField", name := "taken", desc := "(LTankField$Plain;I)I" } : Jvm.MethodName) prog_1_method_51_code (2 : Nat) (Option.some Jvm.ClassFile.FieldType.int)) ∈ lw_all := lw_g (lw_at lw_m4 146 rfl) rfl
theorem q910 : (Jvm.Cond.instanceMethod ({ cls := "TankField", name := "trace", desc := "()I" } : Jvm.MethodName)) ∈ lw_all := lw_g (lw_at lw_m4 148 rfl) rfl
theorem q911 : (Jvm.Cond.selects "TankField" ({ cls := "TankField", name := "trace", desc := "()I" } : Jvm.MethodName) ({ cls := "TankField", name := "trace", desc := "()I" } : Jvm.MethodName)) ∈ lw_all := lw_g (lw_at lw_m4 149 rfl) rfl
theorem q912 : (Jvm.Cond.code ({ cls := "TankField", name := "trace", desc := "()I" } : Jvm.MethodName) prog_1_method_53_code (1 : Nat) (Option.some Jvm.ClassFile.FieldType.int)) ∈ lw_all := lw_g (lw_at lw_m4 150 rfl) rfl
theorem q914 : (Jvm.Cond.instanceMethod ({ cls := "TankField", name := "fault", desc := "()I" } : Jvm.MethodName)) ∈ lw_all := lw_g (lw_at lw_m4 152 rfl) rfl
theorem q915 : (Jvm.Cond.selects "TankField" ({ cls := "TankField", name := "fault", desc := "()I" } : Jvm.MethodName) ({ cls := "TankField", name := "fault", desc := "()I" } : Jvm.MethodName)) ∈ lw_all := lw_g (lw_at lw_m4 153 rfl) rfl
theorem q916 : (Jvm.Cond.code ({ cls := "TankField", name := "fault", desc := "()I" } : Jvm.MethodName) prog_1_method_54_code (1 : Nat) (Option.some Jvm.ClassFile.FieldType.int)) ∈ lw_all := lw_g (lw_at lw_m4 154 rfl) rfl
theorem q918 : (Jvm.Cond.instanceMethod ({ cls := "TankField", name := "told", desc := "(I)I" } : Jvm.MethodName)) ∈ lw_all := lw_g (lw_at lw_m4 156 rfl) rfl
theorem q919 : (Jvm.Cond.selects "TankField" ({ cls := "TankField", name := "told", desc := "(I)I" } : Jvm.MethodName) ({ cls := "TankField", name := "told", desc := "(I)I" } : Jvm.MethodName)) ∈ lw_all := lw_g (lw_at lw_m4 157 rfl) rfl
theorem q920 : (Jvm.Cond.code ({ cls := "TankField", name := "told", desc := "(I)I" } : Jvm.MethodName) prog_1_method_55_code (2 : Nat) (Option.some Jvm.ClassFile.FieldType.int)) ∈ lw_all := lw_g (lw_at lw_m4 158 rfl) rfl
theorem in_X0 : ∀ w ∈ wsX00, w ∈ lw_all := lw_in wsX00 [116, 118, 120, 122, 124, 126, 128, 130, 132, 134, 136, 138, 140, 142, 144] (by decide +kernel) (by decide +kernel)
