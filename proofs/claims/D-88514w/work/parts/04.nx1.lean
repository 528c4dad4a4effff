/-! TankField$Building -/
set_option maxRecDepth 100000
def RX1 : String := "TankField$Building"
def TX1 : u_T := fun k => match k with
  | 0 => ("TankField$Building", "events", "[LTankField$Event;", false)
  | _ => ("TankField$Building", "many", "I", false)
def tyX1 : Nat → FieldType := fun k => match k with
  | 0 => .array (.object "TankField$Event")
  | _ => .int
abbrev wsX10 : List Cond := u_ws RX1 TX1 2
theorem nmX1 : ∀ a, a < 2 → ∀ b, b < 2 → a ≠ b → (TX1 a).2.1 ≠ (TX1 b).2.1 := by decide +kernel
theorem tyX1_ok : ∀ k, k < 2 → parseFieldDescriptor (TX1 k).2.2.1 = some (tyX1 k) := by decide +kernel
abbrev cX1_init : ByteArray := prog_3_method_1_code
def yX1_init : MethodName := ⟨RX1, "<init>", "()V"⟩
def dkwX1_init_0 : List UInt8 := [42, 183, 0, 3, 42, 16, 8, 189, 0, 9, 181, 0, 11, 177]
abbrev dktX1_init_0 : List UInt8 := dkwX1_init_0 ++ []
theorem dksX1_init_0 : cX1_init.data.toList.drop 0 = dktX1_init_0 := by decide +kernel
theorem dX1_init_0 : decode cX1_init 0 = .ok (.aload_n 0, 1) := dk_42 (dk_at dksX1_init_0 0 rfl rfl)
theorem dX1_init_1 : decode cX1_init 1 = .ok (.invokespecial 3, 3) := dk_183 0 3 (dk_at dksX1_init_0 1 rfl rfl)
theorem dX1_init_4 : decode cX1_init 4 = .ok (.aload_n 0, 1) := dk_42 (dk_at dksX1_init_0 4 rfl rfl)
theorem dX1_init_5 : decode cX1_init 5 = .ok (.bipush 8, 2) := dk_16 8 (dk_at dksX1_init_0 5 rfl rfl)
theorem dX1_init_7 : decode cX1_init 7 = .ok (.anewarray 9, 3) := dk_189 0 9 (dk_at dksX1_init_0 7 rfl rfl)
theorem dX1_init_10 : decode cX1_init 10 = .ok (.putfield 11, 3) := dk_181 0 11 (dk_at dksX1_init_0 10 rfl rfl)
theorem dX1_init_13 : decode cX1_init 13 = .ok (.return_, 1) := dk_177 (dk_at dksX1_init_0 13 rfl rfl)
abbrev cX1_eventOf : ByteArray := prog_3_method_2_code
def yX1_eventOf : MethodName := ⟨RX1, "eventOf", "(I)I"⟩
def dkwX1_eventOf_1 : List UInt8 := [172, 132, 2, 1, 167, 255, 230, 16, 247, 172]
abbrev dktX1_eventOf_1 : List UInt8 := dkwX1_eventOf_1 ++ []
def dkwX1_eventOf_0 : List UInt8 := [3, 61, 28, 42, 180, 0, 17, 162, 0, 24, 42, 180, 0, 11, 28, 50, 27, 182, 0, 21, 153, 0, 5, 28]
abbrev dktX1_eventOf_0 : List UInt8 := dkwX1_eventOf_0 ++ dktX1_eventOf_1
theorem dksX1_eventOf_0 : cX1_eventOf.data.toList.drop 0 = dktX1_eventOf_0 := by decide +kernel
theorem dksX1_eventOf_1 : cX1_eventOf.data.toList.drop 24 = dktX1_eventOf_1 := dk_seg dksX1_eventOf_0 24 rfl rfl
theorem dX1_eventOf_0 : decode cX1_eventOf 0 = .ok (.iconst 0, 1) := dk_3 (dk_at dksX1_eventOf_0 0 rfl rfl)
theorem dX1_eventOf_1 : decode cX1_eventOf 1 = .ok (.istore_n 2, 1) := dk_61 (dk_at dksX1_eventOf_0 1 rfl rfl)
theorem dX1_eventOf_2 : decode cX1_eventOf 2 = .ok (.iload_n 2, 1) := dk_28 (dk_at dksX1_eventOf_0 2 rfl rfl)
theorem dX1_eventOf_3 : decode cX1_eventOf 3 = .ok (.aload_n 0, 1) := dk_42 (dk_at dksX1_eventOf_0 3 rfl rfl)
theorem dX1_eventOf_4 : decode cX1_eventOf 4 = .ok (.getfield 17, 3) := dk_180 0 17 (dk_at dksX1_eventOf_0 4 rfl rfl)
theorem dX1_eventOf_7 : decode cX1_eventOf 7 = .ok (.if_icmp .ge 24, 3) := dk_162 0 24 (dk_at dksX1_eventOf_0 7 rfl rfl)
theorem dX1_eventOf_10 : decode cX1_eventOf 10 = .ok (.aload_n 0, 1) := dk_42 (dk_at dksX1_eventOf_0 10 rfl rfl)
theorem dX1_eventOf_11 : decode cX1_eventOf 11 = .ok (.getfield 11, 3) := dk_180 0 11 (dk_at dksX1_eventOf_0 11 rfl rfl)
theorem dX1_eventOf_14 : decode cX1_eventOf 14 = .ok (.iload_n 2, 1) := dk_28 (dk_at dksX1_eventOf_0 14 rfl rfl)
theorem dX1_eventOf_15 : decode cX1_eventOf 15 = .ok (.aaload, 1) := dk_50 (dk_at dksX1_eventOf_0 15 rfl rfl)
theorem dX1_eventOf_16 : decode cX1_eventOf 16 = .ok (.iload_n 1, 1) := dk_27 (dk_at dksX1_eventOf_0 16 rfl rfl)
theorem dX1_eventOf_17 : decode cX1_eventOf 17 = .ok (.invokevirtual 21, 3) := dk_182 0 21 (dk_at dksX1_eventOf_0 17 rfl rfl)
theorem dX1_eventOf_20 : decode cX1_eventOf 20 = .ok (.ifCond .eq 5, 3) := dk_153 0 5 (dk_at dksX1_eventOf_0 20 rfl rfl)
theorem dX1_eventOf_23 : decode cX1_eventOf 23 = .ok (.iload_n 2, 1) := dk_28 (dk_at dksX1_eventOf_0 23 rfl rfl)
theorem dX1_eventOf_24 : decode cX1_eventOf 24 = .ok (.ireturn, 1) := dk_172 (dk_at dksX1_eventOf_1 0 rfl rfl)
theorem dX1_eventOf_25 : decode cX1_eventOf 25 = .ok (.iinc 2 1, 3) := dk_132 2 1 (dk_at dksX1_eventOf_1 1 rfl rfl)
theorem dX1_eventOf_28 : decode cX1_eventOf 28 = .ok (.goto (-26), 3) := dk_167 255 230 (dk_at dksX1_eventOf_1 4 rfl rfl)
theorem dX1_eventOf_31 : decode cX1_eventOf 31 = .ok (.bipush (-9), 2) := dk_16 247 (dk_at dksX1_eventOf_1 7 rfl rfl)
theorem dX1_eventOf_33 : decode cX1_eventOf 33 = .ok (.ireturn, 1) := dk_172 (dk_at dksX1_eventOf_1 9 rfl rfl)
abbrev cX1_add : ByteArray := prog_3_method_3_code
def yX1_add : MethodName := ⟨RX1, "add", "(LTankField$Event;)V"⟩
def dkwX1_add_4 : List UInt8 := [180, 0, 11, 28, 43, 83, 42, 89, 180, 0, 17, 4, 96, 181, 0, 17, 177]
abbrev dktX1_add_4 : List UInt8 := dkwX1_add_4 ++ []
def dkwX1_add_3 : List UInt8 := [42, 180, 0, 11, 28, 42, 180, 0, 11, 28, 4, 96, 42, 180, 0, 17, 28, 100, 184, 0, 25, 42]
abbrev dktX1_add_3 : List UInt8 := dkwX1_add_3 ++ dktX1_add_4
def dkwX1_add_2 : List UInt8 := [158, 0, 24, 43, 42, 180, 0, 11, 28, 4, 100, 50, 182, 0, 31, 153, 0, 9, 132, 2, 255, 167, 255, 234]
abbrev dktX1_add_2 : List UInt8 := dkwX1_add_2 ++ dktX1_add_3
def dkwX1_add_1 : List UInt8 := [180, 0, 11, 3, 44, 3, 42, 180, 0, 17, 184, 0, 25, 42, 44, 181, 0, 11, 42, 180, 0, 17, 61, 28]
abbrev dktX1_add_1 : List UInt8 := dkwX1_add_1 ++ dktX1_add_2
def dkwX1_add_0 : List UInt8 := [42, 180, 0, 17, 42, 180, 0, 11, 190, 160, 0, 32, 5, 42, 180, 0, 17, 104, 189, 0, 9, 77, 42]
abbrev dktX1_add_0 : List UInt8 := dkwX1_add_0 ++ dktX1_add_1
theorem dksX1_add_0 : cX1_add.data.toList.drop 0 = dktX1_add_0 := by decide +kernel
theorem dksX1_add_1 : cX1_add.data.toList.drop 23 = dktX1_add_1 := dk_seg dksX1_add_0 23 rfl rfl
theorem dksX1_add_2 : cX1_add.data.toList.drop 47 = dktX1_add_2 := dk_seg dksX1_add_1 24 rfl rfl
theorem dksX1_add_3 : cX1_add.data.toList.drop 71 = dktX1_add_3 := dk_seg dksX1_add_2 24 rfl rfl
theorem dksX1_add_4 : cX1_add.data.toList.drop 93 = dktX1_add_4 := dk_seg dksX1_add_3 22 rfl rfl
theorem dX1_add_0 : decode cX1_add 0 = .ok (.aload_n 0, 1) := dk_42 (dk_at dksX1_add_0 0 rfl rfl)
theorem dX1_add_1 : decode cX1_add 1 = .ok (.getfield 17, 3) := dk_180 0 17 (dk_at dksX1_add_0 1 rfl rfl)
theorem dX1_add_4 : decode cX1_add 4 = .ok (.aload_n 0, 1) := dk_42 (dk_at dksX1_add_0 4 rfl rfl)
theorem dX1_add_5 : decode cX1_add 5 = .ok (.getfield 11, 3) := dk_180 0 11 (dk_at dksX1_add_0 5 rfl rfl)
theorem dX1_add_8 : decode cX1_add 8 = .ok (.arraylength, 1) := dk_190 (dk_at dksX1_add_0 8 rfl rfl)
theorem dX1_add_9 : decode cX1_add 9 = .ok (.if_icmp .ne 32, 3) := dk_160 0 32 (dk_at dksX1_add_0 9 rfl rfl)
theorem dX1_add_12 : decode cX1_add 12 = .ok (.iconst 2, 1) := dk_5 (dk_at dksX1_add_0 12 rfl rfl)
theorem dX1_add_13 : decode cX1_add 13 = .ok (.aload_n 0, 1) := dk_42 (dk_at dksX1_add_0 13 rfl rfl)
theorem dX1_add_14 : decode cX1_add 14 = .ok (.getfield 17, 3) := dk_180 0 17 (dk_at dksX1_add_0 14 rfl rfl)
theorem dX1_add_17 : decode cX1_add 17 = .ok (.imul, 1) := dk_104 (dk_at dksX1_add_0 17 rfl rfl)
theorem dX1_add_18 : decode cX1_add 18 = .ok (.anewarray 9, 3) := dk_189 0 9 (dk_at dksX1_add_0 18 rfl rfl)
theorem dX1_add_21 : decode cX1_add 21 = .ok (.astore_n 2, 1) := dk_77 (dk_at dksX1_add_0 21 rfl rfl)
theorem dX1_add_22 : decode cX1_add 22 = .ok (.aload_n 0, 1) := dk_42 (dk_at dksX1_add_0 22 rfl rfl)
theorem dX1_add_23 : decode cX1_add 23 = .ok (.getfield 11, 3) := dk_180 0 11 (dk_at dksX1_add_1 0 rfl rfl)
theorem dX1_add_26 : decode cX1_add 26 = .ok (.iconst 0, 1) := dk_3 (dk_at dksX1_add_1 3 rfl rfl)
theorem dX1_add_27 : decode cX1_add 27 = .ok (.aload_n 2, 1) := dk_44 (dk_at dksX1_add_1 4 rfl rfl)
theorem dX1_add_28 : decode cX1_add 28 = .ok (.iconst 0, 1) := dk_3 (dk_at dksX1_add_1 5 rfl rfl)
theorem dX1_add_29 : decode cX1_add 29 = .ok (.aload_n 0, 1) := dk_42 (dk_at dksX1_add_1 6 rfl rfl)
theorem dX1_add_30 : decode cX1_add 30 = .ok (.getfield 17, 3) := dk_180 0 17 (dk_at dksX1_add_1 7 rfl rfl)
theorem dX1_add_33 : decode cX1_add 33 = .ok (.invokestatic 25, 3) := dk_184 0 25 (dk_at dksX1_add_1 10 rfl rfl)
theorem dX1_add_36 : decode cX1_add 36 = .ok (.aload_n 0, 1) := dk_42 (dk_at dksX1_add_1 13 rfl rfl)
theorem dX1_add_37 : decode cX1_add 37 = .ok (.aload_n 2, 1) := dk_44 (dk_at dksX1_add_1 14 rfl rfl)
theorem dX1_add_38 : decode cX1_add 38 = .ok (.putfield 11, 3) := dk_181 0 11 (dk_at dksX1_add_1 15 rfl rfl)
theorem dX1_add_41 : decode cX1_add 41 = .ok (.aload_n 0, 1) := dk_42 (dk_at dksX1_add_1 18 rfl rfl)
theorem dX1_add_42 : decode cX1_add 42 = .ok (.getfield 17, 3) := dk_180 0 17 (dk_at dksX1_add_1 19 rfl rfl)
theorem dX1_add_45 : decode cX1_add 45 = .ok (.istore_n 2, 1) := dk_61 (dk_at dksX1_add_1 22 rfl rfl)
theorem dX1_add_46 : decode cX1_add 46 = .ok (.iload_n 2, 1) := dk_28 (dk_at dksX1_add_1 23 rfl rfl)
theorem dX1_add_47 : decode cX1_add 47 = .ok (.ifCond .le 24, 3) := dk_158 0 24 (dk_at dksX1_add_2 0 rfl rfl)
theorem dX1_add_50 : decode cX1_add 50 = .ok (.aload_n 1, 1) := dk_43 (dk_at dksX1_add_2 3 rfl rfl)
theorem dX1_add_51 : decode cX1_add 51 = .ok (.aload_n 0, 1) := dk_42 (dk_at dksX1_add_2 4 rfl rfl)
theorem dX1_add_52 : decode cX1_add 52 = .ok (.getfield 11, 3) := dk_180 0 11 (dk_at dksX1_add_2 5 rfl rfl)
theorem dX1_add_55 : decode cX1_add 55 = .ok (.iload_n 2, 1) := dk_28 (dk_at dksX1_add_2 8 rfl rfl)
theorem dX1_add_56 : decode cX1_add 56 = .ok (.iconst 1, 1) := dk_4 (dk_at dksX1_add_2 9 rfl rfl)
theorem dX1_add_57 : decode cX1_add 57 = .ok (.isub, 1) := dk_100 (dk_at dksX1_add_2 10 rfl rfl)
theorem dX1_add_58 : decode cX1_add 58 = .ok (.aaload, 1) := dk_50 (dk_at dksX1_add_2 11 rfl rfl)
theorem dX1_add_59 : decode cX1_add 59 = .ok (.invokevirtual 31, 3) := dk_182 0 31 (dk_at dksX1_add_2 12 rfl rfl)
theorem dX1_add_62 : decode cX1_add 62 = .ok (.ifCond .eq 9, 3) := dk_153 0 9 (dk_at dksX1_add_2 15 rfl rfl)
theorem dX1_add_65 : decode cX1_add 65 = .ok (.iinc 2 (-1), 3) := dk_132 2 255 (dk_at dksX1_add_2 18 rfl rfl)
theorem dX1_add_68 : decode cX1_add 68 = .ok (.goto (-22), 3) := dk_167 255 234 (dk_at dksX1_add_2 21 rfl rfl)
theorem dX1_add_71 : decode cX1_add 71 = .ok (.aload_n 0, 1) := dk_42 (dk_at dksX1_add_3 0 rfl rfl)
theorem dX1_add_72 : decode cX1_add 72 = .ok (.getfield 11, 3) := dk_180 0 11 (dk_at dksX1_add_3 1 rfl rfl)
theorem dX1_add_75 : decode cX1_add 75 = .ok (.iload_n 2, 1) := dk_28 (dk_at dksX1_add_3 4 rfl rfl)
theorem dX1_add_76 : decode cX1_add 76 = .ok (.aload_n 0, 1) := dk_42 (dk_at dksX1_add_3 5 rfl rfl)
theorem dX1_add_77 : decode cX1_add 77 = .ok (.getfield 11, 3) := dk_180 0 11 (dk_at dksX1_add_3 6 rfl rfl)
theorem dX1_add_80 : decode cX1_add 80 = .ok (.iload_n 2, 1) := dk_28 (dk_at dksX1_add_3 9 rfl rfl)
theorem dX1_add_81 : decode cX1_add 81 = .ok (.iconst 1, 1) := dk_4 (dk_at dksX1_add_3 10 rfl rfl)
theorem dX1_add_82 : decode cX1_add 82 = .ok (.iadd, 1) := dk_96 (dk_at dksX1_add_3 11 rfl rfl)
theorem dX1_add_83 : decode cX1_add 83 = .ok (.aload_n 0, 1) := dk_42 (dk_at dksX1_add_3 12 rfl rfl)
theorem dX1_add_84 : decode cX1_add 84 = .ok (.getfield 17, 3) := dk_180 0 17 (dk_at dksX1_add_3 13 rfl rfl)
theorem dX1_add_87 : decode cX1_add 87 = .ok (.iload_n 2, 1) := dk_28 (dk_at dksX1_add_3 16 rfl rfl)
theorem dX1_add_88 : decode cX1_add 88 = .ok (.isub, 1) := dk_100 (dk_at dksX1_add_3 17 rfl rfl)
theorem dX1_add_89 : decode cX1_add 89 = .ok (.invokestatic 25, 3) := dk_184 0 25 (dk_at dksX1_add_3 18 rfl rfl)
theorem dX1_add_92 : decode cX1_add 92 = .ok (.aload_n 0, 1) := dk_42 (dk_at dksX1_add_3 21 rfl rfl)
theorem dX1_add_93 : decode cX1_add 93 = .ok (.getfield 11, 3) := dk_180 0 11 (dk_at dksX1_add_4 0 rfl rfl)
theorem dX1_add_96 : decode cX1_add 96 = .ok (.iload_n 2, 1) := dk_28 (dk_at dksX1_add_4 3 rfl rfl)
theorem dX1_add_97 : decode cX1_add 97 = .ok (.aload_n 1, 1) := dk_43 (dk_at dksX1_add_4 4 rfl rfl)
theorem dX1_add_98 : decode cX1_add 98 = .ok (.aastore, 1) := dk_83 (dk_at dksX1_add_4 5 rfl rfl)
theorem dX1_add_99 : decode cX1_add 99 = .ok (.aload_n 0, 1) := dk_42 (dk_at dksX1_add_4 6 rfl rfl)
theorem dX1_add_100 : decode cX1_add 100 = .ok (.dup, 1) := dk_89 (dk_at dksX1_add_4 7 rfl rfl)
theorem dX1_add_101 : decode cX1_add 101 = .ok (.getfield 17, 3) := dk_180 0 17 (dk_at dksX1_add_4 8 rfl rfl)
theorem dX1_add_104 : decode cX1_add 104 = .ok (.iconst 1, 1) := dk_4 (dk_at dksX1_add_4 11 rfl rfl)
theorem dX1_add_105 : decode cX1_add 105 = .ok (.iadd, 1) := dk_96 (dk_at dksX1_add_4 12 rfl rfl)
theorem dX1_add_106 : decode cX1_add 106 = .ok (.putfield 17, 3) := dk_181 0 17 (dk_at dksX1_add_4 13 rfl rfl)
theorem dX1_add_109 : decode cX1_add 109 = .ok (.return_, 1) := dk_177 (dk_at dksX1_add_4 16 rfl rfl)
abbrev cX1_hasLike : ByteArray := prog_3_method_4_code
def yX1_hasLike : MethodName := ⟨RX1, "hasLike", "(LTankField$Event;)Z"⟩
def dkwX1_hasLike_1 : List UInt8 := [61, 132, 3, 1, 167, 255, 232, 28, 172]
abbrev dktX1_hasLike_1 : List UInt8 := dkwX1_hasLike_1 ++ []
def dkwX1_hasLike_0 : List UInt8 := [3, 61, 3, 62, 29, 42, 180, 0, 17, 162, 0, 22, 28, 42, 180, 0, 11, 29, 50, 43, 182, 0, 35, 128]
abbrev dktX1_hasLike_0 : List UInt8 := dkwX1_hasLike_0 ++ dktX1_hasLike_1
theorem dksX1_hasLike_0 : cX1_hasLike.data.toList.drop 0 = dktX1_hasLike_0 := by decide +kernel
theorem dksX1_hasLike_1 : cX1_hasLike.data.toList.drop 24 = dktX1_hasLike_1 := dk_seg dksX1_hasLike_0 24 rfl rfl
theorem dX1_hasLike_0 : decode cX1_hasLike 0 = .ok (.iconst 0, 1) := dk_3 (dk_at dksX1_hasLike_0 0 rfl rfl)
theorem dX1_hasLike_1 : decode cX1_hasLike 1 = .ok (.istore_n 2, 1) := dk_61 (dk_at dksX1_hasLike_0 1 rfl rfl)
theorem dX1_hasLike_2 : decode cX1_hasLike 2 = .ok (.iconst 0, 1) := dk_3 (dk_at dksX1_hasLike_0 2 rfl rfl)
theorem dX1_hasLike_3 : decode cX1_hasLike 3 = .ok (.istore_n 3, 1) := dk_62 (dk_at dksX1_hasLike_0 3 rfl rfl)
theorem dX1_hasLike_4 : decode cX1_hasLike 4 = .ok (.iload_n 3, 1) := dk_29 (dk_at dksX1_hasLike_0 4 rfl rfl)
theorem dX1_hasLike_5 : decode cX1_hasLike 5 = .ok (.aload_n 0, 1) := dk_42 (dk_at dksX1_hasLike_0 5 rfl rfl)
theorem dX1_hasLike_6 : decode cX1_hasLike 6 = .ok (.getfield 17, 3) := dk_180 0 17 (dk_at dksX1_hasLike_0 6 rfl rfl)
theorem dX1_hasLike_9 : decode cX1_hasLike 9 = .ok (.if_icmp .ge 22, 3) := dk_162 0 22 (dk_at dksX1_hasLike_0 9 rfl rfl)
theorem dX1_hasLike_12 : decode cX1_hasLike 12 = .ok (.iload_n 2, 1) := dk_28 (dk_at dksX1_hasLike_0 12 rfl rfl)
theorem dX1_hasLike_13 : decode cX1_hasLike 13 = .ok (.aload_n 0, 1) := dk_42 (dk_at dksX1_hasLike_0 13 rfl rfl)
theorem dX1_hasLike_14 : decode cX1_hasLike 14 = .ok (.getfield 11, 3) := dk_180 0 11 (dk_at dksX1_hasLike_0 14 rfl rfl)
theorem dX1_hasLike_17 : decode cX1_hasLike 17 = .ok (.iload_n 3, 1) := dk_29 (dk_at dksX1_hasLike_0 17 rfl rfl)
theorem dX1_hasLike_18 : decode cX1_hasLike 18 = .ok (.aaload, 1) := dk_50 (dk_at dksX1_hasLike_0 18 rfl rfl)
theorem dX1_hasLike_19 : decode cX1_hasLike 19 = .ok (.aload_n 1, 1) := dk_43 (dk_at dksX1_hasLike_0 19 rfl rfl)
theorem dX1_hasLike_20 : decode cX1_hasLike 20 = .ok (.invokevirtual 35, 3) := dk_182 0 35 (dk_at dksX1_hasLike_0 20 rfl rfl)
theorem dX1_hasLike_23 : decode cX1_hasLike 23 = .ok (.ior, 1) := dk_128 (dk_at dksX1_hasLike_0 23 rfl rfl)
theorem dX1_hasLike_24 : decode cX1_hasLike 24 = .ok (.istore_n 2, 1) := dk_61 (dk_at dksX1_hasLike_1 0 rfl rfl)
theorem dX1_hasLike_25 : decode cX1_hasLike 25 = .ok (.iinc 3 1, 3) := dk_132 3 1 (dk_at dksX1_hasLike_1 1 rfl rfl)
theorem dX1_hasLike_28 : decode cX1_hasLike 28 = .ok (.goto (-24), 3) := dk_167 255 232 (dk_at dksX1_hasLike_1 4 rfl rfl)
theorem dX1_hasLike_31 : decode cX1_hasLike 31 = .ok (.iload_n 2, 1) := dk_28 (dk_at dksX1_hasLike_1 7 rfl rfl)
theorem dX1_hasLike_32 : decode cX1_hasLike 32 = .ok (.ireturn, 1) := dk_172 (dk_at dksX1_hasLike_1 8 rfl rfl)
theorem q44 : (Jvm.Cond.initialized "TankField$Building") ∈ lw_all := lw_g (lw_at lw_m1 2 rfl) rfl
theorem q78 : (Jvm.Cond.instantiable "TankField$Building" (2 : Nat)) ∈ lw_all := lw_g (lw_at lw_m1 36 rfl) rfl
theorem q80 : (Jvm.Cond.instanceMethod ({ cls := "TankField$Building", name := "<init>", desc := "()V" } : Jvm.MethodName)) ∈ lw_all := lw_g (lw_at lw_m1 38 rfl) rfl
theorem q81 : (Jvm.Cond.code ({ cls := "TankField$Building", name := "<init>", desc := "()V" } : Jvm.MethodName) prog_3_method_1_code (1 : Nat) (Option.none : Option Jvm.ClassFile.FieldType)) ∈ lw_all := lw_g (lw_at lw_m1 39 rfl) rfl
theorem q82 : (Jvm.Cond.methodLink "TankField$Building" (3 : Nat) ({ cls := "java/lang/Object", name := "<init>", desc := "()V" } : Jvm.MethodName)) ∈ lw_all := lw_g (lw_at lw_m1 40 rfl) rfl
theorem q83 : (Jvm.Cond.classLink "TankField$Building" (9 : Nat) "TankField$Event") ∈ lw_all := lw_g (lw_at lw_m1 41 rfl) rfl
theorem q85 : (Jvm.Cond.fieldLink "TankField$Building" (11 : Nat) "TankField$Building" "events" "[LTankField$Event;") ∈ lw_all := lw_g (lw_at lw_m1 43 rfl) rfl
theorem q87 : (Jvm.Cond.fieldLink "TankField$Building" (17 : Nat) "TankField$Building" "many" "I") ∈ lw_all := lw_g (lw_at lw_m1 45 rfl) rfl
theorem q89 : (Jvm.Cond.lays "TankField$Building" "TankField$Building" "events" "[LTankField$Event;") ∈ lw_all := lw_g (lw_at lw_m1 47 rfl) rfl
theorem q90 : (Jvm.Cond.soleField "TankField$Building" "events") ∈ lw_all := lw_g (lw_at lw_m1 48 rfl) rfl
theorem q91 : (Jvm.Cond.lays "TankField$Building" "TankField$Building" "many" "I") ∈ lw_all := lw_g (lw_at lw_m1 49 rfl) rfl
theorem q92 : (Jvm.Cond.soleField "TankField$Building" "many") ∈ lw_all := lw_g (lw_at lw_m1 50 rfl) rfl
theorem q93 : (Jvm.Cond.superclass "TankField$Building" "java/lang/Object") ∈ lw_all := lw_g (lw_at lw_m1 51 rfl) rfl
theorem q392 : (Jvm.Cond.instanceMethod ({ cls := "TankField$Building", name := "eventOf", desc := "(I)I" } : Jvm.MethodName)) ∈ lw_all := lw_g (lw_at lw_m2 110 rfl) rfl
theorem q393 : (Jvm.Cond.selects "TankField$Building" ({ cls := "TankField$Building", name := "eventOf", desc := "(I)I" } : Jvm.MethodName) ({ cls := "TankField$Building", name := "eventOf", desc := "(I)I" } : Jvm.MethodName)) ∈ lw_all := lw_g (lw_at lw_m2 111 rfl) rfl
theorem q394 : (Jvm.Cond.code ({ cls := "TankField$Building", name := "eventOf", desc := "(I)I" } : Jvm.MethodName) prog_3_method_2_code (3 : Nat) (Option.some Jvm.ClassFile.FieldType.int)) ∈ lw_all := lw_g (lw_at lw_m2 112 rfl) rfl
theorem q395 : (Jvm.Cond.methodLink "TankField$Building" (21 : Nat) ({ cls := "TankField$Event", name := "has", desc := "(I)Z" } : Jvm.MethodName)) ∈ lw_all := lw_g (lw_at lw_m2 113 rfl) rfl
theorem q458 : (Jvm.Cond.instanceMethod ({ cls := "TankField$Building", name := "add", desc := "(LTankField$Event;)V" } : Jvm.MethodName)) ∈ lw_all := lw_g (lw_at lw_m2 176 rfl) rfl
theorem q459 : (Jvm.Cond.selects "TankField$Building" ({ cls := "TankField$Building", name := "add", desc := "(LTankField$Event;)V" } : Jvm.MethodName) ({ cls := "TankField$Building", name := "add", desc := "(LTankField$Event;)V" } : Jvm.MethodName)) ∈ lw_all := lw_g (lw_at lw_m2 177 rfl) rfl
theorem q460 : (Jvm.Cond.code ({ cls := "TankField$Building", name := "add", desc := "(LTankField$Event;)V" } : Jvm.MethodName) prog_3_method_3_code (3 : Nat) (Option.none : Option Jvm.ClassFile.FieldType)) ∈ lw_all := lw_g (lw_at lw_m2 178 rfl) rfl
theorem q461 : (Jvm.Cond.methodLink "TankField$Building" (25 : Nat) ({ cls := "java/lang/System", name := "arraycopy", desc := "(Ljava/lang/Object;ILjava/lang/Object;II)V" } : Jvm.MethodName)) ∈ lw_all := lw_g (lw_at lw_m2 179 rfl) rfl
theorem q464 : (Jvm.Cond.methodLink "TankField$Building" (31 : Nat) ({ cls := "TankField$Event", name := "isAhead", desc := "(LTankField$Event;)Z" } : Jvm.MethodName)) ∈ lw_all := lw_g (lw_at lw_m2 182 rfl) rfl
theorem q477 : (Jvm.Cond.instanceMethod ({ cls := "TankField$Building", name := "hasLike", desc := "(LTankField$Event;)Z" } : Jvm.MethodName)) ∈ lw_all := lw_g (lw_at lw_m2 195 rfl) rfl
theorem q478 : (Jvm.Cond.selects "TankField$Building" ({ cls := "TankField$Building", name := "hasLike", desc := "(LTankField$Event;)Z" } : Jvm.MethodName) ({ cls := "TankField$Building", name := "hasLike", desc := "(LTankField$Event;)Z" } : Jvm.MethodName)) ∈ lw_all := lw_g (lw_at lw_m2 196 rfl) rfl
theorem q479 : (Jvm.Cond.code ({ cls := "TankField$Building", name := "hasLike", desc := "(LTankField$Event;)Z" } : Jvm.MethodName) prog_3_method_4_code (4 : Nat) (Option.some Jvm.ClassFile.FieldType.boolean)) ∈ lw_all := lw_g (lw_at lw_m2 197 rfl) rfl
theorem q480 : (Jvm.Cond.methodLink "TankField$Building" (35 : Nat) ({ cls := "TankField$Event", name := "isSame", desc := "(LTankField$Event;)Z" } : Jvm.MethodName)) ∈ lw_all := lw_g (lw_at lw_m2 198 rfl) rfl
theorem in_X1 : ∀ w ∈ wsX10, w ∈ lw_all := lw_in wsX10 [89, 91] (by decide +kernel) (by decide +kernel)

/-! TankField$Tank -/
set_option maxRecDepth 100000
def RX3 : String := "TankField$Tank"
def TX3 : u_T := fun k => match k with
  | 0 => ("TankField$Tank", "x", "I", true)
  | 1 => ("TankField$Tank", "y", "I", true)
  | 2 => ("TankField$Tank", "clocks", "[LTankField$Span;", true)
  | 3 => ("TankField$Tank", "clockMany", "I", false)
  | 4 => ("TankField$Tank", "downs", "[LTankField$Span;", true)
  | _ => ("TankField$Tank", "downMany", "I", false)
def tyX3 : Nat → FieldType := fun k => match k with
  | 0 => .int
  | 1 => .int
  | 2 => .array (.object "TankField$Span")
  | 3 => .int
  | 4 => .array (.object "TankField$Span")
  | _ => .int
abbrev wsX30 : List Cond := u_ws RX3 TX3 6
theorem nmX3 : ∀ a, a < 6 → ∀ b, b < 6 → a ≠ b → (TX3 a).2.1 ≠ (TX3 b).2.1 := by decide +kernel
theorem tyX3_ok : ∀ k, k < 6 → parseFieldDescriptor (TX3 k).2.2.1 = some (tyX3 k) := by decide +kernel
abbrev cX3_init : ByteArray := prog_10_method_1_code
def yX3_init : MethodName := ⟨RX3, "<init>", "(II)V"⟩
def dkwX3_init_1 : List UInt8 := [181, 0, 20, 42, 28, 181, 0, 24, 177]
abbrev dktX3_init_1 : List UInt8 := dkwX3_init_1 ++ []
def dkwX3_init_0 : List UInt8 := [42, 183, 0, 3, 42, 16, 20, 189, 0, 9, 181, 0, 11, 42, 16, 20, 189, 0, 9, 181, 0, 17, 42, 27]
abbrev dktX3_init_0 : List UInt8 := dkwX3_init_0 ++ dktX3_init_1
theorem dksX3_init_0 : cX3_init.data.toList.drop 0 = dktX3_init_0 := by decide +kernel
theorem dksX3_init_1 : cX3_init.data.toList.drop 24 = dktX3_init_1 := dk_seg dksX3_init_0 24 rfl rfl
theorem dX3_init_0 : decode cX3_init 0 = .ok (.aload_n 0, 1) := dk_42 (dk_at dksX3_init_0 0 rfl rfl)
theorem dX3_init_1 : decode cX3_init 1 = .ok (.invokespecial 3, 3) := dk_183 0 3 (dk_at dksX3_init_0 1 rfl rfl)
theorem dX3_init_4 : decode cX3_init 4 = .ok (.aload_n 0, 1) := dk_42 (dk_at dksX3_init_0 4 rfl rfl)
theorem dX3_init_5 : decode cX3_init 5 = .ok (.bipush 20, 2) := dk_16 20 (dk_at dksX3_init_0 5 rfl rfl)
theorem dX3_init_7 : decode cX3_init 7 = .ok (.anewarray 9, 3) := dk_189 0 9 (dk_at dksX3_init_0 7 rfl rfl)
theorem dX3_init_10 : decode cX3_init 10 = .ok (.putfield 11, 3) := dk_181 0 11 (dk_at dksX3_init_0 10 rfl rfl)
theorem dX3_init_13 : decode cX3_init 13 = .ok (.aload_n 0, 1) := dk_42 (dk_at dksX3_init_0 13 rfl rfl)
theorem dX3_init_14 : decode cX3_init 14 = .ok (.bipush 20, 2) := dk_16 20 (dk_at dksX3_init_0 14 rfl rfl)
theorem dX3_init_16 : decode cX3_init 16 = .ok (.anewarray 9, 3) := dk_189 0 9 (dk_at dksX3_init_0 16 rfl rfl)
theorem dX3_init_19 : decode cX3_init 19 = .ok (.putfield 17, 3) := dk_181 0 17 (dk_at dksX3_init_0 19 rfl rfl)
theorem dX3_init_22 : decode cX3_init 22 = .ok (.aload_n 0, 1) := dk_42 (dk_at dksX3_init_0 22 rfl rfl)
theorem dX3_init_23 : decode cX3_init 23 = .ok (.iload_n 1, 1) := dk_27 (dk_at dksX3_init_0 23 rfl rfl)
theorem dX3_init_24 : decode cX3_init 24 = .ok (.putfield 20, 3) := dk_181 0 20 (dk_at dksX3_init_1 0 rfl rfl)
theorem dX3_init_27 : decode cX3_init 27 = .ok (.aload_n 0, 1) := dk_42 (dk_at dksX3_init_1 3 rfl rfl)
theorem dX3_init_28 : decode cX3_init 28 = .ok (.iload_n 2, 1) := dk_28 (dk_at dksX3_init_1 4 rfl rfl)
theorem dX3_init_29 : decode cX3_init 29 = .ok (.putfield 24, 3) := dk_181 0 24 (dk_at dksX3_init_1 5 rfl rfl)
theorem dX3_init_32 : decode cX3_init 32 = .ok (.return_, 1) := dk_177 (dk_at dksX3_init_1 8 rfl rfl)
abbrev cX3_clock : ByteArray := prog_10_method_2_code
def yX3_clock : MethodName := ⟨RX3, "clock", "(II)V"⟩
def dkwX3_clock_1 : List UInt8 := [96, 181, 0, 27, 177]
abbrev dktX3_clock_1 : List UInt8 := dkwX3_clock_1 ++ []
def dkwX3_clock_0 : List UInt8 := [42, 180, 0, 11, 42, 180, 0, 27, 187, 0, 9, 89, 27, 28, 183, 0, 30, 83, 42, 89, 180, 0, 27, 4]
abbrev dktX3_clock_0 : List UInt8 := dkwX3_clock_0 ++ dktX3_clock_1
theorem dksX3_clock_0 : cX3_clock.data.toList.drop 0 = dktX3_clock_0 := by decide +kernel
theorem dksX3_clock_1 : cX3_clock.data.toList.drop 24 = dktX3_clock_1 := dk_seg dksX3_clock_0 24 rfl rfl
theorem dX3_clock_0 : decode cX3_clock 0 = .ok (.aload_n 0, 1) := dk_42 (dk_at dksX3_clock_0 0 rfl rfl)
theorem dX3_clock_1 : decode cX3_clock 1 = .ok (.getfield 11, 3) := dk_180 0 11 (dk_at dksX3_clock_0 1 rfl rfl)
theorem dX3_clock_4 : decode cX3_clock 4 = .ok (.aload_n 0, 1) := dk_42 (dk_at dksX3_clock_0 4 rfl rfl)
theorem dX3_clock_5 : decode cX3_clock 5 = .ok (.getfield 27, 3) := dk_180 0 27 (dk_at dksX3_clock_0 5 rfl rfl)
theorem dX3_clock_8 : decode cX3_clock 8 = .ok (.new 9, 3) := dk_187 0 9 (dk_at dksX3_clock_0 8 rfl rfl)
theorem dX3_clock_11 : decode cX3_clock 11 = .ok (.dup, 1) := dk_89 (dk_at dksX3_clock_0 11 rfl rfl)
theorem dX3_clock_12 : decode cX3_clock 12 = .ok (.iload_n 1, 1) := dk_27 (dk_at dksX3_clock_0 12 rfl rfl)
theorem dX3_clock_13 : decode cX3_clock 13 = .ok (.iload_n 2, 1) := dk_28 (dk_at dksX3_clock_0 13 rfl rfl)
theorem dX3_clock_14 : decode cX3_clock 14 = .ok (.invokespecial 30, 3) := dk_183 0 30 (dk_at dksX3_clock_0 14 rfl rfl)
theorem dX3_clock_17 : decode cX3_clock 17 = .ok (.aastore, 1) := dk_83 (dk_at dksX3_clock_0 17 rfl rfl)
theorem dX3_clock_18 : decode cX3_clock 18 = .ok (.aload_n 0, 1) := dk_42 (dk_at dksX3_clock_0 18 rfl rfl)
theorem dX3_clock_19 : decode cX3_clock 19 = .ok (.dup, 1) := dk_89 (dk_at dksX3_clock_0 19 rfl rfl)
theorem dX3_clock_20 : decode cX3_clock 20 = .ok (.getfield 27, 3) := dk_180 0 27 (dk_at dksX3_clock_0 20 rfl rfl)
theorem dX3_clock_23 : decode cX3_clock 23 = .ok (.iconst 1, 1) := dk_4 (dk_at dksX3_clock_0 23 rfl rfl)
theorem dX3_clock_24 : decode cX3_clock 24 = .ok (.iadd, 1) := dk_96 (dk_at dksX3_clock_1 0 rfl rfl)
theorem dX3_clock_25 : decode cX3_clock 25 = .ok (.putfield 27, 3) := dk_181 0 27 (dk_at dksX3_clock_1 1 rfl rfl)
theorem dX3_clock_28 : decode cX3_clock 28 = .ok (.return_, 1) := dk_177 (dk_at dksX3_clock_1 4 rfl rfl)
abbrev cX3_down : ByteArray := prog_10_method_3_code
def yX3_down : MethodName := ⟨RX3, "down", "(II)V"⟩
def dkwX3_down_1 : List UInt8 := [96, 181, 0, 33, 177]
abbrev dktX3_down_1 : List UInt8 := dkwX3_down_1 ++ []
def dkwX3_down_0 : List UInt8 := [42, 180, 0, 17, 42, 180, 0, 33, 187, 0, 9, 89, 27, 28, 183, 0, 30, 83, 42, 89, 180, 0, 33, 4]
abbrev dktX3_down_0 : List UInt8 := dkwX3_down_0 ++ dktX3_down_1
theorem dksX3_down_0 : cX3_down.data.toList.drop 0 = dktX3_down_0 := by decide +kernel
theorem dksX3_down_1 : cX3_down.data.toList.drop 24 = dktX3_down_1 := dk_seg dksX3_down_0 24 rfl rfl
theorem dX3_down_0 : decode cX3_down 0 = .ok (.aload_n 0, 1) := dk_42 (dk_at dksX3_down_0 0 rfl rfl)
theorem dX3_down_1 : decode cX3_down 1 = .ok (.getfield 17, 3) := dk_180 0 17 (dk_at dksX3_down_0 1 rfl rfl)
theorem dX3_down_4 : decode cX3_down 4 = .ok (.aload_n 0, 1) := dk_42 (dk_at dksX3_down_0 4 rfl rfl)
theorem dX3_down_5 : decode cX3_down 5 = .ok (.getfield 33, 3) := dk_180 0 33 (dk_at dksX3_down_0 5 rfl rfl)
theorem dX3_down_8 : decode cX3_down 8 = .ok (.new 9, 3) := dk_187 0 9 (dk_at dksX3_down_0 8 rfl rfl)
theorem dX3_down_11 : decode cX3_down 11 = .ok (.dup, 1) := dk_89 (dk_at dksX3_down_0 11 rfl rfl)
theorem dX3_down_12 : decode cX3_down 12 = .ok (.iload_n 1, 1) := dk_27 (dk_at dksX3_down_0 12 rfl rfl)
theorem dX3_down_13 : decode cX3_down 13 = .ok (.iload_n 2, 1) := dk_28 (dk_at dksX3_down_0 13 rfl rfl)
theorem dX3_down_14 : decode cX3_down 14 = .ok (.invokespecial 30, 3) := dk_183 0 30 (dk_at dksX3_down_0 14 rfl rfl)
theorem dX3_down_17 : decode cX3_down 17 = .ok (.aastore, 1) := dk_83 (dk_at dksX3_down_0 17 rfl rfl)
theorem dX3_down_18 : decode cX3_down 18 = .ok (.aload_n 0, 1) := dk_42 (dk_at dksX3_down_0 18 rfl rfl)
theorem dX3_down_19 : decode cX3_down 19 = .ok (.dup, 1) := dk_89 (dk_at dksX3_down_0 19 rfl rfl)
theorem dX3_down_20 : decode cX3_down 20 = .ok (.getfield 33, 3) := dk_180 0 33 (dk_at dksX3_down_0 20 rfl rfl)
theorem dX3_down_23 : decode cX3_down 23 = .ok (.iconst 1, 1) := dk_4 (dk_at dksX3_down_0 23 rfl rfl)
theorem dX3_down_24 : decode cX3_down 24 = .ok (.iadd, 1) := dk_96 (dk_at dksX3_down_1 0 rfl rfl)
theorem dX3_down_25 : decode cX3_down 25 = .ok (.putfield 33, 3) := dk_181 0 33 (dk_at dksX3_down_1 1 rfl rfl)
theorem dX3_down_28 : decode cX3_down 28 = .ok (.return_, 1) := dk_177 (dk_at dksX3_down_1 4 rfl rfl)
abbrev cX3_up : ByteArray := prog_10_method_7_code
def yX3_up : MethodName := ⟨RX3, "up", "(II)J"⟩
def dkwX3_up_2 : List UInt8 := [167, 255, 215, 33, 173]
abbrev dktX3_up_2 : List UInt8 := dkwX3_up_2 ++ []
def dkwX3_up_1 : List UInt8 := [182, 0, 51, 153, 0, 7, 9, 167, 0, 9, 21, 6, 21, 5, 100, 133, 97, 66, 21, 6, 54, 5]
abbrev dktX3_up_1 : List UInt8 := dkwX3_up_1 ++ dktX3_up_2
def dkwX3_up_0 : List UInt8 := [9, 66, 27, 54, 5, 21, 5, 28, 162, 0, 41, 42, 21, 5, 28, 182, 0, 48, 54, 6, 33, 42, 21, 5]
abbrev dktX3_up_0 : List UInt8 := dkwX3_up_0 ++ dktX3_up_1
theorem dksX3_up_0 : cX3_up.data.toList.drop 0 = dktX3_up_0 := by decide +kernel
theorem dksX3_up_1 : cX3_up.data.toList.drop 24 = dktX3_up_1 := dk_seg dksX3_up_0 24 rfl rfl
theorem dksX3_up_2 : cX3_up.data.toList.drop 46 = dktX3_up_2 := dk_seg dksX3_up_1 22 rfl rfl
theorem dX3_up_0 : decode cX3_up 0 = .ok (.lconst 0, 1) := dk_9 (dk_at dksX3_up_0 0 rfl rfl)
theorem dX3_up_1 : decode cX3_up 1 = .ok (.lstore_n 3, 1) := dk_66 (dk_at dksX3_up_0 1 rfl rfl)
theorem dX3_up_2 : decode cX3_up 2 = .ok (.iload_n 1, 1) := dk_27 (dk_at dksX3_up_0 2 rfl rfl)
theorem dX3_up_3 : decode cX3_up 3 = .ok (.istore 5, 2) := dk_54 5 (dk_at dksX3_up_0 3 rfl rfl)
theorem dX3_up_5 : decode cX3_up 5 = .ok (.iload 5, 2) := dk_21 5 (dk_at dksX3_up_0 5 rfl rfl)
theorem dX3_up_7 : decode cX3_up 7 = .ok (.iload_n 2, 1) := dk_28 (dk_at dksX3_up_0 7 rfl rfl)
theorem dX3_up_8 : decode cX3_up 8 = .ok (.if_icmp .ge 41, 3) := dk_162 0 41 (dk_at dksX3_up_0 8 rfl rfl)
theorem dX3_up_11 : decode cX3_up 11 = .ok (.aload_n 0, 1) := dk_42 (dk_at dksX3_up_0 11 rfl rfl)
theorem dX3_up_12 : decode cX3_up 12 = .ok (.iload 5, 2) := dk_21 5 (dk_at dksX3_up_0 12 rfl rfl)
theorem dX3_up_14 : decode cX3_up 14 = .ok (.iload_n 2, 1) := dk_28 (dk_at dksX3_up_0 14 rfl rfl)
theorem dX3_up_15 : decode cX3_up 15 = .ok (.invokevirtual 48, 3) := dk_182 0 48 (dk_at dksX3_up_0 15 rfl rfl)
theorem dX3_up_18 : decode cX3_up 18 = .ok (.istore 6, 2) := dk_54 6 (dk_at dksX3_up_0 18 rfl rfl)
theorem dX3_up_20 : decode cX3_up 20 = .ok (.lload_n 3, 1) := dk_33 (dk_at dksX3_up_0 20 rfl rfl)
theorem dX3_up_21 : decode cX3_up 21 = .ok (.aload_n 0, 1) := dk_42 (dk_at dksX3_up_0 21 rfl rfl)
theorem dX3_up_22 : decode cX3_up 22 = .ok (.iload 5, 2) := dk_21 5 (dk_at dksX3_up_0 22 rfl rfl)
theorem dX3_up_24 : decode cX3_up 24 = .ok (.invokevirtual 51, 3) := dk_182 0 51 (dk_at dksX3_up_1 0 rfl rfl)
theorem dX3_up_27 : decode cX3_up 27 = .ok (.ifCond .eq 7, 3) := dk_153 0 7 (dk_at dksX3_up_1 3 rfl rfl)
theorem dX3_up_30 : decode cX3_up 30 = .ok (.lconst 0, 1) := dk_9 (dk_at dksX3_up_1 6 rfl rfl)
theorem dX3_up_31 : decode cX3_up 31 = .ok (.goto 9, 3) := dk_167 0 9 (dk_at dksX3_up_1 7 rfl rfl)
theorem dX3_up_34 : decode cX3_up 34 = .ok (.iload 6, 2) := dk_21 6 (dk_at dksX3_up_1 10 rfl rfl)
theorem dX3_up_36 : decode cX3_up 36 = .ok (.iload 5, 2) := dk_21 5 (dk_at dksX3_up_1 12 rfl rfl)
theorem dX3_up_38 : decode cX3_up 38 = .ok (.isub, 1) := dk_100 (dk_at dksX3_up_1 14 rfl rfl)
theorem dX3_up_39 : decode cX3_up 39 = .ok (.i2l, 1) := dk_133 (dk_at dksX3_up_1 15 rfl rfl)
theorem dX3_up_40 : decode cX3_up 40 = .ok (.ladd, 1) := dk_97 (dk_at dksX3_up_1 16 rfl rfl)
theorem dX3_up_41 : decode cX3_up 41 = .ok (.lstore_n 3, 1) := dk_66 (dk_at dksX3_up_1 17 rfl rfl)
theorem dX3_up_42 : decode cX3_up 42 = .ok (.iload 6, 2) := dk_21 6 (dk_at dksX3_up_1 18 rfl rfl)
theorem dX3_up_44 : decode cX3_up 44 = .ok (.istore 5, 2) := dk_54 5 (dk_at dksX3_up_1 20 rfl rfl)
theorem dX3_up_46 : decode cX3_up 46 = .ok (.goto (-41), 3) := dk_167 255 215 (dk_at dksX3_up_2 0 rfl rfl)
theorem dX3_up_49 : decode cX3_up 49 = .ok (.lload_n 3, 1) := dk_33 (dk_at dksX3_up_2 3 rfl rfl)
theorem dX3_up_50 : decode cX3_up 50 = .ok (.lreturn, 1) := dk_173 (dk_at dksX3_up_2 4 rfl rfl)
abbrev cX3_next : ByteArray := prog_10_method_6_code
def yX3_next : MethodName := ⟨RX3, "next", "(II)I"⟩
def dkwX3_next_3 : List UInt8 := [184, 0, 42, 167, 0, 4, 29, 62, 132, 4, 1, 167, 255, 178, 29, 172]
abbrev dktX3_next_3 : List UInt8 := dkwX3_next_3 ++ []
def dkwX3_next_2 : List UInt8 := [180, 0, 17, 21, 4, 50, 180, 0, 39, 27, 164, 0, 20, 29, 42, 180, 0, 17, 21, 4, 50, 180, 0, 39]
abbrev dktX3_next_2 : List UInt8 := dkwX3_next_2 ++ dktX3_next_3
def dkwX3_next_1 : List UInt8 := [27, 164, 0, 20, 29, 42, 180, 0, 17, 21, 4, 50, 180, 0, 36, 184, 0, 42, 167, 0, 4, 29, 62, 42]
abbrev dktX3_next_1 : List UInt8 := dkwX3_next_1 ++ dktX3_next_2
def dkwX3_next_0 : List UInt8 := [28, 62, 3, 54, 4, 21, 4, 42, 180, 0, 33, 162, 0, 75, 42, 180, 0, 17, 21, 4, 50, 180, 0, 36]
abbrev dktX3_next_0 : List UInt8 := dkwX3_next_0 ++ dktX3_next_1
theorem dksX3_next_0 : cX3_next.data.toList.drop 0 = dktX3_next_0 := by decide +kernel
theorem dksX3_next_1 : cX3_next.data.toList.drop 24 = dktX3_next_1 := dk_seg dksX3_next_0 24 rfl rfl
theorem dksX3_next_2 : cX3_next.data.toList.drop 48 = dktX3_next_2 := dk_seg dksX3_next_1 24 rfl rfl
theorem dksX3_next_3 : cX3_next.data.toList.drop 72 = dktX3_next_3 := dk_seg dksX3_next_2 24 rfl rfl
theorem dX3_next_0 : decode cX3_next 0 = .ok (.iload_n 2, 1) := dk_28 (dk_at dksX3_next_0 0 rfl rfl)
theorem dX3_next_1 : decode cX3_next 1 = .ok (.istore_n 3, 1) := dk_62 (dk_at dksX3_next_0 1 rfl rfl)
theorem dX3_next_2 : decode cX3_next 2 = .ok (.iconst 0, 1) := dk_3 (dk_at dksX3_next_0 2 rfl rfl)
theorem dX3_next_3 : decode cX3_next 3 = .ok (.istore 4, 2) := dk_54 4 (dk_at dksX3_next_0 3 rfl rfl)
theorem dX3_next_5 : decode cX3_next 5 = .ok (.iload 4, 2) := dk_21 4 (dk_at dksX3_next_0 5 rfl rfl)
theorem dX3_next_7 : decode cX3_next 7 = .ok (.aload_n 0, 1) := dk_42 (dk_at dksX3_next_0 7 rfl rfl)
theorem dX3_next_8 : decode cX3_next 8 = .ok (.getfield 33, 3) := dk_180 0 33 (dk_at dksX3_next_0 8 rfl rfl)
theorem dX3_next_11 : decode cX3_next 11 = .ok (.if_icmp .ge 75, 3) := dk_162 0 75 (dk_at dksX3_next_0 11 rfl rfl)
theorem dX3_next_14 : decode cX3_next 14 = .ok (.aload_n 0, 1) := dk_42 (dk_at dksX3_next_0 14 rfl rfl)
theorem dX3_next_15 : decode cX3_next 15 = .ok (.getfield 17, 3) := dk_180 0 17 (dk_at dksX3_next_0 15 rfl rfl)
theorem dX3_next_18 : decode cX3_next 18 = .ok (.iload 4, 2) := dk_21 4 (dk_at dksX3_next_0 18 rfl rfl)
theorem dX3_next_20 : decode cX3_next 20 = .ok (.aaload, 1) := dk_50 (dk_at dksX3_next_0 20 rfl rfl)
theorem dX3_next_21 : decode cX3_next 21 = .ok (.getfield 36, 3) := dk_180 0 36 (dk_at dksX3_next_0 21 rfl rfl)
theorem dX3_next_24 : decode cX3_next 24 = .ok (.iload_n 1, 1) := dk_27 (dk_at dksX3_next_1 0 rfl rfl)
theorem dX3_next_25 : decode cX3_next 25 = .ok (.if_icmp .le 20, 3) := dk_164 0 20 (dk_at dksX3_next_1 1 rfl rfl)
theorem dX3_next_28 : decode cX3_next 28 = .ok (.iload_n 3, 1) := dk_29 (dk_at dksX3_next_1 4 rfl rfl)
theorem dX3_next_29 : decode cX3_next 29 = .ok (.aload_n 0, 1) := dk_42 (dk_at dksX3_next_1 5 rfl rfl)
theorem dX3_next_30 : decode cX3_next 30 = .ok (.getfield 17, 3) := dk_180 0 17 (dk_at dksX3_next_1 6 rfl rfl)
theorem dX3_next_33 : decode cX3_next 33 = .ok (.iload 4, 2) := dk_21 4 (dk_at dksX3_next_1 9 rfl rfl)
theorem dX3_next_35 : decode cX3_next 35 = .ok (.aaload, 1) := dk_50 (dk_at dksX3_next_1 11 rfl rfl)
theorem dX3_next_36 : decode cX3_next 36 = .ok (.getfield 36, 3) := dk_180 0 36 (dk_at dksX3_next_1 12 rfl rfl)
theorem dX3_next_39 : decode cX3_next 39 = .ok (.invokestatic 42, 3) := dk_184 0 42 (dk_at dksX3_next_1 15 rfl rfl)
theorem dX3_next_42 : decode cX3_next 42 = .ok (.goto 4, 3) := dk_167 0 4 (dk_at dksX3_next_1 18 rfl rfl)
theorem dX3_next_45 : decode cX3_next 45 = .ok (.iload_n 3, 1) := dk_29 (dk_at dksX3_next_1 21 rfl rfl)
theorem dX3_next_46 : decode cX3_next 46 = .ok (.istore_n 3, 1) := dk_62 (dk_at dksX3_next_1 22 rfl rfl)
theorem dX3_next_47 : decode cX3_next 47 = .ok (.aload_n 0, 1) := dk_42 (dk_at dksX3_next_1 23 rfl rfl)
theorem dX3_next_48 : decode cX3_next 48 = .ok (.getfield 17, 3) := dk_180 0 17 (dk_at dksX3_next_2 0 rfl rfl)
theorem dX3_next_51 : decode cX3_next 51 = .ok (.iload 4, 2) := dk_21 4 (dk_at dksX3_next_2 3 rfl rfl)
theorem dX3_next_53 : decode cX3_next 53 = .ok (.aaload, 1) := dk_50 (dk_at dksX3_next_2 5 rfl rfl)
theorem dX3_next_54 : decode cX3_next 54 = .ok (.getfield 39, 3) := dk_180 0 39 (dk_at dksX3_next_2 6 rfl rfl)
theorem dX3_next_57 : decode cX3_next 57 = .ok (.iload_n 1, 1) := dk_27 (dk_at dksX3_next_2 9 rfl rfl)
theorem dX3_next_58 : decode cX3_next 58 = .ok (.if_icmp .le 20, 3) := dk_164 0 20 (dk_at dksX3_next_2 10 rfl rfl)
theorem dX3_next_61 : decode cX3_next 61 = .ok (.iload_n 3, 1) := dk_29 (dk_at dksX3_next_2 13 rfl rfl)
theorem dX3_next_62 : decode cX3_next 62 = .ok (.aload_n 0, 1) := dk_42 (dk_at dksX3_next_2 14 rfl rfl)
theorem dX3_next_63 : decode cX3_next 63 = .ok (.getfield 17, 3) := dk_180 0 17 (dk_at dksX3_next_2 15 rfl rfl)
theorem dX3_next_66 : decode cX3_next 66 = .ok (.iload 4, 2) := dk_21 4 (dk_at dksX3_next_2 18 rfl rfl)
theorem dX3_next_68 : decode cX3_next 68 = .ok (.aaload, 1) := dk_50 (dk_at dksX3_next_2 20 rfl rfl)
theorem dX3_next_69 : decode cX3_next 69 = .ok (.getfield 39, 3) := dk_180 0 39 (dk_at dksX3_next_2 21 rfl rfl)
theorem dX3_next_72 : decode cX3_next 72 = .ok (.invokestatic 42, 3) := dk_184 0 42 (dk_at dksX3_next_3 0 rfl rfl)
theorem dX3_next_75 : decode cX3_next 75 = .ok (.goto 4, 3) := dk_167 0 4 (dk_at dksX3_next_3 3 rfl rfl)
theorem dX3_next_78 : decode cX3_next 78 = .ok (.iload_n 3, 1) := dk_29 (dk_at dksX3_next_3 6 rfl rfl)
theorem dX3_next_79 : decode cX3_next 79 = .ok (.istore_n 3, 1) := dk_62 (dk_at dksX3_next_3 7 rfl rfl)
theorem dX3_next_80 : decode cX3_next 80 = .ok (.iinc 4 1, 3) := dk_132 4 1 (dk_at dksX3_next_3 8 rfl rfl)
theorem dX3_next_83 : decode cX3_next 83 = .ok (.goto (-78), 3) := dk_167 255 178 (dk_at dksX3_next_3 11 rfl rfl)
theorem dX3_next_86 : decode cX3_next 86 = .ok (.iload_n 3, 1) := dk_29 (dk_at dksX3_next_3 14 rfl rfl)
theorem dX3_next_87 : decode cX3_next 87 = .ok (.ireturn, 1) := dk_172 (dk_at dksX3_next_3 15 rfl rfl)
abbrev cX3_isDown : ByteArray := prog_10_method_5_code
def yX3_isDown : MethodName := ⟨RX3, "isDown", "(I)Z"⟩
def dkwX3_isDown_2 : List UInt8 := [132, 3, 1, 167, 255, 211, 28, 172]
abbrev dktX3_isDown_2 : List UInt8 := dkwX3_isDown_2 ++ []
def dkwX3_isDown_1 : List UInt8 := [161, 0, 20, 27, 42, 180, 0, 17, 29, 50, 180, 0, 39, 162, 0, 7, 4, 167, 0, 4, 3, 128, 61]
abbrev dktX3_isDown_1 : List UInt8 := dkwX3_isDown_1 ++ dktX3_isDown_2
def dkwX3_isDown_0 : List UInt8 := [3, 61, 3, 62, 29, 42, 180, 0, 33, 162, 0, 43, 28, 27, 42, 180, 0, 17, 29, 50, 180, 0, 36]
abbrev dktX3_isDown_0 : List UInt8 := dkwX3_isDown_0 ++ dktX3_isDown_1
theorem dksX3_isDown_0 : cX3_isDown.data.toList.drop 0 = dktX3_isDown_0 := by decide +kernel
theorem dksX3_isDown_1 : cX3_isDown.data.toList.drop 23 = dktX3_isDown_1 := dk_seg dksX3_isDown_0 23 rfl rfl
theorem dksX3_isDown_2 : cX3_isDown.data.toList.drop 46 = dktX3_isDown_2 := dk_seg dksX3_isDown_1 23 rfl rfl
theorem dX3_isDown_0 : decode cX3_isDown 0 = .ok (.iconst 0, 1) := dk_3 (dk_at dksX3_isDown_0 0 rfl rfl)
theorem dX3_isDown_1 : decode cX3_isDown 1 = .ok (.istore_n 2, 1) := dk_61 (dk_at dksX3_isDown_0 1 rfl rfl)
theorem dX3_isDown_2 : decode cX3_isDown 2 = .ok (.iconst 0, 1) := dk_3 (dk_at dksX3_isDown_0 2 rfl rfl)
theorem dX3_isDown_3 : decode cX3_isDown 3 = .ok (.istore_n 3, 1) := dk_62 (dk_at dksX3_isDown_0 3 rfl rfl)
theorem dX3_isDown_4 : decode cX3_isDown 4 = .ok (.iload_n 3, 1) := dk_29 (dk_at dksX3_isDown_0 4 rfl rfl)
theorem dX3_isDown_5 : decode cX3_isDown 5 = .ok (.aload_n 0, 1) := dk_42 (dk_at dksX3_isDown_0 5 rfl rfl)
theorem dX3_isDown_6 : decode cX3_isDown 6 = .ok (.getfield 33, 3) := dk_180 0 33 (dk_at dksX3_isDown_0 6 rfl rfl)
theorem dX3_isDown_9 : decode cX3_isDown 9 = .ok (.if_icmp .ge 43, 3) := dk_162 0 43 (dk_at dksX3_isDown_0 9 rfl rfl)
theorem dX3_isDown_12 : decode cX3_isDown 12 = .ok (.iload_n 2, 1) := dk_28 (dk_at dksX3_isDown_0 12 rfl rfl)
theorem dX3_isDown_13 : decode cX3_isDown 13 = .ok (.iload_n 1, 1) := dk_27 (dk_at dksX3_isDown_0 13 rfl rfl)
theorem dX3_isDown_14 : decode cX3_isDown 14 = .ok (.aload_n 0, 1) := dk_42 (dk_at dksX3_isDown_0 14 rfl rfl)
theorem dX3_isDown_15 : decode cX3_isDown 15 = .ok (.getfield 17, 3) := dk_180 0 17 (dk_at dksX3_isDown_0 15 rfl rfl)
theorem dX3_isDown_18 : decode cX3_isDown 18 = .ok (.iload_n 3, 1) := dk_29 (dk_at dksX3_isDown_0 18 rfl rfl)
theorem dX3_isDown_19 : decode cX3_isDown 19 = .ok (.aaload, 1) := dk_50 (dk_at dksX3_isDown_0 19 rfl rfl)
theorem dX3_isDown_20 : decode cX3_isDown 20 = .ok (.getfield 36, 3) := dk_180 0 36 (dk_at dksX3_isDown_0 20 rfl rfl)
theorem dX3_isDown_23 : decode cX3_isDown 23 = .ok (.if_icmp .lt 20, 3) := dk_161 0 20 (dk_at dksX3_isDown_1 0 rfl rfl)
theorem dX3_isDown_26 : decode cX3_isDown 26 = .ok (.iload_n 1, 1) := dk_27 (dk_at dksX3_isDown_1 3 rfl rfl)
theorem dX3_isDown_27 : decode cX3_isDown 27 = .ok (.aload_n 0, 1) := dk_42 (dk_at dksX3_isDown_1 4 rfl rfl)
theorem dX3_isDown_28 : decode cX3_isDown 28 = .ok (.getfield 17, 3) := dk_180 0 17 (dk_at dksX3_isDown_1 5 rfl rfl)
theorem dX3_isDown_31 : decode cX3_isDown 31 = .ok (.iload_n 3, 1) := dk_29 (dk_at dksX3_isDown_1 8 rfl rfl)
theorem dX3_isDown_32 : decode cX3_isDown 32 = .ok (.aaload, 1) := dk_50 (dk_at dksX3_isDown_1 9 rfl rfl)
theorem dX3_isDown_33 : decode cX3_isDown 33 = .ok (.getfield 39, 3) := dk_180 0 39 (dk_at dksX3_isDown_1 10 rfl rfl)
theorem dX3_isDown_36 : decode cX3_isDown 36 = .ok (.if_icmp .ge 7, 3) := dk_162 0 7 (dk_at dksX3_isDown_1 13 rfl rfl)
theorem dX3_isDown_39 : decode cX3_isDown 39 = .ok (.iconst 1, 1) := dk_4 (dk_at dksX3_isDown_1 16 rfl rfl)
theorem dX3_isDown_40 : decode cX3_isDown 40 = .ok (.goto 4, 3) := dk_167 0 4 (dk_at dksX3_isDown_1 17 rfl rfl)
theorem dX3_isDown_43 : decode cX3_isDown 43 = .ok (.iconst 0, 1) := dk_3 (dk_at dksX3_isDown_1 20 rfl rfl)
theorem dX3_isDown_44 : decode cX3_isDown 44 = .ok (.ior, 1) := dk_128 (dk_at dksX3_isDown_1 21 rfl rfl)
theorem dX3_isDown_45 : decode cX3_isDown 45 = .ok (.istore_n 2, 1) := dk_61 (dk_at dksX3_isDown_1 22 rfl rfl)
theorem dX3_isDown_46 : decode cX3_isDown 46 = .ok (.iinc 3 1, 3) := dk_132 3 1 (dk_at dksX3_isDown_2 0 rfl rfl)
theorem dX3_isDown_49 : decode cX3_isDown 49 = .ok (.goto (-45), 3) := dk_167 255 211 (dk_at dksX3_isDown_2 3 rfl rfl)
theorem dX3_isDown_52 : decode cX3_isDown 52 = .ok (.iload_n 2, 1) := dk_28 (dk_at dksX3_isDown_2 6 rfl rfl)
theorem dX3_isDown_53 : decode cX3_isDown 53 = .ok (.ireturn, 1) := dk_172 (dk_at dksX3_isDown_2 7 rfl rfl)
abbrev cX3_fastAt : ByteArray := prog_10_method_4_code
def yX3_fastAt : MethodName := ⟨RX3, "fastAt", "(I)I"⟩
def dkwX3_fastAt_1 : List UInt8 := [42, 180, 0, 11, 28, 50, 180, 0, 39, 172, 132, 2, 255, 167, 255, 226, 3, 172]
abbrev dktX3_fastAt_1 : List UInt8 := dkwX3_fastAt_1 ++ []
def dkwX3_fastAt_0 : List UInt8 := [42, 180, 0, 27, 4, 100, 61, 28, 155, 0, 32, 42, 180, 0, 11, 28, 50, 180, 0, 36, 27, 163, 0, 13]
abbrev dktX3_fastAt_0 : List UInt8 := dkwX3_fastAt_0 ++ dktX3_fastAt_1
theorem dksX3_fastAt_0 : cX3_fastAt.data.toList.drop 0 = dktX3_fastAt_0 := by decide +kernel
theorem dksX3_fastAt_1 : cX3_fastAt.data.toList.drop 24 = dktX3_fastAt_1 := dk_seg dksX3_fastAt_0 24 rfl rfl
theorem dX3_fastAt_0 : decode cX3_fastAt 0 = .ok (.aload_n 0, 1) := dk_42 (dk_at dksX3_fastAt_0 0 rfl rfl)
theorem dX3_fastAt_1 : decode cX3_fastAt 1 = .ok (.getfield 27, 3) := dk_180 0 27 (dk_at dksX3_fastAt_0 1 rfl rfl)
theorem dX3_fastAt_4 : decode cX3_fastAt 4 = .ok (.iconst 1, 1) := dk_4 (dk_at dksX3_fastAt_0 4 rfl rfl)
theorem dX3_fastAt_5 : decode cX3_fastAt 5 = .ok (.isub, 1) := dk_100 (dk_at dksX3_fastAt_0 5 rfl rfl)
theorem dX3_fastAt_6 : decode cX3_fastAt 6 = .ok (.istore_n 2, 1) := dk_61 (dk_at dksX3_fastAt_0 6 rfl rfl)
theorem dX3_fastAt_7 : decode cX3_fastAt 7 = .ok (.iload_n 2, 1) := dk_28 (dk_at dksX3_fastAt_0 7 rfl rfl)
theorem dX3_fastAt_8 : decode cX3_fastAt 8 = .ok (.ifCond .lt 32, 3) := dk_155 0 32 (dk_at dksX3_fastAt_0 8 rfl rfl)
theorem dX3_fastAt_11 : decode cX3_fastAt 11 = .ok (.aload_n 0, 1) := dk_42 (dk_at dksX3_fastAt_0 11 rfl rfl)
theorem dX3_fastAt_12 : decode cX3_fastAt 12 = .ok (.getfield 11, 3) := dk_180 0 11 (dk_at dksX3_fastAt_0 12 rfl rfl)
theorem dX3_fastAt_15 : decode cX3_fastAt 15 = .ok (.iload_n 2, 1) := dk_28 (dk_at dksX3_fastAt_0 15 rfl rfl)
theorem dX3_fastAt_16 : decode cX3_fastAt 16 = .ok (.aaload, 1) := dk_50 (dk_at dksX3_fastAt_0 16 rfl rfl)
theorem dX3_fastAt_17 : decode cX3_fastAt 17 = .ok (.getfield 36, 3) := dk_180 0 36 (dk_at dksX3_fastAt_0 17 rfl rfl)
theorem dX3_fastAt_20 : decode cX3_fastAt 20 = .ok (.iload_n 1, 1) := dk_27 (dk_at dksX3_fastAt_0 20 rfl rfl)
theorem dX3_fastAt_21 : decode cX3_fastAt 21 = .ok (.if_icmp .gt 13, 3) := dk_163 0 13 (dk_at dksX3_fastAt_0 21 rfl rfl)
theorem dX3_fastAt_24 : decode cX3_fastAt 24 = .ok (.aload_n 0, 1) := dk_42 (dk_at dksX3_fastAt_1 0 rfl rfl)
theorem dX3_fastAt_25 : decode cX3_fastAt 25 = .ok (.getfield 11, 3) := dk_180 0 11 (dk_at dksX3_fastAt_1 1 rfl rfl)
theorem dX3_fastAt_28 : decode cX3_fastAt 28 = .ok (.iload_n 2, 1) := dk_28 (dk_at dksX3_fastAt_1 4 rfl rfl)
theorem dX3_fastAt_29 : decode cX3_fastAt 29 = .ok (.aaload, 1) := dk_50 (dk_at dksX3_fastAt_1 5 rfl rfl)
theorem dX3_fastAt_30 : decode cX3_fastAt 30 = .ok (.getfield 39, 3) := dk_180 0 39 (dk_at dksX3_fastAt_1 6 rfl rfl)
theorem dX3_fastAt_33 : decode cX3_fastAt 33 = .ok (.ireturn, 1) := dk_172 (dk_at dksX3_fastAt_1 9 rfl rfl)
theorem dX3_fastAt_34 : decode cX3_fastAt 34 = .ok (.iinc 2 (-1), 3) := dk_132 2 255 (dk_at dksX3_fastAt_1 10 rfl rfl)
theorem dX3_fastAt_37 : decode cX3_fastAt 37 = .ok (.goto (-30), 3) := dk_167 255 226 (dk_at dksX3_fastAt_1 13 rfl rfl)
theorem dX3_fastAt_40 : decode cX3_fastAt 40 = .ok (.iconst 0, 1) := dk_3 (dk_at dksX3_fastAt_1 16 rfl rfl)
theorem dX3_fastAt_41 : decode cX3_fastAt 41 = .ok (.ireturn, 1) := dk_172 (dk_at dksX3_fastAt_1 17 rfl rfl)
abbrev cX3_isWithin : ByteArray := prog_10_method_8_code
def yX3_isWithin : MethodName := ⟨RX3, "isWithin", "(LTankField$Tank;I)Z"⟩
def dkwX3_isWithin_2 : List UInt8 := [167, 0, 4, 3, 172]
abbrev dktX3_isWithin_2 : List UInt8 := dkwX3_isWithin_2 ++ []
def dkwX3_isWithin_1 : List UInt8 := [180, 0, 24, 100, 42, 180, 0, 24, 43, 180, 0, 24, 100, 104, 96, 28, 28, 104, 163, 0, 7, 4]
abbrev dktX3_isWithin_1 : List UInt8 := dkwX3_isWithin_1 ++ dktX3_isWithin_2
def dkwX3_isWithin_0 : List UInt8 := [42, 180, 0, 20, 43, 180, 0, 20, 100, 42, 180, 0, 20, 43, 180, 0, 20, 100, 104, 42, 180, 0, 24, 43]
abbrev dktX3_isWithin_0 : List UInt8 := dkwX3_isWithin_0 ++ dktX3_isWithin_1
theorem dksX3_isWithin_0 : cX3_isWithin.data.toList.drop 0 = dktX3_isWithin_0 := by decide +kernel
theorem dksX3_isWithin_1 : cX3_isWithin.data.toList.drop 24 = dktX3_isWithin_1 := dk_seg dksX3_isWithin_0 24 rfl rfl
theorem dksX3_isWithin_2 : cX3_isWithin.data.toList.drop 46 = dktX3_isWithin_2 := dk_seg dksX3_isWithin_1 22 rfl rfl
theorem dX3_isWithin_0 : decode cX3_isWithin 0 = .ok (.aload_n 0, 1) := dk_42 (dk_at dksX3_isWithin_0 0 rfl rfl)
theorem dX3_isWithin_1 : decode cX3_isWithin 1 = .ok (.getfield 20, 3) := dk_180 0 20 (dk_at dksX3_isWithin_0 1 rfl rfl)
theorem dX3_isWithin_4 : decode cX3_isWithin 4 = .ok (.aload_n 1, 1) := dk_43 (dk_at dksX3_isWithin_0 4 rfl rfl)
theorem dX3_isWithin_5 : decode cX3_isWithin 5 = .ok (.getfield 20, 3) := dk_180 0 20 (dk_at dksX3_isWithin_0 5 rfl rfl)
theorem dX3_isWithin_8 : decode cX3_isWithin 8 = .ok (.isub, 1) := dk_100 (dk_at dksX3_isWithin_0 8 rfl rfl)
theorem dX3_isWithin_9 : decode cX3_isWithin 9 = .ok (.aload_n 0, 1) := dk_42 (dk_at dksX3_isWithin_0 9 rfl rfl)
theorem dX3_isWithin_10 : decode cX3_isWithin 10 = .ok (.getfield 20, 3) := dk_180 0 20 (dk_at dksX3_isWithin_0 10 rfl rfl)
theorem dX3_isWithin_13 : decode cX3_isWithin 13 = .ok (.aload_n 1, 1) := dk_43 (dk_at dksX3_isWithin_0 13 rfl rfl)
theorem dX3_isWithin_14 : decode cX3_isWithin 14 = .ok (.getfield 20, 3) := dk_180 0 20 (dk_at dksX3_isWithin_0 14 rfl rfl)
theorem dX3_isWithin_17 : decode cX3_isWithin 17 = .ok (.isub, 1) := dk_100 (dk_at dksX3_isWithin_0 17 rfl rfl)
theorem dX3_isWithin_18 : decode cX3_isWithin 18 = .ok (.imul, 1) := dk_104 (dk_at dksX3_isWithin_0 18 rfl rfl)
theorem dX3_isWithin_19 : decode cX3_isWithin 19 = .ok (.aload_n 0, 1) := dk_42 (dk_at dksX3_isWithin_0 19 rfl rfl)
theorem dX3_isWithin_20 : decode cX3_isWithin 20 = .ok (.getfield 24, 3) := dk_180 0 24 (dk_at dksX3_isWithin_0 20 rfl rfl)
theorem dX3_isWithin_23 : decode cX3_isWithin 23 = .ok (.aload_n 1, 1) := dk_43 (dk_at dksX3_isWithin_0 23 rfl rfl)
theorem dX3_isWithin_24 : decode cX3_isWithin 24 = .ok (.getfield 24, 3) := dk_180 0 24 (dk_at dksX3_isWithin_1 0 rfl rfl)
theorem dX3_isWithin_27 : decode cX3_isWithin 27 = .ok (.isub, 1) := dk_100 (dk_at dksX3_isWithin_1 3 rfl rfl)
theorem dX3_isWithin_28 : decode cX3_isWithin 28 = .ok (.aload_n 0, 1) := dk_42 (dk_at dksX3_isWithin_1 4 rfl rfl)
theorem dX3_isWithin_29 : decode cX3_isWithin 29 = .ok (.getfield 24, 3) := dk_180 0 24 (dk_at dksX3_isWithin_1 5 rfl rfl)
theorem dX3_isWithin_32 : decode cX3_isWithin 32 = .ok (.aload_n 1, 1) := dk_43 (dk_at dksX3_isWithin_1 8 rfl rfl)
theorem dX3_isWithin_33 : decode cX3_isWithin 33 = .ok (.getfield 24, 3) := dk_180 0 24 (dk_at dksX3_isWithin_1 9 rfl rfl)
theorem dX3_isWithin_36 : decode cX3_isWithin 36 = .ok (.isub, 1) := dk_100 (dk_at dksX3_isWithin_1 12 rfl rfl)
theorem dX3_isWithin_37 : decode cX3_isWithin 37 = .ok (.imul, 1) := dk_104 (dk_at dksX3_isWithin_1 13 rfl rfl)
theorem dX3_isWithin_38 : decode cX3_isWithin 38 = .ok (.iadd, 1) := dk_96 (dk_at dksX3_isWithin_1 14 rfl rfl)
theorem dX3_isWithin_39 : decode cX3_isWithin 39 = .ok (.iload_n 2, 1) := dk_28 (dk_at dksX3_isWithin_1 15 rfl rfl)
theorem dX3_isWithin_40 : decode cX3_isWithin 40 = .ok (.iload_n 2, 1) := dk_28 (dk_at dksX3_isWithin_1 16 rfl rfl)
theorem dX3_isWithin_41 : decode cX3_isWithin 41 = .ok (.imul, 1) := dk_104 (dk_at dksX3_isWithin_1 17 rfl rfl)
theorem dX3_isWithin_42 : decode cX3_isWithin 42 = .ok (.if_icmp .gt 7, 3) := dk_163 0 7 (dk_at dksX3_isWithin_1 18 rfl rfl)
theorem dX3_isWithin_45 : decode cX3_isWithin 45 = .ok (.iconst 1, 1) := dk_4 (dk_at dksX3_isWithin_1 21 rfl rfl)
theorem dX3_isWithin_46 : decode cX3_isWithin 46 = .ok (.goto 4, 3) := dk_167 0 4 (dk_at dksX3_isWithin_2 0 rfl rfl)
theorem dX3_isWithin_49 : decode cX3_isWithin 49 = .ok (.iconst 0, 1) := dk_3 (dk_at dksX3_isWithin_2 3 rfl rfl)
theorem dX3_isWithin_50 : decode cX3_isWithin 50 = .ok (.ireturn, 1) := dk_172 (dk_at dksX3_isWithin_2 4 rfl rfl)
theorem q46 : (Jvm.Cond.initialized "TankField$Tank") ∈ lw_all := lw_g (lw_at lw_m1 4 rfl) rfl
theorem q154 : (Jvm.Cond.instantiable "TankField$Tank" (6 : Nat)) ∈ lw_all := lw_g (lw_at lw_m1 112 rfl) rfl
theorem q156 : (Jvm.Cond.instanceMethod ({ cls := "TankField$Tank", name := "<init>", desc := "(II)V" } : Jvm.MethodName)) ∈ lw_all := lw_g (lw_at lw_m1 114 rfl) rfl
theorem q157 : (Jvm.Cond.code ({ cls := "TankField$Tank", name := "<init>", desc := "(II)V" } : Jvm.MethodName) prog_10_method_1_code (3 : Nat) (Option.none : Option Jvm.ClassFile.FieldType)) ∈ lw_all := lw_g (lw_at lw_m1 115 rfl) rfl
theorem q158 : (Jvm.Cond.methodLink "TankField$Tank" (3 : Nat) ({ cls := "java/lang/Object", name := "<init>", desc := "()V" } : Jvm.MethodName)) ∈ lw_all := lw_g (lw_at lw_m1 116 rfl) rfl
theorem q159 : (Jvm.Cond.classLink "TankField$Tank" (9 : Nat) "TankField$Span") ∈ lw_all := lw_g (lw_at lw_m1 117 rfl) rfl
theorem q161 : (Jvm.Cond.fieldLink "TankField$Tank" (20 : Nat) "TankField$Tank" "x" "I") ∈ lw_all := lw_g (lw_at lw_m1 119 rfl) rfl
theorem q164 : (Jvm.Cond.fieldLink "TankField$Tank" (24 : Nat) "TankField$Tank" "y" "I") ∈ lw_all := lw_g (lw_at lw_m1 122 rfl) rfl
theorem q167 : (Jvm.Cond.fieldLink "TankField$Tank" (11 : Nat) "TankField$Tank" "clocks" "[LTankField$Span;") ∈ lw_all := lw_g (lw_at lw_m1 125 rfl) rfl
theorem q168 : (Jvm.Cond.fieldLink "TankField$Tank" (27 : Nat) "TankField$Tank" "clockMany" "I") ∈ lw_all := lw_g (lw_at lw_m1 126 rfl) rfl
theorem q169 : (Jvm.Cond.fieldLink "TankField$Tank" (17 : Nat) "TankField$Tank" "downs" "[LTankField$Span;") ∈ lw_all := lw_g (lw_at lw_m1 127 rfl) rfl
theorem q170 : (Jvm.Cond.fieldLink "TankField$Tank" (33 : Nat) "TankField$Tank" "downMany" "I") ∈ lw_all := lw_g (lw_at lw_m1 128 rfl) rfl
theorem q171 : (Jvm.Cond.laysFinal "TankField$Tank" "TankField$Tank" "x" "I") ∈ lw_all := lw_g (lw_at lw_m1 129 rfl) rfl
theorem q172 : (Jvm.Cond.soleField "TankField$Tank" "x") ∈ lw_all := lw_g (lw_at lw_m1 130 rfl) rfl
theorem q173 : (Jvm.Cond.laysFinal "TankField$Tank" "TankField$Tank" "y" "I") ∈ lw_all := lw_g (lw_at lw_m1 131 rfl) rfl
theorem q174 : (Jvm.Cond.soleField "TankField$Tank" "y") ∈ lw_all := lw_g (lw_at lw_m1 132 rfl) rfl
theorem q175 : (Jvm.Cond.laysFinal "TankField$Tank" "TankField$Tank" "clocks" "[LTankField$Span;") ∈ lw_all := lw_g (lw_at lw_m1 133 rfl) rfl
theorem q176 : (Jvm.Cond.soleField "TankField$Tank" "clocks") ∈ lw_all := lw_g (lw_at lw_m1 134 rfl) rfl
theorem q177 : (Jvm.Cond.lays "TankField$Tank" "TankField$Tank" "clockMany" "I") ∈ lw_all := lw_g (lw_at lw_m1 135 rfl) rfl
theorem q178 : (Jvm.Cond.soleField "TankField$Tank" "clockMany") ∈ lw_all := lw_g (lw_at lw_m1 136 rfl) rfl
theorem q179 : (Jvm.Cond.laysFinal "TankField$Tank" "TankField$Tank" "downs" "[LTankField$Span;") ∈ lw_all := lw_g (lw_at lw_m1 137 rfl) rfl
theorem q180 : (Jvm.Cond.soleField "TankField$Tank" "downs") ∈ lw_all := lw_g (lw_at lw_m1 138 rfl) rfl
theorem q181 : (Jvm.Cond.lays "TankField$Tank" "TankField$Tank" "downMany" "I") ∈ lw_all := lw_g (lw_at lw_m1 139 rfl) rfl
theorem q182 : (Jvm.Cond.soleField "TankField$Tank" "downMany") ∈ lw_all := lw_g (lw_at lw_m1 140 rfl) rfl
theorem q183 : (Jvm.Cond.superclass "TankField$Tank" "java/lang/Object") ∈ lw_all := lw_g (lw_at lw_m1 141 rfl) rfl
theorem q193 : (Jvm.Cond.instanceMethod ({ cls := "TankField$Tank", name := "clock", desc := "(II)V" } : Jvm.MethodName)) ∈ lw_all := lw_g (lw_at lw_m1 151 rfl) rfl
theorem q194 : (Jvm.Cond.selects "TankField$Tank" ({ cls := "TankField$Tank", name := "clock", desc := "(II)V" } : Jvm.MethodName) ({ cls := "TankField$Tank", name := "clock", desc := "(II)V" } : Jvm.MethodName)) ∈ lw_all := lw_g (lw_at lw_m1 152 rfl) rfl
theorem q195 : (Jvm.Cond.code ({ cls := "TankField$Tank", name := "clock", desc := "(II)V" } : Jvm.MethodName) prog_10_method_2_code (3 : Nat) (Option.none : Option Jvm.ClassFile.FieldType)) ∈ lw_all := lw_g (lw_at lw_m1 153 rfl) rfl
theorem q197 : (Jvm.Cond.methodLink "TankField$Tank" (30 : Nat) ({ cls := "TankField$Span", name := "<init>", desc := "(II)V" } : Jvm.MethodName)) ∈ lw_all := lw_g (lw_at lw_m1 155 rfl) rfl
theorem q202 : (Jvm.Cond.fieldLink "TankField$Tank" (36 : Nat) "TankField$Span" "from" "I") ∈ lw_all := lw_g (lw_at lw_m1 160 rfl) rfl
theorem q204 : (Jvm.Cond.fieldLink "TankField$Tank" (39 : Nat) "TankField$Span" "what" "I") ∈ lw_all := lw_g (lw_at lw_m1 162 rfl) rfl
theorem q215 : (Jvm.Cond.instanceMethod ({ cls := "TankField$Tank", name := "down", desc := "(II)V" } : Jvm.MethodName)) ∈ lw_all := lw_g (lw_at lw_m1 173 rfl) rfl
theorem q216 : (Jvm.Cond.selects "TankField$Tank" ({ cls := "TankField$Tank", name := "down", desc := "(II)V" } : Jvm.MethodName) ({ cls := "TankField$Tank", name := "down", desc := "(II)V" } : Jvm.MethodName)) ∈ lw_all := lw_g (lw_at lw_m1 174 rfl) rfl
theorem q217 : (Jvm.Cond.code ({ cls := "TankField$Tank", name := "down", desc := "(II)V" } : Jvm.MethodName) prog_10_method_3_code (3 : Nat) (Option.none : Option Jvm.ClassFile.FieldType)) ∈ lw_all := lw_g (lw_at lw_m1 175 rfl) rfl
theorem q224 : (Jvm.Cond.instanceMethod ({ cls := "TankField$Tank", name := "up", desc := "(II)J" } : Jvm.MethodName)) ∈ lw_all := lw_g (lw_at lw_m1 182 rfl) rfl
theorem q225 : (Jvm.Cond.selects "TankField$Tank" ({ cls := "TankField$Tank", name := "up", desc := "(II)J" } : Jvm.MethodName) ({ cls := "TankField$Tank", name := "up", desc := "(II)J" } : Jvm.MethodName)) ∈ lw_all := lw_g (lw_at lw_m1 183 rfl) rfl
theorem q226 : (Jvm.Cond.code ({ cls := "TankField$Tank", name := "up", desc := "(II)J" } : Jvm.MethodName) prog_10_method_7_code (7 : Nat) (Option.some Jvm.ClassFile.FieldType.long)) ∈ lw_all := lw_g (lw_at lw_m1 184 rfl) rfl
theorem q227 : (Jvm.Cond.methodLink "TankField$Tank" (48 : Nat) ({ cls := "TankField$Tank", name := "next", desc := "(II)I" } : Jvm.MethodName)) ∈ lw_all := lw_g (lw_at lw_m1 185 rfl) rfl
theorem q228 : (Jvm.Cond.privateMethod ({ cls := "TankField$Tank", name := "next", desc := "(II)I" } : Jvm.MethodName)) ∈ lw_tbl := lw_at lw_m1 186 rfl
theorem q229 : (Jvm.Cond.instanceMethod ({ cls := "TankField$Tank", name := "next", desc := "(II)I" } : Jvm.MethodName)) ∈ lw_all := lw_g (lw_at lw_m1 187 rfl) rfl
theorem q230 : (Jvm.Cond.code ({ cls := "TankField$Tank", name := "next", desc := "(II)I" } : Jvm.MethodName) prog_10_method_6_code (5 : Nat) (Option.some Jvm.ClassFile.FieldType.int)) ∈ lw_all := lw_g (lw_at lw_m1 188 rfl) rfl
theorem q231 : (Jvm.Cond.methodLink "TankField$Tank" (42 : Nat) ({ cls := "java/lang/Math", name := "min", desc := "(II)I" } : Jvm.MethodName)) ∈ lw_all := lw_g (lw_at lw_m1 189 rfl) rfl
theorem q234 : (Jvm.Cond.methodLink "TankField$Tank" (51 : Nat) ({ cls := "TankField$Tank", name := "isDown", desc := "(I)Z" } : Jvm.MethodName)) ∈ lw_all := lw_g (lw_at lw_m1 192 rfl) rfl
theorem q235 : (Jvm.Cond.instanceMethod ({ cls := "TankField$Tank", name := "isDown", desc := "(I)Z" } : Jvm.MethodName)) ∈ lw_all := lw_g (lw_at lw_m1 193 rfl) rfl
theorem q236 : (Jvm.Cond.selects "TankField$Tank" ({ cls := "TankField$Tank", name := "isDown", desc := "(I)Z" } : Jvm.MethodName) ({ cls := "TankField$Tank", name := "isDown", desc := "(I)Z" } : Jvm.MethodName)) ∈ lw_all := lw_g (lw_at lw_m1 194 rfl) rfl
theorem q237 : (Jvm.Cond.code ({ cls := "TankField$Tank", name := "isDown", desc := "(I)Z" } : Jvm.MethodName) prog_10_method_5_code (4 : Nat) (Option.some Jvm.ClassFile.FieldType.boolean)) ∈ lw_all := lw_g (lw_at lw_m1 195 rfl) rfl
theorem q362 : (Jvm.Cond.instanceMethod ({ cls := "TankField$Tank", name := "fastAt", desc := "(I)I" } : Jvm.MethodName)) ∈ lw_all := lw_g (lw_at lw_m2 80 rfl) rfl
theorem q363 : (Jvm.Cond.selects "TankField$Tank" ({ cls := "TankField$Tank", name := "fastAt", desc := "(I)I" } : Jvm.MethodName) ({ cls := "TankField$Tank", name := "fastAt", desc := "(I)I" } : Jvm.MethodName)) ∈ lw_all := lw_g (lw_at lw_m2 81 rfl) rfl
theorem q364 : (Jvm.Cond.code ({ cls := "TankField$Tank", name := "fastAt", desc := "(I)I" } : Jvm.MethodName) prog_10_method_4_code (3 : Nat) (Option.some Jvm.ClassFile.FieldType.int)) ∈ lw_all := lw_g (lw_at lw_m2 82 rfl) rfl
theorem q423 : (Jvm.Cond.instanceMethod ({ cls := "TankField$Tank", name := "isWithin", desc := "(LTankField$Tank;I)Z" } : Jvm.MethodName)) ∈ lw_all := lw_g (lw_at lw_m2 141 rfl) rfl
theorem q424 : (Jvm.Cond.selects "TankField$Tank" ({ cls := "TankField$Tank", name := "isWithin", desc := "(LTankField$Tank;I)Z" } : Jvm.MethodName) ({ cls := "TankField$Tank", name := "isWithin", desc := "(LTankField$Tank;I)Z" } : Jvm.MethodName)) ∈ lw_all := lw_g (lw_at lw_m2 142 rfl) rfl
theorem q425 : (Jvm.Cond.code ({ cls := "TankField$Tank", name := "isWithin", desc := "(LTankField$Tank;I)Z" } : Jvm.MethodName) prog_10_method_8_code (3 : Nat) (Option.some Jvm.ClassFile.FieldType.boolean)) ∈ lw_all := lw_g (lw_at lw_m2 143 rfl) rfl
theorem in_X3 : ∀ w ∈ wsX30, w ∈ lw_all := lw_in wsX30 [171, 173, 175, 177, 179, 181] (by decide +kernel) (by decide +kernel)

/-! TankField$Plain -/
set_option maxRecDepth 100000
def RX4 : String := "TankField$Plain"
def TX4 : u_T := fun k => match k with
  | 0 => ("TankField$Plain", "tank", "I", true)
  | 1 => ("TankField$Plain", "time", "I", true)
  | 2 => ("TankField$Plain", "low", "I", true)
  | 3 => ("TankField$Plain", "high", "I", true)
  | _ => ("TankField$Plain", "this$0", "LTankField;", true)
def tyX4 : Nat → FieldType := fun k => match k with
  | 0 => .int
  | 1 => .int
  | 2 => .int
  | 3 => .int
  | _ => .object "TankField"
abbrev wsX40 : List Cond := u_ws RX4 TX4 5
theorem nmX4 : ∀ a, a < 5 → ∀ b, b < 5 → a ≠ b → (TX4 a).2.1 ≠ (TX4 b).2.1 := by decide +kernel
theorem tyX4_ok : ∀ k, k < 5 → parseFieldDescriptor (TX4 k).2.2.1 = some (tyX4 k) := by decide +kernel
abbrev cX4_init : ByteArray := prog_6_method_1_code
def yX4_init : MethodName := ⟨RX4, "<init>", "(LTankField;IIII)V"⟩
def dkwX4_init_1 : List UInt8 := [181, 0, 20, 42, 21, 5, 181, 0, 23, 177]
abbrev dktX4_init_1 : List UInt8 := dkwX4_init_1 ++ []
def dkwX4_init_0 : List UInt8 := [42, 43, 181, 0, 1, 42, 183, 0, 7, 42, 28, 181, 0, 13, 42, 29, 181, 0, 17, 42, 21, 4]
abbrev dktX4_init_0 : List UInt8 := dkwX4_init_0 ++ dktX4_init_1
theorem dksX4_init_0 : cX4_init.data.toList.drop 0 = dktX4_init_0 := by decide +kernel
theorem dksX4_init_1 : cX4_init.data.toList.drop 22 = dktX4_init_1 := dk_seg dksX4_init_0 22 rfl rfl
theorem dX4_init_0 : decode cX4_init 0 = .ok (.aload_n 0, 1) := dk_42 (dk_at dksX4_init_0 0 rfl rfl)
theorem dX4_init_1 : decode cX4_init 1 = .ok (.aload_n 1, 1) := dk_43 (dk_at dksX4_init_0 1 rfl rfl)
theorem dX4_init_2 : decode cX4_init 2 = .ok (.putfield 1, 3) := dk_181 0 1 (dk_at dksX4_init_0 2 rfl rfl)
theorem dX4_init_5 : decode cX4_init 5 = .ok (.aload_n 0, 1) := dk_42 (dk_at dksX4_init_0 5 rfl rfl)
theorem dX4_init_6 : decode cX4_init 6 = .ok (.invokespecial 7, 3) := dk_183 0 7 (dk_at dksX4_init_0 6 rfl rfl)
theorem dX4_init_9 : decode cX4_init 9 = .ok (.aload_n 0, 1) := dk_42 (dk_at dksX4_init_0 9 rfl rfl)
theorem dX4_init_10 : decode cX4_init 10 = .ok (.iload_n 2, 1) := dk_28 (dk_at dksX4_init_0 10 rfl rfl)
theorem dX4_init_11 : decode cX4_init 11 = .ok (.putfield 13, 3) := dk_181 0 13 (dk_at dksX4_init_0 11 rfl rfl)
theorem dX4_init_14 : decode cX4_init 14 = .ok (.aload_n 0, 1) := dk_42 (dk_at dksX4_init_0 14 rfl rfl)
theorem dX4_init_15 : decode cX4_init 15 = .ok (.iload_n 3, 1) := dk_29 (dk_at dksX4_init_0 15 rfl rfl)
theorem dX4_init_16 : decode cX4_init 16 = .ok (.putfield 17, 3) := dk_181 0 17 (dk_at dksX4_init_0 16 rfl rfl)
theorem dX4_init_19 : decode cX4_init 19 = .ok (.aload_n 0, 1) := dk_42 (dk_at dksX4_init_0 19 rfl rfl)
theorem dX4_init_20 : decode cX4_init 20 = .ok (.iload 4, 2) := dk_21 4 (dk_at dksX4_init_0 20 rfl rfl)
theorem dX4_init_22 : decode cX4_init 22 = .ok (.putfield 20, 3) := dk_181 0 20 (dk_at dksX4_init_1 0 rfl rfl)
theorem dX4_init_25 : decode cX4_init 25 = .ok (.aload_n 0, 1) := dk_42 (dk_at dksX4_init_1 3 rfl rfl)
theorem dX4_init_26 : decode cX4_init 26 = .ok (.iload 5, 2) := dk_21 5 (dk_at dksX4_init_1 4 rfl rfl)
theorem dX4_init_28 : decode cX4_init 28 = .ok (.putfield 23, 3) := dk_181 0 23 (dk_at dksX4_init_1 6 rfl rfl)
theorem dX4_init_31 : decode cX4_init 31 = .ok (.return_, 1) := dk_177 (dk_at dksX4_init_1 9 rfl rfl)
abbrev cX4_isLookedAt : ByteArray := prog_6_method_8_code
def yX4_isLookedAt : MethodName := ⟨RX4, "isLookedAt", "()Z"⟩
def dkwX4_isLookedAt_1 : List UInt8 := [167, 0, 4, 3, 172]
abbrev dktX4_isLookedAt_1 : List UInt8 := dkwX4_isLookedAt_1 ++ []
def dkwX4_isLookedAt_0 : List UInt8 := [42, 180, 0, 1, 180, 0, 35, 42, 180, 0, 13, 50, 42, 180, 0, 17, 182, 0, 44, 154, 0, 7, 4]
abbrev dktX4_isLookedAt_0 : List UInt8 := dkwX4_isLookedAt_0 ++ dktX4_isLookedAt_1
theorem dksX4_isLookedAt_0 : cX4_isLookedAt.data.toList.drop 0 = dktX4_isLookedAt_0 := by decide +kernel
theorem dksX4_isLookedAt_1 : cX4_isLookedAt.data.toList.drop 23 = dktX4_isLookedAt_1 := dk_seg dksX4_isLookedAt_0 23 rfl rfl
theorem dX4_isLookedAt_0 : decode cX4_isLookedAt 0 = .ok (.aload_n 0, 1) := dk_42 (dk_at dksX4_isLookedAt_0 0 rfl rfl)
theorem dX4_isLookedAt_1 : decode cX4_isLookedAt 1 = .ok (.getfield 1, 3) := dk_180 0 1 (dk_at dksX4_isLookedAt_0 1 rfl rfl)
theorem dX4_isLookedAt_4 : decode cX4_isLookedAt 4 = .ok (.getfield 35, 3) := dk_180 0 35 (dk_at dksX4_isLookedAt_0 4 rfl rfl)
theorem dX4_isLookedAt_7 : decode cX4_isLookedAt 7 = .ok (.aload_n 0, 1) := dk_42 (dk_at dksX4_isLookedAt_0 7 rfl rfl)
theorem dX4_isLookedAt_8 : decode cX4_isLookedAt 8 = .ok (.getfield 13, 3) := dk_180 0 13 (dk_at dksX4_isLookedAt_0 8 rfl rfl)
theorem dX4_isLookedAt_11 : decode cX4_isLookedAt 11 = .ok (.aaload, 1) := dk_50 (dk_at dksX4_isLookedAt_0 11 rfl rfl)
theorem dX4_isLookedAt_12 : decode cX4_isLookedAt 12 = .ok (.aload_n 0, 1) := dk_42 (dk_at dksX4_isLookedAt_0 12 rfl rfl)
theorem dX4_isLookedAt_13 : decode cX4_isLookedAt 13 = .ok (.getfield 17, 3) := dk_180 0 17 (dk_at dksX4_isLookedAt_0 13 rfl rfl)
theorem dX4_isLookedAt_16 : decode cX4_isLookedAt 16 = .ok (.invokevirtual 44, 3) := dk_182 0 44 (dk_at dksX4_isLookedAt_0 16 rfl rfl)
theorem dX4_isLookedAt_19 : decode cX4_isLookedAt 19 = .ok (.ifCond .ne 7, 3) := dk_154 0 7 (dk_at dksX4_isLookedAt_0 19 rfl rfl)
theorem dX4_isLookedAt_22 : decode cX4_isLookedAt 22 = .ok (.iconst 1, 1) := dk_4 (dk_at dksX4_isLookedAt_0 22 rfl rfl)
theorem dX4_isLookedAt_23 : decode cX4_isLookedAt 23 = .ok (.goto 4, 3) := dk_167 0 4 (dk_at dksX4_isLookedAt_1 0 rfl rfl)
theorem dX4_isLookedAt_26 : decode cX4_isLookedAt 26 = .ok (.iconst 0, 1) := dk_3 (dk_at dksX4_isLookedAt_1 3 rfl rfl)
theorem dX4_isLookedAt_27 : decode cX4_isLookedAt 27 = .ok (.ireturn, 1) := dk_172 (dk_at dksX4_isLookedAt_1 4 rfl rfl)
abbrev cX4_right : ByteArray := prog_6_method_7_code
def yX4_right : MethodName := ⟨RX4, "right", "()I"⟩
def dkwX4_right_1 : List UInt8 := [172]
abbrev dktX4_right_1 : List UInt8 := dkwX4_right_1 ++ []
def dkwX4_right_0 : List UInt8 := [42, 180, 0, 17, 42, 180, 0, 1, 180, 0, 35, 42, 180, 0, 13, 50, 42, 180, 0, 17, 182, 0, 39, 100]
abbrev dktX4_right_0 : List UInt8 := dkwX4_right_0 ++ dktX4_right_1
theorem dksX4_right_0 : cX4_right.data.toList.drop 0 = dktX4_right_0 := by decide +kernel
theorem dksX4_right_1 : cX4_right.data.toList.drop 24 = dktX4_right_1 := dk_seg dksX4_right_0 24 rfl rfl
theorem dX4_right_0 : decode cX4_right 0 = .ok (.aload_n 0, 1) := dk_42 (dk_at dksX4_right_0 0 rfl rfl)
theorem dX4_right_1 : decode cX4_right 1 = .ok (.getfield 17, 3) := dk_180 0 17 (dk_at dksX4_right_0 1 rfl rfl)
theorem dX4_right_4 : decode cX4_right 4 = .ok (.aload_n 0, 1) := dk_42 (dk_at dksX4_right_0 4 rfl rfl)
theorem dX4_right_5 : decode cX4_right 5 = .ok (.getfield 1, 3) := dk_180 0 1 (dk_at dksX4_right_0 5 rfl rfl)
theorem dX4_right_8 : decode cX4_right 8 = .ok (.getfield 35, 3) := dk_180 0 35 (dk_at dksX4_right_0 8 rfl rfl)
theorem dX4_right_11 : decode cX4_right 11 = .ok (.aload_n 0, 1) := dk_42 (dk_at dksX4_right_0 11 rfl rfl)
theorem dX4_right_12 : decode cX4_right 12 = .ok (.getfield 13, 3) := dk_180 0 13 (dk_at dksX4_right_0 12 rfl rfl)
theorem dX4_right_15 : decode cX4_right 15 = .ok (.aaload, 1) := dk_50 (dk_at dksX4_right_0 15 rfl rfl)
theorem dX4_right_16 : decode cX4_right 16 = .ok (.aload_n 0, 1) := dk_42 (dk_at dksX4_right_0 16 rfl rfl)
theorem dX4_right_17 : decode cX4_right 17 = .ok (.getfield 17, 3) := dk_180 0 17 (dk_at dksX4_right_0 17 rfl rfl)
theorem dX4_right_20 : decode cX4_right 20 = .ok (.invokevirtual 39, 3) := dk_182 0 39 (dk_at dksX4_right_0 20 rfl rfl)
theorem dX4_right_23 : decode cX4_right 23 = .ok (.isub, 1) := dk_100 (dk_at dksX4_right_0 23 rfl rfl)
theorem dX4_right_24 : decode cX4_right 24 = .ok (.ireturn, 1) := dk_172 (dk_at dksX4_right_1 0 rfl rfl)
abbrev cX4_kind : ByteArray := prog_6_method_2_code
def yX4_kind : MethodName := ⟨RX4, "kind", "()I"⟩
theorem dX4_kind_0 : decode cX4_kind 0 = .ok (.iconst 0, 1) := by decide +kernel
theorem dX4_kind_1 : decode cX4_kind 1 = .ok (.ireturn, 1) := by decide +kernel
abbrev cX4_amount : ByteArray := prog_6_method_3_code
def yX4_amount : MethodName := ⟨RX4, "amount", "()I"⟩
theorem dX4_amount_0 : decode cX4_amount 0 = .ok (.aload_n 0, 1) := by decide +kernel
theorem dX4_amount_1 : decode cX4_amount 1 = .ok (.getfield 20, 3) := by decide +kernel
theorem dX4_amount_4 : decode cX4_amount 4 = .ok (.ireturn, 1) := by decide +kernel
abbrev cX4_isSure : ByteArray := prog_6_method_4_code
def yX4_isSure : MethodName := ⟨RX4, "isSure", "()Z"⟩
theorem dX4_isSure_0 : decode cX4_isSure 0 = .ok (.iconst 1, 1) := by decide +kernel
theorem dX4_isSure_1 : decode cX4_isSure 1 = .ok (.ireturn, 1) := by decide +kernel
abbrev cX4_tracedBy : ByteArray := prog_6_method_6_code
def yX4_tracedBy : MethodName := ⟨RX4, "tracedBy", "(I)I"⟩
def dkwX4_tracedBy_0 : List UInt8 := [42, 180, 0, 1, 16, 31, 42, 180, 0, 1, 180, 0, 30, 104, 27, 96, 181, 0, 30, 3, 172]
abbrev dktX4_tracedBy_0 : List UInt8 := dkwX4_tracedBy_0 ++ []
theorem dksX4_tracedBy_0 : cX4_tracedBy.data.toList.drop 0 = dktX4_tracedBy_0 := by decide +kernel
theorem dX4_tracedBy_0 : decode cX4_tracedBy 0 = .ok (.aload_n 0, 1) := dk_42 (dk_at dksX4_tracedBy_0 0 rfl rfl)
theorem dX4_tracedBy_1 : decode cX4_tracedBy 1 = .ok (.getfield 1, 3) := dk_180 0 1 (dk_at dksX4_tracedBy_0 1 rfl rfl)
theorem dX4_tracedBy_4 : decode cX4_tracedBy 4 = .ok (.bipush 31, 2) := dk_16 31 (dk_at dksX4_tracedBy_0 4 rfl rfl)
theorem dX4_tracedBy_6 : decode cX4_tracedBy 6 = .ok (.aload_n 0, 1) := dk_42 (dk_at dksX4_tracedBy_0 6 rfl rfl)
theorem dX4_tracedBy_7 : decode cX4_tracedBy 7 = .ok (.getfield 1, 3) := dk_180 0 1 (dk_at dksX4_tracedBy_0 7 rfl rfl)
theorem dX4_tracedBy_10 : decode cX4_tracedBy 10 = .ok (.getfield 30, 3) := dk_180 0 30 (dk_at dksX4_tracedBy_0 10 rfl rfl)
theorem dX4_tracedBy_13 : decode cX4_tracedBy 13 = .ok (.imul, 1) := dk_104 (dk_at dksX4_tracedBy_0 13 rfl rfl)
theorem dX4_tracedBy_14 : decode cX4_tracedBy 14 = .ok (.iload_n 1, 1) := dk_27 (dk_at dksX4_tracedBy_0 14 rfl rfl)
theorem dX4_tracedBy_15 : decode cX4_tracedBy 15 = .ok (.iadd, 1) := dk_96 (dk_at dksX4_tracedBy_0 15 rfl rfl)
theorem dX4_tracedBy_16 : decode cX4_tracedBy 16 = .ok (.putfield 30, 3) := dk_181 0 30 (dk_at dksX4_tracedBy_0 16 rfl rfl)
theorem dX4_tracedBy_19 : decode cX4_tracedBy 19 = .ok (.iconst 0, 1) := dk_3 (dk_at dksX4_tracedBy_0 19 rfl rfl)
theorem dX4_tracedBy_20 : decode cX4_tracedBy 20 = .ok (.ireturn, 1) := dk_172 (dk_at dksX4_tracedBy_0 20 rfl rfl)
abbrev cX4_said : ByteArray := prog_6_method_5_code
def yX4_said : MethodName := ⟨RX4, "said", "()I"⟩
def dkwX4_said_0 : List UInt8 := [42, 4, 182, 0, 26, 42, 180, 0, 20, 96, 172]
abbrev dktX4_said_0 : List UInt8 := dkwX4_said_0 ++ []
theorem dksX4_said_0 : cX4_said.data.toList.drop 0 = dktX4_said_0 := by decide +kernel
theorem dX4_said_0 : decode cX4_said 0 = .ok (.aload_n 0, 1) := dk_42 (dk_at dksX4_said_0 0 rfl rfl)
theorem dX4_said_1 : decode cX4_said 1 = .ok (.iconst 1, 1) := dk_4 (dk_at dksX4_said_0 1 rfl rfl)
theorem dX4_said_2 : decode cX4_said 2 = .ok (.invokevirtual 26, 3) := dk_182 0 26 (dk_at dksX4_said_0 2 rfl rfl)
theorem dX4_said_5 : decode cX4_said 5 = .ok (.aload_n 0, 1) := dk_42 (dk_at dksX4_said_0 5 rfl rfl)
theorem dX4_said_6 : decode cX4_said 6 = .ok (.getfield 20, 3) := dk_180 0 20 (dk_at dksX4_said_0 6 rfl rfl)
theorem dX4_said_9 : decode cX4_said 9 = .ok (.iadd, 1) := dk_96 (dk_at dksX4_said_0 9 rfl rfl)
theorem dX4_said_10 : decode cX4_said 10 = .ok (.ireturn, 1) := dk_172 (dk_at dksX4_said_0 10 rfl rfl)
theorem q47 : (Jvm.Cond.initialized "TankField$Plain") ∈ lw_all := lw_g (lw_at lw_m1 5 rfl) rfl
theorem q99 : (Jvm.Cond.fieldLinkNest "TankField$Plain" (35 : Nat) "TankField" "tanks" "[LTankField$Tank;" "TankField") ∈ lw_tbl := lw_at lw_m1 57 rfl
theorem q103 : (Jvm.Cond.fieldLinkNest "TankField$Plain" (30 : Nat) "TankField" "trace" "I" "TankField") ∈ lw_tbl := lw_at lw_m1 61 rfl
theorem q250 : (Jvm.Cond.instantiable "TankField$Plain" (5 : Nat)) ∈ lw_all := lw_g (lw_at lw_m1 208 rfl) rfl
theorem q252 : (Jvm.Cond.instanceMethod ({ cls := "TankField$Plain", name := "<init>", desc := "(LTankField;IIII)V" } : Jvm.MethodName)) ∈ lw_all := lw_g (lw_at lw_m1 210 rfl) rfl
theorem q253 : (Jvm.Cond.code ({ cls := "TankField$Plain", name := "<init>", desc := "(LTankField;IIII)V" } : Jvm.MethodName) prog_6_method_1_code (6 : Nat) (Option.none : Option Jvm.ClassFile.FieldType)) ∈ lw_all := lw_g (lw_at lw_m1 211 rfl) rfl
theorem q254 : (Jvm.Cond.methodLink "TankField$Plain" (7 : Nat) ({ cls := "java/lang/Object", name := "<init>", desc := "()V" } : Jvm.MethodName)) ∈ lw_all := lw_g (lw_at lw_m1 212 rfl) rfl
theorem q255 : (Jvm.Cond.fieldLink "TankField$Plain" (13 : Nat) "TankField$Plain" "tank" "I") ∈ lw_all := lw_g (lw_at lw_m1 213 rfl) rfl
theorem q264 : (Jvm.Cond.fieldLink "TankField$Plain" (17 : Nat) "TankField$Plain" "time" "I") ∈ lw_all := lw_g (lw_at lw_m1 222 rfl) rfl
theorem q266 : (Jvm.Cond.fieldLink "TankField$Plain" (20 : Nat) "TankField$Plain" "low" "I") ∈ lw_all := lw_g (lw_at lw_m1 224 rfl) rfl
theorem q267 : (Jvm.Cond.fieldLink "TankField$Plain" (23 : Nat) "TankField$Plain" "high" "I") ∈ lw_all := lw_g (lw_at lw_m1 225 rfl) rfl
theorem q270 : (Jvm.Cond.fieldLink "TankField$Plain" (1 : Nat) "TankField$Plain" "this$0" "LTankField;") ∈ lw_all := lw_g (lw_at lw_m1 228 rfl) rfl
theorem q271 : (Jvm.Cond.laysFinal "TankField$Plain" "TankField$Plain" "tank" "I") ∈ lw_all := lw_g (lw_at lw_m1 229 rfl) rfl
theorem q272 : (Jvm.Cond.soleField "TankField$Plain" "tank") ∈ lw_all := lw_g (lw_at lw_m1 230 rfl) rfl
theorem q273 : (Jvm.Cond.laysFinal "TankField$Plain" "TankField$Plain" "time" "I") ∈ lw_all := lw_g (lw_at lw_m1 231 rfl) rfl
theorem q274 : (Jvm.Cond.soleField "TankField$Plain" "time") ∈ lw_all := lw_g (lw_at lw_m1 232 rfl) rfl
theorem q275 : (Jvm.Cond.laysFinal "TankField$Plain" "TankField$Plain" "low" "I") ∈ lw_all := lw_g (lw_at lw_m1 233 rfl) rfl
theorem q276 : (Jvm.Cond.soleField "TankField$Plain" "low") ∈ lw_all := lw_g (lw_at lw_m1 234 rfl) rfl
theorem q277 : (Jvm.Cond.laysFinal "TankField$Plain" "TankField$Plain" "high" "I") ∈ lw_all := lw_g (lw_at lw_m1 235 rfl) rfl
theorem q278 : (Jvm.Cond.soleField "TankField$Plain" "high") ∈ lw_all := lw_g (lw_at lw_m1 236 rfl) rfl
theorem q279 : (Jvm.Cond.laysFinal "TankField$Plain" "TankField$Plain" "this$0" "LTankField;") ∈ lw_all := lw_g (lw_at lw_m1 237 rfl) rfl
theorem q280 : (Jvm.Cond.soleField "TankField$Plain" "this$0") ∈ lw_all := lw_g (lw_at lw_m1 238 rfl) rfl
theorem q281 : (Jvm.Cond.superclass "TankField$Plain" "java/lang/Object") ∈ lw_all := lw_g (lw_at lw_m1 239 rfl) rfl
theorem q333 : (Jvm.Cond.instanceMethod ({ cls := "TankField$Plain", name := "isLookedAt", desc := "()Z" } : Jvm.MethodName)) ∈ lw_all := lw_g (lw_at lw_m2 51 rfl) rfl
theorem q334 : (Jvm.Cond.selects "TankField$Plain" ({ cls := "TankField$Plain", name := "isLookedAt", desc := "()Z" } : Jvm.MethodName) ({ cls := "TankField$Plain", name := "isLookedAt", desc := "()Z" } : Jvm.MethodName)) ∈ lw_all := lw_g (lw_at lw_m2 52 rfl) rfl
theorem q335 : (Jvm.Cond.sameMethod "TankField$Plain" "TankField$Plain" "isLookedAt" "()Z") ∈ lw_all := lw_g (lw_at lw_m2 53 rfl) rfl
theorem q339 : (Jvm.Cond.code ({ cls := "TankField$Plain", name := "isLookedAt", desc := "()Z" } : Jvm.MethodName) prog_6_method_8_code (1 : Nat) (Option.some Jvm.ClassFile.FieldType.boolean)) ∈ lw_all := lw_g (lw_at lw_m2 57 rfl) rfl
theorem q340 : (Jvm.Cond.methodLink "TankField$Plain" (44 : Nat) ({ cls := "TankField$Tank", name := "isDown", desc := "(I)Z" } : Jvm.MethodName)) ∈ lw_all := lw_g (lw_at lw_m2 58 rfl) rfl
theorem q354 : (Jvm.Cond.instanceMethod ({ cls := "TankField$Plain", name := "right", desc := "()I" } : Jvm.MethodName)) ∈ lw_all := lw_g (lw_at lw_m2 72 rfl) rfl
theorem q355 : (Jvm.Cond.selects "TankField$Plain" ({ cls := "TankField$Plain", name := "right", desc := "()I" } : Jvm.MethodName) ({ cls := "TankField$Plain", name := "right", desc := "()I" } : Jvm.MethodName)) ∈ lw_all := lw_g (lw_at lw_m2 73 rfl) rfl
theorem q356 : (Jvm.Cond.sameMethod "TankField$Plain" "TankField$Plain" "right" "()I") ∈ lw_all := lw_g (lw_at lw_m2 74 rfl) rfl
theorem q360 : (Jvm.Cond.code ({ cls := "TankField$Plain", name := "right", desc := "()I" } : Jvm.MethodName) prog_6_method_7_code (1 : Nat) (Option.some Jvm.ClassFile.FieldType.int)) ∈ lw_all := lw_g (lw_at lw_m2 78 rfl) rfl
theorem q361 : (Jvm.Cond.methodLink "TankField$Plain" (39 : Nat) ({ cls := "TankField$Tank", name := "fastAt", desc := "(I)I" } : Jvm.MethodName)) ∈ lw_all := lw_g (lw_at lw_m2 79 rfl) rfl
theorem q366 : (Jvm.Cond.instanceMethod ({ cls := "TankField$Plain", name := "kind", desc := "()I" } : Jvm.MethodName)) ∈ lw_all := lw_g (lw_at lw_m2 84 rfl) rfl
theorem q367 : (Jvm.Cond.selects "TankField$Plain" ({ cls := "TankField$Plain", name := "kind", desc := "()I" } : Jvm.MethodName) ({ cls := "TankField$Plain", name := "kind", desc := "()I" } : Jvm.MethodName)) ∈ lw_all := lw_g (lw_at lw_m2 85 rfl) rfl
theorem q368 : (Jvm.Cond.sameMethod "TankField$Plain" "TankField$Plain" "kind" "()I") ∈ lw_all := lw_g (lw_at lw_m2 86 rfl) rfl
theorem q378 : (Jvm.Cond.code ({ cls := "TankField$Plain", name := "kind", desc := "()I" } : Jvm.MethodName) prog_6_method_2_code (1 : Nat) (Option.some Jvm.ClassFile.FieldType.int)) ∈ lw_all := lw_g (lw_at lw_m2 96 rfl) rfl
theorem q380 : (Jvm.Cond.instanceMethod ({ cls := "TankField$Plain", name := "amount", desc := "()I" } : Jvm.MethodName)) ∈ lw_all := lw_g (lw_at lw_m2 98 rfl) rfl
theorem q381 : (Jvm.Cond.selects "TankField$Plain" ({ cls := "TankField$Plain", name := "amount", desc := "()I" } : Jvm.MethodName) ({ cls := "TankField$Plain", name := "amount", desc := "()I" } : Jvm.MethodName)) ∈ lw_all := lw_g (lw_at lw_m2 99 rfl) rfl
theorem q382 : (Jvm.Cond.sameMethod "TankField$Plain" "TankField$Plain" "amount" "()I") ∈ lw_all := lw_g (lw_at lw_m2 100 rfl) rfl
theorem q390 : (Jvm.Cond.code ({ cls := "TankField$Plain", name := "amount", desc := "()I" } : Jvm.MethodName) prog_6_method_3_code (1 : Nat) (Option.some Jvm.ClassFile.FieldType.int)) ∈ lw_all := lw_g (lw_at lw_m2 108 rfl) rfl
theorem q513 : (Jvm.Cond.instanceMethod ({ cls := "TankField$Plain", name := "isSure", desc := "()Z" } : Jvm.MethodName)) ∈ lw_all := lw_g (lw_at lw_m2 231 rfl) rfl
theorem q514 : (Jvm.Cond.selects "TankField$Plain" ({ cls := "TankField$Plain", name := "isSure", desc := "()Z" } : Jvm.MethodName) ({ cls := "TankField$Plain", name := "isSure", desc := "()Z" } : Jvm.MethodName)) ∈ lw_all := lw_g (lw_at lw_m2 232 rfl) rfl
theorem q515 : (Jvm.Cond.sameMethod "TankField$Plain" "TankField$Plain" "isSure" "()Z") ∈ lw_all := lw_g (lw_at lw_m2 233 rfl) rfl
theorem q521 : (Jvm.Cond.code ({ cls := "TankField$Plain", name := "isSure", desc := "()Z" } : Jvm.MethodName) prog_6_method_4_code (1 : Nat) (Option.some Jvm.ClassFile.FieldType.boolean)) ∈ lw_all := lw_g (lw_at lw_m2 239 rfl) rfl
theorem q811 : (Jvm.Cond.instanceMethod ({ cls := "TankField$Plain", name := "said", desc := "()I" } : Jvm.MethodName)) ∈ lw_all := lw_g (lw_at lw_m4 49 rfl) rfl
theorem q812 : (Jvm.Cond.selects "TankField$Plain" ({ cls := "TankField$Plain", name := "said", desc := "()I" } : Jvm.MethodName) ({ cls := "TankField$Plain", name := "said", desc := "()I" } : Jvm.MethodName)) ∈ lw_all := lw_g (lw_at lw_m4 50 rfl) rfl
theorem q813 : (Jvm.Cond.sameMethod "TankField$Plain" "TankField$Plain" "said" "()I") ∈ lw_all := lw_g (lw_at lw_m4 51 rfl) rfl
theorem q819 : (Jvm.Cond.declares ({ cls := "TankField$Plain", name := "tracedBy", desc := "(I)I" } : Jvm.MethodName)) ∈ lw_tbl := lw_at lw_m4 57 rfl
theorem q821 : (Jvm.Cond.instanceMethod ({ cls := "TankField$Plain", name := "tracedBy", desc := "(I)I" } : Jvm.MethodName)) ∈ lw_all := lw_g (lw_at lw_m4 59 rfl) rfl
theorem q822 : (Jvm.Cond.code ({ cls := "TankField$Plain", name := "tracedBy", desc := "(I)I" } : Jvm.MethodName) prog_6_method_6_code (2 : Nat) (Option.some Jvm.ClassFile.FieldType.int)) ∈ lw_all := lw_g (lw_at lw_m4 60 rfl) rfl
theorem q825 : (Jvm.Cond.declares ({ cls := "TankField$Plain", name := "said", desc := "()I" } : Jvm.MethodName)) ∈ lw_tbl := lw_at lw_m4 63 rfl
theorem q834 : (Jvm.Cond.code ({ cls := "TankField$Plain", name := "said", desc := "()I" } : Jvm.MethodName) prog_6_method_5_code (1 : Nat) (Option.some Jvm.ClassFile.FieldType.int)) ∈ lw_all := lw_g (lw_at lw_m4 72 rfl) rfl
theorem q835 : (Jvm.Cond.methodLink "TankField$Plain" (26 : Nat) ({ cls := "TankField$Plain", name := "tracedBy", desc := "(I)I" } : Jvm.MethodName)) ∈ lw_all := lw_g (lw_at lw_m4 73 rfl) rfl
theorem q849 : (Jvm.Cond.unhidden "TankField$Plain" "weighed" "()I") ∈ lw_tbl := lw_at lw_m4 87 rfl
theorem q861 : (Jvm.Cond.publicMethod ({ cls := "TankField$Plain", name := "tracedBy", desc := "(I)I" } : Jvm.MethodName)) ∈ lw_tbl := lw_at lw_m4 99 rfl
theorem q865 : (Jvm.Cond.castable "TankField$Plain" "TankField$Weighed") ∈ lw_tbl := lw_at lw_m4 103 rfl
theorem q866 : (Jvm.Cond.selects "TankField$Plain" ({ cls := "TankField$Weighed", name := "tracedBy", desc := "(I)I" } : Jvm.MethodName) ({ cls := "TankField$Plain", name := "tracedBy", desc := "(I)I" } : Jvm.MethodName)) ∈ lw_all := lw_g (lw_at lw_m4 104 rfl) rfl
theorem q867 : (Jvm.Cond.unhidden "TankField$Plain" "tracedBy" "(I)I") ∈ lw_tbl := lw_at lw_m4 105 rfl
theorem q880 : (Jvm.Cond.publicMethod ({ cls := "TankField$Plain", name := "amount", desc := "()I" } : Jvm.MethodName)) ∈ lw_tbl := lw_at lw_m4 118 rfl
theorem q881 : (Jvm.Cond.selects "TankField$Plain" ({ cls := "TankField$Weighed", name := "amount", desc := "()I" } : Jvm.MethodName) ({ cls := "TankField$Plain", name := "amount", desc := "()I" } : Jvm.MethodName)) ∈ lw_all := lw_g (lw_at lw_m4 119 rfl) rfl
theorem q882 : (Jvm.Cond.unhidden "TankField$Plain" "amount" "()I") ∈ lw_tbl := lw_at lw_m4 120 rfl
theorem q896 : (Jvm.Cond.selects "TankField$Plain" ({ cls := "TankField$Weighed", name := "kind", desc := "()I" } : Jvm.MethodName) ({ cls := "TankField$Plain", name := "kind", desc := "()I" } : Jvm.MethodName)) ∈ lw_all := lw_g (lw_at lw_m4 134 rfl) rfl
theorem q897 : (Jvm.Cond.unhidden "TankField$Plain" "kind" "()I") ∈ lw_tbl := lw_at lw_m4 135 rfl
theorem q898 : (Jvm.Cond.publicMethod ({ cls := "TankField$Plain", name := "kind", desc := "()I" } : Jvm.MethodName)) ∈ lw_tbl := lw_at lw_m4 136 rfl
theorem q1269 : (Jvm.Cond.sameMethod "TankField$Plain" "TankField$Plain" "tracedBy" "(I)I") ∈ lw_all := lw_g (lw_at lw_m6 27 rfl) rfl
theorem q1272 : (Jvm.Cond.selects "TankField$Plain" ({ cls := "TankField$Plain", name := "tracedBy", desc := "(I)I" } : Jvm.MethodName) ({ cls := "TankField$Plain", name := "tracedBy", desc := "(I)I" } : Jvm.MethodName)) ∈ lw_all := lw_g (lw_at lw_m6 30 rfl) rfl
theorem in_X4 : ∀ w ∈ wsX40, w ∈ lw_all := lw_in wsX40 [271, 273, 275, 277, 279] (by decide +kernel) (by decide +kernel)

/-! TankField$Over -/
set_option maxRecDepth 100000
def RX5 : String := "TankField$Over"
def TX5 : u_T := fun k => match k with
  | 0 => ("TankField$Plain", "tank", "I", true)
  | 1 => ("TankField$Plain", "time", "I", true)
  | 2 => ("TankField$Plain", "low", "I", true)
  | 3 => ("TankField$Plain", "high", "I", true)
  | 4 => ("TankField$Plain", "this$0", "LTankField;", true)
  | _ => ("TankField$Over", "this$0", "LTankField;", true)
def tyX5 : Nat → FieldType := fun k => match k with
  | 0 => .int
  | 1 => .int
  | 2 => .int
  | 3 => .int
  | 4 => .object "TankField"
  | _ => .object "TankField"
abbrev wsX50 : List Cond := u_ws RX5 TX5 6
-- two fields of one name: no nmX5
theorem tyX5_ok : ∀ k, k < 6 → parseFieldDescriptor (TX5 k).2.2.1 = some (tyX5 k) := by decide +kernel
abbrev cX5_init : ByteArray := prog_5_method_1_code
def yX5_init : MethodName := ⟨RX5, "<init>", "(LTankField;IIII)V"⟩
def dkwX5_init_0 : List UInt8 := [42, 43, 181, 0, 1, 42, 43, 28, 29, 21, 4, 21, 5, 183, 0, 7, 177]
abbrev dktX5_init_0 : List UInt8 := dkwX5_init_0 ++ []
theorem dksX5_init_0 : cX5_init.data.toList.drop 0 = dktX5_init_0 := by decide +kernel
theorem dX5_init_0 : decode cX5_init 0 = .ok (.aload_n 0, 1) := dk_42 (dk_at dksX5_init_0 0 rfl rfl)
theorem dX5_init_1 : decode cX5_init 1 = .ok (.aload_n 1, 1) := dk_43 (dk_at dksX5_init_0 1 rfl rfl)
theorem dX5_init_2 : decode cX5_init 2 = .ok (.putfield 1, 3) := dk_181 0 1 (dk_at dksX5_init_0 2 rfl rfl)
theorem dX5_init_5 : decode cX5_init 5 = .ok (.aload_n 0, 1) := dk_42 (dk_at dksX5_init_0 5 rfl rfl)
theorem dX5_init_6 : decode cX5_init 6 = .ok (.aload_n 1, 1) := dk_43 (dk_at dksX5_init_0 6 rfl rfl)
theorem dX5_init_7 : decode cX5_init 7 = .ok (.iload_n 2, 1) := dk_28 (dk_at dksX5_init_0 7 rfl rfl)
theorem dX5_init_8 : decode cX5_init 8 = .ok (.iload_n 3, 1) := dk_29 (dk_at dksX5_init_0 8 rfl rfl)
theorem dX5_init_9 : decode cX5_init 9 = .ok (.iload 4, 2) := dk_21 4 (dk_at dksX5_init_0 9 rfl rfl)
theorem dX5_init_11 : decode cX5_init 11 = .ok (.iload 5, 2) := dk_21 5 (dk_at dksX5_init_0 11 rfl rfl)
theorem dX5_init_13 : decode cX5_init 13 = .ok (.invokespecial 7, 3) := dk_183 0 7 (dk_at dksX5_init_0 13 rfl rfl)
theorem dX5_init_16 : decode cX5_init 16 = .ok (.return_, 1) := dk_177 (dk_at dksX5_init_0 16 rfl rfl)
abbrev cX5_kind : ByteArray := prog_5_method_2_code
def yX5_kind : MethodName := ⟨RX5, "kind", "()I"⟩
theorem dX5_kind_0 : decode cX5_kind 0 = .ok (.iconst 2, 1) := by decide +kernel
theorem dX5_kind_1 : decode cX5_kind 1 = .ok (.ireturn, 1) := by decide +kernel
abbrev cX5_isSure : ByteArray := prog_5_method_3_code
def yX5_isSure : MethodName := ⟨RX5, "isSure", "()Z"⟩
theorem dX5_isSure_0 : decode cX5_isSure 0 = .ok (.iconst 0, 1) := by decide +kernel
theorem dX5_isSure_1 : decode cX5_isSure 1 = .ok (.ireturn, 1) := by decide +kernel
abbrev cX5_weighed : ByteArray := prog_5_method_4_code
def yX5_weighed : MethodName := ⟨RX5, "weighed", "()I"⟩
def dkwX5_weighed_0 : List UInt8 := [42, 8, 182, 0, 13, 172]
abbrev dktX5_weighed_0 : List UInt8 := dkwX5_weighed_0 ++ []
theorem dksX5_weighed_0 : cX5_weighed.data.toList.drop 0 = dktX5_weighed_0 := by decide +kernel
theorem dX5_weighed_0 : decode cX5_weighed 0 = .ok (.aload_n 0, 1) := dk_42 (dk_at dksX5_weighed_0 0 rfl rfl)
theorem dX5_weighed_1 : decode cX5_weighed 1 = .ok (.iconst 5, 1) := dk_8 (dk_at dksX5_weighed_0 1 rfl rfl)
theorem dX5_weighed_2 : decode cX5_weighed 2 = .ok (.invokevirtual 13, 3) := dk_182 0 13 (dk_at dksX5_weighed_0 2 rfl rfl)
theorem dX5_weighed_5 : decode cX5_weighed 5 = .ok (.ireturn, 1) := dk_172 (dk_at dksX5_weighed_0 5 rfl rfl)
theorem q48 : (Jvm.Cond.initialized "TankField$Over") ∈ lw_all := lw_g (lw_at lw_m1 6 rfl) rfl
theorem q261 : (Jvm.Cond.sameField "TankField$Over" "TankField$Plain" "tank" "I") ∈ lw_all := lw_g (lw_at lw_m1 219 rfl) rfl
theorem q283 : (Jvm.Cond.instantiable "TankField$Over" (6 : Nat)) ∈ lw_all := lw_g (lw_at lw_m2 1 rfl) rfl
theorem q285 : (Jvm.Cond.instanceMethod ({ cls := "TankField$Over", name := "<init>", desc := "(LTankField;IIII)V" } : Jvm.MethodName)) ∈ lw_all := lw_g (lw_at lw_m2 3 rfl) rfl
theorem q286 : (Jvm.Cond.code ({ cls := "TankField$Over", name := "<init>", desc := "(LTankField;IIII)V" } : Jvm.MethodName) prog_5_method_1_code (6 : Nat) (Option.none : Option Jvm.ClassFile.FieldType)) ∈ lw_all := lw_g (lw_at lw_m2 4 rfl) rfl
theorem q287 : (Jvm.Cond.methodLink "TankField$Over" (7 : Nat) ({ cls := "TankField$Plain", name := "<init>", desc := "(LTankField;IIII)V" } : Jvm.MethodName)) ∈ lw_all := lw_g (lw_at lw_m2 5 rfl) rfl
theorem q288 : (Jvm.Cond.fieldLink "TankField$Over" (1 : Nat) "TankField$Over" "this$0" "LTankField;") ∈ lw_all := lw_g (lw_at lw_m2 6 rfl) rfl
theorem q289 : (Jvm.Cond.laysFinal "TankField$Over" "TankField$Over" "this$0" "LTankField;") ∈ lw_all := lw_g (lw_at lw_m2 7 rfl) rfl
theorem q290 : (Jvm.Cond.soleField "TankField$Over" "this$0") ∈ lw_all := lw_g (lw_at lw_m2 8 rfl) rfl
theorem q291 : (Jvm.Cond.laysFinal "TankField$Over" "TankField$Plain" "tank" "I") ∈ lw_all := lw_g (lw_at lw_m2 9 rfl) rfl
theorem q292 : (Jvm.Cond.laysFinal "TankField$Over" "TankField$Plain" "time" "I") ∈ lw_all := lw_g (lw_at lw_m2 10 rfl) rfl
theorem q293 : (Jvm.Cond.laysFinal "TankField$Over" "TankField$Plain" "low" "I") ∈ lw_all := lw_g (lw_at lw_m2 11 rfl) rfl
theorem q294 : (Jvm.Cond.laysFinal "TankField$Over" "TankField$Plain" "high" "I") ∈ lw_all := lw_g (lw_at lw_m2 12 rfl) rfl
theorem q295 : (Jvm.Cond.laysFinal "TankField$Over" "TankField$Plain" "this$0" "LTankField;") ∈ lw_all := lw_g (lw_at lw_m2 13 rfl) rfl
theorem q296 : (Jvm.Cond.superclass "TankField$Over" "TankField$Plain") ∈ lw_all := lw_g (lw_at lw_m2 14 rfl) rfl
theorem q337 : (Jvm.Cond.selects "TankField$Over" ({ cls := "TankField$Plain", name := "isLookedAt", desc := "()Z" } : Jvm.MethodName) ({ cls := "TankField$Plain", name := "isLookedAt", desc := "()Z" } : Jvm.MethodName)) ∈ lw_all := lw_g (lw_at lw_m2 55 rfl) rfl
theorem q358 : (Jvm.Cond.selects "TankField$Over" ({ cls := "TankField$Plain", name := "right", desc := "()I" } : Jvm.MethodName) ({ cls := "TankField$Plain", name := "right", desc := "()I" } : Jvm.MethodName)) ∈ lw_all := lw_g (lw_at lw_m2 76 rfl) rfl
theorem q372 : (Jvm.Cond.selects "TankField$Over" ({ cls := "TankField$Plain", name := "kind", desc := "()I" } : Jvm.MethodName) ({ cls := "TankField$Over", name := "kind", desc := "()I" } : Jvm.MethodName)) ∈ lw_all := lw_g (lw_at lw_m2 90 rfl) rfl
theorem q373 : (Jvm.Cond.instanceMethod ({ cls := "TankField$Over", name := "kind", desc := "()I" } : Jvm.MethodName)) ∈ lw_all := lw_g (lw_at lw_m2 91 rfl) rfl
theorem q374 : (Jvm.Cond.code ({ cls := "TankField$Over", name := "kind", desc := "()I" } : Jvm.MethodName) prog_5_method_2_code (1 : Nat) (Option.some Jvm.ClassFile.FieldType.int)) ∈ lw_all := lw_g (lw_at lw_m2 92 rfl) rfl
theorem q386 : (Jvm.Cond.selects "TankField$Over" ({ cls := "TankField$Plain", name := "amount", desc := "()I" } : Jvm.MethodName) ({ cls := "TankField$Plain", name := "amount", desc := "()I" } : Jvm.MethodName)) ∈ lw_all := lw_g (lw_at lw_m2 104 rfl) rfl
theorem q517 : (Jvm.Cond.instanceMethod ({ cls := "TankField$Over", name := "isSure", desc := "()Z" } : Jvm.MethodName)) ∈ lw_all := lw_g (lw_at lw_m2 235 rfl) rfl
theorem q518 : (Jvm.Cond.code ({ cls := "TankField$Over", name := "isSure", desc := "()Z" } : Jvm.MethodName) prog_5_method_3_code (1 : Nat) (Option.some Jvm.ClassFile.FieldType.boolean)) ∈ lw_all := lw_g (lw_at lw_m2 236 rfl) rfl
theorem q519 : (Jvm.Cond.selects "TankField$Over" ({ cls := "TankField$Plain", name := "isSure", desc := "()Z" } : Jvm.MethodName) ({ cls := "TankField$Over", name := "isSure", desc := "()Z" } : Jvm.MethodName)) ∈ lw_all := lw_g (lw_at lw_m2 237 rfl) rfl
theorem q824 : (Jvm.Cond.sameMethod "TankField$Over" "TankField$Plain" "said" "()I") ∈ lw_all := lw_g (lw_at lw_m4 62 rfl) rfl
theorem q826 : (Jvm.Cond.selects "TankField$Over" ({ cls := "TankField$Plain", name := "said", desc := "()I" } : Jvm.MethodName) ({ cls := "TankField$Plain", name := "said", desc := "()I" } : Jvm.MethodName)) ∈ lw_all := lw_g (lw_at lw_m4 64 rfl) rfl
theorem q842 : (Jvm.Cond.instanceMethod ({ cls := "TankField$Over", name := "weighed", desc := "()I" } : Jvm.MethodName)) ∈ lw_all := lw_g (lw_at lw_m4 80 rfl) rfl
theorem q843 : (Jvm.Cond.code ({ cls := "TankField$Over", name := "weighed", desc := "()I" } : Jvm.MethodName) prog_5_method_4_code (1 : Nat) (Option.some Jvm.ClassFile.FieldType.int)) ∈ lw_all := lw_g (lw_at lw_m4 81 rfl) rfl
theorem q844 : (Jvm.Cond.methodLink "TankField$Over" (13 : Nat) ({ cls := "TankField$Over", name := "tracedBy", desc := "(I)I" } : Jvm.MethodName)) ∈ lw_all := lw_g (lw_at lw_m4 82 rfl) rfl
theorem q845 : (Jvm.Cond.sameMethod "TankField$Over" "TankField$Plain" "tracedBy" "(I)I") ∈ lw_all := lw_g (lw_at lw_m4 83 rfl) rfl
theorem q847 : (Jvm.Cond.selects "TankField$Over" ({ cls := "TankField$Over", name := "tracedBy", desc := "(I)I" } : Jvm.MethodName) ({ cls := "TankField$Plain", name := "tracedBy", desc := "(I)I" } : Jvm.MethodName)) ∈ lw_all := lw_g (lw_at lw_m4 85 rfl) rfl
theorem q848 : (Jvm.Cond.selects "TankField$Over" ({ cls := "TankField$Weighed", name := "weighed", desc := "()I" } : Jvm.MethodName) ({ cls := "TankField$Over", name := "weighed", desc := "()I" } : Jvm.MethodName)) ∈ lw_all := lw_g (lw_at lw_m4 86 rfl) rfl
theorem q862 : (Jvm.Cond.castable "TankField$Over" "TankField$Weighed") ∈ lw_tbl := lw_at lw_m4 100 rfl
theorem q863 : (Jvm.Cond.selects "TankField$Over" ({ cls := "TankField$Weighed", name := "tracedBy", desc := "(I)I" } : Jvm.MethodName) ({ cls := "TankField$Plain", name := "tracedBy", desc := "(I)I" } : Jvm.MethodName)) ∈ lw_all := lw_g (lw_at lw_m4 101 rfl) rfl
theorem q864 : (Jvm.Cond.unhidden "TankField$Over" "tracedBy" "(I)I") ∈ lw_tbl := lw_at lw_m4 102 rfl
theorem q878 : (Jvm.Cond.selects "TankField$Over" ({ cls := "TankField$Weighed", name := "amount", desc := "()I" } : Jvm.MethodName) ({ cls := "TankField$Plain", name := "amount", desc := "()I" } : Jvm.MethodName)) ∈ lw_all := lw_g (lw_at lw_m4 116 rfl) rfl
theorem q879 : (Jvm.Cond.unhidden "TankField$Over" "amount" "()I") ∈ lw_tbl := lw_at lw_m4 117 rfl
theorem q893 : (Jvm.Cond.selects "TankField$Over" ({ cls := "TankField$Weighed", name := "kind", desc := "()I" } : Jvm.MethodName) ({ cls := "TankField$Over", name := "kind", desc := "()I" } : Jvm.MethodName)) ∈ lw_all := lw_g (lw_at lw_m4 131 rfl) rfl
theorem q894 : (Jvm.Cond.unhidden "TankField$Over" "kind" "()I") ∈ lw_tbl := lw_at lw_m4 132 rfl
theorem q895 : (Jvm.Cond.publicMethod ({ cls := "TankField$Over", name := "kind", desc := "()I" } : Jvm.MethodName)) ∈ lw_tbl := lw_at lw_m4 133 rfl
theorem q1271 : (Jvm.Cond.selects "TankField$Over" ({ cls := "TankField$Plain", name := "tracedBy", desc := "(I)I" } : Jvm.MethodName) ({ cls := "TankField$Plain", name := "tracedBy", desc := "(I)I" } : Jvm.MethodName)) ∈ lw_all := lw_g (lw_at lw_m6 29 rfl) rfl
theorem q1276 : (Jvm.Cond.castable "TankField$Over" "TankField$Plain") ∈ lw_tbl := lw_at lw_m6 34 rfl
theorem in_X5 : ∀ w ∈ wsX50, w ∈ lw_all := lw_in wsX50 [291, 292, 293, 294, 295, 289] (by decide +kernel) (by decide +kernel)

/-! TankField$Steep -/
set_option maxRecDepth 100000
def RX6 : String := "TankField$Steep"
def TX6 : u_T := fun k => match k with
  | 0 => ("TankField$Plain", "tank", "I", true)
  | 1 => ("TankField$Plain", "time", "I", true)
  | 2 => ("TankField$Plain", "low", "I", true)
  | 3 => ("TankField$Plain", "high", "I", true)
  | 4 => ("TankField$Plain", "this$0", "LTankField;", true)
  | _ => ("TankField$Steep", "this$0", "LTankField;", true)
def tyX6 : Nat → FieldType := fun k => match k with
  | 0 => .int
  | 1 => .int
  | 2 => .int
  | 3 => .int
  | 4 => .object "TankField"
  | _ => .object "TankField"
abbrev wsX60 : List Cond := u_ws RX6 TX6 6
-- two fields of one name: no nmX6
theorem tyX6_ok : ∀ k, k < 6 → parseFieldDescriptor (TX6 k).2.2.1 = some (tyX6 k) := by decide +kernel
abbrev cX6_init : ByteArray := prog_9_method_1_code
def yX6_init : MethodName := ⟨RX6, "<init>", "(LTankField;IIII)V"⟩
def dkwX6_init_0 : List UInt8 := [42, 43, 181, 0, 1, 42, 43, 28, 29, 21, 4, 21, 5, 183, 0, 7, 177]
abbrev dktX6_init_0 : List UInt8 := dkwX6_init_0 ++ []
theorem dksX6_init_0 : cX6_init.data.toList.drop 0 = dktX6_init_0 := by decide +kernel
theorem dX6_init_0 : decode cX6_init 0 = .ok (.aload_n 0, 1) := dk_42 (dk_at dksX6_init_0 0 rfl rfl)
theorem dX6_init_1 : decode cX6_init 1 = .ok (.aload_n 1, 1) := dk_43 (dk_at dksX6_init_0 1 rfl rfl)
theorem dX6_init_2 : decode cX6_init 2 = .ok (.putfield 1, 3) := dk_181 0 1 (dk_at dksX6_init_0 2 rfl rfl)
theorem dX6_init_5 : decode cX6_init 5 = .ok (.aload_n 0, 1) := dk_42 (dk_at dksX6_init_0 5 rfl rfl)
theorem dX6_init_6 : decode cX6_init 6 = .ok (.aload_n 1, 1) := dk_43 (dk_at dksX6_init_0 6 rfl rfl)
theorem dX6_init_7 : decode cX6_init 7 = .ok (.iload_n 2, 1) := dk_28 (dk_at dksX6_init_0 7 rfl rfl)
theorem dX6_init_8 : decode cX6_init 8 = .ok (.iload_n 3, 1) := dk_29 (dk_at dksX6_init_0 8 rfl rfl)
theorem dX6_init_9 : decode cX6_init 9 = .ok (.iload 4, 2) := dk_21 4 (dk_at dksX6_init_0 9 rfl rfl)
theorem dX6_init_11 : decode cX6_init 11 = .ok (.iload 5, 2) := dk_21 5 (dk_at dksX6_init_0 11 rfl rfl)
theorem dX6_init_13 : decode cX6_init 13 = .ok (.invokespecial 7, 3) := dk_183 0 7 (dk_at dksX6_init_0 13 rfl rfl)
theorem dX6_init_16 : decode cX6_init 16 = .ok (.return_, 1) := dk_177 (dk_at dksX6_init_0 16 rfl rfl)
abbrev cX6_kind : ByteArray := prog_9_method_2_code
def yX6_kind : MethodName := ⟨RX6, "kind", "()I"⟩
theorem dX6_kind_0 : decode cX6_kind 0 = .ok (.iconst 1, 1) := by decide +kernel
theorem dX6_kind_1 : decode cX6_kind 1 = .ok (.ireturn, 1) := by decide +kernel
abbrev cX6_amount : ByteArray := prog_9_method_3_code
def yX6_amount : MethodName := ⟨RX6, "amount", "()I"⟩
def dkwX6_amount_0 : List UInt8 := [16, 16, 42, 180, 0, 13, 104, 172]
abbrev dktX6_amount_0 : List UInt8 := dkwX6_amount_0 ++ []
theorem dksX6_amount_0 : cX6_amount.data.toList.drop 0 = dktX6_amount_0 := by decide +kernel
theorem dX6_amount_0 : decode cX6_amount 0 = .ok (.bipush 16, 2) := dk_16 16 (dk_at dksX6_amount_0 0 rfl rfl)
theorem dX6_amount_2 : decode cX6_amount 2 = .ok (.aload_n 0, 1) := dk_42 (dk_at dksX6_amount_0 2 rfl rfl)
theorem dX6_amount_3 : decode cX6_amount 3 = .ok (.getfield 13, 3) := dk_180 0 13 (dk_at dksX6_amount_0 3 rfl rfl)
theorem dX6_amount_6 : decode cX6_amount 6 = .ok (.imul, 1) := dk_104 (dk_at dksX6_amount_0 6 rfl rfl)
theorem dX6_amount_7 : decode cX6_amount 7 = .ok (.ireturn, 1) := dk_172 (dk_at dksX6_amount_0 7 rfl rfl)
abbrev cX6_said : ByteArray := prog_9_method_4_code
def yX6_said : MethodName := ⟨RX6, "said", "()I"⟩
def dkwX6_said_0 : List UInt8 := [42, 5, 182, 0, 17, 16, 16, 42, 180, 0, 13, 104, 96, 42, 183, 0, 21, 96, 172]
abbrev dktX6_said_0 : List UInt8 := dkwX6_said_0 ++ []
theorem dksX6_said_0 : cX6_said.data.toList.drop 0 = dktX6_said_0 := by decide +kernel
theorem dX6_said_0 : decode cX6_said 0 = .ok (.aload_n 0, 1) := dk_42 (dk_at dksX6_said_0 0 rfl rfl)
theorem dX6_said_1 : decode cX6_said 1 = .ok (.iconst 2, 1) := dk_5 (dk_at dksX6_said_0 1 rfl rfl)
theorem dX6_said_2 : decode cX6_said 2 = .ok (.invokevirtual 17, 3) := dk_182 0 17 (dk_at dksX6_said_0 2 rfl rfl)
theorem dX6_said_5 : decode cX6_said 5 = .ok (.bipush 16, 2) := dk_16 16 (dk_at dksX6_said_0 5 rfl rfl)
theorem dX6_said_7 : decode cX6_said 7 = .ok (.aload_n 0, 1) := dk_42 (dk_at dksX6_said_0 7 rfl rfl)
theorem dX6_said_8 : decode cX6_said 8 = .ok (.getfield 13, 3) := dk_180 0 13 (dk_at dksX6_said_0 8 rfl rfl)
theorem dX6_said_11 : decode cX6_said 11 = .ok (.imul, 1) := dk_104 (dk_at dksX6_said_0 11 rfl rfl)
theorem dX6_said_12 : decode cX6_said 12 = .ok (.iadd, 1) := dk_96 (dk_at dksX6_said_0 12 rfl rfl)
theorem dX6_said_13 : decode cX6_said 13 = .ok (.aload_n 0, 1) := dk_42 (dk_at dksX6_said_0 13 rfl rfl)
theorem dX6_said_14 : decode cX6_said 14 = .ok (.invokespecial 21, 3) := dk_183 0 21 (dk_at dksX6_said_0 14 rfl rfl)
theorem dX6_said_17 : decode cX6_said 17 = .ok (.iadd, 1) := dk_96 (dk_at dksX6_said_0 17 rfl rfl)
theorem dX6_said_18 : decode cX6_said 18 = .ok (.ireturn, 1) := dk_172 (dk_at dksX6_said_0 18 rfl rfl)
theorem q49 : (Jvm.Cond.initialized "TankField$Steep") ∈ lw_all := lw_g (lw_at lw_m1 7 rfl) rfl
theorem q259 : (Jvm.Cond.sameField "TankField$Steep" "TankField$Plain" "tank" "I") ∈ lw_all := lw_g (lw_at lw_m1 217 rfl) rfl
theorem q268 : (Jvm.Cond.fieldLink "TankField$Steep" (13 : Nat) "TankField$Steep" "high" "I") ∈ lw_all := lw_g (lw_at lw_m1 226 rfl) rfl
theorem q269 : (Jvm.Cond.sameField "TankField$Steep" "TankField$Plain" "high" "I") ∈ lw_all := lw_g (lw_at lw_m1 227 rfl) rfl
theorem q298 : (Jvm.Cond.instantiable "TankField$Steep" (6 : Nat)) ∈ lw_all := lw_g (lw_at lw_m2 16 rfl) rfl
theorem q300 : (Jvm.Cond.instanceMethod ({ cls := "TankField$Steep", name := "<init>", desc := "(LTankField;IIII)V" } : Jvm.MethodName)) ∈ lw_all := lw_g (lw_at lw_m2 18 rfl) rfl
theorem q301 : (Jvm.Cond.code ({ cls := "TankField$Steep", name := "<init>", desc := "(LTankField;IIII)V" } : Jvm.MethodName) prog_9_method_1_code (6 : Nat) (Option.none : Option Jvm.ClassFile.FieldType)) ∈ lw_all := lw_g (lw_at lw_m2 19 rfl) rfl
theorem q302 : (Jvm.Cond.methodLink "TankField$Steep" (7 : Nat) ({ cls := "TankField$Plain", name := "<init>", desc := "(LTankField;IIII)V" } : Jvm.MethodName)) ∈ lw_all := lw_g (lw_at lw_m2 20 rfl) rfl
theorem q303 : (Jvm.Cond.fieldLink "TankField$Steep" (1 : Nat) "TankField$Steep" "this$0" "LTankField;") ∈ lw_all := lw_g (lw_at lw_m2 21 rfl) rfl
theorem q304 : (Jvm.Cond.laysFinal "TankField$Steep" "TankField$Steep" "this$0" "LTankField;") ∈ lw_all := lw_g (lw_at lw_m2 22 rfl) rfl
theorem q305 : (Jvm.Cond.soleField "TankField$Steep" "this$0") ∈ lw_all := lw_g (lw_at lw_m2 23 rfl) rfl
theorem q306 : (Jvm.Cond.laysFinal "TankField$Steep" "TankField$Plain" "tank" "I") ∈ lw_all := lw_g (lw_at lw_m2 24 rfl) rfl
theorem q307 : (Jvm.Cond.laysFinal "TankField$Steep" "TankField$Plain" "time" "I") ∈ lw_all := lw_g (lw_at lw_m2 25 rfl) rfl
theorem q308 : (Jvm.Cond.laysFinal "TankField$Steep" "TankField$Plain" "low" "I") ∈ lw_all := lw_g (lw_at lw_m2 26 rfl) rfl
theorem q309 : (Jvm.Cond.laysFinal "TankField$Steep" "TankField$Plain" "high" "I") ∈ lw_all := lw_g (lw_at lw_m2 27 rfl) rfl
theorem q310 : (Jvm.Cond.laysFinal "TankField$Steep" "TankField$Plain" "this$0" "LTankField;") ∈ lw_all := lw_g (lw_at lw_m2 28 rfl) rfl
theorem q311 : (Jvm.Cond.superclass "TankField$Steep" "TankField$Plain") ∈ lw_all := lw_g (lw_at lw_m2 29 rfl) rfl
theorem q338 : (Jvm.Cond.selects "TankField$Steep" ({ cls := "TankField$Plain", name := "isLookedAt", desc := "()Z" } : Jvm.MethodName) ({ cls := "TankField$Plain", name := "isLookedAt", desc := "()Z" } : Jvm.MethodName)) ∈ lw_all := lw_g (lw_at lw_m2 56 rfl) rfl
theorem q359 : (Jvm.Cond.selects "TankField$Steep" ({ cls := "TankField$Plain", name := "right", desc := "()I" } : Jvm.MethodName) ({ cls := "TankField$Plain", name := "right", desc := "()I" } : Jvm.MethodName)) ∈ lw_all := lw_g (lw_at lw_m2 77 rfl) rfl
theorem q375 : (Jvm.Cond.selects "TankField$Steep" ({ cls := "TankField$Plain", name := "kind", desc := "()I" } : Jvm.MethodName) ({ cls := "TankField$Steep", name := "kind", desc := "()I" } : Jvm.MethodName)) ∈ lw_all := lw_g (lw_at lw_m2 93 rfl) rfl
theorem q376 : (Jvm.Cond.instanceMethod ({ cls := "TankField$Steep", name := "kind", desc := "()I" } : Jvm.MethodName)) ∈ lw_all := lw_g (lw_at lw_m2 94 rfl) rfl
theorem q377 : (Jvm.Cond.code ({ cls := "TankField$Steep", name := "kind", desc := "()I" } : Jvm.MethodName) prog_9_method_2_code (1 : Nat) (Option.some Jvm.ClassFile.FieldType.int)) ∈ lw_all := lw_g (lw_at lw_m2 95 rfl) rfl
theorem q387 : (Jvm.Cond.selects "TankField$Steep" ({ cls := "TankField$Plain", name := "amount", desc := "()I" } : Jvm.MethodName) ({ cls := "TankField$Steep", name := "amount", desc := "()I" } : Jvm.MethodName)) ∈ lw_all := lw_g (lw_at lw_m2 105 rfl) rfl
theorem q388 : (Jvm.Cond.instanceMethod ({ cls := "TankField$Steep", name := "amount", desc := "()I" } : Jvm.MethodName)) ∈ lw_all := lw_g (lw_at lw_m2 106 rfl) rfl
theorem q389 : (Jvm.Cond.code ({ cls := "TankField$Steep", name := "amount", desc := "()I" } : Jvm.MethodName) prog_9_method_3_code (1 : Nat) (Option.some Jvm.ClassFile.FieldType.int)) ∈ lw_all := lw_g (lw_at lw_m2 107 rfl) rfl
theorem q520 : (Jvm.Cond.selects "TankField$Steep" ({ cls := "TankField$Plain", name := "isSure", desc := "()Z" } : Jvm.MethodName) ({ cls := "TankField$Plain", name := "isSure", desc := "()Z" } : Jvm.MethodName)) ∈ lw_all := lw_g (lw_at lw_m2 238 rfl) rfl
theorem q827 : (Jvm.Cond.selects "TankField$Steep" ({ cls := "TankField$Plain", name := "said", desc := "()I" } : Jvm.MethodName) ({ cls := "TankField$Steep", name := "said", desc := "()I" } : Jvm.MethodName)) ∈ lw_all := lw_g (lw_at lw_m4 65 rfl) rfl
theorem q828 : (Jvm.Cond.instanceMethod ({ cls := "TankField$Steep", name := "said", desc := "()I" } : Jvm.MethodName)) ∈ lw_all := lw_g (lw_at lw_m4 66 rfl) rfl
theorem q829 : (Jvm.Cond.code ({ cls := "TankField$Steep", name := "said", desc := "()I" } : Jvm.MethodName) prog_9_method_4_code (1 : Nat) (Option.some Jvm.ClassFile.FieldType.int)) ∈ lw_all := lw_g (lw_at lw_m4 67 rfl) rfl
theorem q830 : (Jvm.Cond.methodLink "TankField$Steep" (17 : Nat) ({ cls := "TankField$Steep", name := "tracedBy", desc := "(I)I" } : Jvm.MethodName)) ∈ lw_all := lw_g (lw_at lw_m4 68 rfl) rfl
theorem q831 : (Jvm.Cond.sameMethod "TankField$Steep" "TankField$Plain" "tracedBy" "(I)I") ∈ lw_all := lw_g (lw_at lw_m4 69 rfl) rfl
theorem q832 : (Jvm.Cond.selects "TankField$Steep" ({ cls := "TankField$Steep", name := "tracedBy", desc := "(I)I" } : Jvm.MethodName) ({ cls := "TankField$Plain", name := "tracedBy", desc := "(I)I" } : Jvm.MethodName)) ∈ lw_all := lw_g (lw_at lw_m4 70 rfl) rfl
theorem q833 : (Jvm.Cond.methodLink "TankField$Steep" (21 : Nat) ({ cls := "TankField$Plain", name := "said", desc := "()I" } : Jvm.MethodName)) ∈ lw_all := lw_g (lw_at lw_m4 71 rfl) rfl
theorem q850 : (Jvm.Cond.unhidden "TankField$Steep" "weighed" "()I") ∈ lw_tbl := lw_at lw_m4 88 rfl
theorem q868 : (Jvm.Cond.castable "TankField$Steep" "TankField$Weighed") ∈ lw_tbl := lw_at lw_m4 106 rfl
theorem q869 : (Jvm.Cond.selects "TankField$Steep" ({ cls := "TankField$Weighed", name := "tracedBy", desc := "(I)I" } : Jvm.MethodName) ({ cls := "TankField$Plain", name := "tracedBy", desc := "(I)I" } : Jvm.MethodName)) ∈ lw_all := lw_g (lw_at lw_m4 107 rfl) rfl
theorem q870 : (Jvm.Cond.unhidden "TankField$Steep" "tracedBy" "(I)I") ∈ lw_tbl := lw_at lw_m4 108 rfl
theorem q883 : (Jvm.Cond.selects "TankField$Steep" ({ cls := "TankField$Weighed", name := "amount", desc := "()I" } : Jvm.MethodName) ({ cls := "TankField$Steep", name := "amount", desc := "()I" } : Jvm.MethodName)) ∈ lw_all := lw_g (lw_at lw_m4 121 rfl) rfl
theorem q884 : (Jvm.Cond.unhidden "TankField$Steep" "amount" "()I") ∈ lw_tbl := lw_at lw_m4 122 rfl
theorem q885 : (Jvm.Cond.publicMethod ({ cls := "TankField$Steep", name := "amount", desc := "()I" } : Jvm.MethodName)) ∈ lw_tbl := lw_at lw_m4 123 rfl
theorem q899 : (Jvm.Cond.selects "TankField$Steep" ({ cls := "TankField$Weighed", name := "kind", desc := "()I" } : Jvm.MethodName) ({ cls := "TankField$Steep", name := "kind", desc := "()I" } : Jvm.MethodName)) ∈ lw_all := lw_g (lw_at lw_m4 137 rfl) rfl
theorem q900 : (Jvm.Cond.unhidden "TankField$Steep" "kind" "()I") ∈ lw_tbl := lw_at lw_m4 138 rfl
theorem q901 : (Jvm.Cond.publicMethod ({ cls := "TankField$Steep", name := "kind", desc := "()I" } : Jvm.MethodName)) ∈ lw_tbl := lw_at lw_m4 139 rfl
theorem q1273 : (Jvm.Cond.selects "TankField$Steep" ({ cls := "TankField$Plain", name := "tracedBy", desc := "(I)I" } : Jvm.MethodName) ({ cls := "TankField$Plain", name := "tracedBy", desc := "(I)I" } : Jvm.MethodName)) ∈ lw_all := lw_g (lw_at lw_m6 31 rfl) rfl
theorem q1277 : (Jvm.Cond.castable "TankField$Steep" "TankField$Plain") ∈ lw_tbl := lw_at lw_m6 35 rfl
theorem in_X6 : ∀ w ∈ wsX60, w ∈ lw_all := lw_in wsX60 [306, 307, 308, 309, 310, 304] (by decide +kernel) (by decide +kernel)

/-! TankField$Brim -/
set_option maxRecDepth 100000
def RX7 : String := "TankField$Brim"
def TX7 : u_T := fun k => match k with
  | 0 => ("TankField$Plain", "tank", "I", true)
  | 1 => ("TankField$Plain", "time", "I", true)
  | 2 => ("TankField$Plain", "low", "I", true)
  | 3 => ("TankField$Plain", "high", "I", true)
  | 4 => ("TankField$Plain", "this$0", "LTankField;", true)
  | 5 => ("TankField$Over", "this$0", "LTankField;", true)
  | _ => ("TankField$Brim", "this$0", "LTankField;", true)
def tyX7 : Nat → FieldType := fun k => match k with
  | 0 => .int
  | 1 => .int
  | 2 => .int
  | 3 => .int
  | 4 => .object "TankField"
  | 5 => .object "TankField"
  | _ => .object "TankField"
abbrev wsX70 : List Cond := u_ws RX7 TX7 7
-- two fields of one name: no nmX7
theorem tyX7_ok : ∀ k, k < 7 → parseFieldDescriptor (TX7 k).2.2.1 = some (tyX7 k) := by decide +kernel
abbrev cX7_init : ByteArray := prog_2_method_1_code
def yX7_init : MethodName := ⟨RX7, "<init>", "(LTankField;IIII)V"⟩
def dkwX7_init_0 : List UInt8 := [42, 43, 181, 0, 1, 42, 43, 28, 29, 21, 4, 21, 5, 183, 0, 7, 177]
abbrev dktX7_init_0 : List UInt8 := dkwX7_init_0 ++ []
theorem dksX7_init_0 : cX7_init.data.toList.drop 0 = dktX7_init_0 := by decide +kernel
theorem dX7_init_0 : decode cX7_init 0 = .ok (.aload_n 0, 1) := dk_42 (dk_at dksX7_init_0 0 rfl rfl)
theorem dX7_init_1 : decode cX7_init 1 = .ok (.aload_n 1, 1) := dk_43 (dk_at dksX7_init_0 1 rfl rfl)
theorem dX7_init_2 : decode cX7_init 2 = .ok (.putfield 1, 3) := dk_181 0 1 (dk_at dksX7_init_0 2 rfl rfl)
theorem dX7_init_5 : decode cX7_init 5 = .ok (.aload_n 0, 1) := dk_42 (dk_at dksX7_init_0 5 rfl rfl)
theorem dX7_init_6 : decode cX7_init 6 = .ok (.aload_n 1, 1) := dk_43 (dk_at dksX7_init_0 6 rfl rfl)
theorem dX7_init_7 : decode cX7_init 7 = .ok (.iload_n 2, 1) := dk_28 (dk_at dksX7_init_0 7 rfl rfl)
theorem dX7_init_8 : decode cX7_init 8 = .ok (.iload_n 3, 1) := dk_29 (dk_at dksX7_init_0 8 rfl rfl)
theorem dX7_init_9 : decode cX7_init 9 = .ok (.iload 4, 2) := dk_21 4 (dk_at dksX7_init_0 9 rfl rfl)
theorem dX7_init_11 : decode cX7_init 11 = .ok (.iload 5, 2) := dk_21 5 (dk_at dksX7_init_0 11 rfl rfl)
theorem dX7_init_13 : decode cX7_init 13 = .ok (.invokespecial 7, 3) := dk_183 0 7 (dk_at dksX7_init_0 13 rfl rfl)
theorem dX7_init_16 : decode cX7_init 16 = .ok (.return_, 1) := dk_177 (dk_at dksX7_init_0 16 rfl rfl)
abbrev cX7_kind : ByteArray := prog_2_method_2_code
def yX7_kind : MethodName := ⟨RX7, "kind", "()I"⟩
theorem dX7_kind_0 : decode cX7_kind 0 = .ok (.iconst 3, 1) := by decide +kernel
theorem dX7_kind_1 : decode cX7_kind 1 = .ok (.ireturn, 1) := by decide +kernel
abbrev cX7_amount : ByteArray := prog_2_method_3_code
def yX7_amount : MethodName := ⟨RX7, "amount", "()I"⟩
theorem dX7_amount_0 : decode cX7_amount 0 = .ok (.sipush 4080, 3) := by decide +kernel
theorem dX7_amount_3 : decode cX7_amount 3 = .ok (.ireturn, 1) := by decide +kernel
abbrev cX7_said : ByteArray := prog_2_method_4_code
def yX7_said : MethodName := ⟨RX7, "said", "()I"⟩
def dkwX7_said_0 : List UInt8 := [42, 6, 182, 0, 13, 42, 183, 0, 17, 96, 16, 9, 100, 172]
abbrev dktX7_said_0 : List UInt8 := dkwX7_said_0 ++ []
theorem dksX7_said_0 : cX7_said.data.toList.drop 0 = dktX7_said_0 := by decide +kernel
theorem dX7_said_0 : decode cX7_said 0 = .ok (.aload_n 0, 1) := dk_42 (dk_at dksX7_said_0 0 rfl rfl)
theorem dX7_said_1 : decode cX7_said 1 = .ok (.iconst 3, 1) := dk_6 (dk_at dksX7_said_0 1 rfl rfl)
theorem dX7_said_2 : decode cX7_said 2 = .ok (.invokevirtual 13, 3) := dk_182 0 13 (dk_at dksX7_said_0 2 rfl rfl)
theorem dX7_said_5 : decode cX7_said 5 = .ok (.aload_n 0, 1) := dk_42 (dk_at dksX7_said_0 5 rfl rfl)
theorem dX7_said_6 : decode cX7_said 6 = .ok (.invokespecial 17, 3) := dk_183 0 17 (dk_at dksX7_said_0 6 rfl rfl)
theorem dX7_said_9 : decode cX7_said 9 = .ok (.iadd, 1) := dk_96 (dk_at dksX7_said_0 9 rfl rfl)
theorem dX7_said_10 : decode cX7_said 10 = .ok (.bipush 9, 2) := dk_16 9 (dk_at dksX7_said_0 10 rfl rfl)
theorem dX7_said_12 : decode cX7_said 12 = .ok (.isub, 1) := dk_100 (dk_at dksX7_said_0 12 rfl rfl)
theorem dX7_said_13 : decode cX7_said 13 = .ok (.ireturn, 1) := dk_172 (dk_at dksX7_said_0 13 rfl rfl)
theorem q50 : (Jvm.Cond.initialized "TankField$Brim") ∈ lw_all := lw_g (lw_at lw_m1 8 rfl) rfl
theorem q263 : (Jvm.Cond.sameField "TankField$Brim" "TankField$Plain" "tank" "I") ∈ lw_all := lw_g (lw_at lw_m1 221 rfl) rfl
theorem q313 : (Jvm.Cond.instantiable "TankField$Brim" (7 : Nat)) ∈ lw_all := lw_g (lw_at lw_m2 31 rfl) rfl
theorem q315 : (Jvm.Cond.instanceMethod ({ cls := "TankField$Brim", name := "<init>", desc := "(LTankField;IIII)V" } : Jvm.MethodName)) ∈ lw_all := lw_g (lw_at lw_m2 33 rfl) rfl
theorem q316 : (Jvm.Cond.code ({ cls := "TankField$Brim", name := "<init>", desc := "(LTankField;IIII)V" } : Jvm.MethodName) prog_2_method_1_code (6 : Nat) (Option.none : Option Jvm.ClassFile.FieldType)) ∈ lw_all := lw_g (lw_at lw_m2 34 rfl) rfl
theorem q317 : (Jvm.Cond.methodLink "TankField$Brim" (7 : Nat) ({ cls := "TankField$Over", name := "<init>", desc := "(LTankField;IIII)V" } : Jvm.MethodName)) ∈ lw_all := lw_g (lw_at lw_m2 35 rfl) rfl
theorem q318 : (Jvm.Cond.fieldLink "TankField$Brim" (1 : Nat) "TankField$Brim" "this$0" "LTankField;") ∈ lw_all := lw_g (lw_at lw_m2 36 rfl) rfl
theorem q319 : (Jvm.Cond.laysFinal "TankField$Brim" "TankField$Brim" "this$0" "LTankField;") ∈ lw_all := lw_g (lw_at lw_m2 37 rfl) rfl
theorem q320 : (Jvm.Cond.soleField "TankField$Brim" "this$0") ∈ lw_all := lw_g (lw_at lw_m2 38 rfl) rfl
theorem q321 : (Jvm.Cond.laysFinal "TankField$Brim" "TankField$Over" "this$0" "LTankField;") ∈ lw_all := lw_g (lw_at lw_m2 39 rfl) rfl
theorem q322 : (Jvm.Cond.laysFinal "TankField$Brim" "TankField$Plain" "tank" "I") ∈ lw_all := lw_g (lw_at lw_m2 40 rfl) rfl
theorem q323 : (Jvm.Cond.laysFinal "TankField$Brim" "TankField$Plain" "time" "I") ∈ lw_all := lw_g (lw_at lw_m2 41 rfl) rfl
theorem q324 : (Jvm.Cond.laysFinal "TankField$Brim" "TankField$Plain" "low" "I") ∈ lw_all := lw_g (lw_at lw_m2 42 rfl) rfl
theorem q325 : (Jvm.Cond.laysFinal "TankField$Brim" "TankField$Plain" "high" "I") ∈ lw_all := lw_g (lw_at lw_m2 43 rfl) rfl
theorem q326 : (Jvm.Cond.laysFinal "TankField$Brim" "TankField$Plain" "this$0" "LTankField;") ∈ lw_all := lw_g (lw_at lw_m2 44 rfl) rfl
theorem q327 : (Jvm.Cond.superclass "TankField$Brim" "TankField$Over") ∈ lw_all := lw_g (lw_at lw_m2 45 rfl) rfl
theorem q336 : (Jvm.Cond.selects "TankField$Brim" ({ cls := "TankField$Plain", name := "isLookedAt", desc := "()Z" } : Jvm.MethodName) ({ cls := "TankField$Plain", name := "isLookedAt", desc := "()Z" } : Jvm.MethodName)) ∈ lw_all := lw_g (lw_at lw_m2 54 rfl) rfl
theorem q357 : (Jvm.Cond.selects "TankField$Brim" ({ cls := "TankField$Plain", name := "right", desc := "()I" } : Jvm.MethodName) ({ cls := "TankField$Plain", name := "right", desc := "()I" } : Jvm.MethodName)) ∈ lw_all := lw_g (lw_at lw_m2 75 rfl) rfl
theorem q369 : (Jvm.Cond.selects "TankField$Brim" ({ cls := "TankField$Plain", name := "kind", desc := "()I" } : Jvm.MethodName) ({ cls := "TankField$Brim", name := "kind", desc := "()I" } : Jvm.MethodName)) ∈ lw_all := lw_g (lw_at lw_m2 87 rfl) rfl
theorem q370 : (Jvm.Cond.instanceMethod ({ cls := "TankField$Brim", name := "kind", desc := "()I" } : Jvm.MethodName)) ∈ lw_all := lw_g (lw_at lw_m2 88 rfl) rfl
theorem q371 : (Jvm.Cond.code ({ cls := "TankField$Brim", name := "kind", desc := "()I" } : Jvm.MethodName) prog_2_method_2_code (1 : Nat) (Option.some Jvm.ClassFile.FieldType.int)) ∈ lw_all := lw_g (lw_at lw_m2 89 rfl) rfl
theorem q383 : (Jvm.Cond.selects "TankField$Brim" ({ cls := "TankField$Plain", name := "amount", desc := "()I" } : Jvm.MethodName) ({ cls := "TankField$Brim", name := "amount", desc := "()I" } : Jvm.MethodName)) ∈ lw_all := lw_g (lw_at lw_m2 101 rfl) rfl
theorem q384 : (Jvm.Cond.instanceMethod ({ cls := "TankField$Brim", name := "amount", desc := "()I" } : Jvm.MethodName)) ∈ lw_all := lw_g (lw_at lw_m2 102 rfl) rfl
theorem q385 : (Jvm.Cond.code ({ cls := "TankField$Brim", name := "amount", desc := "()I" } : Jvm.MethodName) prog_2_method_3_code (1 : Nat) (Option.some Jvm.ClassFile.FieldType.int)) ∈ lw_all := lw_g (lw_at lw_m2 103 rfl) rfl
theorem q516 : (Jvm.Cond.selects "TankField$Brim" ({ cls := "TankField$Plain", name := "isSure", desc := "()Z" } : Jvm.MethodName) ({ cls := "TankField$Over", name := "isSure", desc := "()Z" } : Jvm.MethodName)) ∈ lw_all := lw_g (lw_at lw_m2 234 rfl) rfl
theorem q814 : (Jvm.Cond.selects "TankField$Brim" ({ cls := "TankField$Plain", name := "said", desc := "()I" } : Jvm.MethodName) ({ cls := "TankField$Brim", name := "said", desc := "()I" } : Jvm.MethodName)) ∈ lw_all := lw_g (lw_at lw_m4 52 rfl) rfl
theorem q815 : (Jvm.Cond.instanceMethod ({ cls := "TankField$Brim", name := "said", desc := "()I" } : Jvm.MethodName)) ∈ lw_all := lw_g (lw_at lw_m4 53 rfl) rfl
theorem q816 : (Jvm.Cond.code ({ cls := "TankField$Brim", name := "said", desc := "()I" } : Jvm.MethodName) prog_2_method_4_code (1 : Nat) (Option.some Jvm.ClassFile.FieldType.int)) ∈ lw_all := lw_g (lw_at lw_m4 54 rfl) rfl
theorem q817 : (Jvm.Cond.methodLink "TankField$Brim" (13 : Nat) ({ cls := "TankField$Brim", name := "tracedBy", desc := "(I)I" } : Jvm.MethodName)) ∈ lw_all := lw_g (lw_at lw_m4 55 rfl) rfl
theorem q818 : (Jvm.Cond.sameMethod "TankField$Brim" "TankField$Plain" "tracedBy" "(I)I") ∈ lw_all := lw_g (lw_at lw_m4 56 rfl) rfl
theorem q820 : (Jvm.Cond.selects "TankField$Brim" ({ cls := "TankField$Brim", name := "tracedBy", desc := "(I)I" } : Jvm.MethodName) ({ cls := "TankField$Plain", name := "tracedBy", desc := "(I)I" } : Jvm.MethodName)) ∈ lw_all := lw_g (lw_at lw_m4 58 rfl) rfl
theorem q823 : (Jvm.Cond.methodLink "TankField$Brim" (17 : Nat) ({ cls := "TankField$Over", name := "said", desc := "()I" } : Jvm.MethodName)) ∈ lw_all := lw_g (lw_at lw_m4 61 rfl) rfl
theorem q841 : (Jvm.Cond.selects "TankField$Brim" ({ cls := "TankField$Weighed", name := "weighed", desc := "()I" } : Jvm.MethodName) ({ cls := "TankField$Over", name := "weighed", desc := "()I" } : Jvm.MethodName)) ∈ lw_all := lw_g (lw_at lw_m4 79 rfl) rfl
theorem q846 : (Jvm.Cond.selects "TankField$Brim" ({ cls := "TankField$Over", name := "tracedBy", desc := "(I)I" } : Jvm.MethodName) ({ cls := "TankField$Plain", name := "tracedBy", desc := "(I)I" } : Jvm.MethodName)) ∈ lw_all := lw_g (lw_at lw_m4 84 rfl) rfl
theorem q858 : (Jvm.Cond.castable "TankField$Brim" "TankField$Weighed") ∈ lw_tbl := lw_at lw_m4 96 rfl
theorem q859 : (Jvm.Cond.selects "TankField$Brim" ({ cls := "TankField$Weighed", name := "tracedBy", desc := "(I)I" } : Jvm.MethodName) ({ cls := "TankField$Plain", name := "tracedBy", desc := "(I)I" } : Jvm.MethodName)) ∈ lw_all := lw_g (lw_at lw_m4 97 rfl) rfl
theorem q860 : (Jvm.Cond.unhidden "TankField$Brim" "tracedBy" "(I)I") ∈ lw_tbl := lw_at lw_m4 98 rfl
theorem q875 : (Jvm.Cond.selects "TankField$Brim" ({ cls := "TankField$Weighed", name := "amount", desc := "()I" } : Jvm.MethodName) ({ cls := "TankField$Brim", name := "amount", desc := "()I" } : Jvm.MethodName)) ∈ lw_all := lw_g (lw_at lw_m4 113 rfl) rfl
theorem q876 : (Jvm.Cond.unhidden "TankField$Brim" "amount" "()I") ∈ lw_tbl := lw_at lw_m4 114 rfl
theorem q877 : (Jvm.Cond.publicMethod ({ cls := "TankField$Brim", name := "amount", desc := "()I" } : Jvm.MethodName)) ∈ lw_tbl := lw_at lw_m4 115 rfl
theorem q890 : (Jvm.Cond.selects "TankField$Brim" ({ cls := "TankField$Weighed", name := "kind", desc := "()I" } : Jvm.MethodName) ({ cls := "TankField$Brim", name := "kind", desc := "()I" } : Jvm.MethodName)) ∈ lw_all := lw_g (lw_at lw_m4 128 rfl) rfl
theorem q891 : (Jvm.Cond.unhidden "TankField$Brim" "kind" "()I") ∈ lw_tbl := lw_at lw_m4 129 rfl
theorem q892 : (Jvm.Cond.publicMethod ({ cls := "TankField$Brim", name := "kind", desc := "()I" } : Jvm.MethodName)) ∈ lw_tbl := lw_at lw_m4 130 rfl
theorem q1270 : (Jvm.Cond.selects "TankField$Brim" ({ cls := "TankField$Plain", name := "tracedBy", desc := "(I)I" } : Jvm.MethodName) ({ cls := "TankField$Plain", name := "tracedBy", desc := "(I)I" } : Jvm.MethodName)) ∈ lw_all := lw_g (lw_at lw_m6 28 rfl) rfl
theorem q1275 : (Jvm.Cond.castable "TankField$Brim" "TankField$Over") ∈ lw_tbl := lw_at lw_m6 33 rfl
theorem q1278 : (Jvm.Cond.castable "TankField$Brim" "TankField$Plain") ∈ lw_tbl := lw_at lw_m6 36 rfl
theorem in_X7 : ∀ w ∈ wsX70, w ∈ lw_all := lw_in wsX70 [322, 323, 324, 325, 326, 321, 319] (by decide +kernel) (by decide +kernel)

/-! TankField$Span -/
set_option maxRecDepth 100000
def RX8 : String := "TankField$Span"
def TX8 : u_T := fun k => match k with
  | 0 => ("TankField$Span", "from", "I", true)
  | _ => ("TankField$Span", "what", "I", true)
def tyX8 : Nat → FieldType := fun k => match k with
  | 0 => .int
  | _ => .int
abbrev wsX80 : List Cond := u_ws RX8 TX8 2
theorem nmX8 : ∀ a, a < 2 → ∀ b, b < 2 → a ≠ b → (TX8 a).2.1 ≠ (TX8 b).2.1 := by decide +kernel
theorem tyX8_ok : ∀ k, k < 2 → parseFieldDescriptor (TX8 k).2.2.1 = some (tyX8 k) := by decide +kernel
abbrev cX8_init : ByteArray := prog_8_method_1_code
def yX8_init : MethodName := ⟨RX8, "<init>", "(II)V"⟩
def dkwX8_init_0 : List UInt8 := [42, 183, 0, 1, 42, 27, 181, 0, 7, 42, 28, 181, 0, 13, 177]
abbrev dktX8_init_0 : List UInt8 := dkwX8_init_0 ++ []
theorem dksX8_init_0 : cX8_init.data.toList.drop 0 = dktX8_init_0 := by decide +kernel
theorem dX8_init_0 : decode cX8_init 0 = .ok (.aload_n 0, 1) := dk_42 (dk_at dksX8_init_0 0 rfl rfl)
theorem dX8_init_1 : decode cX8_init 1 = .ok (.invokespecial 1, 3) := dk_183 0 1 (dk_at dksX8_init_0 1 rfl rfl)
theorem dX8_init_4 : decode cX8_init 4 = .ok (.aload_n 0, 1) := dk_42 (dk_at dksX8_init_0 4 rfl rfl)
theorem dX8_init_5 : decode cX8_init 5 = .ok (.iload_n 1, 1) := dk_27 (dk_at dksX8_init_0 5 rfl rfl)
theorem dX8_init_6 : decode cX8_init 6 = .ok (.putfield 7, 3) := dk_181 0 7 (dk_at dksX8_init_0 6 rfl rfl)
theorem dX8_init_9 : decode cX8_init 9 = .ok (.aload_n 0, 1) := dk_42 (dk_at dksX8_init_0 9 rfl rfl)
theorem dX8_init_10 : decode cX8_init 10 = .ok (.iload_n 2, 1) := dk_28 (dk_at dksX8_init_0 10 rfl rfl)
theorem dX8_init_11 : decode cX8_init 11 = .ok (.putfield 13, 3) := dk_181 0 13 (dk_at dksX8_init_0 11 rfl rfl)
theorem dX8_init_14 : decode cX8_init 14 = .ok (.return_, 1) := dk_177 (dk_at dksX8_init_0 14 rfl rfl)
theorem q61 : (Jvm.Cond.initialized "TankField$Span") ∈ lw_all := lw_g (lw_at lw_m1 19 rfl) rfl
theorem q196 : (Jvm.Cond.instantiable "TankField$Span" (2 : Nat)) ∈ lw_all := lw_g (lw_at lw_m1 154 rfl) rfl
theorem q198 : (Jvm.Cond.instanceMethod ({ cls := "TankField$Span", name := "<init>", desc := "(II)V" } : Jvm.MethodName)) ∈ lw_all := lw_g (lw_at lw_m1 156 rfl) rfl
theorem q199 : (Jvm.Cond.code ({ cls := "TankField$Span", name := "<init>", desc := "(II)V" } : Jvm.MethodName) prog_8_method_1_code (3 : Nat) (Option.none : Option Jvm.ClassFile.FieldType)) ∈ lw_all := lw_g (lw_at lw_m1 157 rfl) rfl
theorem q200 : (Jvm.Cond.methodLink "TankField$Span" (1 : Nat) ({ cls := "java/lang/Object", name := "<init>", desc := "()V" } : Jvm.MethodName)) ∈ lw_all := lw_g (lw_at lw_m1 158 rfl) rfl
theorem q201 : (Jvm.Cond.fieldLink "TankField$Span" (7 : Nat) "TankField$Span" "from" "I") ∈ lw_all := lw_g (lw_at lw_m1 159 rfl) rfl
theorem q203 : (Jvm.Cond.fieldLink "TankField$Span" (13 : Nat) "TankField$Span" "what" "I") ∈ lw_all := lw_g (lw_at lw_m1 161 rfl) rfl
theorem q205 : (Jvm.Cond.laysFinal "TankField$Span" "TankField$Span" "from" "I") ∈ lw_all := lw_g (lw_at lw_m1 163 rfl) rfl
theorem q206 : (Jvm.Cond.soleField "TankField$Span" "from") ∈ lw_all := lw_g (lw_at lw_m1 164 rfl) rfl
theorem q207 : (Jvm.Cond.laysFinal "TankField$Span" "TankField$Span" "what" "I") ∈ lw_all := lw_g (lw_at lw_m1 165 rfl) rfl
theorem q208 : (Jvm.Cond.soleField "TankField$Span" "what") ∈ lw_all := lw_g (lw_at lw_m1 166 rfl) rfl
theorem q209 : (Jvm.Cond.superclass "TankField$Span" "java/lang/Object") ∈ lw_all := lw_g (lw_at lw_m1 167 rfl) rfl
theorem in_X8 : ∀ w ∈ wsX80, w ∈ lw_all := lw_in wsX80 [205, 207] (by decide +kernel) (by decide +kernel)

/-! TankField$Event -/
set_option maxRecDepth 100000
def RX9 : String := "TankField$Event"
def TX9 : u_T := fun k => match k with
  | 0 => ("TankField$Event", "members", "[I", true)
  | 1 => ("TankField$Event", "times", "[I", true)
  | 2 => ("TankField$Event", "all", "I", true)
  | _ => ("TankField$Event", "this$0", "LTankField;", true)
def tyX9 : Nat → FieldType := fun k => match k with
  | 0 => .array .int
  | 1 => .array .int
  | 2 => .int
  | _ => .object "TankField"
abbrev wsX90 : List Cond := u_ws RX9 TX9 4
theorem nmX9 : ∀ a, a < 4 → ∀ b, b < 4 → a ≠ b → (TX9 a).2.1 ≠ (TX9 b).2.1 := by decide +kernel
theorem tyX9_ok : ∀ k, k < 4 → parseFieldDescriptor (TX9 k).2.2.1 = some (tyX9 k) := by decide +kernel
abbrev cX9_hasTank : ByteArray := prog_4_method_7_code
def yX9_hasTank : MethodName := ⟨RX9, "hasTank", "(I)Z"⟩
def dkwX9_hasTank_2 : List UInt8 := [167, 0, 4, 3, 128, 61, 132, 5, 1, 167, 255, 215, 28, 172]
abbrev dktX9_hasTank_2 : List UInt8 := dkwX9_hasTank_2 ++ []
def dkwX9_hasTank_1 : List UInt8 := [46, 54, 6, 28, 42, 180, 0, 1, 180, 0, 24, 21, 6, 50, 180, 0, 44, 27, 160, 0, 7, 4]
abbrev dktX9_hasTank_1 : List UInt8 := dkwX9_hasTank_1 ++ dktX9_hasTank_2
def dkwX9_hasTank_0 : List UInt8 := [3, 61, 42, 180, 0, 13, 78, 45, 190, 54, 4, 3, 54, 5, 21, 5, 21, 4, 162, 0, 40, 45, 21, 5]
abbrev dktX9_hasTank_0 : List UInt8 := dkwX9_hasTank_0 ++ dktX9_hasTank_1
theorem dksX9_hasTank_0 : cX9_hasTank.data.toList.drop 0 = dktX9_hasTank_0 := by decide +kernel
theorem dksX9_hasTank_1 : cX9_hasTank.data.toList.drop 24 = dktX9_hasTank_1 := dk_seg dksX9_hasTank_0 24 rfl rfl
theorem dksX9_hasTank_2 : cX9_hasTank.data.toList.drop 46 = dktX9_hasTank_2 := dk_seg dksX9_hasTank_1 22 rfl rfl
theorem dX9_hasTank_0 : decode cX9_hasTank 0 = .ok (.iconst 0, 1) := dk_3 (dk_at dksX9_hasTank_0 0 rfl rfl)
theorem dX9_hasTank_1 : decode cX9_hasTank 1 = .ok (.istore_n 2, 1) := dk_61 (dk_at dksX9_hasTank_0 1 rfl rfl)
theorem dX9_hasTank_2 : decode cX9_hasTank 2 = .ok (.aload_n 0, 1) := dk_42 (dk_at dksX9_hasTank_0 2 rfl rfl)
theorem dX9_hasTank_3 : decode cX9_hasTank 3 = .ok (.getfield 13, 3) := dk_180 0 13 (dk_at dksX9_hasTank_0 3 rfl rfl)
theorem dX9_hasTank_6 : decode cX9_hasTank 6 = .ok (.astore_n 3, 1) := dk_78 (dk_at dksX9_hasTank_0 6 rfl rfl)
theorem dX9_hasTank_7 : decode cX9_hasTank 7 = .ok (.aload_n 3, 1) := dk_45 (dk_at dksX9_hasTank_0 7 rfl rfl)
theorem dX9_hasTank_8 : decode cX9_hasTank 8 = .ok (.arraylength, 1) := dk_190 (dk_at dksX9_hasTank_0 8 rfl rfl)
theorem dX9_hasTank_9 : decode cX9_hasTank 9 = .ok (.istore 4, 2) := dk_54 4 (dk_at dksX9_hasTank_0 9 rfl rfl)
theorem dX9_hasTank_11 : decode cX9_hasTank 11 = .ok (.iconst 0, 1) := dk_3 (dk_at dksX9_hasTank_0 11 rfl rfl)
theorem dX9_hasTank_12 : decode cX9_hasTank 12 = .ok (.istore 5, 2) := dk_54 5 (dk_at dksX9_hasTank_0 12 rfl rfl)
theorem dX9_hasTank_14 : decode cX9_hasTank 14 = .ok (.iload 5, 2) := dk_21 5 (dk_at dksX9_hasTank_0 14 rfl rfl)
theorem dX9_hasTank_16 : decode cX9_hasTank 16 = .ok (.iload 4, 2) := dk_21 4 (dk_at dksX9_hasTank_0 16 rfl rfl)
theorem dX9_hasTank_18 : decode cX9_hasTank 18 = .ok (.if_icmp .ge 40, 3) := dk_162 0 40 (dk_at dksX9_hasTank_0 18 rfl rfl)
theorem dX9_hasTank_21 : decode cX9_hasTank 21 = .ok (.aload_n 3, 1) := dk_45 (dk_at dksX9_hasTank_0 21 rfl rfl)
theorem dX9_hasTank_22 : decode cX9_hasTank 22 = .ok (.iload 5, 2) := dk_21 5 (dk_at dksX9_hasTank_0 22 rfl rfl)
theorem dX9_hasTank_24 : decode cX9_hasTank 24 = .ok (.iaload, 1) := dk_46 (dk_at dksX9_hasTank_1 0 rfl rfl)
theorem dX9_hasTank_25 : decode cX9_hasTank 25 = .ok (.istore 6, 2) := dk_54 6 (dk_at dksX9_hasTank_1 1 rfl rfl)
theorem dX9_hasTank_27 : decode cX9_hasTank 27 = .ok (.iload_n 2, 1) := dk_28 (dk_at dksX9_hasTank_1 3 rfl rfl)
theorem dX9_hasTank_28 : decode cX9_hasTank 28 = .ok (.aload_n 0, 1) := dk_42 (dk_at dksX9_hasTank_1 4 rfl rfl)
theorem dX9_hasTank_29 : decode cX9_hasTank 29 = .ok (.getfield 1, 3) := dk_180 0 1 (dk_at dksX9_hasTank_1 5 rfl rfl)
theorem dX9_hasTank_32 : decode cX9_hasTank 32 = .ok (.getfield 24, 3) := dk_180 0 24 (dk_at dksX9_hasTank_1 8 rfl rfl)
theorem dX9_hasTank_35 : decode cX9_hasTank 35 = .ok (.iload 6, 2) := dk_21 6 (dk_at dksX9_hasTank_1 11 rfl rfl)
theorem dX9_hasTank_37 : decode cX9_hasTank 37 = .ok (.aaload, 1) := dk_50 (dk_at dksX9_hasTank_1 13 rfl rfl)
theorem dX9_hasTank_38 : decode cX9_hasTank 38 = .ok (.getfield 44, 3) := dk_180 0 44 (dk_at dksX9_hasTank_1 14 rfl rfl)
theorem dX9_hasTank_41 : decode cX9_hasTank 41 = .ok (.iload_n 1, 1) := dk_27 (dk_at dksX9_hasTank_1 17 rfl rfl)
theorem dX9_hasTank_42 : decode cX9_hasTank 42 = .ok (.if_icmp .ne 7, 3) := dk_160 0 7 (dk_at dksX9_hasTank_1 18 rfl rfl)
theorem dX9_hasTank_45 : decode cX9_hasTank 45 = .ok (.iconst 1, 1) := dk_4 (dk_at dksX9_hasTank_1 21 rfl rfl)
theorem dX9_hasTank_46 : decode cX9_hasTank 46 = .ok (.goto 4, 3) := dk_167 0 4 (dk_at dksX9_hasTank_2 0 rfl rfl)
theorem dX9_hasTank_49 : decode cX9_hasTank 49 = .ok (.iconst 0, 1) := dk_3 (dk_at dksX9_hasTank_2 3 rfl rfl)
theorem dX9_hasTank_50 : decode cX9_hasTank 50 = .ok (.ior, 1) := dk_128 (dk_at dksX9_hasTank_2 4 rfl rfl)
theorem dX9_hasTank_51 : decode cX9_hasTank 51 = .ok (.istore_n 2, 1) := dk_61 (dk_at dksX9_hasTank_2 5 rfl rfl)
theorem dX9_hasTank_52 : decode cX9_hasTank 52 = .ok (.iinc 5 1, 3) := dk_132 5 1 (dk_at dksX9_hasTank_2 6 rfl rfl)
theorem dX9_hasTank_55 : decode cX9_hasTank 55 = .ok (.goto (-41), 3) := dk_167 255 215 (dk_at dksX9_hasTank_2 9 rfl rfl)
theorem dX9_hasTank_58 : decode cX9_hasTank 58 = .ok (.iload_n 2, 1) := dk_28 (dk_at dksX9_hasTank_2 12 rfl rfl)
theorem dX9_hasTank_59 : decode cX9_hasTank 59 = .ok (.ireturn, 1) := dk_172 (dk_at dksX9_hasTank_2 13 rfl rfl)
abbrev cX9_has : ByteArray := prog_4_method_8_code
def yX9_has : MethodName := ⟨RX9, "has", "(I)Z"⟩
def dkwX9_has_2 : List UInt8 := [172]
abbrev dktX9_has_2 : List UInt8 := dkwX9_has_2 ++ []
def dkwX9_has_1 : List UInt8 := [46, 54, 6, 28, 21, 6, 27, 160, 0, 7, 4, 167, 0, 4, 3, 128, 61, 132, 5, 1, 167, 255, 226, 28]
abbrev dktX9_has_1 : List UInt8 := dkwX9_has_1 ++ dktX9_has_2
def dkwX9_has_0 : List UInt8 := [3, 61, 42, 180, 0, 13, 78, 45, 190, 54, 4, 3, 54, 5, 21, 5, 21, 4, 162, 0, 29, 45, 21, 5]
abbrev dktX9_has_0 : List UInt8 := dkwX9_has_0 ++ dktX9_has_1
theorem dksX9_has_0 : cX9_has.data.toList.drop 0 = dktX9_has_0 := by decide +kernel
theorem dksX9_has_1 : cX9_has.data.toList.drop 24 = dktX9_has_1 := dk_seg dksX9_has_0 24 rfl rfl
theorem dksX9_has_2 : cX9_has.data.toList.drop 48 = dktX9_has_2 := dk_seg dksX9_has_1 24 rfl rfl
theorem dX9_has_0 : decode cX9_has 0 = .ok (.iconst 0, 1) := dk_3 (dk_at dksX9_has_0 0 rfl rfl)
theorem dX9_has_1 : decode cX9_has 1 = .ok (.istore_n 2, 1) := dk_61 (dk_at dksX9_has_0 1 rfl rfl)
theorem dX9_has_2 : decode cX9_has 2 = .ok (.aload_n 0, 1) := dk_42 (dk_at dksX9_has_0 2 rfl rfl)
theorem dX9_has_3 : decode cX9_has 3 = .ok (.getfield 13, 3) := dk_180 0 13 (dk_at dksX9_has_0 3 rfl rfl)
theorem dX9_has_6 : decode cX9_has 6 = .ok (.astore_n 3, 1) := dk_78 (dk_at dksX9_has_0 6 rfl rfl)
theorem dX9_has_7 : decode cX9_has 7 = .ok (.aload_n 3, 1) := dk_45 (dk_at dksX9_has_0 7 rfl rfl)
theorem dX9_has_8 : decode cX9_has 8 = .ok (.arraylength, 1) := dk_190 (dk_at dksX9_has_0 8 rfl rfl)
theorem dX9_has_9 : decode cX9_has 9 = .ok (.istore 4, 2) := dk_54 4 (dk_at dksX9_has_0 9 rfl rfl)
theorem dX9_has_11 : decode cX9_has 11 = .ok (.iconst 0, 1) := dk_3 (dk_at dksX9_has_0 11 rfl rfl)
theorem dX9_has_12 : decode cX9_has 12 = .ok (.istore 5, 2) := dk_54 5 (dk_at dksX9_has_0 12 rfl rfl)
theorem dX9_has_14 : decode cX9_has 14 = .ok (.iload 5, 2) := dk_21 5 (dk_at dksX9_has_0 14 rfl rfl)
theorem dX9_has_16 : decode cX9_has 16 = .ok (.iload 4, 2) := dk_21 4 (dk_at dksX9_has_0 16 rfl rfl)
theorem dX9_has_18 : decode cX9_has 18 = .ok (.if_icmp .ge 29, 3) := dk_162 0 29 (dk_at dksX9_has_0 18 rfl rfl)
theorem dX9_has_21 : decode cX9_has 21 = .ok (.aload_n 3, 1) := dk_45 (dk_at dksX9_has_0 21 rfl rfl)
theorem dX9_has_22 : decode cX9_has 22 = .ok (.iload 5, 2) := dk_21 5 (dk_at dksX9_has_0 22 rfl rfl)
theorem dX9_has_24 : decode cX9_has 24 = .ok (.iaload, 1) := dk_46 (dk_at dksX9_has_1 0 rfl rfl)
theorem dX9_has_25 : decode cX9_has 25 = .ok (.istore 6, 2) := dk_54 6 (dk_at dksX9_has_1 1 rfl rfl)
theorem dX9_has_27 : decode cX9_has 27 = .ok (.iload_n 2, 1) := dk_28 (dk_at dksX9_has_1 3 rfl rfl)
theorem dX9_has_28 : decode cX9_has 28 = .ok (.iload 6, 2) := dk_21 6 (dk_at dksX9_has_1 4 rfl rfl)
theorem dX9_has_30 : decode cX9_has 30 = .ok (.iload_n 1, 1) := dk_27 (dk_at dksX9_has_1 6 rfl rfl)
theorem dX9_has_31 : decode cX9_has 31 = .ok (.if_icmp .ne 7, 3) := dk_160 0 7 (dk_at dksX9_has_1 7 rfl rfl)
theorem dX9_has_34 : decode cX9_has 34 = .ok (.iconst 1, 1) := dk_4 (dk_at dksX9_has_1 10 rfl rfl)
theorem dX9_has_35 : decode cX9_has 35 = .ok (.goto 4, 3) := dk_167 0 4 (dk_at dksX9_has_1 11 rfl rfl)
theorem dX9_has_38 : decode cX9_has 38 = .ok (.iconst 0, 1) := dk_3 (dk_at dksX9_has_1 14 rfl rfl)
theorem dX9_has_39 : decode cX9_has 39 = .ok (.ior, 1) := dk_128 (dk_at dksX9_has_1 15 rfl rfl)
theorem dX9_has_40 : decode cX9_has 40 = .ok (.istore_n 2, 1) := dk_61 (dk_at dksX9_has_1 16 rfl rfl)
theorem dX9_has_41 : decode cX9_has 41 = .ok (.iinc 5 1, 3) := dk_132 5 1 (dk_at dksX9_has_1 17 rfl rfl)
theorem dX9_has_44 : decode cX9_has 44 = .ok (.goto (-30), 3) := dk_167 255 226 (dk_at dksX9_has_1 20 rfl rfl)
theorem dX9_has_47 : decode cX9_has 47 = .ok (.iload_n 2, 1) := dk_28 (dk_at dksX9_has_1 23 rfl rfl)
theorem dX9_has_48 : decode cX9_has 48 = .ok (.ireturn, 1) := dk_172 (dk_at dksX9_has_2 0 rfl rfl)
abbrev cX9_init : ByteArray := prog_4_method_1_code
def yX9_init : MethodName := ⟨RX9, "<init>", "(LTankField;[II)V"⟩
def dkwX9_init_2 : List UInt8 := [21, 4, 46, 50, 182, 0, 30, 79, 132, 4, 1, 167, 255, 227, 177]
abbrev dktX9_init_2 : List UInt8 := dkwX9_init_2 ++ []
def dkwX9_init_1 : List UInt8 := [181, 0, 21, 3, 54, 4, 21, 4, 44, 190, 162, 0, 28, 42, 180, 0, 21, 21, 4, 43, 180, 0, 24, 44]
abbrev dktX9_init_1 : List UInt8 := dkwX9_init_1 ++ dktX9_init_2
def dkwX9_init_0 : List UInt8 := [42, 43, 181, 0, 1, 42, 183, 0, 7, 42, 44, 181, 0, 13, 42, 29, 181, 0, 17, 42, 44, 190, 188, 10]
abbrev dktX9_init_0 : List UInt8 := dkwX9_init_0 ++ dktX9_init_1
theorem dksX9_init_0 : cX9_init.data.toList.drop 0 = dktX9_init_0 := by decide +kernel
theorem dksX9_init_1 : cX9_init.data.toList.drop 24 = dktX9_init_1 := dk_seg dksX9_init_0 24 rfl rfl
theorem dksX9_init_2 : cX9_init.data.toList.drop 48 = dktX9_init_2 := dk_seg dksX9_init_1 24 rfl rfl
theorem dX9_init_0 : decode cX9_init 0 = .ok (.aload_n 0, 1) := dk_42 (dk_at dksX9_init_0 0 rfl rfl)
theorem dX9_init_1 : decode cX9_init 1 = .ok (.aload_n 1, 1) := dk_43 (dk_at dksX9_init_0 1 rfl rfl)
theorem dX9_init_2 : decode cX9_init 2 = .ok (.putfield 1, 3) := dk_181 0 1 (dk_at dksX9_init_0 2 rfl rfl)
theorem dX9_init_5 : decode cX9_init 5 = .ok (.aload_n 0, 1) := dk_42 (dk_at dksX9_init_0 5 rfl rfl)
theorem dX9_init_6 : decode cX9_init 6 = .ok (.invokespecial 7, 3) := dk_183 0 7 (dk_at dksX9_init_0 6 rfl rfl)
theorem dX9_init_9 : decode cX9_init 9 = .ok (.aload_n 0, 1) := dk_42 (dk_at dksX9_init_0 9 rfl rfl)
theorem dX9_init_10 : decode cX9_init 10 = .ok (.aload_n 2, 1) := dk_44 (dk_at dksX9_init_0 10 rfl rfl)
theorem dX9_init_11 : decode cX9_init 11 = .ok (.putfield 13, 3) := dk_181 0 13 (dk_at dksX9_init_0 11 rfl rfl)
theorem dX9_init_14 : decode cX9_init 14 = .ok (.aload_n 0, 1) := dk_42 (dk_at dksX9_init_0 14 rfl rfl)
theorem dX9_init_15 : decode cX9_init 15 = .ok (.iload_n 3, 1) := dk_29 (dk_at dksX9_init_0 15 rfl rfl)
theorem dX9_init_16 : decode cX9_init 16 = .ok (.putfield 17, 3) := dk_181 0 17 (dk_at dksX9_init_0 16 rfl rfl)
theorem dX9_init_19 : decode cX9_init 19 = .ok (.aload_n 0, 1) := dk_42 (dk_at dksX9_init_0 19 rfl rfl)
theorem dX9_init_20 : decode cX9_init 20 = .ok (.aload_n 2, 1) := dk_44 (dk_at dksX9_init_0 20 rfl rfl)
theorem dX9_init_21 : decode cX9_init 21 = .ok (.arraylength, 1) := dk_190 (dk_at dksX9_init_0 21 rfl rfl)
theorem dX9_init_22 : decode cX9_init 22 = .ok (.newarray .int, 2) := dk_188_10 (dk_at dksX9_init_0 22 rfl rfl)
theorem dX9_init_24 : decode cX9_init 24 = .ok (.putfield 21, 3) := dk_181 0 21 (dk_at dksX9_init_1 0 rfl rfl)
theorem dX9_init_27 : decode cX9_init 27 = .ok (.iconst 0, 1) := dk_3 (dk_at dksX9_init_1 3 rfl rfl)
theorem dX9_init_28 : decode cX9_init 28 = .ok (.istore 4, 2) := dk_54 4 (dk_at dksX9_init_1 4 rfl rfl)
theorem dX9_init_30 : decode cX9_init 30 = .ok (.iload 4, 2) := dk_21 4 (dk_at dksX9_init_1 6 rfl rfl)
theorem dX9_init_32 : decode cX9_init 32 = .ok (.aload_n 2, 1) := dk_44 (dk_at dksX9_init_1 8 rfl rfl)
theorem dX9_init_33 : decode cX9_init 33 = .ok (.arraylength, 1) := dk_190 (dk_at dksX9_init_1 9 rfl rfl)
theorem dX9_init_34 : decode cX9_init 34 = .ok (.if_icmp .ge 28, 3) := dk_162 0 28 (dk_at dksX9_init_1 10 rfl rfl)
theorem dX9_init_37 : decode cX9_init 37 = .ok (.aload_n 0, 1) := dk_42 (dk_at dksX9_init_1 13 rfl rfl)
theorem dX9_init_38 : decode cX9_init 38 = .ok (.getfield 21, 3) := dk_180 0 21 (dk_at dksX9_init_1 14 rfl rfl)
theorem dX9_init_41 : decode cX9_init 41 = .ok (.iload 4, 2) := dk_21 4 (dk_at dksX9_init_1 17 rfl rfl)
theorem dX9_init_43 : decode cX9_init 43 = .ok (.aload_n 1, 1) := dk_43 (dk_at dksX9_init_1 19 rfl rfl)
theorem dX9_init_44 : decode cX9_init 44 = .ok (.getfield 24, 3) := dk_180 0 24 (dk_at dksX9_init_1 20 rfl rfl)
theorem dX9_init_47 : decode cX9_init 47 = .ok (.aload_n 2, 1) := dk_44 (dk_at dksX9_init_1 23 rfl rfl)
theorem dX9_init_48 : decode cX9_init 48 = .ok (.iload 4, 2) := dk_21 4 (dk_at dksX9_init_2 0 rfl rfl)
theorem dX9_init_50 : decode cX9_init 50 = .ok (.iaload, 1) := dk_46 (dk_at dksX9_init_2 2 rfl rfl)
theorem dX9_init_51 : decode cX9_init 51 = .ok (.aaload, 1) := dk_50 (dk_at dksX9_init_2 3 rfl rfl)
theorem dX9_init_52 : decode cX9_init 52 = .ok (.invokevirtual 30, 3) := dk_182 0 30 (dk_at dksX9_init_2 4 rfl rfl)
theorem dX9_init_55 : decode cX9_init 55 = .ok (.iastore, 1) := dk_79 (dk_at dksX9_init_2 7 rfl rfl)
theorem dX9_init_56 : decode cX9_init 56 = .ok (.iinc 4 1, 3) := dk_132 4 1 (dk_at dksX9_init_2 8 rfl rfl)
theorem dX9_init_59 : decode cX9_init 59 = .ok (.goto (-29), 3) := dk_167 255 227 (dk_at dksX9_init_2 11 rfl rfl)
theorem dX9_init_62 : decode cX9_init 62 = .ok (.return_, 1) := dk_177 (dk_at dksX9_init_2 14 rfl rfl)
abbrev cX9_isAhead : ByteArray := prog_4_method_6_code
def yX9_isAhead : MethodName := ⟨RX9, "isAhead", "(LTankField$Event;)Z"⟩
def dkwX9_isAhead_2 : List UInt8 := [43, 180, 0, 13, 29, 46, 162, 0, 7, 4, 167, 0, 4, 3, 172]
abbrev dktX9_isAhead_2 : List UInt8 := dkwX9_isAhead_2 ++ []
def dkwX9_isAhead_1 : List UInt8 := [161, 0, 33, 42, 180, 0, 21, 28, 46, 43, 180, 0, 21, 29, 46, 160, 0, 22, 42, 180, 0, 13, 28, 46]
abbrev dktX9_isAhead_1 : List UInt8 := dkwX9_isAhead_1 ++ dktX9_isAhead_2
def dkwX9_isAhead_0 : List UInt8 := [42, 182, 0, 53, 61, 43, 182, 0, 53, 62, 42, 180, 0, 21, 28, 46, 43, 180, 0, 21, 29, 46]
abbrev dktX9_isAhead_0 : List UInt8 := dkwX9_isAhead_0 ++ dktX9_isAhead_1
theorem dksX9_isAhead_0 : cX9_isAhead.data.toList.drop 0 = dktX9_isAhead_0 := by decide +kernel
theorem dksX9_isAhead_1 : cX9_isAhead.data.toList.drop 22 = dktX9_isAhead_1 := dk_seg dksX9_isAhead_0 22 rfl rfl
theorem dksX9_isAhead_2 : cX9_isAhead.data.toList.drop 46 = dktX9_isAhead_2 := dk_seg dksX9_isAhead_1 24 rfl rfl
theorem dX9_isAhead_0 : decode cX9_isAhead 0 = .ok (.aload_n 0, 1) := dk_42 (dk_at dksX9_isAhead_0 0 rfl rfl)
theorem dX9_isAhead_1 : decode cX9_isAhead 1 = .ok (.invokevirtual 53, 3) := dk_182 0 53 (dk_at dksX9_isAhead_0 1 rfl rfl)
theorem dX9_isAhead_4 : decode cX9_isAhead 4 = .ok (.istore_n 2, 1) := dk_61 (dk_at dksX9_isAhead_0 4 rfl rfl)
theorem dX9_isAhead_5 : decode cX9_isAhead 5 = .ok (.aload_n 1, 1) := dk_43 (dk_at dksX9_isAhead_0 5 rfl rfl)
theorem dX9_isAhead_6 : decode cX9_isAhead 6 = .ok (.invokevirtual 53, 3) := dk_182 0 53 (dk_at dksX9_isAhead_0 6 rfl rfl)
theorem dX9_isAhead_9 : decode cX9_isAhead 9 = .ok (.istore_n 3, 1) := dk_62 (dk_at dksX9_isAhead_0 9 rfl rfl)
theorem dX9_isAhead_10 : decode cX9_isAhead 10 = .ok (.aload_n 0, 1) := dk_42 (dk_at dksX9_isAhead_0 10 rfl rfl)
theorem dX9_isAhead_11 : decode cX9_isAhead 11 = .ok (.getfield 21, 3) := dk_180 0 21 (dk_at dksX9_isAhead_0 11 rfl rfl)
theorem dX9_isAhead_14 : decode cX9_isAhead 14 = .ok (.iload_n 2, 1) := dk_28 (dk_at dksX9_isAhead_0 14 rfl rfl)
theorem dX9_isAhead_15 : decode cX9_isAhead 15 = .ok (.iaload, 1) := dk_46 (dk_at dksX9_isAhead_0 15 rfl rfl)
theorem dX9_isAhead_16 : decode cX9_isAhead 16 = .ok (.aload_n 1, 1) := dk_43 (dk_at dksX9_isAhead_0 16 rfl rfl)
theorem dX9_isAhead_17 : decode cX9_isAhead 17 = .ok (.getfield 21, 3) := dk_180 0 21 (dk_at dksX9_isAhead_0 17 rfl rfl)
theorem dX9_isAhead_20 : decode cX9_isAhead 20 = .ok (.iload_n 3, 1) := dk_29 (dk_at dksX9_isAhead_0 20 rfl rfl)
theorem dX9_isAhead_21 : decode cX9_isAhead 21 = .ok (.iaload, 1) := dk_46 (dk_at dksX9_isAhead_0 21 rfl rfl)
theorem dX9_isAhead_22 : decode cX9_isAhead 22 = .ok (.if_icmp .lt 33, 3) := dk_161 0 33 (dk_at dksX9_isAhead_1 0 rfl rfl)
theorem dX9_isAhead_25 : decode cX9_isAhead 25 = .ok (.aload_n 0, 1) := dk_42 (dk_at dksX9_isAhead_1 3 rfl rfl)
theorem dX9_isAhead_26 : decode cX9_isAhead 26 = .ok (.getfield 21, 3) := dk_180 0 21 (dk_at dksX9_isAhead_1 4 rfl rfl)
theorem dX9_isAhead_29 : decode cX9_isAhead 29 = .ok (.iload_n 2, 1) := dk_28 (dk_at dksX9_isAhead_1 7 rfl rfl)
theorem dX9_isAhead_30 : decode cX9_isAhead 30 = .ok (.iaload, 1) := dk_46 (dk_at dksX9_isAhead_1 8 rfl rfl)
theorem dX9_isAhead_31 : decode cX9_isAhead 31 = .ok (.aload_n 1, 1) := dk_43 (dk_at dksX9_isAhead_1 9 rfl rfl)
theorem dX9_isAhead_32 : decode cX9_isAhead 32 = .ok (.getfield 21, 3) := dk_180 0 21 (dk_at dksX9_isAhead_1 10 rfl rfl)
theorem dX9_isAhead_35 : decode cX9_isAhead 35 = .ok (.iload_n 3, 1) := dk_29 (dk_at dksX9_isAhead_1 13 rfl rfl)
theorem dX9_isAhead_36 : decode cX9_isAhead 36 = .ok (.iaload, 1) := dk_46 (dk_at dksX9_isAhead_1 14 rfl rfl)
theorem dX9_isAhead_37 : decode cX9_isAhead 37 = .ok (.if_icmp .ne 22, 3) := dk_160 0 22 (dk_at dksX9_isAhead_1 15 rfl rfl)
theorem dX9_isAhead_40 : decode cX9_isAhead 40 = .ok (.aload_n 0, 1) := dk_42 (dk_at dksX9_isAhead_1 18 rfl rfl)
theorem dX9_isAhead_41 : decode cX9_isAhead 41 = .ok (.getfield 13, 3) := dk_180 0 13 (dk_at dksX9_isAhead_1 19 rfl rfl)
theorem dX9_isAhead_44 : decode cX9_isAhead 44 = .ok (.iload_n 2, 1) := dk_28 (dk_at dksX9_isAhead_1 22 rfl rfl)
theorem dX9_isAhead_45 : decode cX9_isAhead 45 = .ok (.iaload, 1) := dk_46 (dk_at dksX9_isAhead_1 23 rfl rfl)
theorem dX9_isAhead_46 : decode cX9_isAhead 46 = .ok (.aload_n 1, 1) := dk_43 (dk_at dksX9_isAhead_2 0 rfl rfl)
theorem dX9_isAhead_47 : decode cX9_isAhead 47 = .ok (.getfield 13, 3) := dk_180 0 13 (dk_at dksX9_isAhead_2 1 rfl rfl)
theorem dX9_isAhead_50 : decode cX9_isAhead 50 = .ok (.iload_n 3, 1) := dk_29 (dk_at dksX9_isAhead_2 4 rfl rfl)
theorem dX9_isAhead_51 : decode cX9_isAhead 51 = .ok (.iaload, 1) := dk_46 (dk_at dksX9_isAhead_2 5 rfl rfl)
theorem dX9_isAhead_52 : decode cX9_isAhead 52 = .ok (.if_icmp .ge 7, 3) := dk_162 0 7 (dk_at dksX9_isAhead_2 6 rfl rfl)
theorem dX9_isAhead_55 : decode cX9_isAhead 55 = .ok (.iconst 1, 1) := dk_4 (dk_at dksX9_isAhead_2 9 rfl rfl)
theorem dX9_isAhead_56 : decode cX9_isAhead 56 = .ok (.goto 4, 3) := dk_167 0 4 (dk_at dksX9_isAhead_2 10 rfl rfl)
theorem dX9_isAhead_59 : decode cX9_isAhead 59 = .ok (.iconst 0, 1) := dk_3 (dk_at dksX9_isAhead_2 13 rfl rfl)
theorem dX9_isAhead_60 : decode cX9_isAhead 60 = .ok (.ireturn, 1) := dk_172 (dk_at dksX9_isAhead_2 14 rfl rfl)
abbrev cX9_first : ByteArray := prog_4_method_4_code
def yX9_first : MethodName := ⟨RX9, "first", "()I"⟩
def dkwX9_first_2 : List UInt8 := [46, 42, 180, 0, 13, 27, 46, 162, 0, 5, 28, 60, 132, 2, 1, 167, 255, 197, 27, 172]
abbrev dktX9_first_2 : List UInt8 := dkwX9_first_2 ++ []
def dkwX9_first_1 : List UInt8 := [46, 161, 0, 33, 42, 180, 0, 21, 28, 46, 42, 180, 0, 21, 27, 46, 160, 0, 20, 42, 180, 0, 13, 28]
abbrev dktX9_first_1 : List UInt8 := dkwX9_first_1 ++ dktX9_first_2
def dkwX9_first_0 : List UInt8 := [3, 60, 4, 61, 28, 42, 180, 0, 21, 190, 162, 0, 56, 42, 180, 0, 21, 28, 46, 42, 180, 0, 21, 27]
abbrev dktX9_first_0 : List UInt8 := dkwX9_first_0 ++ dktX9_first_1
theorem dksX9_first_0 : cX9_first.data.toList.drop 0 = dktX9_first_0 := by decide +kernel
theorem dksX9_first_1 : cX9_first.data.toList.drop 24 = dktX9_first_1 := dk_seg dksX9_first_0 24 rfl rfl
theorem dksX9_first_2 : cX9_first.data.toList.drop 48 = dktX9_first_2 := dk_seg dksX9_first_1 24 rfl rfl
theorem dX9_first_0 : decode cX9_first 0 = .ok (.iconst 0, 1) := dk_3 (dk_at dksX9_first_0 0 rfl rfl)
theorem dX9_first_1 : decode cX9_first 1 = .ok (.istore_n 1, 1) := dk_60 (dk_at dksX9_first_0 1 rfl rfl)
theorem dX9_first_2 : decode cX9_first 2 = .ok (.iconst 1, 1) := dk_4 (dk_at dksX9_first_0 2 rfl rfl)
theorem dX9_first_3 : decode cX9_first 3 = .ok (.istore_n 2, 1) := dk_61 (dk_at dksX9_first_0 3 rfl rfl)
theorem dX9_first_4 : decode cX9_first 4 = .ok (.iload_n 2, 1) := dk_28 (dk_at dksX9_first_0 4 rfl rfl)
theorem dX9_first_5 : decode cX9_first 5 = .ok (.aload_n 0, 1) := dk_42 (dk_at dksX9_first_0 5 rfl rfl)
theorem dX9_first_6 : decode cX9_first 6 = .ok (.getfield 21, 3) := dk_180 0 21 (dk_at dksX9_first_0 6 rfl rfl)
theorem dX9_first_9 : decode cX9_first 9 = .ok (.arraylength, 1) := dk_190 (dk_at dksX9_first_0 9 rfl rfl)
theorem dX9_first_10 : decode cX9_first 10 = .ok (.if_icmp .ge 56, 3) := dk_162 0 56 (dk_at dksX9_first_0 10 rfl rfl)
theorem dX9_first_13 : decode cX9_first 13 = .ok (.aload_n 0, 1) := dk_42 (dk_at dksX9_first_0 13 rfl rfl)
theorem dX9_first_14 : decode cX9_first 14 = .ok (.getfield 21, 3) := dk_180 0 21 (dk_at dksX9_first_0 14 rfl rfl)
theorem dX9_first_17 : decode cX9_first 17 = .ok (.iload_n 2, 1) := dk_28 (dk_at dksX9_first_0 17 rfl rfl)
theorem dX9_first_18 : decode cX9_first 18 = .ok (.iaload, 1) := dk_46 (dk_at dksX9_first_0 18 rfl rfl)
theorem dX9_first_19 : decode cX9_first 19 = .ok (.aload_n 0, 1) := dk_42 (dk_at dksX9_first_0 19 rfl rfl)
theorem dX9_first_20 : decode cX9_first 20 = .ok (.getfield 21, 3) := dk_180 0 21 (dk_at dksX9_first_0 20 rfl rfl)
theorem dX9_first_23 : decode cX9_first 23 = .ok (.iload_n 1, 1) := dk_27 (dk_at dksX9_first_0 23 rfl rfl)
theorem dX9_first_24 : decode cX9_first 24 = .ok (.iaload, 1) := dk_46 (dk_at dksX9_first_1 0 rfl rfl)
theorem dX9_first_25 : decode cX9_first 25 = .ok (.if_icmp .lt 33, 3) := dk_161 0 33 (dk_at dksX9_first_1 1 rfl rfl)
theorem dX9_first_28 : decode cX9_first 28 = .ok (.aload_n 0, 1) := dk_42 (dk_at dksX9_first_1 4 rfl rfl)
theorem dX9_first_29 : decode cX9_first 29 = .ok (.getfield 21, 3) := dk_180 0 21 (dk_at dksX9_first_1 5 rfl rfl)
theorem dX9_first_32 : decode cX9_first 32 = .ok (.iload_n 2, 1) := dk_28 (dk_at dksX9_first_1 8 rfl rfl)
theorem dX9_first_33 : decode cX9_first 33 = .ok (.iaload, 1) := dk_46 (dk_at dksX9_first_1 9 rfl rfl)
theorem dX9_first_34 : decode cX9_first 34 = .ok (.aload_n 0, 1) := dk_42 (dk_at dksX9_first_1 10 rfl rfl)
theorem dX9_first_35 : decode cX9_first 35 = .ok (.getfield 21, 3) := dk_180 0 21 (dk_at dksX9_first_1 11 rfl rfl)
theorem dX9_first_38 : decode cX9_first 38 = .ok (.iload_n 1, 1) := dk_27 (dk_at dksX9_first_1 14 rfl rfl)
theorem dX9_first_39 : decode cX9_first 39 = .ok (.iaload, 1) := dk_46 (dk_at dksX9_first_1 15 rfl rfl)
theorem dX9_first_40 : decode cX9_first 40 = .ok (.if_icmp .ne 20, 3) := dk_160 0 20 (dk_at dksX9_first_1 16 rfl rfl)
theorem dX9_first_43 : decode cX9_first 43 = .ok (.aload_n 0, 1) := dk_42 (dk_at dksX9_first_1 19 rfl rfl)
theorem dX9_first_44 : decode cX9_first 44 = .ok (.getfield 13, 3) := dk_180 0 13 (dk_at dksX9_first_1 20 rfl rfl)
theorem dX9_first_47 : decode cX9_first 47 = .ok (.iload_n 2, 1) := dk_28 (dk_at dksX9_first_1 23 rfl rfl)
theorem dX9_first_48 : decode cX9_first 48 = .ok (.iaload, 1) := dk_46 (dk_at dksX9_first_2 0 rfl rfl)
theorem dX9_first_49 : decode cX9_first 49 = .ok (.aload_n 0, 1) := dk_42 (dk_at dksX9_first_2 1 rfl rfl)
theorem dX9_first_50 : decode cX9_first 50 = .ok (.getfield 13, 3) := dk_180 0 13 (dk_at dksX9_first_2 2 rfl rfl)
theorem dX9_first_53 : decode cX9_first 53 = .ok (.iload_n 1, 1) := dk_27 (dk_at dksX9_first_2 5 rfl rfl)
theorem dX9_first_54 : decode cX9_first 54 = .ok (.iaload, 1) := dk_46 (dk_at dksX9_first_2 6 rfl rfl)
theorem dX9_first_55 : decode cX9_first 55 = .ok (.if_icmp .ge 5, 3) := dk_162 0 5 (dk_at dksX9_first_2 7 rfl rfl)
theorem dX9_first_58 : decode cX9_first 58 = .ok (.iload_n 2, 1) := dk_28 (dk_at dksX9_first_2 10 rfl rfl)
theorem dX9_first_59 : decode cX9_first 59 = .ok (.istore_n 1, 1) := dk_60 (dk_at dksX9_first_2 11 rfl rfl)
theorem dX9_first_60 : decode cX9_first 60 = .ok (.iinc 2 1, 3) := dk_132 2 1 (dk_at dksX9_first_2 12 rfl rfl)
theorem dX9_first_63 : decode cX9_first 63 = .ok (.goto (-59), 3) := dk_167 255 197 (dk_at dksX9_first_2 15 rfl rfl)
theorem dX9_first_66 : decode cX9_first 66 = .ok (.iload_n 1, 1) := dk_27 (dk_at dksX9_first_2 18 rfl rfl)
theorem dX9_first_67 : decode cX9_first 67 = .ok (.ireturn, 1) := dk_172 (dk_at dksX9_first_2 19 rfl rfl)
abbrev cX9_isSame : ByteArray := prog_4_method_9_code
def yX9_isSame : MethodName := ⟨RX9, "isSame", "(LTankField$Event;)Z"⟩
def dkwX9_isSame_2 : List UInt8 := [160, 0, 7, 4, 167, 0, 4, 3, 61, 132, 3, 1, 167, 255, 219, 28, 172]
abbrev dktX9_isSame_2 : List UInt8 := dkwX9_isSame_2 ++ []
def dkwX9_isSame_1 : List UInt8 := [153, 0, 39, 29, 42, 180, 0, 13, 190, 162, 0, 30, 42, 180, 0, 13, 29, 46, 43, 180, 0, 13, 29, 46]
abbrev dktX9_isSame_1 : List UInt8 := dkwX9_isSame_1 ++ dktX9_isSame_2
def dkwX9_isSame_0 : List UInt8 := [42, 180, 0, 13, 190, 43, 180, 0, 13, 190, 160, 0, 7, 4, 167, 0, 4, 3, 61, 3, 62, 28]
abbrev dktX9_isSame_0 : List UInt8 := dkwX9_isSame_0 ++ dktX9_isSame_1
theorem dksX9_isSame_0 : cX9_isSame.data.toList.drop 0 = dktX9_isSame_0 := by decide +kernel
theorem dksX9_isSame_1 : cX9_isSame.data.toList.drop 22 = dktX9_isSame_1 := dk_seg dksX9_isSame_0 22 rfl rfl
theorem dksX9_isSame_2 : cX9_isSame.data.toList.drop 46 = dktX9_isSame_2 := dk_seg dksX9_isSame_1 24 rfl rfl
theorem dX9_isSame_0 : decode cX9_isSame 0 = .ok (.aload_n 0, 1) := dk_42 (dk_at dksX9_isSame_0 0 rfl rfl)
theorem dX9_isSame_1 : decode cX9_isSame 1 = .ok (.getfield 13, 3) := dk_180 0 13 (dk_at dksX9_isSame_0 1 rfl rfl)
theorem dX9_isSame_4 : decode cX9_isSame 4 = .ok (.arraylength, 1) := dk_190 (dk_at dksX9_isSame_0 4 rfl rfl)
theorem dX9_isSame_5 : decode cX9_isSame 5 = .ok (.aload_n 1, 1) := dk_43 (dk_at dksX9_isSame_0 5 rfl rfl)
theorem dX9_isSame_6 : decode cX9_isSame 6 = .ok (.getfield 13, 3) := dk_180 0 13 (dk_at dksX9_isSame_0 6 rfl rfl)
theorem dX9_isSame_9 : decode cX9_isSame 9 = .ok (.arraylength, 1) := dk_190 (dk_at dksX9_isSame_0 9 rfl rfl)
theorem dX9_isSame_10 : decode cX9_isSame 10 = .ok (.if_icmp .ne 7, 3) := dk_160 0 7 (dk_at dksX9_isSame_0 10 rfl rfl)
theorem dX9_isSame_13 : decode cX9_isSame 13 = .ok (.iconst 1, 1) := dk_4 (dk_at dksX9_isSame_0 13 rfl rfl)
theorem dX9_isSame_14 : decode cX9_isSame 14 = .ok (.goto 4, 3) := dk_167 0 4 (dk_at dksX9_isSame_0 14 rfl rfl)
theorem dX9_isSame_17 : decode cX9_isSame 17 = .ok (.iconst 0, 1) := dk_3 (dk_at dksX9_isSame_0 17 rfl rfl)
theorem dX9_isSame_18 : decode cX9_isSame 18 = .ok (.istore_n 2, 1) := dk_61 (dk_at dksX9_isSame_0 18 rfl rfl)
theorem dX9_isSame_19 : decode cX9_isSame 19 = .ok (.iconst 0, 1) := dk_3 (dk_at dksX9_isSame_0 19 rfl rfl)
theorem dX9_isSame_20 : decode cX9_isSame 20 = .ok (.istore_n 3, 1) := dk_62 (dk_at dksX9_isSame_0 20 rfl rfl)
theorem dX9_isSame_21 : decode cX9_isSame 21 = .ok (.iload_n 2, 1) := dk_28 (dk_at dksX9_isSame_0 21 rfl rfl)
theorem dX9_isSame_22 : decode cX9_isSame 22 = .ok (.ifCond .eq 39, 3) := dk_153 0 39 (dk_at dksX9_isSame_1 0 rfl rfl)
theorem dX9_isSame_25 : decode cX9_isSame 25 = .ok (.iload_n 3, 1) := dk_29 (dk_at dksX9_isSame_1 3 rfl rfl)
theorem dX9_isSame_26 : decode cX9_isSame 26 = .ok (.aload_n 0, 1) := dk_42 (dk_at dksX9_isSame_1 4 rfl rfl)
theorem dX9_isSame_27 : decode cX9_isSame 27 = .ok (.getfield 13, 3) := dk_180 0 13 (dk_at dksX9_isSame_1 5 rfl rfl)
theorem dX9_isSame_30 : decode cX9_isSame 30 = .ok (.arraylength, 1) := dk_190 (dk_at dksX9_isSame_1 8 rfl rfl)
theorem dX9_isSame_31 : decode cX9_isSame 31 = .ok (.if_icmp .ge 30, 3) := dk_162 0 30 (dk_at dksX9_isSame_1 9 rfl rfl)
theorem dX9_isSame_34 : decode cX9_isSame 34 = .ok (.aload_n 0, 1) := dk_42 (dk_at dksX9_isSame_1 12 rfl rfl)
theorem dX9_isSame_35 : decode cX9_isSame 35 = .ok (.getfield 13, 3) := dk_180 0 13 (dk_at dksX9_isSame_1 13 rfl rfl)
theorem dX9_isSame_38 : decode cX9_isSame 38 = .ok (.iload_n 3, 1) := dk_29 (dk_at dksX9_isSame_1 16 rfl rfl)
theorem dX9_isSame_39 : decode cX9_isSame 39 = .ok (.iaload, 1) := dk_46 (dk_at dksX9_isSame_1 17 rfl rfl)
theorem dX9_isSame_40 : decode cX9_isSame 40 = .ok (.aload_n 1, 1) := dk_43 (dk_at dksX9_isSame_1 18 rfl rfl)
theorem dX9_isSame_41 : decode cX9_isSame 41 = .ok (.getfield 13, 3) := dk_180 0 13 (dk_at dksX9_isSame_1 19 rfl rfl)
theorem dX9_isSame_44 : decode cX9_isSame 44 = .ok (.iload_n 3, 1) := dk_29 (dk_at dksX9_isSame_1 22 rfl rfl)
theorem dX9_isSame_45 : decode cX9_isSame 45 = .ok (.iaload, 1) := dk_46 (dk_at dksX9_isSame_1 23 rfl rfl)
theorem dX9_isSame_46 : decode cX9_isSame 46 = .ok (.if_icmp .ne 7, 3) := dk_160 0 7 (dk_at dksX9_isSame_2 0 rfl rfl)
theorem dX9_isSame_49 : decode cX9_isSame 49 = .ok (.iconst 1, 1) := dk_4 (dk_at dksX9_isSame_2 3 rfl rfl)
theorem dX9_isSame_50 : decode cX9_isSame 50 = .ok (.goto 4, 3) := dk_167 0 4 (dk_at dksX9_isSame_2 4 rfl rfl)
theorem dX9_isSame_53 : decode cX9_isSame 53 = .ok (.iconst 0, 1) := dk_3 (dk_at dksX9_isSame_2 7 rfl rfl)
theorem dX9_isSame_54 : decode cX9_isSame 54 = .ok (.istore_n 2, 1) := dk_61 (dk_at dksX9_isSame_2 8 rfl rfl)
theorem dX9_isSame_55 : decode cX9_isSame 55 = .ok (.iinc 3 1, 3) := dk_132 3 1 (dk_at dksX9_isSame_2 9 rfl rfl)
theorem dX9_isSame_58 : decode cX9_isSame 58 = .ok (.goto (-37), 3) := dk_167 255 219 (dk_at dksX9_isSame_2 12 rfl rfl)
theorem dX9_isSame_61 : decode cX9_isSame 61 = .ok (.iload_n 2, 1) := dk_28 (dk_at dksX9_isSame_2 15 rfl rfl)
theorem dX9_isSame_62 : decode cX9_isSame 62 = .ok (.ireturn, 1) := dk_172 (dk_at dksX9_isSame_2 16 rfl rfl)
abbrev cX9_last : ByteArray := prog_4_method_5_code
def yX9_last : MethodName := ⟨RX9, "last", "()I"⟩
def dkwX9_last_1 : List UInt8 := [44, 21, 4, 46, 54, 5, 27, 21, 5, 184, 0, 47, 60, 132, 4, 1, 167, 255, 234, 27, 172]
abbrev dktX9_last_1 : List UInt8 := dkwX9_last_1 ++ []
def dkwX9_last_0 : List UInt8 := [42, 180, 0, 21, 3, 46, 60, 42, 180, 0, 21, 77, 44, 190, 62, 3, 54, 4, 21, 4, 29, 162, 0, 22]
abbrev dktX9_last_0 : List UInt8 := dkwX9_last_0 ++ dktX9_last_1
theorem dksX9_last_0 : cX9_last.data.toList.drop 0 = dktX9_last_0 := by decide +kernel
theorem dksX9_last_1 : cX9_last.data.toList.drop 24 = dktX9_last_1 := dk_seg dksX9_last_0 24 rfl rfl
theorem dX9_last_0 : decode cX9_last 0 = .ok (.aload_n 0, 1) := dk_42 (dk_at dksX9_last_0 0 rfl rfl)
theorem dX9_last_1 : decode cX9_last 1 = .ok (.getfield 21, 3) := dk_180 0 21 (dk_at dksX9_last_0 1 rfl rfl)
theorem dX9_last_4 : decode cX9_last 4 = .ok (.iconst 0, 1) := dk_3 (dk_at dksX9_last_0 4 rfl rfl)
theorem dX9_last_5 : decode cX9_last 5 = .ok (.iaload, 1) := dk_46 (dk_at dksX9_last_0 5 rfl rfl)
theorem dX9_last_6 : decode cX9_last 6 = .ok (.istore_n 1, 1) := dk_60 (dk_at dksX9_last_0 6 rfl rfl)
theorem dX9_last_7 : decode cX9_last 7 = .ok (.aload_n 0, 1) := dk_42 (dk_at dksX9_last_0 7 rfl rfl)
theorem dX9_last_8 : decode cX9_last 8 = .ok (.getfield 21, 3) := dk_180 0 21 (dk_at dksX9_last_0 8 rfl rfl)
theorem dX9_last_11 : decode cX9_last 11 = .ok (.astore_n 2, 1) := dk_77 (dk_at dksX9_last_0 11 rfl rfl)
theorem dX9_last_12 : decode cX9_last 12 = .ok (.aload_n 2, 1) := dk_44 (dk_at dksX9_last_0 12 rfl rfl)
theorem dX9_last_13 : decode cX9_last 13 = .ok (.arraylength, 1) := dk_190 (dk_at dksX9_last_0 13 rfl rfl)
theorem dX9_last_14 : decode cX9_last 14 = .ok (.istore_n 3, 1) := dk_62 (dk_at dksX9_last_0 14 rfl rfl)
theorem dX9_last_15 : decode cX9_last 15 = .ok (.iconst 0, 1) := dk_3 (dk_at dksX9_last_0 15 rfl rfl)
theorem dX9_last_16 : decode cX9_last 16 = .ok (.istore 4, 2) := dk_54 4 (dk_at dksX9_last_0 16 rfl rfl)
theorem dX9_last_18 : decode cX9_last 18 = .ok (.iload 4, 2) := dk_21 4 (dk_at dksX9_last_0 18 rfl rfl)
theorem dX9_last_20 : decode cX9_last 20 = .ok (.iload_n 3, 1) := dk_29 (dk_at dksX9_last_0 20 rfl rfl)
theorem dX9_last_21 : decode cX9_last 21 = .ok (.if_icmp .ge 22, 3) := dk_162 0 22 (dk_at dksX9_last_0 21 rfl rfl)
theorem dX9_last_24 : decode cX9_last 24 = .ok (.aload_n 2, 1) := dk_44 (dk_at dksX9_last_1 0 rfl rfl)
theorem dX9_last_25 : decode cX9_last 25 = .ok (.iload 4, 2) := dk_21 4 (dk_at dksX9_last_1 1 rfl rfl)
theorem dX9_last_27 : decode cX9_last 27 = .ok (.iaload, 1) := dk_46 (dk_at dksX9_last_1 3 rfl rfl)
theorem dX9_last_28 : decode cX9_last 28 = .ok (.istore 5, 2) := dk_54 5 (dk_at dksX9_last_1 4 rfl rfl)
theorem dX9_last_30 : decode cX9_last 30 = .ok (.iload_n 1, 1) := dk_27 (dk_at dksX9_last_1 6 rfl rfl)
theorem dX9_last_31 : decode cX9_last 31 = .ok (.iload 5, 2) := dk_21 5 (dk_at dksX9_last_1 7 rfl rfl)
theorem dX9_last_33 : decode cX9_last 33 = .ok (.invokestatic 47, 3) := dk_184 0 47 (dk_at dksX9_last_1 9 rfl rfl)
theorem dX9_last_36 : decode cX9_last 36 = .ok (.istore_n 1, 1) := dk_60 (dk_at dksX9_last_1 12 rfl rfl)
theorem dX9_last_37 : decode cX9_last 37 = .ok (.iinc 4 1, 3) := dk_132 4 1 (dk_at dksX9_last_1 13 rfl rfl)
theorem dX9_last_40 : decode cX9_last 40 = .ok (.goto (-22), 3) := dk_167 255 234 (dk_at dksX9_last_1 16 rfl rfl)
theorem dX9_last_43 : decode cX9_last 43 = .ok (.iload_n 1, 1) := dk_27 (dk_at dksX9_last_1 19 rfl rfl)
theorem dX9_last_44 : decode cX9_last 44 = .ok (.ireturn, 1) := dk_172 (dk_at dksX9_last_1 20 rfl rfl)
abbrev cX9_isSure : ByteArray := prog_4_method_10_code
def yX9_isSure : MethodName := ⟨RX9, "isSure", "()Z"⟩
def dkwX9_isSure_2 : List UInt8 := [27, 172]
abbrev dktX9_isSure_2 : List UInt8 := dkwX9_isSure_2 ++ []
def dkwX9_isSure_1 : List UInt8 := [54, 5, 27, 42, 180, 0, 1, 180, 0, 24, 21, 5, 50, 182, 0, 56, 126, 60, 132, 4, 1, 167, 255, 225]
abbrev dktX9_isSure_1 : List UInt8 := dkwX9_isSure_1 ++ dktX9_isSure_2
def dkwX9_isSure_0 : List UInt8 := [4, 60, 42, 180, 0, 13, 77, 44, 190, 62, 3, 54, 4, 21, 4, 29, 162, 0, 31, 44, 21, 4, 46]
abbrev dktX9_isSure_0 : List UInt8 := dkwX9_isSure_0 ++ dktX9_isSure_1
theorem dksX9_isSure_0 : cX9_isSure.data.toList.drop 0 = dktX9_isSure_0 := by decide +kernel
theorem dksX9_isSure_1 : cX9_isSure.data.toList.drop 23 = dktX9_isSure_1 := dk_seg dksX9_isSure_0 23 rfl rfl
theorem dksX9_isSure_2 : cX9_isSure.data.toList.drop 47 = dktX9_isSure_2 := dk_seg dksX9_isSure_1 24 rfl rfl
theorem dX9_isSure_0 : decode cX9_isSure 0 = .ok (.iconst 1, 1) := dk_4 (dk_at dksX9_isSure_0 0 rfl rfl)
theorem dX9_isSure_1 : decode cX9_isSure 1 = .ok (.istore_n 1, 1) := dk_60 (dk_at dksX9_isSure_0 1 rfl rfl)
theorem dX9_isSure_2 : decode cX9_isSure 2 = .ok (.aload_n 0, 1) := dk_42 (dk_at dksX9_isSure_0 2 rfl rfl)
theorem dX9_isSure_3 : decode cX9_isSure 3 = .ok (.getfield 13, 3) := dk_180 0 13 (dk_at dksX9_isSure_0 3 rfl rfl)
theorem dX9_isSure_6 : decode cX9_isSure 6 = .ok (.astore_n 2, 1) := dk_77 (dk_at dksX9_isSure_0 6 rfl rfl)
theorem dX9_isSure_7 : decode cX9_isSure 7 = .ok (.aload_n 2, 1) := dk_44 (dk_at dksX9_isSure_0 7 rfl rfl)
theorem dX9_isSure_8 : decode cX9_isSure 8 = .ok (.arraylength, 1) := dk_190 (dk_at dksX9_isSure_0 8 rfl rfl)
theorem dX9_isSure_9 : decode cX9_isSure 9 = .ok (.istore_n 3, 1) := dk_62 (dk_at dksX9_isSure_0 9 rfl rfl)
theorem dX9_isSure_10 : decode cX9_isSure 10 = .ok (.iconst 0, 1) := dk_3 (dk_at dksX9_isSure_0 10 rfl rfl)
theorem dX9_isSure_11 : decode cX9_isSure 11 = .ok (.istore 4, 2) := dk_54 4 (dk_at dksX9_isSure_0 11 rfl rfl)
theorem dX9_isSure_13 : decode cX9_isSure 13 = .ok (.iload 4, 2) := dk_21 4 (dk_at dksX9_isSure_0 13 rfl rfl)
theorem dX9_isSure_15 : decode cX9_isSure 15 = .ok (.iload_n 3, 1) := dk_29 (dk_at dksX9_isSure_0 15 rfl rfl)
theorem dX9_isSure_16 : decode cX9_isSure 16 = .ok (.if_icmp .ge 31, 3) := dk_162 0 31 (dk_at dksX9_isSure_0 16 rfl rfl)
theorem dX9_isSure_19 : decode cX9_isSure 19 = .ok (.aload_n 2, 1) := dk_44 (dk_at dksX9_isSure_0 19 rfl rfl)
theorem dX9_isSure_20 : decode cX9_isSure 20 = .ok (.iload 4, 2) := dk_21 4 (dk_at dksX9_isSure_0 20 rfl rfl)
theorem dX9_isSure_22 : decode cX9_isSure 22 = .ok (.iaload, 1) := dk_46 (dk_at dksX9_isSure_0 22 rfl rfl)
theorem dX9_isSure_23 : decode cX9_isSure 23 = .ok (.istore 5, 2) := dk_54 5 (dk_at dksX9_isSure_1 0 rfl rfl)
theorem dX9_isSure_25 : decode cX9_isSure 25 = .ok (.iload_n 1, 1) := dk_27 (dk_at dksX9_isSure_1 2 rfl rfl)
theorem dX9_isSure_26 : decode cX9_isSure 26 = .ok (.aload_n 0, 1) := dk_42 (dk_at dksX9_isSure_1 3 rfl rfl)
theorem dX9_isSure_27 : decode cX9_isSure 27 = .ok (.getfield 1, 3) := dk_180 0 1 (dk_at dksX9_isSure_1 4 rfl rfl)
theorem dX9_isSure_30 : decode cX9_isSure 30 = .ok (.getfield 24, 3) := dk_180 0 24 (dk_at dksX9_isSure_1 7 rfl rfl)
theorem dX9_isSure_33 : decode cX9_isSure 33 = .ok (.iload 5, 2) := dk_21 5 (dk_at dksX9_isSure_1 10 rfl rfl)
theorem dX9_isSure_35 : decode cX9_isSure 35 = .ok (.aaload, 1) := dk_50 (dk_at dksX9_isSure_1 12 rfl rfl)
theorem dX9_isSure_36 : decode cX9_isSure 36 = .ok (.invokevirtual 56, 3) := dk_182 0 56 (dk_at dksX9_isSure_1 13 rfl rfl)
theorem dX9_isSure_39 : decode cX9_isSure 39 = .ok (.iand, 1) := dk_126 (dk_at dksX9_isSure_1 16 rfl rfl)
theorem dX9_isSure_40 : decode cX9_isSure 40 = .ok (.istore_n 1, 1) := dk_60 (dk_at dksX9_isSure_1 17 rfl rfl)
theorem dX9_isSure_41 : decode cX9_isSure 41 = .ok (.iinc 4 1, 3) := dk_132 4 1 (dk_at dksX9_isSure_1 18 rfl rfl)
theorem dX9_isSure_44 : decode cX9_isSure 44 = .ok (.goto (-31), 3) := dk_167 255 225 (dk_at dksX9_isSure_1 21 rfl rfl)
theorem dX9_isSure_47 : decode cX9_isSure 47 = .ok (.iload_n 1, 1) := dk_27 (dk_at dksX9_isSure_2 0 rfl rfl)
theorem dX9_isSure_48 : decode cX9_isSure 48 = .ok (.ireturn, 1) := dk_172 (dk_at dksX9_isSure_2 1 rfl rfl)
abbrev cX9_front : ByteArray := prog_4_method_12_code
def yX9_front : MethodName := ⟨RX9, "front", "()[J"⟩
def dkwX9_front_7 : List UInt8 := [167, 255, 105, 44, 176]
abbrev dktX9_front_7 : List UInt8 := dkwX9_front_7 ++ []
def dkwX9_front_6 : List UInt8 := [47, 105, 43, 4, 50, 21, 5, 47, 43, 5, 50, 21, 4, 47, 105, 101, 105, 97, 80, 132, 3, 1]
abbrev dktX9_front_6 : List UInt8 := dkwX9_front_6 ++ dktX9_front_7
def dkwX9_front_5 : List UInt8 := [21, 4, 47, 105, 101, 105, 101, 43, 3, 50, 21, 6, 47, 43, 4, 50, 21, 4, 47, 43, 5, 50, 21, 5]
abbrev dktX9_front_5 : List UInt8 := dkwX9_front_5 ++ dktX9_front_6
def dkwX9_front_4 : List UInt8 := [47, 43, 4, 50, 21, 4, 47, 43, 5, 50, 21, 6, 47, 105, 43, 4, 50, 21, 6, 47, 43, 5, 50]
abbrev dktX9_front_4 : List UInt8 := dkwX9_front_4 ++ dktX9_front_5
def dkwX9_front_3 : List UInt8 := [21, 6, 47, 105, 43, 4, 50, 21, 6, 47, 43, 5, 50, 21, 5, 47, 105, 101, 105, 43, 3, 50, 21, 5]
abbrev dktX9_front_3 : List UInt8 := dkwX9_front_3 ++ dktX9_front_4
def dkwX9_front_2 : List UInt8 := [167, 0, 4, 5, 54, 6, 44, 29, 43, 3, 50, 21, 4, 47, 43, 4, 50, 21, 5, 47, 43, 5, 50]
abbrev dktX9_front_2 : List UInt8 := dkwX9_front_2 ++ dktX9_front_3
def dkwX9_front_1 : List UInt8 := [167, 0, 4, 3, 54, 4, 29, 5, 160, 0, 7, 6, 167, 0, 4, 4, 54, 5, 29, 6, 160, 0, 7, 6]
abbrev dktX9_front_1 : List UInt8 := dkwX9_front_1 ++ dktX9_front_2
def dkwX9_front_0 : List UInt8 := [42, 182, 0, 74, 76, 7, 188, 11, 77, 3, 62, 29, 7, 162, 0, 152, 29, 4, 160, 0, 7, 6]
abbrev dktX9_front_0 : List UInt8 := dkwX9_front_0 ++ dktX9_front_1
theorem dksX9_front_0 : cX9_front.data.toList.drop 0 = dktX9_front_0 := by decide +kernel
theorem dksX9_front_1 : cX9_front.data.toList.drop 22 = dktX9_front_1 := dk_seg dksX9_front_0 22 rfl rfl
theorem dksX9_front_2 : cX9_front.data.toList.drop 46 = dktX9_front_2 := dk_seg dksX9_front_1 24 rfl rfl
theorem dksX9_front_3 : cX9_front.data.toList.drop 69 = dktX9_front_3 := dk_seg dksX9_front_2 23 rfl rfl
theorem dksX9_front_4 : cX9_front.data.toList.drop 93 = dktX9_front_4 := dk_seg dksX9_front_3 24 rfl rfl
theorem dksX9_front_5 : cX9_front.data.toList.drop 116 = dktX9_front_5 := dk_seg dksX9_front_4 23 rfl rfl
theorem dksX9_front_6 : cX9_front.data.toList.drop 140 = dktX9_front_6 := dk_seg dksX9_front_5 24 rfl rfl
theorem dksX9_front_7 : cX9_front.data.toList.drop 162 = dktX9_front_7 := dk_seg dksX9_front_6 22 rfl rfl
theorem dX9_front_0 : decode cX9_front 0 = .ok (.aload_n 0, 1) := dk_42 (dk_at dksX9_front_0 0 rfl rfl)
theorem dX9_front_1 : decode cX9_front 1 = .ok (.invokevirtual 74, 3) := dk_182 0 74 (dk_at dksX9_front_0 1 rfl rfl)
theorem dX9_front_4 : decode cX9_front 4 = .ok (.astore_n 1, 1) := dk_76 (dk_at dksX9_front_0 4 rfl rfl)
theorem dX9_front_5 : decode cX9_front 5 = .ok (.iconst 4, 1) := dk_7 (dk_at dksX9_front_0 5 rfl rfl)
theorem dX9_front_6 : decode cX9_front 6 = .ok (.newarray .long, 2) := dk_188_11 (dk_at dksX9_front_0 6 rfl rfl)
theorem dX9_front_8 : decode cX9_front 8 = .ok (.astore_n 2, 1) := dk_77 (dk_at dksX9_front_0 8 rfl rfl)
theorem dX9_front_9 : decode cX9_front 9 = .ok (.iconst 0, 1) := dk_3 (dk_at dksX9_front_0 9 rfl rfl)
theorem dX9_front_10 : decode cX9_front 10 = .ok (.istore_n 3, 1) := dk_62 (dk_at dksX9_front_0 10 rfl rfl)
theorem dX9_front_11 : decode cX9_front 11 = .ok (.iload_n 3, 1) := dk_29 (dk_at dksX9_front_0 11 rfl rfl)
theorem dX9_front_12 : decode cX9_front 12 = .ok (.iconst 4, 1) := dk_7 (dk_at dksX9_front_0 12 rfl rfl)
theorem dX9_front_13 : decode cX9_front 13 = .ok (.if_icmp .ge 152, 3) := dk_162 0 152 (dk_at dksX9_front_0 13 rfl rfl)
theorem dX9_front_16 : decode cX9_front 16 = .ok (.iload_n 3, 1) := dk_29 (dk_at dksX9_front_0 16 rfl rfl)
theorem dX9_front_17 : decode cX9_front 17 = .ok (.iconst 1, 1) := dk_4 (dk_at dksX9_front_0 17 rfl rfl)
theorem dX9_front_18 : decode cX9_front 18 = .ok (.if_icmp .ne 7, 3) := dk_160 0 7 (dk_at dksX9_front_0 18 rfl rfl)
theorem dX9_front_21 : decode cX9_front 21 = .ok (.iconst 3, 1) := dk_6 (dk_at dksX9_front_0 21 rfl rfl)
theorem dX9_front_22 : decode cX9_front 22 = .ok (.goto 4, 3) := dk_167 0 4 (dk_at dksX9_front_1 0 rfl rfl)
theorem dX9_front_25 : decode cX9_front 25 = .ok (.iconst 0, 1) := dk_3 (dk_at dksX9_front_1 3 rfl rfl)
theorem dX9_front_26 : decode cX9_front 26 = .ok (.istore 4, 2) := dk_54 4 (dk_at dksX9_front_1 4 rfl rfl)
theorem dX9_front_28 : decode cX9_front 28 = .ok (.iload_n 3, 1) := dk_29 (dk_at dksX9_front_1 6 rfl rfl)
theorem dX9_front_29 : decode cX9_front 29 = .ok (.iconst 2, 1) := dk_5 (dk_at dksX9_front_1 7 rfl rfl)
theorem dX9_front_30 : decode cX9_front 30 = .ok (.if_icmp .ne 7, 3) := dk_160 0 7 (dk_at dksX9_front_1 8 rfl rfl)
theorem dX9_front_33 : decode cX9_front 33 = .ok (.iconst 3, 1) := dk_6 (dk_at dksX9_front_1 11 rfl rfl)
theorem dX9_front_34 : decode cX9_front 34 = .ok (.goto 4, 3) := dk_167 0 4 (dk_at dksX9_front_1 12 rfl rfl)
theorem dX9_front_37 : decode cX9_front 37 = .ok (.iconst 1, 1) := dk_4 (dk_at dksX9_front_1 15 rfl rfl)
theorem dX9_front_38 : decode cX9_front 38 = .ok (.istore 5, 2) := dk_54 5 (dk_at dksX9_front_1 16 rfl rfl)
theorem dX9_front_40 : decode cX9_front 40 = .ok (.iload_n 3, 1) := dk_29 (dk_at dksX9_front_1 18 rfl rfl)
theorem dX9_front_41 : decode cX9_front 41 = .ok (.iconst 3, 1) := dk_6 (dk_at dksX9_front_1 19 rfl rfl)
theorem dX9_front_42 : decode cX9_front 42 = .ok (.if_icmp .ne 7, 3) := dk_160 0 7 (dk_at dksX9_front_1 20 rfl rfl)
theorem dX9_front_45 : decode cX9_front 45 = .ok (.iconst 3, 1) := dk_6 (dk_at dksX9_front_1 23 rfl rfl)
theorem dX9_front_46 : decode cX9_front 46 = .ok (.goto 4, 3) := dk_167 0 4 (dk_at dksX9_front_2 0 rfl rfl)
theorem dX9_front_49 : decode cX9_front 49 = .ok (.iconst 2, 1) := dk_5 (dk_at dksX9_front_2 3 rfl rfl)
theorem dX9_front_50 : decode cX9_front 50 = .ok (.istore 6, 2) := dk_54 6 (dk_at dksX9_front_2 4 rfl rfl)
theorem dX9_front_52 : decode cX9_front 52 = .ok (.aload_n 2, 1) := dk_44 (dk_at dksX9_front_2 6 rfl rfl)
theorem dX9_front_53 : decode cX9_front 53 = .ok (.iload_n 3, 1) := dk_29 (dk_at dksX9_front_2 7 rfl rfl)
theorem dX9_front_54 : decode cX9_front 54 = .ok (.aload_n 1, 1) := dk_43 (dk_at dksX9_front_2 8 rfl rfl)
theorem dX9_front_55 : decode cX9_front 55 = .ok (.iconst 0, 1) := dk_3 (dk_at dksX9_front_2 9 rfl rfl)
theorem dX9_front_56 : decode cX9_front 56 = .ok (.aaload, 1) := dk_50 (dk_at dksX9_front_2 10 rfl rfl)
theorem dX9_front_57 : decode cX9_front 57 = .ok (.iload 4, 2) := dk_21 4 (dk_at dksX9_front_2 11 rfl rfl)
theorem dX9_front_59 : decode cX9_front 59 = .ok (.laload, 1) := dk_47 (dk_at dksX9_front_2 13 rfl rfl)
theorem dX9_front_60 : decode cX9_front 60 = .ok (.aload_n 1, 1) := dk_43 (dk_at dksX9_front_2 14 rfl rfl)
theorem dX9_front_61 : decode cX9_front 61 = .ok (.iconst 1, 1) := dk_4 (dk_at dksX9_front_2 15 rfl rfl)
theorem dX9_front_62 : decode cX9_front 62 = .ok (.aaload, 1) := dk_50 (dk_at dksX9_front_2 16 rfl rfl)
theorem dX9_front_63 : decode cX9_front 63 = .ok (.iload 5, 2) := dk_21 5 (dk_at dksX9_front_2 17 rfl rfl)
theorem dX9_front_65 : decode cX9_front 65 = .ok (.laload, 1) := dk_47 (dk_at dksX9_front_2 19 rfl rfl)
theorem dX9_front_66 : decode cX9_front 66 = .ok (.aload_n 1, 1) := dk_43 (dk_at dksX9_front_2 20 rfl rfl)
theorem dX9_front_67 : decode cX9_front 67 = .ok (.iconst 2, 1) := dk_5 (dk_at dksX9_front_2 21 rfl rfl)
theorem dX9_front_68 : decode cX9_front 68 = .ok (.aaload, 1) := dk_50 (dk_at dksX9_front_2 22 rfl rfl)
theorem dX9_front_69 : decode cX9_front 69 = .ok (.iload 6, 2) := dk_21 6 (dk_at dksX9_front_3 0 rfl rfl)
theorem dX9_front_71 : decode cX9_front 71 = .ok (.laload, 1) := dk_47 (dk_at dksX9_front_3 2 rfl rfl)
theorem dX9_front_72 : decode cX9_front 72 = .ok (.lmul, 1) := dk_105 (dk_at dksX9_front_3 3 rfl rfl)
theorem dX9_front_73 : decode cX9_front 73 = .ok (.aload_n 1, 1) := dk_43 (dk_at dksX9_front_3 4 rfl rfl)
theorem dX9_front_74 : decode cX9_front 74 = .ok (.iconst 1, 1) := dk_4 (dk_at dksX9_front_3 5 rfl rfl)
theorem dX9_front_75 : decode cX9_front 75 = .ok (.aaload, 1) := dk_50 (dk_at dksX9_front_3 6 rfl rfl)
theorem dX9_front_76 : decode cX9_front 76 = .ok (.iload 6, 2) := dk_21 6 (dk_at dksX9_front_3 7 rfl rfl)
theorem dX9_front_78 : decode cX9_front 78 = .ok (.laload, 1) := dk_47 (dk_at dksX9_front_3 9 rfl rfl)
theorem dX9_front_79 : decode cX9_front 79 = .ok (.aload_n 1, 1) := dk_43 (dk_at dksX9_front_3 10 rfl rfl)
theorem dX9_front_80 : decode cX9_front 80 = .ok (.iconst 2, 1) := dk_5 (dk_at dksX9_front_3 11 rfl rfl)
theorem dX9_front_81 : decode cX9_front 81 = .ok (.aaload, 1) := dk_50 (dk_at dksX9_front_3 12 rfl rfl)
theorem dX9_front_82 : decode cX9_front 82 = .ok (.iload 5, 2) := dk_21 5 (dk_at dksX9_front_3 13 rfl rfl)
theorem dX9_front_84 : decode cX9_front 84 = .ok (.laload, 1) := dk_47 (dk_at dksX9_front_3 15 rfl rfl)
theorem dX9_front_85 : decode cX9_front 85 = .ok (.lmul, 1) := dk_105 (dk_at dksX9_front_3 16 rfl rfl)
theorem dX9_front_86 : decode cX9_front 86 = .ok (.lsub, 1) := dk_101 (dk_at dksX9_front_3 17 rfl rfl)
theorem dX9_front_87 : decode cX9_front 87 = .ok (.lmul, 1) := dk_105 (dk_at dksX9_front_3 18 rfl rfl)
theorem dX9_front_88 : decode cX9_front 88 = .ok (.aload_n 1, 1) := dk_43 (dk_at dksX9_front_3 19 rfl rfl)
theorem dX9_front_89 : decode cX9_front 89 = .ok (.iconst 0, 1) := dk_3 (dk_at dksX9_front_3 20 rfl rfl)
theorem dX9_front_90 : decode cX9_front 90 = .ok (.aaload, 1) := dk_50 (dk_at dksX9_front_3 21 rfl rfl)
theorem dX9_front_91 : decode cX9_front 91 = .ok (.iload 5, 2) := dk_21 5 (dk_at dksX9_front_3 22 rfl rfl)
theorem dX9_front_93 : decode cX9_front 93 = .ok (.laload, 1) := dk_47 (dk_at dksX9_front_4 0 rfl rfl)
theorem dX9_front_94 : decode cX9_front 94 = .ok (.aload_n 1, 1) := dk_43 (dk_at dksX9_front_4 1 rfl rfl)
theorem dX9_front_95 : decode cX9_front 95 = .ok (.iconst 1, 1) := dk_4 (dk_at dksX9_front_4 2 rfl rfl)
theorem dX9_front_96 : decode cX9_front 96 = .ok (.aaload, 1) := dk_50 (dk_at dksX9_front_4 3 rfl rfl)
theorem dX9_front_97 : decode cX9_front 97 = .ok (.iload 4, 2) := dk_21 4 (dk_at dksX9_front_4 4 rfl rfl)
theorem dX9_front_99 : decode cX9_front 99 = .ok (.laload, 1) := dk_47 (dk_at dksX9_front_4 6 rfl rfl)
theorem dX9_front_100 : decode cX9_front 100 = .ok (.aload_n 1, 1) := dk_43 (dk_at dksX9_front_4 7 rfl rfl)
theorem dX9_front_101 : decode cX9_front 101 = .ok (.iconst 2, 1) := dk_5 (dk_at dksX9_front_4 8 rfl rfl)
theorem dX9_front_102 : decode cX9_front 102 = .ok (.aaload, 1) := dk_50 (dk_at dksX9_front_4 9 rfl rfl)
theorem dX9_front_103 : decode cX9_front 103 = .ok (.iload 6, 2) := dk_21 6 (dk_at dksX9_front_4 10 rfl rfl)
theorem dX9_front_105 : decode cX9_front 105 = .ok (.laload, 1) := dk_47 (dk_at dksX9_front_4 12 rfl rfl)
theorem dX9_front_106 : decode cX9_front 106 = .ok (.lmul, 1) := dk_105 (dk_at dksX9_front_4 13 rfl rfl)
theorem dX9_front_107 : decode cX9_front 107 = .ok (.aload_n 1, 1) := dk_43 (dk_at dksX9_front_4 14 rfl rfl)
theorem dX9_front_108 : decode cX9_front 108 = .ok (.iconst 1, 1) := dk_4 (dk_at dksX9_front_4 15 rfl rfl)
theorem dX9_front_109 : decode cX9_front 109 = .ok (.aaload, 1) := dk_50 (dk_at dksX9_front_4 16 rfl rfl)
theorem dX9_front_110 : decode cX9_front 110 = .ok (.iload 6, 2) := dk_21 6 (dk_at dksX9_front_4 17 rfl rfl)
theorem dX9_front_112 : decode cX9_front 112 = .ok (.laload, 1) := dk_47 (dk_at dksX9_front_4 19 rfl rfl)
theorem dX9_front_113 : decode cX9_front 113 = .ok (.aload_n 1, 1) := dk_43 (dk_at dksX9_front_4 20 rfl rfl)
theorem dX9_front_114 : decode cX9_front 114 = .ok (.iconst 2, 1) := dk_5 (dk_at dksX9_front_4 21 rfl rfl)
theorem dX9_front_115 : decode cX9_front 115 = .ok (.aaload, 1) := dk_50 (dk_at dksX9_front_4 22 rfl rfl)
theorem dX9_front_116 : decode cX9_front 116 = .ok (.iload 4, 2) := dk_21 4 (dk_at dksX9_front_5 0 rfl rfl)
theorem dX9_front_118 : decode cX9_front 118 = .ok (.laload, 1) := dk_47 (dk_at dksX9_front_5 2 rfl rfl)
theorem dX9_front_119 : decode cX9_front 119 = .ok (.lmul, 1) := dk_105 (dk_at dksX9_front_5 3 rfl rfl)
theorem dX9_front_120 : decode cX9_front 120 = .ok (.lsub, 1) := dk_101 (dk_at dksX9_front_5 4 rfl rfl)
theorem dX9_front_121 : decode cX9_front 121 = .ok (.lmul, 1) := dk_105 (dk_at dksX9_front_5 5 rfl rfl)
theorem dX9_front_122 : decode cX9_front 122 = .ok (.lsub, 1) := dk_101 (dk_at dksX9_front_5 6 rfl rfl)
theorem dX9_front_123 : decode cX9_front 123 = .ok (.aload_n 1, 1) := dk_43 (dk_at dksX9_front_5 7 rfl rfl)
theorem dX9_front_124 : decode cX9_front 124 = .ok (.iconst 0, 1) := dk_3 (dk_at dksX9_front_5 8 rfl rfl)
theorem dX9_front_125 : decode cX9_front 125 = .ok (.aaload, 1) := dk_50 (dk_at dksX9_front_5 9 rfl rfl)
theorem dX9_front_126 : decode cX9_front 126 = .ok (.iload 6, 2) := dk_21 6 (dk_at dksX9_front_5 10 rfl rfl)
theorem dX9_front_128 : decode cX9_front 128 = .ok (.laload, 1) := dk_47 (dk_at dksX9_front_5 12 rfl rfl)
theorem dX9_front_129 : decode cX9_front 129 = .ok (.aload_n 1, 1) := dk_43 (dk_at dksX9_front_5 13 rfl rfl)
theorem dX9_front_130 : decode cX9_front 130 = .ok (.iconst 1, 1) := dk_4 (dk_at dksX9_front_5 14 rfl rfl)
theorem dX9_front_131 : decode cX9_front 131 = .ok (.aaload, 1) := dk_50 (dk_at dksX9_front_5 15 rfl rfl)
theorem dX9_front_132 : decode cX9_front 132 = .ok (.iload 4, 2) := dk_21 4 (dk_at dksX9_front_5 16 rfl rfl)
theorem dX9_front_134 : decode cX9_front 134 = .ok (.laload, 1) := dk_47 (dk_at dksX9_front_5 18 rfl rfl)
theorem dX9_front_135 : decode cX9_front 135 = .ok (.aload_n 1, 1) := dk_43 (dk_at dksX9_front_5 19 rfl rfl)
theorem dX9_front_136 : decode cX9_front 136 = .ok (.iconst 2, 1) := dk_5 (dk_at dksX9_front_5 20 rfl rfl)
theorem dX9_front_137 : decode cX9_front 137 = .ok (.aaload, 1) := dk_50 (dk_at dksX9_front_5 21 rfl rfl)
theorem dX9_front_138 : decode cX9_front 138 = .ok (.iload 5, 2) := dk_21 5 (dk_at dksX9_front_5 22 rfl rfl)
theorem dX9_front_140 : decode cX9_front 140 = .ok (.laload, 1) := dk_47 (dk_at dksX9_front_6 0 rfl rfl)
theorem dX9_front_141 : decode cX9_front 141 = .ok (.lmul, 1) := dk_105 (dk_at dksX9_front_6 1 rfl rfl)
theorem dX9_front_142 : decode cX9_front 142 = .ok (.aload_n 1, 1) := dk_43 (dk_at dksX9_front_6 2 rfl rfl)
theorem dX9_front_143 : decode cX9_front 143 = .ok (.iconst 1, 1) := dk_4 (dk_at dksX9_front_6 3 rfl rfl)
theorem dX9_front_144 : decode cX9_front 144 = .ok (.aaload, 1) := dk_50 (dk_at dksX9_front_6 4 rfl rfl)
theorem dX9_front_145 : decode cX9_front 145 = .ok (.iload 5, 2) := dk_21 5 (dk_at dksX9_front_6 5 rfl rfl)
theorem dX9_front_147 : decode cX9_front 147 = .ok (.laload, 1) := dk_47 (dk_at dksX9_front_6 7 rfl rfl)
theorem dX9_front_148 : decode cX9_front 148 = .ok (.aload_n 1, 1) := dk_43 (dk_at dksX9_front_6 8 rfl rfl)
theorem dX9_front_149 : decode cX9_front 149 = .ok (.iconst 2, 1) := dk_5 (dk_at dksX9_front_6 9 rfl rfl)
theorem dX9_front_150 : decode cX9_front 150 = .ok (.aaload, 1) := dk_50 (dk_at dksX9_front_6 10 rfl rfl)
theorem dX9_front_151 : decode cX9_front 151 = .ok (.iload 4, 2) := dk_21 4 (dk_at dksX9_front_6 11 rfl rfl)
theorem dX9_front_153 : decode cX9_front 153 = .ok (.laload, 1) := dk_47 (dk_at dksX9_front_6 13 rfl rfl)
theorem dX9_front_154 : decode cX9_front 154 = .ok (.lmul, 1) := dk_105 (dk_at dksX9_front_6 14 rfl rfl)
theorem dX9_front_155 : decode cX9_front 155 = .ok (.lsub, 1) := dk_101 (dk_at dksX9_front_6 15 rfl rfl)
theorem dX9_front_156 : decode cX9_front 156 = .ok (.lmul, 1) := dk_105 (dk_at dksX9_front_6 16 rfl rfl)
theorem dX9_front_157 : decode cX9_front 157 = .ok (.ladd, 1) := dk_97 (dk_at dksX9_front_6 17 rfl rfl)
theorem dX9_front_158 : decode cX9_front 158 = .ok (.lastore, 1) := dk_80 (dk_at dksX9_front_6 18 rfl rfl)
theorem dX9_front_159 : decode cX9_front 159 = .ok (.iinc 3 1, 3) := dk_132 3 1 (dk_at dksX9_front_6 19 rfl rfl)
theorem dX9_front_162 : decode cX9_front 162 = .ok (.goto (-151), 3) := dk_167 255 105 (dk_at dksX9_front_7 0 rfl rfl)
theorem dX9_front_165 : decode cX9_front 165 = .ok (.aload_n 2, 1) := dk_44 (dk_at dksX9_front_7 3 rfl rfl)
theorem dX9_front_166 : decode cX9_front 166 = .ok (.areturn, 1) := dk_176 (dk_at dksX9_front_7 4 rfl rfl)
abbrev cX9_rows : ByteArray := prog_4_method_11_code
def yX9_rows : MethodName := ⟨RX9, "rows", "()[[J"⟩
def dkwX9_rows_5 : List UInt8 := [132, 5, 1, 167, 255, 211, 132, 3, 1, 167, 255, 148, 43, 176]
abbrev dktX9_rows_5 : List UInt8 := dkwX9_rows_5 ++ []
def dkwX9_rows_4 : List UInt8 := [21, 6, 92, 47, 25, 4, 21, 5, 47, 25, 4, 21, 6, 47, 105, 97, 80, 132, 6, 1, 167, 255, 226]
abbrev dktX9_rows_4 : List UInt8 := dkwX9_rows_4 ++ dktX9_rows_5
def dkwX9_rows_3 : List UInt8 := [58, 4, 3, 54, 5, 21, 5, 6, 162, 0, 45, 3, 54, 6, 21, 6, 7, 162, 0, 30, 43, 21, 5, 50]
abbrev dktX9_rows_3 : List UInt8 := dkwX9_rows_3 ++ dktX9_rows_4
def dkwX9_rows_2 : List UInt8 := [5, 42, 29, 182, 0, 62, 180, 0, 71, 133, 80, 89, 6, 42, 180, 0, 21, 29, 46, 28, 100, 133, 80]
abbrev dktX9_rows_2 : List UInt8 := dkwX9_rows_2 ++ dktX9_rows_3
def dkwX9_rows_1 : List UInt8 := [190, 162, 0, 105, 7, 188, 11, 89, 3, 10, 80, 89, 4, 42, 29, 182, 0, 62, 180, 0, 66, 133, 80, 89]
abbrev dktX9_rows_1 : List UInt8 := dkwX9_rows_1 ++ dktX9_rows_2
def dkwX9_rows_0 : List UInt8 := [6, 7, 197, 0, 60, 2, 76, 42, 180, 0, 21, 42, 182, 0, 53, 46, 61, 3, 62, 29, 42, 180, 0, 13]
abbrev dktX9_rows_0 : List UInt8 := dkwX9_rows_0 ++ dktX9_rows_1
theorem dksX9_rows_0 : cX9_rows.data.toList.drop 0 = dktX9_rows_0 := by decide +kernel
theorem dksX9_rows_1 : cX9_rows.data.toList.drop 24 = dktX9_rows_1 := dk_seg dksX9_rows_0 24 rfl rfl
theorem dksX9_rows_2 : cX9_rows.data.toList.drop 48 = dktX9_rows_2 := dk_seg dksX9_rows_1 24 rfl rfl
theorem dksX9_rows_3 : cX9_rows.data.toList.drop 71 = dktX9_rows_3 := dk_seg dksX9_rows_2 23 rfl rfl
theorem dksX9_rows_4 : cX9_rows.data.toList.drop 95 = dktX9_rows_4 := dk_seg dksX9_rows_3 24 rfl rfl
theorem dksX9_rows_5 : cX9_rows.data.toList.drop 118 = dktX9_rows_5 := dk_seg dksX9_rows_4 23 rfl rfl
theorem dX9_rows_0 : decode cX9_rows 0 = .ok (.iconst 3, 1) := dk_6 (dk_at dksX9_rows_0 0 rfl rfl)
theorem dX9_rows_1 : decode cX9_rows 1 = .ok (.iconst 4, 1) := dk_7 (dk_at dksX9_rows_0 1 rfl rfl)
theorem dX9_rows_2 : decode cX9_rows 2 = .ok (.multianewarray 60 2, 4) := by decide +kernel
theorem dX9_rows_6 : decode cX9_rows 6 = .ok (.astore_n 1, 1) := dk_76 (dk_at dksX9_rows_0 6 rfl rfl)
theorem dX9_rows_7 : decode cX9_rows 7 = .ok (.aload_n 0, 1) := dk_42 (dk_at dksX9_rows_0 7 rfl rfl)
theorem dX9_rows_8 : decode cX9_rows 8 = .ok (.getfield 21, 3) := dk_180 0 21 (dk_at dksX9_rows_0 8 rfl rfl)
theorem dX9_rows_11 : decode cX9_rows 11 = .ok (.aload_n 0, 1) := dk_42 (dk_at dksX9_rows_0 11 rfl rfl)
theorem dX9_rows_12 : decode cX9_rows 12 = .ok (.invokevirtual 53, 3) := dk_182 0 53 (dk_at dksX9_rows_0 12 rfl rfl)
theorem dX9_rows_15 : decode cX9_rows 15 = .ok (.iaload, 1) := dk_46 (dk_at dksX9_rows_0 15 rfl rfl)
theorem dX9_rows_16 : decode cX9_rows 16 = .ok (.istore_n 2, 1) := dk_61 (dk_at dksX9_rows_0 16 rfl rfl)
theorem dX9_rows_17 : decode cX9_rows 17 = .ok (.iconst 0, 1) := dk_3 (dk_at dksX9_rows_0 17 rfl rfl)
theorem dX9_rows_18 : decode cX9_rows 18 = .ok (.istore_n 3, 1) := dk_62 (dk_at dksX9_rows_0 18 rfl rfl)
theorem dX9_rows_19 : decode cX9_rows 19 = .ok (.iload_n 3, 1) := dk_29 (dk_at dksX9_rows_0 19 rfl rfl)
theorem dX9_rows_20 : decode cX9_rows 20 = .ok (.aload_n 0, 1) := dk_42 (dk_at dksX9_rows_0 20 rfl rfl)
theorem dX9_rows_21 : decode cX9_rows 21 = .ok (.getfield 13, 3) := dk_180 0 13 (dk_at dksX9_rows_0 21 rfl rfl)
theorem dX9_rows_24 : decode cX9_rows 24 = .ok (.arraylength, 1) := dk_190 (dk_at dksX9_rows_1 0 rfl rfl)
theorem dX9_rows_25 : decode cX9_rows 25 = .ok (.if_icmp .ge 105, 3) := dk_162 0 105 (dk_at dksX9_rows_1 1 rfl rfl)
theorem dX9_rows_28 : decode cX9_rows 28 = .ok (.iconst 4, 1) := dk_7 (dk_at dksX9_rows_1 4 rfl rfl)
theorem dX9_rows_29 : decode cX9_rows 29 = .ok (.newarray .long, 2) := dk_188_11 (dk_at dksX9_rows_1 5 rfl rfl)
theorem dX9_rows_31 : decode cX9_rows 31 = .ok (.dup, 1) := dk_89 (dk_at dksX9_rows_1 7 rfl rfl)
theorem dX9_rows_32 : decode cX9_rows 32 = .ok (.iconst 0, 1) := dk_3 (dk_at dksX9_rows_1 8 rfl rfl)
theorem dX9_rows_33 : decode cX9_rows 33 = .ok (.lconst 1, 1) := dk_10 (dk_at dksX9_rows_1 9 rfl rfl)
theorem dX9_rows_34 : decode cX9_rows 34 = .ok (.lastore, 1) := dk_80 (dk_at dksX9_rows_1 10 rfl rfl)
theorem dX9_rows_35 : decode cX9_rows 35 = .ok (.dup, 1) := dk_89 (dk_at dksX9_rows_1 11 rfl rfl)
theorem dX9_rows_36 : decode cX9_rows 36 = .ok (.iconst 1, 1) := dk_4 (dk_at dksX9_rows_1 12 rfl rfl)
theorem dX9_rows_37 : decode cX9_rows 37 = .ok (.aload_n 0, 1) := dk_42 (dk_at dksX9_rows_1 13 rfl rfl)
theorem dX9_rows_38 : decode cX9_rows 38 = .ok (.iload_n 3, 1) := dk_29 (dk_at dksX9_rows_1 14 rfl rfl)
theorem dX9_rows_39 : decode cX9_rows 39 = .ok (.invokevirtual 62, 3) := dk_182 0 62 (dk_at dksX9_rows_1 15 rfl rfl)
theorem dX9_rows_42 : decode cX9_rows 42 = .ok (.getfield 66, 3) := dk_180 0 66 (dk_at dksX9_rows_1 18 rfl rfl)
theorem dX9_rows_45 : decode cX9_rows 45 = .ok (.i2l, 1) := dk_133 (dk_at dksX9_rows_1 21 rfl rfl)
theorem dX9_rows_46 : decode cX9_rows 46 = .ok (.lastore, 1) := dk_80 (dk_at dksX9_rows_1 22 rfl rfl)
theorem dX9_rows_47 : decode cX9_rows 47 = .ok (.dup, 1) := dk_89 (dk_at dksX9_rows_1 23 rfl rfl)
theorem dX9_rows_48 : decode cX9_rows 48 = .ok (.iconst 2, 1) := dk_5 (dk_at dksX9_rows_2 0 rfl rfl)
theorem dX9_rows_49 : decode cX9_rows 49 = .ok (.aload_n 0, 1) := dk_42 (dk_at dksX9_rows_2 1 rfl rfl)
theorem dX9_rows_50 : decode cX9_rows 50 = .ok (.iload_n 3, 1) := dk_29 (dk_at dksX9_rows_2 2 rfl rfl)
theorem dX9_rows_51 : decode cX9_rows 51 = .ok (.invokevirtual 62, 3) := dk_182 0 62 (dk_at dksX9_rows_2 3 rfl rfl)
theorem dX9_rows_54 : decode cX9_rows 54 = .ok (.getfield 71, 3) := dk_180 0 71 (dk_at dksX9_rows_2 6 rfl rfl)
theorem dX9_rows_57 : decode cX9_rows 57 = .ok (.i2l, 1) := dk_133 (dk_at dksX9_rows_2 9 rfl rfl)
theorem dX9_rows_58 : decode cX9_rows 58 = .ok (.lastore, 1) := dk_80 (dk_at dksX9_rows_2 10 rfl rfl)
theorem dX9_rows_59 : decode cX9_rows 59 = .ok (.dup, 1) := dk_89 (dk_at dksX9_rows_2 11 rfl rfl)
theorem dX9_rows_60 : decode cX9_rows 60 = .ok (.iconst 3, 1) := dk_6 (dk_at dksX9_rows_2 12 rfl rfl)
theorem dX9_rows_61 : decode cX9_rows 61 = .ok (.aload_n 0, 1) := dk_42 (dk_at dksX9_rows_2 13 rfl rfl)
theorem dX9_rows_62 : decode cX9_rows 62 = .ok (.getfield 21, 3) := dk_180 0 21 (dk_at dksX9_rows_2 14 rfl rfl)
theorem dX9_rows_65 : decode cX9_rows 65 = .ok (.iload_n 3, 1) := dk_29 (dk_at dksX9_rows_2 17 rfl rfl)
theorem dX9_rows_66 : decode cX9_rows 66 = .ok (.iaload, 1) := dk_46 (dk_at dksX9_rows_2 18 rfl rfl)
theorem dX9_rows_67 : decode cX9_rows 67 = .ok (.iload_n 2, 1) := dk_28 (dk_at dksX9_rows_2 19 rfl rfl)
theorem dX9_rows_68 : decode cX9_rows 68 = .ok (.isub, 1) := dk_100 (dk_at dksX9_rows_2 20 rfl rfl)
theorem dX9_rows_69 : decode cX9_rows 69 = .ok (.i2l, 1) := dk_133 (dk_at dksX9_rows_2 21 rfl rfl)
theorem dX9_rows_70 : decode cX9_rows 70 = .ok (.lastore, 1) := dk_80 (dk_at dksX9_rows_2 22 rfl rfl)
theorem dX9_rows_71 : decode cX9_rows 71 = .ok (.astore 4, 2) := dk_58 4 (dk_at dksX9_rows_3 0 rfl rfl)
theorem dX9_rows_73 : decode cX9_rows 73 = .ok (.iconst 0, 1) := dk_3 (dk_at dksX9_rows_3 2 rfl rfl)
theorem dX9_rows_74 : decode cX9_rows 74 = .ok (.istore 5, 2) := dk_54 5 (dk_at dksX9_rows_3 3 rfl rfl)
theorem dX9_rows_76 : decode cX9_rows 76 = .ok (.iload 5, 2) := dk_21 5 (dk_at dksX9_rows_3 5 rfl rfl)
theorem dX9_rows_78 : decode cX9_rows 78 = .ok (.iconst 3, 1) := dk_6 (dk_at dksX9_rows_3 7 rfl rfl)
theorem dX9_rows_79 : decode cX9_rows 79 = .ok (.if_icmp .ge 45, 3) := dk_162 0 45 (dk_at dksX9_rows_3 8 rfl rfl)
theorem dX9_rows_82 : decode cX9_rows 82 = .ok (.iconst 0, 1) := dk_3 (dk_at dksX9_rows_3 11 rfl rfl)
theorem dX9_rows_83 : decode cX9_rows 83 = .ok (.istore 6, 2) := dk_54 6 (dk_at dksX9_rows_3 12 rfl rfl)
theorem dX9_rows_85 : decode cX9_rows 85 = .ok (.iload 6, 2) := dk_21 6 (dk_at dksX9_rows_3 14 rfl rfl)
theorem dX9_rows_87 : decode cX9_rows 87 = .ok (.iconst 4, 1) := dk_7 (dk_at dksX9_rows_3 16 rfl rfl)
theorem dX9_rows_88 : decode cX9_rows 88 = .ok (.if_icmp .ge 30, 3) := dk_162 0 30 (dk_at dksX9_rows_3 17 rfl rfl)
theorem dX9_rows_91 : decode cX9_rows 91 = .ok (.aload_n 1, 1) := dk_43 (dk_at dksX9_rows_3 20 rfl rfl)
theorem dX9_rows_92 : decode cX9_rows 92 = .ok (.iload 5, 2) := dk_21 5 (dk_at dksX9_rows_3 21 rfl rfl)
theorem dX9_rows_94 : decode cX9_rows 94 = .ok (.aaload, 1) := dk_50 (dk_at dksX9_rows_3 23 rfl rfl)
theorem dX9_rows_95 : decode cX9_rows 95 = .ok (.iload 6, 2) := dk_21 6 (dk_at dksX9_rows_4 0 rfl rfl)
theorem dX9_rows_97 : decode cX9_rows 97 = .ok (.dup2, 1) := dk_92 (dk_at dksX9_rows_4 2 rfl rfl)
theorem dX9_rows_98 : decode cX9_rows 98 = .ok (.laload, 1) := dk_47 (dk_at dksX9_rows_4 3 rfl rfl)
theorem dX9_rows_99 : decode cX9_rows 99 = .ok (.aload 4, 2) := dk_25 4 (dk_at dksX9_rows_4 4 rfl rfl)
theorem dX9_rows_101 : decode cX9_rows 101 = .ok (.iload 5, 2) := dk_21 5 (dk_at dksX9_rows_4 6 rfl rfl)
theorem dX9_rows_103 : decode cX9_rows 103 = .ok (.laload, 1) := dk_47 (dk_at dksX9_rows_4 8 rfl rfl)
theorem dX9_rows_104 : decode cX9_rows 104 = .ok (.aload 4, 2) := dk_25 4 (dk_at dksX9_rows_4 9 rfl rfl)
theorem dX9_rows_106 : decode cX9_rows 106 = .ok (.iload 6, 2) := dk_21 6 (dk_at dksX9_rows_4 11 rfl rfl)
theorem dX9_rows_108 : decode cX9_rows 108 = .ok (.laload, 1) := dk_47 (dk_at dksX9_rows_4 13 rfl rfl)
theorem dX9_rows_109 : decode cX9_rows 109 = .ok (.lmul, 1) := dk_105 (dk_at dksX9_rows_4 14 rfl rfl)
theorem dX9_rows_110 : decode cX9_rows 110 = .ok (.ladd, 1) := dk_97 (dk_at dksX9_rows_4 15 rfl rfl)
theorem dX9_rows_111 : decode cX9_rows 111 = .ok (.lastore, 1) := dk_80 (dk_at dksX9_rows_4 16 rfl rfl)
theorem dX9_rows_112 : decode cX9_rows 112 = .ok (.iinc 6 1, 3) := dk_132 6 1 (dk_at dksX9_rows_4 17 rfl rfl)
theorem dX9_rows_115 : decode cX9_rows 115 = .ok (.goto (-30), 3) := dk_167 255 226 (dk_at dksX9_rows_4 20 rfl rfl)
theorem dX9_rows_118 : decode cX9_rows 118 = .ok (.iinc 5 1, 3) := dk_132 5 1 (dk_at dksX9_rows_5 0 rfl rfl)
theorem dX9_rows_121 : decode cX9_rows 121 = .ok (.goto (-45), 3) := dk_167 255 211 (dk_at dksX9_rows_5 3 rfl rfl)
theorem dX9_rows_124 : decode cX9_rows 124 = .ok (.iinc 3 1, 3) := dk_132 3 1 (dk_at dksX9_rows_5 6 rfl rfl)
theorem dX9_rows_127 : decode cX9_rows 127 = .ok (.goto (-108), 3) := dk_167 255 148 (dk_at dksX9_rows_5 9 rfl rfl)
theorem dX9_rows_130 : decode cX9_rows 130 = .ok (.aload_n 1, 1) := dk_43 (dk_at dksX9_rows_5 12 rfl rfl)
theorem dX9_rows_131 : decode cX9_rows 131 = .ok (.areturn, 1) := dk_176 (dk_at dksX9_rows_5 13 rfl rfl)
abbrev cX9_tankOf : ByteArray := prog_4_method_3_code
def yX9_tankOf : MethodName := ⟨RX9, "tankOf", "(I)LTankField$Tank;"⟩
def dkwX9_tankOf_0 : List UInt8 := [42, 180, 0, 1, 180, 0, 36, 42, 27, 182, 0, 40, 180, 0, 44, 50, 176]
abbrev dktX9_tankOf_0 : List UInt8 := dkwX9_tankOf_0 ++ []
theorem dksX9_tankOf_0 : cX9_tankOf.data.toList.drop 0 = dktX9_tankOf_0 := by decide +kernel
theorem dX9_tankOf_0 : decode cX9_tankOf 0 = .ok (.aload_n 0, 1) := dk_42 (dk_at dksX9_tankOf_0 0 rfl rfl)
theorem dX9_tankOf_1 : decode cX9_tankOf 1 = .ok (.getfield 1, 3) := dk_180 0 1 (dk_at dksX9_tankOf_0 1 rfl rfl)
theorem dX9_tankOf_4 : decode cX9_tankOf 4 = .ok (.getfield 36, 3) := dk_180 0 36 (dk_at dksX9_tankOf_0 4 rfl rfl)
theorem dX9_tankOf_7 : decode cX9_tankOf 7 = .ok (.aload_n 0, 1) := dk_42 (dk_at dksX9_tankOf_0 7 rfl rfl)
theorem dX9_tankOf_8 : decode cX9_tankOf 8 = .ok (.iload_n 1, 1) := dk_27 (dk_at dksX9_tankOf_0 8 rfl rfl)
theorem dX9_tankOf_9 : decode cX9_tankOf 9 = .ok (.invokevirtual 40, 3) := dk_182 0 40 (dk_at dksX9_tankOf_0 9 rfl rfl)
theorem dX9_tankOf_12 : decode cX9_tankOf 12 = .ok (.getfield 44, 3) := dk_180 0 44 (dk_at dksX9_tankOf_0 12 rfl rfl)
theorem dX9_tankOf_15 : decode cX9_tankOf 15 = .ok (.aaload, 1) := dk_50 (dk_at dksX9_tankOf_0 15 rfl rfl)
theorem dX9_tankOf_16 : decode cX9_tankOf 16 = .ok (.areturn, 1) := dk_176 (dk_at dksX9_tankOf_0 16 rfl rfl)
abbrev cX9_hitOf : ByteArray := prog_4_method_2_code
def yX9_hitOf : MethodName := ⟨RX9, "hitOf", "(I)LTankField$Plain;"⟩
def dkwX9_hitOf_0 : List UInt8 := [42, 180, 0, 1, 180, 0, 24, 42, 180, 0, 13, 27, 46, 50, 176]
abbrev dktX9_hitOf_0 : List UInt8 := dkwX9_hitOf_0 ++ []
theorem dksX9_hitOf_0 : cX9_hitOf.data.toList.drop 0 = dktX9_hitOf_0 := by decide +kernel
theorem dX9_hitOf_0 : decode cX9_hitOf 0 = .ok (.aload_n 0, 1) := dk_42 (dk_at dksX9_hitOf_0 0 rfl rfl)
theorem dX9_hitOf_1 : decode cX9_hitOf 1 = .ok (.getfield 1, 3) := dk_180 0 1 (dk_at dksX9_hitOf_0 1 rfl rfl)
theorem dX9_hitOf_4 : decode cX9_hitOf 4 = .ok (.getfield 24, 3) := dk_180 0 24 (dk_at dksX9_hitOf_0 4 rfl rfl)
theorem dX9_hitOf_7 : decode cX9_hitOf 7 = .ok (.aload_n 0, 1) := dk_42 (dk_at dksX9_hitOf_0 7 rfl rfl)
theorem dX9_hitOf_8 : decode cX9_hitOf 8 = .ok (.getfield 13, 3) := dk_180 0 13 (dk_at dksX9_hitOf_0 8 rfl rfl)
theorem dX9_hitOf_11 : decode cX9_hitOf 11 = .ok (.iload_n 1, 1) := dk_27 (dk_at dksX9_hitOf_0 11 rfl rfl)
theorem dX9_hitOf_12 : decode cX9_hitOf 12 = .ok (.iaload, 1) := dk_46 (dk_at dksX9_hitOf_0 12 rfl rfl)
theorem dX9_hitOf_13 : decode cX9_hitOf 13 = .ok (.aaload, 1) := dk_50 (dk_at dksX9_hitOf_0 13 rfl rfl)
theorem dX9_hitOf_14 : decode cX9_hitOf 14 = .ok (.areturn, 1) := dk_176 (dk_at dksX9_hitOf_0 14 rfl rfl)
abbrev cX9_error : ByteArray := prog_4_method_13_code
def yX9_error : MethodName := ⟨RX9, "error", "(I[J)J"⟩
def dkwX9_error_2 : List UInt8 := [180, 0, 71, 133, 105, 101, 173]
abbrev dktX9_error_2 : List UInt8 := dkwX9_error_2 ++ []
def dkwX9_error_1 : List UInt8 := [101, 44, 5, 47, 42, 27, 182, 0, 62, 180, 0, 66, 133, 105, 101, 44, 6, 47, 42, 27, 182, 0, 62]
abbrev dktX9_error_1 : List UInt8 := dkwX9_error_1 ++ dktX9_error_2
def dkwX9_error_0 : List UInt8 := [42, 180, 0, 21, 27, 46, 42, 180, 0, 21, 42, 182, 0, 53, 46, 100, 133, 44, 3, 47, 105, 44, 4, 47]
abbrev dktX9_error_0 : List UInt8 := dkwX9_error_0 ++ dktX9_error_1
theorem dksX9_error_0 : cX9_error.data.toList.drop 0 = dktX9_error_0 := by decide +kernel
theorem dksX9_error_1 : cX9_error.data.toList.drop 24 = dktX9_error_1 := dk_seg dksX9_error_0 24 rfl rfl
theorem dksX9_error_2 : cX9_error.data.toList.drop 47 = dktX9_error_2 := dk_seg dksX9_error_1 23 rfl rfl
theorem dX9_error_0 : decode cX9_error 0 = .ok (.aload_n 0, 1) := dk_42 (dk_at dksX9_error_0 0 rfl rfl)
theorem dX9_error_1 : decode cX9_error 1 = .ok (.getfield 21, 3) := dk_180 0 21 (dk_at dksX9_error_0 1 rfl rfl)
theorem dX9_error_4 : decode cX9_error 4 = .ok (.iload_n 1, 1) := dk_27 (dk_at dksX9_error_0 4 rfl rfl)
theorem dX9_error_5 : decode cX9_error 5 = .ok (.iaload, 1) := dk_46 (dk_at dksX9_error_0 5 rfl rfl)
theorem dX9_error_6 : decode cX9_error 6 = .ok (.aload_n 0, 1) := dk_42 (dk_at dksX9_error_0 6 rfl rfl)
theorem dX9_error_7 : decode cX9_error 7 = .ok (.getfield 21, 3) := dk_180 0 21 (dk_at dksX9_error_0 7 rfl rfl)
theorem dX9_error_10 : decode cX9_error 10 = .ok (.aload_n 0, 1) := dk_42 (dk_at dksX9_error_0 10 rfl rfl)
theorem dX9_error_11 : decode cX9_error 11 = .ok (.invokevirtual 53, 3) := dk_182 0 53 (dk_at dksX9_error_0 11 rfl rfl)
theorem dX9_error_14 : decode cX9_error 14 = .ok (.iaload, 1) := dk_46 (dk_at dksX9_error_0 14 rfl rfl)
theorem dX9_error_15 : decode cX9_error 15 = .ok (.isub, 1) := dk_100 (dk_at dksX9_error_0 15 rfl rfl)
theorem dX9_error_16 : decode cX9_error 16 = .ok (.i2l, 1) := dk_133 (dk_at dksX9_error_0 16 rfl rfl)
theorem dX9_error_17 : decode cX9_error 17 = .ok (.aload_n 2, 1) := dk_44 (dk_at dksX9_error_0 17 rfl rfl)
theorem dX9_error_18 : decode cX9_error 18 = .ok (.iconst 0, 1) := dk_3 (dk_at dksX9_error_0 18 rfl rfl)
theorem dX9_error_19 : decode cX9_error 19 = .ok (.laload, 1) := dk_47 (dk_at dksX9_error_0 19 rfl rfl)
theorem dX9_error_20 : decode cX9_error 20 = .ok (.lmul, 1) := dk_105 (dk_at dksX9_error_0 20 rfl rfl)
theorem dX9_error_21 : decode cX9_error 21 = .ok (.aload_n 2, 1) := dk_44 (dk_at dksX9_error_0 21 rfl rfl)
theorem dX9_error_22 : decode cX9_error 22 = .ok (.iconst 1, 1) := dk_4 (dk_at dksX9_error_0 22 rfl rfl)
theorem dX9_error_23 : decode cX9_error 23 = .ok (.laload, 1) := dk_47 (dk_at dksX9_error_0 23 rfl rfl)
theorem dX9_error_24 : decode cX9_error 24 = .ok (.lsub, 1) := dk_101 (dk_at dksX9_error_1 0 rfl rfl)
theorem dX9_error_25 : decode cX9_error 25 = .ok (.aload_n 2, 1) := dk_44 (dk_at dksX9_error_1 1 rfl rfl)
theorem dX9_error_26 : decode cX9_error 26 = .ok (.iconst 2, 1) := dk_5 (dk_at dksX9_error_1 2 rfl rfl)
theorem dX9_error_27 : decode cX9_error 27 = .ok (.laload, 1) := dk_47 (dk_at dksX9_error_1 3 rfl rfl)
theorem dX9_error_28 : decode cX9_error 28 = .ok (.aload_n 0, 1) := dk_42 (dk_at dksX9_error_1 4 rfl rfl)
theorem dX9_error_29 : decode cX9_error 29 = .ok (.iload_n 1, 1) := dk_27 (dk_at dksX9_error_1 5 rfl rfl)
theorem dX9_error_30 : decode cX9_error 30 = .ok (.invokevirtual 62, 3) := dk_182 0 62 (dk_at dksX9_error_1 6 rfl rfl)
theorem dX9_error_33 : decode cX9_error 33 = .ok (.getfield 66, 3) := dk_180 0 66 (dk_at dksX9_error_1 9 rfl rfl)
theorem dX9_error_36 : decode cX9_error 36 = .ok (.i2l, 1) := dk_133 (dk_at dksX9_error_1 12 rfl rfl)
theorem dX9_error_37 : decode cX9_error 37 = .ok (.lmul, 1) := dk_105 (dk_at dksX9_error_1 13 rfl rfl)
theorem dX9_error_38 : decode cX9_error 38 = .ok (.lsub, 1) := dk_101 (dk_at dksX9_error_1 14 rfl rfl)
theorem dX9_error_39 : decode cX9_error 39 = .ok (.aload_n 2, 1) := dk_44 (dk_at dksX9_error_1 15 rfl rfl)
theorem dX9_error_40 : decode cX9_error 40 = .ok (.iconst 3, 1) := dk_6 (dk_at dksX9_error_1 16 rfl rfl)
theorem dX9_error_41 : decode cX9_error 41 = .ok (.laload, 1) := dk_47 (dk_at dksX9_error_1 17 rfl rfl)
theorem dX9_error_42 : decode cX9_error 42 = .ok (.aload_n 0, 1) := dk_42 (dk_at dksX9_error_1 18 rfl rfl)
theorem dX9_error_43 : decode cX9_error 43 = .ok (.iload_n 1, 1) := dk_27 (dk_at dksX9_error_1 19 rfl rfl)
theorem dX9_error_44 : decode cX9_error 44 = .ok (.invokevirtual 62, 3) := dk_182 0 62 (dk_at dksX9_error_1 20 rfl rfl)
theorem dX9_error_47 : decode cX9_error 47 = .ok (.getfield 71, 3) := dk_180 0 71 (dk_at dksX9_error_2 0 rfl rfl)
theorem dX9_error_50 : decode cX9_error 50 = .ok (.i2l, 1) := dk_133 (dk_at dksX9_error_2 3 rfl rfl)
theorem dX9_error_51 : decode cX9_error 51 = .ok (.lmul, 1) := dk_105 (dk_at dksX9_error_2 4 rfl rfl)
theorem dX9_error_52 : decode cX9_error 52 = .ok (.lsub, 1) := dk_101 (dk_at dksX9_error_2 5 rfl rfl)
theorem dX9_error_53 : decode cX9_error 53 = .ok (.lreturn, 1) := dk_173 (dk_at dksX9_error_2 6 rfl rfl)
theorem q62 : (Jvm.Cond.initialized "TankField$Event") ∈ lw_all := lw_g (lw_at lw_m1 20 rfl) rfl
theorem q98 : (Jvm.Cond.fieldLinkNest "TankField$Event" (36 : Nat) "TankField" "tanks" "[LTankField$Tank;" "TankField") ∈ lw_tbl := lw_at lw_m1 56 rfl
theorem q105 : (Jvm.Cond.fieldLinkNest "TankField$Event" (24 : Nat) "TankField" "hits" "[LTankField$Plain;" "TankField") ∈ lw_tbl := lw_at lw_m1 63 rfl
theorem q162 : (Jvm.Cond.fieldLink "TankField$Event" (66 : Nat) "TankField$Tank" "x" "I") ∈ lw_all := lw_g (lw_at lw_m1 120 rfl) rfl
theorem q165 : (Jvm.Cond.fieldLink "TankField$Event" (71 : Nat) "TankField$Tank" "y" "I") ∈ lw_all := lw_g (lw_at lw_m1 123 rfl) rfl
theorem q256 : (Jvm.Cond.fieldLink "TankField$Event" (44 : Nat) "TankField$Plain" "tank" "I") ∈ lw_all := lw_g (lw_at lw_m1 214 rfl) rfl
theorem q342 : (Jvm.Cond.instanceMethod ({ cls := "TankField$Event", name := "hasTank", desc := "(I)Z" } : Jvm.MethodName)) ∈ lw_all := lw_g (lw_at lw_m2 60 rfl) rfl
theorem q343 : (Jvm.Cond.selects "TankField$Event" ({ cls := "TankField$Event", name := "hasTank", desc := "(I)Z" } : Jvm.MethodName) ({ cls := "TankField$Event", name := "hasTank", desc := "(I)Z" } : Jvm.MethodName)) ∈ lw_all := lw_g (lw_at lw_m2 61 rfl) rfl
theorem q344 : (Jvm.Cond.code ({ cls := "TankField$Event", name := "hasTank", desc := "(I)Z" } : Jvm.MethodName) prog_4_method_7_code (7 : Nat) (Option.some Jvm.ClassFile.FieldType.boolean)) ∈ lw_all := lw_g (lw_at lw_m2 62 rfl) rfl
theorem q396 : (Jvm.Cond.instanceMethod ({ cls := "TankField$Event", name := "has", desc := "(I)Z" } : Jvm.MethodName)) ∈ lw_all := lw_g (lw_at lw_m2 114 rfl) rfl
theorem q397 : (Jvm.Cond.selects "TankField$Event" ({ cls := "TankField$Event", name := "has", desc := "(I)Z" } : Jvm.MethodName) ({ cls := "TankField$Event", name := "has", desc := "(I)Z" } : Jvm.MethodName)) ∈ lw_all := lw_g (lw_at lw_m2 115 rfl) rfl
theorem q398 : (Jvm.Cond.code ({ cls := "TankField$Event", name := "has", desc := "(I)Z" } : Jvm.MethodName) prog_4_method_8_code (7 : Nat) (Option.some Jvm.ClassFile.FieldType.boolean)) ∈ lw_all := lw_g (lw_at lw_m2 116 rfl) rfl
theorem q435 : (Jvm.Cond.instantiable "TankField$Event" (4 : Nat)) ∈ lw_all := lw_g (lw_at lw_m2 153 rfl) rfl
theorem q437 : (Jvm.Cond.instanceMethod ({ cls := "TankField$Event", name := "<init>", desc := "(LTankField;[II)V" } : Jvm.MethodName)) ∈ lw_all := lw_g (lw_at lw_m2 155 rfl) rfl
theorem q438 : (Jvm.Cond.code ({ cls := "TankField$Event", name := "<init>", desc := "(LTankField;[II)V" } : Jvm.MethodName) prog_4_method_1_code (5 : Nat) (Option.none : Option Jvm.ClassFile.FieldType)) ∈ lw_all := lw_g (lw_at lw_m2 156 rfl) rfl
theorem q439 : (Jvm.Cond.methodLink "TankField$Event" (7 : Nat) ({ cls := "java/lang/Object", name := "<init>", desc := "()V" } : Jvm.MethodName)) ∈ lw_all := lw_g (lw_at lw_m2 157 rfl) rfl
theorem q440 : (Jvm.Cond.methodLink "TankField$Event" (30 : Nat) ({ cls := "TankField$Plain", name := "right", desc := "()I" } : Jvm.MethodName)) ∈ lw_all := lw_g (lw_at lw_m2 158 rfl) rfl
theorem q441 : (Jvm.Cond.fieldLink "TankField$Event" (13 : Nat) "TankField$Event" "members" "[I") ∈ lw_all := lw_g (lw_at lw_m2 159 rfl) rfl
theorem q443 : (Jvm.Cond.fieldLink "TankField$Event" (21 : Nat) "TankField$Event" "times" "[I") ∈ lw_all := lw_g (lw_at lw_m2 161 rfl) rfl
theorem q445 : (Jvm.Cond.fieldLink "TankField$Event" (17 : Nat) "TankField$Event" "all" "I") ∈ lw_all := lw_g (lw_at lw_m2 163 rfl) rfl
theorem q447 : (Jvm.Cond.fieldLink "TankField$Event" (1 : Nat) "TankField$Event" "this$0" "LTankField;") ∈ lw_all := lw_g (lw_at lw_m2 165 rfl) rfl
theorem q448 : (Jvm.Cond.laysFinal "TankField$Event" "TankField$Event" "members" "[I") ∈ lw_all := lw_g (lw_at lw_m2 166 rfl) rfl
theorem q449 : (Jvm.Cond.soleField "TankField$Event" "members") ∈ lw_all := lw_g (lw_at lw_m2 167 rfl) rfl
theorem q450 : (Jvm.Cond.laysFinal "TankField$Event" "TankField$Event" "times" "[I") ∈ lw_all := lw_g (lw_at lw_m2 168 rfl) rfl
theorem q451 : (Jvm.Cond.soleField "TankField$Event" "times") ∈ lw_all := lw_g (lw_at lw_m2 169 rfl) rfl
theorem q452 : (Jvm.Cond.laysFinal "TankField$Event" "TankField$Event" "all" "I") ∈ lw_all := lw_g (lw_at lw_m2 170 rfl) rfl
theorem q453 : (Jvm.Cond.soleField "TankField$Event" "all") ∈ lw_all := lw_g (lw_at lw_m2 171 rfl) rfl
theorem q454 : (Jvm.Cond.laysFinal "TankField$Event" "TankField$Event" "this$0" "LTankField;") ∈ lw_all := lw_g (lw_at lw_m2 172 rfl) rfl
theorem q455 : (Jvm.Cond.soleField "TankField$Event" "this$0") ∈ lw_all := lw_g (lw_at lw_m2 173 rfl) rfl
theorem q456 : (Jvm.Cond.superclass "TankField$Event" "java/lang/Object") ∈ lw_all := lw_g (lw_at lw_m2 174 rfl) rfl
theorem q465 : (Jvm.Cond.instanceMethod ({ cls := "TankField$Event", name := "isAhead", desc := "(LTankField$Event;)Z" } : Jvm.MethodName)) ∈ lw_all := lw_g (lw_at lw_m2 183 rfl) rfl
theorem q466 : (Jvm.Cond.selects "TankField$Event" ({ cls := "TankField$Event", name := "isAhead", desc := "(LTankField$Event;)Z" } : Jvm.MethodName) ({ cls := "TankField$Event", name := "isAhead", desc := "(LTankField$Event;)Z" } : Jvm.MethodName)) ∈ lw_all := lw_g (lw_at lw_m2 184 rfl) rfl
theorem q467 : (Jvm.Cond.code ({ cls := "TankField$Event", name := "isAhead", desc := "(LTankField$Event;)Z" } : Jvm.MethodName) prog_4_method_6_code (4 : Nat) (Option.some Jvm.ClassFile.FieldType.boolean)) ∈ lw_all := lw_g (lw_at lw_m2 185 rfl) rfl
theorem q468 : (Jvm.Cond.methodLink "TankField$Event" (53 : Nat) ({ cls := "TankField$Event", name := "first", desc := "()I" } : Jvm.MethodName)) ∈ lw_all := lw_g (lw_at lw_m2 186 rfl) rfl
theorem q469 : (Jvm.Cond.instanceMethod ({ cls := "TankField$Event", name := "first", desc := "()I" } : Jvm.MethodName)) ∈ lw_all := lw_g (lw_at lw_m2 187 rfl) rfl
theorem q470 : (Jvm.Cond.selects "TankField$Event" ({ cls := "TankField$Event", name := "first", desc := "()I" } : Jvm.MethodName) ({ cls := "TankField$Event", name := "first", desc := "()I" } : Jvm.MethodName)) ∈ lw_all := lw_g (lw_at lw_m2 188 rfl) rfl
theorem q471 : (Jvm.Cond.code ({ cls := "TankField$Event", name := "first", desc := "()I" } : Jvm.MethodName) prog_4_method_4_code (3 : Nat) (Option.some Jvm.ClassFile.FieldType.int)) ∈ lw_all := lw_g (lw_at lw_m2 189 rfl) rfl
theorem q481 : (Jvm.Cond.instanceMethod ({ cls := "TankField$Event", name := "isSame", desc := "(LTankField$Event;)Z" } : Jvm.MethodName)) ∈ lw_all := lw_g (lw_at lw_m2 199 rfl) rfl
theorem q482 : (Jvm.Cond.selects "TankField$Event" ({ cls := "TankField$Event", name := "isSame", desc := "(LTankField$Event;)Z" } : Jvm.MethodName) ({ cls := "TankField$Event", name := "isSame", desc := "(LTankField$Event;)Z" } : Jvm.MethodName)) ∈ lw_all := lw_g (lw_at lw_m2 200 rfl) rfl
theorem q483 : (Jvm.Cond.code ({ cls := "TankField$Event", name := "isSame", desc := "(LTankField$Event;)Z" } : Jvm.MethodName) prog_4_method_9_code (4 : Nat) (Option.some Jvm.ClassFile.FieldType.boolean)) ∈ lw_all := lw_g (lw_at lw_m2 201 rfl) rfl
theorem q502 : (Jvm.Cond.instanceMethod ({ cls := "TankField$Event", name := "last", desc := "()I" } : Jvm.MethodName)) ∈ lw_all := lw_g (lw_at lw_m2 220 rfl) rfl
theorem q503 : (Jvm.Cond.selects "TankField$Event" ({ cls := "TankField$Event", name := "last", desc := "()I" } : Jvm.MethodName) ({ cls := "TankField$Event", name := "last", desc := "()I" } : Jvm.MethodName)) ∈ lw_all := lw_g (lw_at lw_m2 221 rfl) rfl
theorem q504 : (Jvm.Cond.code ({ cls := "TankField$Event", name := "last", desc := "()I" } : Jvm.MethodName) prog_4_method_5_code (6 : Nat) (Option.some Jvm.ClassFile.FieldType.int)) ∈ lw_all := lw_g (lw_at lw_m2 222 rfl) rfl
theorem q505 : (Jvm.Cond.methodLink "TankField$Event" (47 : Nat) ({ cls := "java/lang/Math", name := "max", desc := "(II)I" } : Jvm.MethodName)) ∈ lw_all := lw_g (lw_at lw_m2 223 rfl) rfl
theorem q509 : (Jvm.Cond.instanceMethod ({ cls := "TankField$Event", name := "isSure", desc := "()Z" } : Jvm.MethodName)) ∈ lw_all := lw_g (lw_at lw_m2 227 rfl) rfl
theorem q510 : (Jvm.Cond.selects "TankField$Event" ({ cls := "TankField$Event", name := "isSure", desc := "()Z" } : Jvm.MethodName) ({ cls := "TankField$Event", name := "isSure", desc := "()Z" } : Jvm.MethodName)) ∈ lw_all := lw_g (lw_at lw_m2 228 rfl) rfl
theorem q511 : (Jvm.Cond.code ({ cls := "TankField$Event", name := "isSure", desc := "()Z" } : Jvm.MethodName) prog_4_method_10_code (6 : Nat) (Option.some Jvm.ClassFile.FieldType.boolean)) ∈ lw_all := lw_g (lw_at lw_m2 229 rfl) rfl
theorem q512 : (Jvm.Cond.methodLink "TankField$Event" (56 : Nat) ({ cls := "TankField$Plain", name := "isSure", desc := "()Z" } : Jvm.MethodName)) ∈ lw_all := lw_g (lw_at lw_m2 230 rfl) rfl
theorem q535 : (Jvm.Cond.instanceMethod ({ cls := "TankField$Event", name := "front", desc := "()[J" } : Jvm.MethodName)) ∈ lw_all := lw_g (lw_at lw_m3 13 rfl) rfl
theorem q536 : (Jvm.Cond.selects "TankField$Event" ({ cls := "TankField$Event", name := "front", desc := "()[J" } : Jvm.MethodName) ({ cls := "TankField$Event", name := "front", desc := "()[J" } : Jvm.MethodName)) ∈ lw_all := lw_g (lw_at lw_m3 14 rfl) rfl
theorem q537 : (Jvm.Cond.code ({ cls := "TankField$Event", name := "front", desc := "()[J" } : Jvm.MethodName) prog_4_method_12_code (7 : Nat) (Option.some (Jvm.ClassFile.FieldType.array Jvm.ClassFile.FieldType.long))) ∈ lw_all := lw_g (lw_at lw_m3 15 rfl) rfl
theorem q538 : (Jvm.Cond.methodLink "TankField$Event" (74 : Nat) ({ cls := "TankField$Event", name := "rows", desc := "()[[J" } : Jvm.MethodName)) ∈ lw_all := lw_g (lw_at lw_m3 16 rfl) rfl
theorem q539 : (Jvm.Cond.instanceMethod ({ cls := "TankField$Event", name := "rows", desc := "()[[J" } : Jvm.MethodName)) ∈ lw_all := lw_g (lw_at lw_m3 17 rfl) rfl
theorem q540 : (Jvm.Cond.selects "TankField$Event" ({ cls := "TankField$Event", name := "rows", desc := "()[[J" } : Jvm.MethodName) ({ cls := "TankField$Event", name := "rows", desc := "()[[J" } : Jvm.MethodName)) ∈ lw_all := lw_g (lw_at lw_m3 18 rfl) rfl
theorem q541 : (Jvm.Cond.code ({ cls := "TankField$Event", name := "rows", desc := "()[[J" } : Jvm.MethodName) prog_4_method_11_code (7 : Nat) (Option.some (Jvm.ClassFile.FieldType.array (Jvm.ClassFile.FieldType.array Jvm.ClassFile.FieldType.long)))) ∈ lw_all := lw_g (lw_at lw_m3 19 rfl) rfl
theorem q542 : (Jvm.Cond.classLink "TankField$Event" (60 : Nat) "[[J") ∈ lw_all := lw_g (lw_at lw_m3 20 rfl) rfl
theorem q544 : (Jvm.Cond.methodLink "TankField$Event" (62 : Nat) ({ cls := "TankField$Event", name := "tankOf", desc := "(I)LTankField$Tank;" } : Jvm.MethodName)) ∈ lw_all := lw_g (lw_at lw_m3 22 rfl) rfl
theorem q545 : (Jvm.Cond.instanceMethod ({ cls := "TankField$Event", name := "tankOf", desc := "(I)LTankField$Tank;" } : Jvm.MethodName)) ∈ lw_all := lw_g (lw_at lw_m3 23 rfl) rfl
theorem q546 : (Jvm.Cond.selects "TankField$Event" ({ cls := "TankField$Event", name := "tankOf", desc := "(I)LTankField$Tank;" } : Jvm.MethodName) ({ cls := "TankField$Event", name := "tankOf", desc := "(I)LTankField$Tank;" } : Jvm.MethodName)) ∈ lw_all := lw_g (lw_at lw_m3 24 rfl) rfl
theorem q547 : (Jvm.Cond.code ({ cls := "TankField$Event", name := "tankOf", desc := "(I)LTankField$Tank;" } : Jvm.MethodName) prog_4_method_3_code (2 : Nat) (Option.some (Jvm.ClassFile.FieldType.object "TankField$Tank"))) ∈ lw_all := lw_g (lw_at lw_m3 25 rfl) rfl
theorem q548 : (Jvm.Cond.methodLink "TankField$Event" (40 : Nat) ({ cls := "TankField$Event", name := "hitOf", desc := "(I)LTankField$Plain;" } : Jvm.MethodName)) ∈ lw_all := lw_g (lw_at lw_m3 26 rfl) rfl
theorem q549 : (Jvm.Cond.instanceMethod ({ cls := "TankField$Event", name := "hitOf", desc := "(I)LTankField$Plain;" } : Jvm.MethodName)) ∈ lw_all := lw_g (lw_at lw_m3 27 rfl) rfl
theorem q550 : (Jvm.Cond.selects "TankField$Event" ({ cls := "TankField$Event", name := "hitOf", desc := "(I)LTankField$Plain;" } : Jvm.MethodName) ({ cls := "TankField$Event", name := "hitOf", desc := "(I)LTankField$Plain;" } : Jvm.MethodName)) ∈ lw_all := lw_g (lw_at lw_m3 28 rfl) rfl
theorem q551 : (Jvm.Cond.code ({ cls := "TankField$Event", name := "hitOf", desc := "(I)LTankField$Plain;" } : Jvm.MethodName) prog_4_method_2_code (2 : Nat) (Option.some (Jvm.ClassFile.FieldType.object "TankField$Plain"))) ∈ lw_all := lw_g (lw_at lw_m3 29 rfl) rfl
theorem q558 : (Jvm.Cond.instanceMethod ({ cls := "TankField$Event", name := "error", desc := "(I[J)J" } : Jvm.MethodName)) ∈ lw_all := lw_g (lw_at lw_m3 36 rfl) rfl
theorem q559 : (Jvm.Cond.selects "TankField$Event" ({ cls := "TankField$Event", name := "error", desc := "(I[J)J" } : Jvm.MethodName) ({ cls := "TankField$Event", name := "error", desc := "(I[J)J" } : Jvm.MethodName)) ∈ lw_all := lw_g (lw_at lw_m3 37 rfl) rfl
theorem q560 : (Jvm.Cond.code ({ cls := "TankField$Event", name := "error", desc := "(I[J)J" } : Jvm.MethodName) prog_4_method_13_code (3 : Nat) (Option.some Jvm.ClassFile.FieldType.long)) ∈ lw_all := lw_g (lw_at lw_m3 38 rfl) rfl
theorem in_X9 : ∀ w ∈ wsX90, w ∈ lw_all := lw_in wsX90 [448, 450, 452, 454] (by decide +kernel) (by decide +kernel)

/-! TankField$Sheet -/
set_option maxRecDepth 100000
def RX10 : String := "TankField$Sheet"
def TX10 : u_T := fun k => match k with
  | _ => ("TankField$Sheet", "row", "Ljava/lang/Object;", true)
def tyX10 : Nat → FieldType := fun k => match k with
  | _ => .object "java/lang/Object"
abbrev wsX100 : List Cond := u_ws RX10 TX10 1
theorem nmX10 : ∀ a, a < 1 → ∀ b, b < 1 → a ≠ b → (TX10 a).2.1 ≠ (TX10 b).2.1 := by decide +kernel
theorem tyX10_ok : ∀ k, k < 1 → parseFieldDescriptor (TX10 k).2.2.1 = some (tyX10 k) := by decide +kernel
abbrev cX10_init : ByteArray := prog_7_method_1_code
def yX10_init : MethodName := ⟨RX10, "<init>", "(Ljava/lang/Object;)V"⟩
def dkwX10_init_0 : List UInt8 := [42, 183, 0, 1, 42, 43, 181, 0, 7, 177]
abbrev dktX10_init_0 : List UInt8 := dkwX10_init_0 ++ []
theorem dksX10_init_0 : cX10_init.data.toList.drop 0 = dktX10_init_0 := by decide +kernel
theorem dX10_init_0 : decode cX10_init 0 = .ok (.aload_n 0, 1) := dk_42 (dk_at dksX10_init_0 0 rfl rfl)
theorem dX10_init_1 : decode cX10_init 1 = .ok (.invokespecial 1, 3) := dk_183 0 1 (dk_at dksX10_init_0 1 rfl rfl)
theorem dX10_init_4 : decode cX10_init 4 = .ok (.aload_n 0, 1) := dk_42 (dk_at dksX10_init_0 4 rfl rfl)
theorem dX10_init_5 : decode cX10_init 5 = .ok (.aload_n 1, 1) := dk_43 (dk_at dksX10_init_0 5 rfl rfl)
theorem dX10_init_6 : decode cX10_init 6 = .ok (.putfield 7, 3) := dk_181 0 7 (dk_at dksX10_init_0 6 rfl rfl)
theorem dX10_init_9 : decode cX10_init 9 = .ok (.return_, 1) := dk_177 (dk_at dksX10_init_0 9 rfl rfl)
theorem q64 : (Jvm.Cond.initialized "TankField$Sheet") ∈ lw_all := lw_g (lw_at lw_m1 22 rfl) rfl
theorem q671 : (Jvm.Cond.instantiable "TankField$Sheet" (1 : Nat)) ∈ lw_all := lw_g (lw_at lw_m3 149 rfl) rfl
theorem q676 : (Jvm.Cond.instanceMethod ({ cls := "TankField$Sheet", name := "<init>", desc := "(Ljava/lang/Object;)V" } : Jvm.MethodName)) ∈ lw_all := lw_g (lw_at lw_m3 154 rfl) rfl
theorem q677 : (Jvm.Cond.code ({ cls := "TankField$Sheet", name := "<init>", desc := "(Ljava/lang/Object;)V" } : Jvm.MethodName) prog_7_method_1_code (2 : Nat) (Option.none : Option Jvm.ClassFile.FieldType)) ∈ lw_all := lw_g (lw_at lw_m3 155 rfl) rfl
theorem q678 : (Jvm.Cond.methodLink "TankField$Sheet" (1 : Nat) ({ cls := "java/lang/Object", name := "<init>", desc := "()V" } : Jvm.MethodName)) ∈ lw_all := lw_g (lw_at lw_m3 156 rfl) rfl
theorem q679 : (Jvm.Cond.fieldLink "TankField$Sheet" (7 : Nat) "TankField$Sheet" "row" "Ljava/lang/Object;") ∈ lw_all := lw_g (lw_at lw_m3 157 rfl) rfl
theorem q681 : (Jvm.Cond.laysFinal "TankField$Sheet" "TankField$Sheet" "row" "Ljava/lang/Object;") ∈ lw_all := lw_g (lw_at lw_m3 159 rfl) rfl
theorem q682 : (Jvm.Cond.soleField "TankField$Sheet" "row") ∈ lw_all := lw_g (lw_at lw_m3 160 rfl) rfl
theorem q683 : (Jvm.Cond.superclass "TankField$Sheet" "java/lang/Object") ∈ lw_all := lw_g (lw_at lw_m3 161 rfl) rfl
theorem in_X10 : ∀ w ∈ wsX100, w ∈ lw_all := lw_in wsX100 [681] (by decide +kernel) (by decide +kernel)

/-! TankField$Weighed -/
set_option maxRecDepth 100000
def RX11 : String := "TankField$Weighed"
abbrev cX11_weighed : ByteArray := prog_11_method_4_code
def yX11_weighed : MethodName := ⟨RX11, "weighed", "()I"⟩
def dkwX11_weighed_0 : List UInt8 := [42, 7, 185, 0, 1, 2, 0, 42, 185, 0, 7, 1, 0, 96, 42, 185, 0, 11, 1, 0, 96, 172]
abbrev dktX11_weighed_0 : List UInt8 := dkwX11_weighed_0 ++ []
theorem dksX11_weighed_0 : cX11_weighed.data.toList.drop 0 = dktX11_weighed_0 := by decide +kernel
theorem dX11_weighed_0 : decode cX11_weighed 0 = .ok (.aload_n 0, 1) := dk_42 (dk_at dksX11_weighed_0 0 rfl rfl)
theorem dX11_weighed_1 : decode cX11_weighed 1 = .ok (.iconst 4, 1) := dk_7 (dk_at dksX11_weighed_0 1 rfl rfl)
theorem dX11_weighed_2 : decode cX11_weighed 2 = .ok (.invokeinterface 1 2, 5) := by decide +kernel
theorem dX11_weighed_7 : decode cX11_weighed 7 = .ok (.aload_n 0, 1) := dk_42 (dk_at dksX11_weighed_0 7 rfl rfl)
theorem dX11_weighed_8 : decode cX11_weighed 8 = .ok (.invokeinterface 7 1, 5) := by decide +kernel
theorem dX11_weighed_13 : decode cX11_weighed 13 = .ok (.iadd, 1) := dk_96 (dk_at dksX11_weighed_0 13 rfl rfl)
theorem dX11_weighed_14 : decode cX11_weighed 14 = .ok (.aload_n 0, 1) := dk_42 (dk_at dksX11_weighed_0 14 rfl rfl)
theorem dX11_weighed_15 : decode cX11_weighed 15 = .ok (.invokeinterface 11 1, 5) := by decide +kernel
theorem dX11_weighed_20 : decode cX11_weighed 20 = .ok (.iadd, 1) := dk_96 (dk_at dksX11_weighed_0 20 rfl rfl)
theorem dX11_weighed_21 : decode cX11_weighed 21 = .ok (.ireturn, 1) := dk_172 (dk_at dksX11_weighed_0 21 rfl rfl)
theorem q840 : (Jvm.Cond.declares ({ cls := "TankField$Weighed", name := "weighed", desc := "()I" } : Jvm.MethodName)) ∈ lw_tbl := lw_at lw_m4 78 rfl
theorem q851 : (Jvm.Cond.instanceMethod ({ cls := "TankField$Weighed", name := "weighed", desc := "()I" } : Jvm.MethodName)) ∈ lw_all := lw_g (lw_at lw_m4 89 rfl) rfl
theorem q852 : (Jvm.Cond.publicMethod ({ cls := "TankField$Weighed", name := "weighed", desc := "()I" } : Jvm.MethodName)) ∈ lw_tbl := lw_at lw_m4 90 rfl
theorem q853 : (Jvm.Cond.code ({ cls := "TankField$Weighed", name := "weighed", desc := "()I" } : Jvm.MethodName) prog_11_method_4_code (1 : Nat) (Option.some Jvm.ClassFile.FieldType.int)) ∈ lw_all := lw_g (lw_at lw_m4 91 rfl) rfl
theorem q854 : (Jvm.Cond.interfaceEntry "TankField$Weighed" (1 : Nat)) ∈ lw_tbl := lw_at lw_m4 92 rfl
theorem q855 : (Jvm.Cond.methodLink "TankField$Weighed" (1 : Nat) ({ cls := "TankField$Weighed", name := "tracedBy", desc := "(I)I" } : Jvm.MethodName)) ∈ lw_all := lw_g (lw_at lw_m4 93 rfl) rfl
theorem q856 : (Jvm.Cond.interfaceMethod "TankField$Weighed" "TankField$Weighed" "tracedBy" "(I)I") ∈ lw_tbl := lw_at lw_m4 94 rfl
theorem q857 : (Jvm.Cond.declares ({ cls := "TankField$Weighed", name := "tracedBy", desc := "(I)I" } : Jvm.MethodName)) ∈ lw_tbl := lw_at lw_m4 95 rfl
theorem q871 : (Jvm.Cond.interfaceEntry "TankField$Weighed" (7 : Nat)) ∈ lw_tbl := lw_at lw_m4 109 rfl
theorem q872 : (Jvm.Cond.methodLink "TankField$Weighed" (7 : Nat) ({ cls := "TankField$Weighed", name := "amount", desc := "()I" } : Jvm.MethodName)) ∈ lw_all := lw_g (lw_at lw_m4 110 rfl) rfl
theorem q873 : (Jvm.Cond.interfaceMethod "TankField$Weighed" "TankField$Weighed" "amount" "()I") ∈ lw_tbl := lw_at lw_m4 111 rfl
theorem q874 : (Jvm.Cond.declares ({ cls := "TankField$Weighed", name := "amount", desc := "()I" } : Jvm.MethodName)) ∈ lw_tbl := lw_at lw_m4 112 rfl
theorem q886 : (Jvm.Cond.interfaceEntry "TankField$Weighed" (11 : Nat)) ∈ lw_tbl := lw_at lw_m4 124 rfl
theorem q887 : (Jvm.Cond.methodLink "TankField$Weighed" (11 : Nat) ({ cls := "TankField$Weighed", name := "kind", desc := "()I" } : Jvm.MethodName)) ∈ lw_all := lw_g (lw_at lw_m4 125 rfl) rfl
theorem q888 : (Jvm.Cond.interfaceMethod "TankField$Weighed" "TankField$Weighed" "kind" "()I") ∈ lw_tbl := lw_at lw_m4 126 rfl
theorem q889 : (Jvm.Cond.declares ({ cls := "TankField$Weighed", name := "kind", desc := "()I" } : Jvm.MethodName)) ∈ lw_tbl := lw_at lw_m4 127 rfl
