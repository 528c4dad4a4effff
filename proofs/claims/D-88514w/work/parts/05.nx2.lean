/-! TankFieldModel -/
set_option maxRecDepth 100000
def RX2 : String := "TankFieldModel"
def TX2 : u_T := fun k => match k with
  | 0 => ("TankFieldModel", "fault", "I", false)
  | 1 => ("TankFieldModel", "trace", "I", false)
  | 2 => ("TankFieldModel", "tanks", "I", false)
  | 3 => ("TankFieldModel", "tankX", "[I", true)
  | 4 => ("TankFieldModel", "tankY", "[I", true)
  | 5 => ("TankFieldModel", "hits", "I", false)
  | 6 => ("TankFieldModel", "hitTank", "[I", true)
  | 7 => ("TankFieldModel", "hitTime", "[I", true)
  | 8 => ("TankFieldModel", "hitLow", "[I", true)
  | 9 => ("TankFieldModel", "hitHigh", "[I", true)
  | 10 => ("TankFieldModel", "clocks", "I", false)
  | 11 => ("TankFieldModel", "clockTank", "[I", true)
  | 12 => ("TankFieldModel", "clockFrom", "[I", true)
  | 13 => ("TankFieldModel", "clockBy", "[I", true)
  | 14 => ("TankFieldModel", "downs", "I", false)
  | 15 => ("TankFieldModel", "downTank", "[I", true)
  | 16 => ("TankFieldModel", "downFrom", "[I", true)
  | 17 => ("TankFieldModel", "downTo", "[I", true)
  | 18 => ("TankFieldModel", "lanes", "[I", true)
  | 19 => ("TankFieldModel", "sheetLong", "[I", true)
  | 20 => ("TankFieldModel", "cells", "[I", true)
  | 21 => ("TankFieldModel", "rules", "[I", true)
  | 22 => ("TankFieldModel", "buildings", "I", false)
  | 23 => ("TankFieldModel", "groupOf", "[I", true)
  | 24 => ("TankFieldModel", "right", "[I", true)
  | 25 => ("TankFieldModel", "queue", "[I", true)
  | 26 => ("TankFieldModel", "made", "I", false)
  | 27 => ("TankFieldModel", "madeGroup", "[I", true)
  | 28 => ("TankFieldModel", "madeFirst", "[I", true)
  | 29 => ("TankFieldModel", "best", "[I", true)
  | 30 => ("TankFieldModel", "keptEvents", "I", false)
  | 31 => ("TankFieldModel", "keptMembers", "I", false)
  | 32 => ("TankFieldModel", "keptFrom", "[I", true)
  | 33 => ("TankFieldModel", "keptHit", "[I", true)
  | 34 => ("TankFieldModel", "keptTime", "[I", true)
  | 35 => ("TankFieldModel", "keptSize", "[I", true)
  | 36 => ("TankFieldModel", "oldEvents", "I", false)
  | 37 => ("TankFieldModel", "oldFrom", "[I", true)
  | 38 => ("TankFieldModel", "oldHit", "[I", true)
  | _ => ("TankFieldModel", "front", "[J", true)
def tyX2 : Nat → FieldType := fun k => match k with
  | 0 => .int
  | 1 => .int
  | 2 => .int
  | 3 => .array .int
  | 4 => .array .int
  | 5 => .int
  | 6 => .array .int
  | 7 => .array .int
  | 8 => .array .int
  | 9 => .array .int
  | 10 => .int
  | 11 => .array .int
  | 12 => .array .int
  | 13 => .array .int
  | 14 => .int
  | 15 => .array .int
  | 16 => .array .int
  | 17 => .array .int
  | 18 => .array .int
  | 19 => .array .int
  | 20 => .array .int
  | 21 => .array .int
  | 22 => .int
  | 23 => .array .int
  | 24 => .array .int
  | 25 => .array .int
  | 26 => .int
  | 27 => .array .int
  | 28 => .array .int
  | 29 => .array .int
  | 30 => .int
  | 31 => .int
  | 32 => .array .int
  | 33 => .array .int
  | 34 => .array .int
  | 35 => .array .int
  | 36 => .int
  | 37 => .array .int
  | 38 => .array .int
  | _ => .array .long
abbrev wsX20 : List Cond := u_ws RX2 TX2 40
set_option maxRecDepth 100000 in
theorem nmX2 : ∀ a, a < 40 → ∀ b, b < 40 → a ≠ b → (TX2 a).2.1 ≠ (TX2 b).2.1 := by decide +kernel
set_option maxRecDepth 100000 in
theorem tyX2_ok : ∀ k, k < 40 → parseFieldDescriptor (TX2 k).2.2.1 = some (tyX2 k) := by decide +kernel
abbrev cX2_init : ByteArray := prog_13_method_1_code
def yX2_init : MethodName := ⟨RX2, "<init>", "()V"⟩
def dkwX2_init_12 : List UInt8 := [177]
abbrev dktX2_init_12 : List UInt8 := dkwX2_init_12 ++ []
def dkwX2_init_11 : List UInt8 := [17, 0, 241, 188, 10, 181, 0, 88, 42, 17, 0, 240, 188, 10, 181, 0, 91, 42, 7, 188, 11, 181, 0, 94]
abbrev dktX2_init_11 : List UInt8 := dkwX2_init_11 ++ dktX2_init_12
def dkwX2_init_10 : List UInt8 := [188, 10, 181, 0, 79, 42, 17, 0, 240, 188, 10, 181, 0, 82, 42, 17, 0, 240, 188, 10, 181, 0, 85, 42]
abbrev dktX2_init_10 : List UInt8 := dkwX2_init_10 ++ dktX2_init_11
def dkwX2_init_9 : List UInt8 := [181, 0, 70, 42, 16, 30, 188, 10, 181, 0, 73, 42, 17, 0, 241, 188, 10, 181, 0, 76, 42, 17, 0, 240]
abbrev dktX2_init_9 : List UInt8 := dkwX2_init_9 ++ dktX2_init_10
def dkwX2_init_8 : List UInt8 := [42, 17, 0, 240, 188, 10, 181, 0, 64, 42, 17, 0, 240, 188, 10, 181, 0, 67, 42, 17, 0, 240, 188, 10]
abbrev dktX2_init_8 : List UInt8 := dkwX2_init_8 ++ dktX2_init_9
def dkwX2_init_7 : List UInt8 := [16, 10, 79, 181, 0, 55, 42, 17, 0, 240, 188, 10, 181, 0, 58, 42, 17, 0, 240, 188, 10, 181, 0, 61]
abbrev dktX2_init_7 : List UInt8 := dkwX2_init_7 ++ dktX2_init_8
def dkwX2_init_6 : List UInt8 := [181, 0, 52, 42, 7, 188, 10, 89, 3, 16, 100, 79, 89, 4, 16, 60, 79, 89, 5, 6, 79, 89, 6]
abbrev dktX2_init_6 : List UInt8 := dkwX2_init_6 ++ dktX2_init_7
def dkwX2_init_5 : List UInt8 := [16, 247, 79, 89, 6, 16, 247, 79, 181, 0, 46, 42, 7, 188, 10, 181, 0, 49, 42, 17, 0, 160, 188, 10]
abbrev dktX2_init_5 : List UInt8 := dkwX2_init_5 ++ dktX2_init_6
def dkwX2_init_4 : List UInt8 := [42, 16, 20, 188, 10, 181, 0, 43, 42, 7, 188, 10, 89, 3, 16, 247, 79, 89, 4, 16, 247, 79, 89, 5]
abbrev dktX2_init_4 : List UInt8 := dkwX2_init_4 ++ dktX2_init_5
def dkwX2_init_3 : List UInt8 := [42, 16, 20, 188, 10, 181, 0, 34, 42, 16, 20, 188, 10, 181, 0, 37, 42, 16, 20, 188, 10, 181, 0, 40]
abbrev dktX2_init_3 : List UInt8 := dkwX2_init_3 ++ dktX2_init_4
def dkwX2_init_2 : List UInt8 := [17, 0, 240, 188, 10, 181, 0, 25, 42, 16, 20, 188, 10, 181, 0, 28, 42, 16, 20, 188, 10, 181, 0, 31]
abbrev dktX2_init_2 : List UInt8 := dkwX2_init_2 ++ dktX2_init_3
def dkwX2_init_1 : List UInt8 := [188, 10, 181, 0, 16, 42, 17, 0, 240, 188, 10, 181, 0, 19, 42, 17, 0, 240, 188, 10, 181, 0, 22, 42]
abbrev dktX2_init_1 : List UInt8 := dkwX2_init_1 ++ dktX2_init_2
def dkwX2_init_0 : List UInt8 := [42, 183, 0, 1, 42, 16, 30, 188, 10, 181, 0, 7, 42, 16, 30, 188, 10, 181, 0, 13, 42, 17, 0, 240]
abbrev dktX2_init_0 : List UInt8 := dkwX2_init_0 ++ dktX2_init_1
theorem dksX2_init_0 : cX2_init.data.toList.drop 0 = dktX2_init_0 := by decide +kernel
theorem dksX2_init_1 : cX2_init.data.toList.drop 24 = dktX2_init_1 := dk_seg dksX2_init_0 24 rfl rfl
theorem dksX2_init_2 : cX2_init.data.toList.drop 48 = dktX2_init_2 := dk_seg dksX2_init_1 24 rfl rfl
theorem dksX2_init_3 : cX2_init.data.toList.drop 72 = dktX2_init_3 := dk_seg dksX2_init_2 24 rfl rfl
theorem dksX2_init_4 : cX2_init.data.toList.drop 96 = dktX2_init_4 := dk_seg dksX2_init_3 24 rfl rfl
theorem dksX2_init_5 : cX2_init.data.toList.drop 120 = dktX2_init_5 := dk_seg dksX2_init_4 24 rfl rfl
theorem dksX2_init_6 : cX2_init.data.toList.drop 144 = dktX2_init_6 := dk_seg dksX2_init_5 24 rfl rfl
theorem dksX2_init_7 : cX2_init.data.toList.drop 167 = dktX2_init_7 := dk_seg dksX2_init_6 23 rfl rfl
theorem dksX2_init_8 : cX2_init.data.toList.drop 191 = dktX2_init_8 := dk_seg dksX2_init_7 24 rfl rfl
theorem dksX2_init_9 : cX2_init.data.toList.drop 215 = dktX2_init_9 := dk_seg dksX2_init_8 24 rfl rfl
theorem dksX2_init_10 : cX2_init.data.toList.drop 239 = dktX2_init_10 := dk_seg dksX2_init_9 24 rfl rfl
theorem dksX2_init_11 : cX2_init.data.toList.drop 263 = dktX2_init_11 := dk_seg dksX2_init_10 24 rfl rfl
theorem dksX2_init_12 : cX2_init.data.toList.drop 287 = dktX2_init_12 := dk_seg dksX2_init_11 24 rfl rfl
theorem dX2_init_0 : decode cX2_init 0 = .ok (.aload_n 0, 1) := dk_42 (dk_at dksX2_init_0 0 rfl rfl)
theorem dX2_init_1 : decode cX2_init 1 = .ok (.invokespecial 1, 3) := dk_183 0 1 (dk_at dksX2_init_0 1 rfl rfl)
theorem dX2_init_4 : decode cX2_init 4 = .ok (.aload_n 0, 1) := dk_42 (dk_at dksX2_init_0 4 rfl rfl)
theorem dX2_init_5 : decode cX2_init 5 = .ok (.bipush 30, 2) := dk_16 30 (dk_at dksX2_init_0 5 rfl rfl)
theorem dX2_init_7 : decode cX2_init 7 = .ok (.newarray .int, 2) := dk_188_10 (dk_at dksX2_init_0 7 rfl rfl)
theorem dX2_init_9 : decode cX2_init 9 = .ok (.putfield 7, 3) := dk_181 0 7 (dk_at dksX2_init_0 9 rfl rfl)
theorem dX2_init_12 : decode cX2_init 12 = .ok (.aload_n 0, 1) := dk_42 (dk_at dksX2_init_0 12 rfl rfl)
theorem dX2_init_13 : decode cX2_init 13 = .ok (.bipush 30, 2) := dk_16 30 (dk_at dksX2_init_0 13 rfl rfl)
theorem dX2_init_15 : decode cX2_init 15 = .ok (.newarray .int, 2) := dk_188_10 (dk_at dksX2_init_0 15 rfl rfl)
theorem dX2_init_17 : decode cX2_init 17 = .ok (.putfield 13, 3) := dk_181 0 13 (dk_at dksX2_init_0 17 rfl rfl)
theorem dX2_init_20 : decode cX2_init 20 = .ok (.aload_n 0, 1) := dk_42 (dk_at dksX2_init_0 20 rfl rfl)
theorem dX2_init_21 : decode cX2_init 21 = .ok (.sipush 240, 3) := dk_17 0 240 (dk_at dksX2_init_0 21 rfl rfl)
theorem dX2_init_24 : decode cX2_init 24 = .ok (.newarray .int, 2) := dk_188_10 (dk_at dksX2_init_1 0 rfl rfl)
theorem dX2_init_26 : decode cX2_init 26 = .ok (.putfield 16, 3) := dk_181 0 16 (dk_at dksX2_init_1 2 rfl rfl)
theorem dX2_init_29 : decode cX2_init 29 = .ok (.aload_n 0, 1) := dk_42 (dk_at dksX2_init_1 5 rfl rfl)
theorem dX2_init_30 : decode cX2_init 30 = .ok (.sipush 240, 3) := dk_17 0 240 (dk_at dksX2_init_1 6 rfl rfl)
theorem dX2_init_33 : decode cX2_init 33 = .ok (.newarray .int, 2) := dk_188_10 (dk_at dksX2_init_1 9 rfl rfl)
theorem dX2_init_35 : decode cX2_init 35 = .ok (.putfield 19, 3) := dk_181 0 19 (dk_at dksX2_init_1 11 rfl rfl)
theorem dX2_init_38 : decode cX2_init 38 = .ok (.aload_n 0, 1) := dk_42 (dk_at dksX2_init_1 14 rfl rfl)
theorem dX2_init_39 : decode cX2_init 39 = .ok (.sipush 240, 3) := dk_17 0 240 (dk_at dksX2_init_1 15 rfl rfl)
theorem dX2_init_42 : decode cX2_init 42 = .ok (.newarray .int, 2) := dk_188_10 (dk_at dksX2_init_1 18 rfl rfl)
theorem dX2_init_44 : decode cX2_init 44 = .ok (.putfield 22, 3) := dk_181 0 22 (dk_at dksX2_init_1 20 rfl rfl)
theorem dX2_init_47 : decode cX2_init 47 = .ok (.aload_n 0, 1) := dk_42 (dk_at dksX2_init_1 23 rfl rfl)
theorem dX2_init_48 : decode cX2_init 48 = .ok (.sipush 240, 3) := dk_17 0 240 (dk_at dksX2_init_2 0 rfl rfl)
theorem dX2_init_51 : decode cX2_init 51 = .ok (.newarray .int, 2) := dk_188_10 (dk_at dksX2_init_2 3 rfl rfl)
theorem dX2_init_53 : decode cX2_init 53 = .ok (.putfield 25, 3) := dk_181 0 25 (dk_at dksX2_init_2 5 rfl rfl)
theorem dX2_init_56 : decode cX2_init 56 = .ok (.aload_n 0, 1) := dk_42 (dk_at dksX2_init_2 8 rfl rfl)
theorem dX2_init_57 : decode cX2_init 57 = .ok (.bipush 20, 2) := dk_16 20 (dk_at dksX2_init_2 9 rfl rfl)
theorem dX2_init_59 : decode cX2_init 59 = .ok (.newarray .int, 2) := dk_188_10 (dk_at dksX2_init_2 11 rfl rfl)
theorem dX2_init_61 : decode cX2_init 61 = .ok (.putfield 28, 3) := dk_181 0 28 (dk_at dksX2_init_2 13 rfl rfl)
theorem dX2_init_64 : decode cX2_init 64 = .ok (.aload_n 0, 1) := dk_42 (dk_at dksX2_init_2 16 rfl rfl)
theorem dX2_init_65 : decode cX2_init 65 = .ok (.bipush 20, 2) := dk_16 20 (dk_at dksX2_init_2 17 rfl rfl)
theorem dX2_init_67 : decode cX2_init 67 = .ok (.newarray .int, 2) := dk_188_10 (dk_at dksX2_init_2 19 rfl rfl)
theorem dX2_init_69 : decode cX2_init 69 = .ok (.putfield 31, 3) := dk_181 0 31 (dk_at dksX2_init_2 21 rfl rfl)
theorem dX2_init_72 : decode cX2_init 72 = .ok (.aload_n 0, 1) := dk_42 (dk_at dksX2_init_3 0 rfl rfl)
theorem dX2_init_73 : decode cX2_init 73 = .ok (.bipush 20, 2) := dk_16 20 (dk_at dksX2_init_3 1 rfl rfl)
theorem dX2_init_75 : decode cX2_init 75 = .ok (.newarray .int, 2) := dk_188_10 (dk_at dksX2_init_3 3 rfl rfl)
theorem dX2_init_77 : decode cX2_init 77 = .ok (.putfield 34, 3) := dk_181 0 34 (dk_at dksX2_init_3 5 rfl rfl)
theorem dX2_init_80 : decode cX2_init 80 = .ok (.aload_n 0, 1) := dk_42 (dk_at dksX2_init_3 8 rfl rfl)
theorem dX2_init_81 : decode cX2_init 81 = .ok (.bipush 20, 2) := dk_16 20 (dk_at dksX2_init_3 9 rfl rfl)
theorem dX2_init_83 : decode cX2_init 83 = .ok (.newarray .int, 2) := dk_188_10 (dk_at dksX2_init_3 11 rfl rfl)
theorem dX2_init_85 : decode cX2_init 85 = .ok (.putfield 37, 3) := dk_181 0 37 (dk_at dksX2_init_3 13 rfl rfl)
theorem dX2_init_88 : decode cX2_init 88 = .ok (.aload_n 0, 1) := dk_42 (dk_at dksX2_init_3 16 rfl rfl)
theorem dX2_init_89 : decode cX2_init 89 = .ok (.bipush 20, 2) := dk_16 20 (dk_at dksX2_init_3 17 rfl rfl)
theorem dX2_init_91 : decode cX2_init 91 = .ok (.newarray .int, 2) := dk_188_10 (dk_at dksX2_init_3 19 rfl rfl)
theorem dX2_init_93 : decode cX2_init 93 = .ok (.putfield 40, 3) := dk_181 0 40 (dk_at dksX2_init_3 21 rfl rfl)
theorem dX2_init_96 : decode cX2_init 96 = .ok (.aload_n 0, 1) := dk_42 (dk_at dksX2_init_4 0 rfl rfl)
theorem dX2_init_97 : decode cX2_init 97 = .ok (.bipush 20, 2) := dk_16 20 (dk_at dksX2_init_4 1 rfl rfl)
theorem dX2_init_99 : decode cX2_init 99 = .ok (.newarray .int, 2) := dk_188_10 (dk_at dksX2_init_4 3 rfl rfl)
theorem dX2_init_101 : decode cX2_init 101 = .ok (.putfield 43, 3) := dk_181 0 43 (dk_at dksX2_init_4 5 rfl rfl)
theorem dX2_init_104 : decode cX2_init 104 = .ok (.aload_n 0, 1) := dk_42 (dk_at dksX2_init_4 8 rfl rfl)
theorem dX2_init_105 : decode cX2_init 105 = .ok (.iconst 4, 1) := dk_7 (dk_at dksX2_init_4 9 rfl rfl)
theorem dX2_init_106 : decode cX2_init 106 = .ok (.newarray .int, 2) := dk_188_10 (dk_at dksX2_init_4 10 rfl rfl)
theorem dX2_init_108 : decode cX2_init 108 = .ok (.dup, 1) := dk_89 (dk_at dksX2_init_4 12 rfl rfl)
theorem dX2_init_109 : decode cX2_init 109 = .ok (.iconst 0, 1) := dk_3 (dk_at dksX2_init_4 13 rfl rfl)
theorem dX2_init_110 : decode cX2_init 110 = .ok (.bipush (-9), 2) := dk_16 247 (dk_at dksX2_init_4 14 rfl rfl)
theorem dX2_init_112 : decode cX2_init 112 = .ok (.iastore, 1) := dk_79 (dk_at dksX2_init_4 16 rfl rfl)
theorem dX2_init_113 : decode cX2_init 113 = .ok (.dup, 1) := dk_89 (dk_at dksX2_init_4 17 rfl rfl)
theorem dX2_init_114 : decode cX2_init 114 = .ok (.iconst 1, 1) := dk_4 (dk_at dksX2_init_4 18 rfl rfl)
theorem dX2_init_115 : decode cX2_init 115 = .ok (.bipush (-9), 2) := dk_16 247 (dk_at dksX2_init_4 19 rfl rfl)
theorem dX2_init_117 : decode cX2_init 117 = .ok (.iastore, 1) := dk_79 (dk_at dksX2_init_4 21 rfl rfl)
theorem dX2_init_118 : decode cX2_init 118 = .ok (.dup, 1) := dk_89 (dk_at dksX2_init_4 22 rfl rfl)
theorem dX2_init_119 : decode cX2_init 119 = .ok (.iconst 2, 1) := dk_5 (dk_at dksX2_init_4 23 rfl rfl)
theorem dX2_init_120 : decode cX2_init 120 = .ok (.bipush (-9), 2) := dk_16 247 (dk_at dksX2_init_5 0 rfl rfl)
theorem dX2_init_122 : decode cX2_init 122 = .ok (.iastore, 1) := dk_79 (dk_at dksX2_init_5 2 rfl rfl)
theorem dX2_init_123 : decode cX2_init 123 = .ok (.dup, 1) := dk_89 (dk_at dksX2_init_5 3 rfl rfl)
theorem dX2_init_124 : decode cX2_init 124 = .ok (.iconst 3, 1) := dk_6 (dk_at dksX2_init_5 4 rfl rfl)
theorem dX2_init_125 : decode cX2_init 125 = .ok (.bipush (-9), 2) := dk_16 247 (dk_at dksX2_init_5 5 rfl rfl)
theorem dX2_init_127 : decode cX2_init 127 = .ok (.iastore, 1) := dk_79 (dk_at dksX2_init_5 7 rfl rfl)
theorem dX2_init_128 : decode cX2_init 128 = .ok (.putfield 46, 3) := dk_181 0 46 (dk_at dksX2_init_5 8 rfl rfl)
theorem dX2_init_131 : decode cX2_init 131 = .ok (.aload_n 0, 1) := dk_42 (dk_at dksX2_init_5 11 rfl rfl)
theorem dX2_init_132 : decode cX2_init 132 = .ok (.iconst 4, 1) := dk_7 (dk_at dksX2_init_5 12 rfl rfl)
theorem dX2_init_133 : decode cX2_init 133 = .ok (.newarray .int, 2) := dk_188_10 (dk_at dksX2_init_5 13 rfl rfl)
theorem dX2_init_135 : decode cX2_init 135 = .ok (.putfield 49, 3) := dk_181 0 49 (dk_at dksX2_init_5 15 rfl rfl)
theorem dX2_init_138 : decode cX2_init 138 = .ok (.aload_n 0, 1) := dk_42 (dk_at dksX2_init_5 18 rfl rfl)
theorem dX2_init_139 : decode cX2_init 139 = .ok (.sipush 160, 3) := dk_17 0 160 (dk_at dksX2_init_5 19 rfl rfl)
theorem dX2_init_142 : decode cX2_init 142 = .ok (.newarray .int, 2) := dk_188_10 (dk_at dksX2_init_5 22 rfl rfl)
theorem dX2_init_144 : decode cX2_init 144 = .ok (.putfield 52, 3) := dk_181 0 52 (dk_at dksX2_init_6 0 rfl rfl)
theorem dX2_init_147 : decode cX2_init 147 = .ok (.aload_n 0, 1) := dk_42 (dk_at dksX2_init_6 3 rfl rfl)
theorem dX2_init_148 : decode cX2_init 148 = .ok (.iconst 4, 1) := dk_7 (dk_at dksX2_init_6 4 rfl rfl)
theorem dX2_init_149 : decode cX2_init 149 = .ok (.newarray .int, 2) := dk_188_10 (dk_at dksX2_init_6 5 rfl rfl)
theorem dX2_init_151 : decode cX2_init 151 = .ok (.dup, 1) := dk_89 (dk_at dksX2_init_6 7 rfl rfl)
theorem dX2_init_152 : decode cX2_init 152 = .ok (.iconst 0, 1) := dk_3 (dk_at dksX2_init_6 8 rfl rfl)
theorem dX2_init_153 : decode cX2_init 153 = .ok (.bipush 100, 2) := dk_16 100 (dk_at dksX2_init_6 9 rfl rfl)
theorem dX2_init_155 : decode cX2_init 155 = .ok (.iastore, 1) := dk_79 (dk_at dksX2_init_6 11 rfl rfl)
theorem dX2_init_156 : decode cX2_init 156 = .ok (.dup, 1) := dk_89 (dk_at dksX2_init_6 12 rfl rfl)
theorem dX2_init_157 : decode cX2_init 157 = .ok (.iconst 1, 1) := dk_4 (dk_at dksX2_init_6 13 rfl rfl)
theorem dX2_init_158 : decode cX2_init 158 = .ok (.bipush 60, 2) := dk_16 60 (dk_at dksX2_init_6 14 rfl rfl)
theorem dX2_init_160 : decode cX2_init 160 = .ok (.iastore, 1) := dk_79 (dk_at dksX2_init_6 16 rfl rfl)
theorem dX2_init_161 : decode cX2_init 161 = .ok (.dup, 1) := dk_89 (dk_at dksX2_init_6 17 rfl rfl)
theorem dX2_init_162 : decode cX2_init 162 = .ok (.iconst 2, 1) := dk_5 (dk_at dksX2_init_6 18 rfl rfl)
theorem dX2_init_163 : decode cX2_init 163 = .ok (.iconst 3, 1) := dk_6 (dk_at dksX2_init_6 19 rfl rfl)
theorem dX2_init_164 : decode cX2_init 164 = .ok (.iastore, 1) := dk_79 (dk_at dksX2_init_6 20 rfl rfl)
theorem dX2_init_165 : decode cX2_init 165 = .ok (.dup, 1) := dk_89 (dk_at dksX2_init_6 21 rfl rfl)
theorem dX2_init_166 : decode cX2_init 166 = .ok (.iconst 3, 1) := dk_6 (dk_at dksX2_init_6 22 rfl rfl)
theorem dX2_init_167 : decode cX2_init 167 = .ok (.bipush 10, 2) := dk_16 10 (dk_at dksX2_init_7 0 rfl rfl)
theorem dX2_init_169 : decode cX2_init 169 = .ok (.iastore, 1) := dk_79 (dk_at dksX2_init_7 2 rfl rfl)
theorem dX2_init_170 : decode cX2_init 170 = .ok (.putfield 55, 3) := dk_181 0 55 (dk_at dksX2_init_7 3 rfl rfl)
theorem dX2_init_173 : decode cX2_init 173 = .ok (.aload_n 0, 1) := dk_42 (dk_at dksX2_init_7 6 rfl rfl)
theorem dX2_init_174 : decode cX2_init 174 = .ok (.sipush 240, 3) := dk_17 0 240 (dk_at dksX2_init_7 7 rfl rfl)
theorem dX2_init_177 : decode cX2_init 177 = .ok (.newarray .int, 2) := dk_188_10 (dk_at dksX2_init_7 10 rfl rfl)
theorem dX2_init_179 : decode cX2_init 179 = .ok (.putfield 58, 3) := dk_181 0 58 (dk_at dksX2_init_7 12 rfl rfl)
theorem dX2_init_182 : decode cX2_init 182 = .ok (.aload_n 0, 1) := dk_42 (dk_at dksX2_init_7 15 rfl rfl)
theorem dX2_init_183 : decode cX2_init 183 = .ok (.sipush 240, 3) := dk_17 0 240 (dk_at dksX2_init_7 16 rfl rfl)
theorem dX2_init_186 : decode cX2_init 186 = .ok (.newarray .int, 2) := dk_188_10 (dk_at dksX2_init_7 19 rfl rfl)
theorem dX2_init_188 : decode cX2_init 188 = .ok (.putfield 61, 3) := dk_181 0 61 (dk_at dksX2_init_7 21 rfl rfl)
theorem dX2_init_191 : decode cX2_init 191 = .ok (.aload_n 0, 1) := dk_42 (dk_at dksX2_init_8 0 rfl rfl)
theorem dX2_init_192 : decode cX2_init 192 = .ok (.sipush 240, 3) := dk_17 0 240 (dk_at dksX2_init_8 1 rfl rfl)
theorem dX2_init_195 : decode cX2_init 195 = .ok (.newarray .int, 2) := dk_188_10 (dk_at dksX2_init_8 4 rfl rfl)
theorem dX2_init_197 : decode cX2_init 197 = .ok (.putfield 64, 3) := dk_181 0 64 (dk_at dksX2_init_8 6 rfl rfl)
theorem dX2_init_200 : decode cX2_init 200 = .ok (.aload_n 0, 1) := dk_42 (dk_at dksX2_init_8 9 rfl rfl)
theorem dX2_init_201 : decode cX2_init 201 = .ok (.sipush 240, 3) := dk_17 0 240 (dk_at dksX2_init_8 10 rfl rfl)
theorem dX2_init_204 : decode cX2_init 204 = .ok (.newarray .int, 2) := dk_188_10 (dk_at dksX2_init_8 13 rfl rfl)
theorem dX2_init_206 : decode cX2_init 206 = .ok (.putfield 67, 3) := dk_181 0 67 (dk_at dksX2_init_8 15 rfl rfl)
theorem dX2_init_209 : decode cX2_init 209 = .ok (.aload_n 0, 1) := dk_42 (dk_at dksX2_init_8 18 rfl rfl)
theorem dX2_init_210 : decode cX2_init 210 = .ok (.sipush 240, 3) := dk_17 0 240 (dk_at dksX2_init_8 19 rfl rfl)
theorem dX2_init_213 : decode cX2_init 213 = .ok (.newarray .int, 2) := dk_188_10 (dk_at dksX2_init_8 22 rfl rfl)
theorem dX2_init_215 : decode cX2_init 215 = .ok (.putfield 70, 3) := dk_181 0 70 (dk_at dksX2_init_9 0 rfl rfl)
theorem dX2_init_218 : decode cX2_init 218 = .ok (.aload_n 0, 1) := dk_42 (dk_at dksX2_init_9 3 rfl rfl)
theorem dX2_init_219 : decode cX2_init 219 = .ok (.bipush 30, 2) := dk_16 30 (dk_at dksX2_init_9 4 rfl rfl)
theorem dX2_init_221 : decode cX2_init 221 = .ok (.newarray .int, 2) := dk_188_10 (dk_at dksX2_init_9 6 rfl rfl)
theorem dX2_init_223 : decode cX2_init 223 = .ok (.putfield 73, 3) := dk_181 0 73 (dk_at dksX2_init_9 8 rfl rfl)
theorem dX2_init_226 : decode cX2_init 226 = .ok (.aload_n 0, 1) := dk_42 (dk_at dksX2_init_9 11 rfl rfl)
theorem dX2_init_227 : decode cX2_init 227 = .ok (.sipush 241, 3) := dk_17 0 241 (dk_at dksX2_init_9 12 rfl rfl)
theorem dX2_init_230 : decode cX2_init 230 = .ok (.newarray .int, 2) := dk_188_10 (dk_at dksX2_init_9 15 rfl rfl)
theorem dX2_init_232 : decode cX2_init 232 = .ok (.putfield 76, 3) := dk_181 0 76 (dk_at dksX2_init_9 17 rfl rfl)
theorem dX2_init_235 : decode cX2_init 235 = .ok (.aload_n 0, 1) := dk_42 (dk_at dksX2_init_9 20 rfl rfl)
theorem dX2_init_236 : decode cX2_init 236 = .ok (.sipush 240, 3) := dk_17 0 240 (dk_at dksX2_init_9 21 rfl rfl)
theorem dX2_init_239 : decode cX2_init 239 = .ok (.newarray .int, 2) := dk_188_10 (dk_at dksX2_init_10 0 rfl rfl)
theorem dX2_init_241 : decode cX2_init 241 = .ok (.putfield 79, 3) := dk_181 0 79 (dk_at dksX2_init_10 2 rfl rfl)
theorem dX2_init_244 : decode cX2_init 244 = .ok (.aload_n 0, 1) := dk_42 (dk_at dksX2_init_10 5 rfl rfl)
theorem dX2_init_245 : decode cX2_init 245 = .ok (.sipush 240, 3) := dk_17 0 240 (dk_at dksX2_init_10 6 rfl rfl)
theorem dX2_init_248 : decode cX2_init 248 = .ok (.newarray .int, 2) := dk_188_10 (dk_at dksX2_init_10 9 rfl rfl)
theorem dX2_init_250 : decode cX2_init 250 = .ok (.putfield 82, 3) := dk_181 0 82 (dk_at dksX2_init_10 11 rfl rfl)
theorem dX2_init_253 : decode cX2_init 253 = .ok (.aload_n 0, 1) := dk_42 (dk_at dksX2_init_10 14 rfl rfl)
theorem dX2_init_254 : decode cX2_init 254 = .ok (.sipush 240, 3) := dk_17 0 240 (dk_at dksX2_init_10 15 rfl rfl)
theorem dX2_init_257 : decode cX2_init 257 = .ok (.newarray .int, 2) := dk_188_10 (dk_at dksX2_init_10 18 rfl rfl)
theorem dX2_init_259 : decode cX2_init 259 = .ok (.putfield 85, 3) := dk_181 0 85 (dk_at dksX2_init_10 20 rfl rfl)
theorem dX2_init_262 : decode cX2_init 262 = .ok (.aload_n 0, 1) := dk_42 (dk_at dksX2_init_10 23 rfl rfl)
theorem dX2_init_263 : decode cX2_init 263 = .ok (.sipush 241, 3) := dk_17 0 241 (dk_at dksX2_init_11 0 rfl rfl)
theorem dX2_init_266 : decode cX2_init 266 = .ok (.newarray .int, 2) := dk_188_10 (dk_at dksX2_init_11 3 rfl rfl)
theorem dX2_init_268 : decode cX2_init 268 = .ok (.putfield 88, 3) := dk_181 0 88 (dk_at dksX2_init_11 5 rfl rfl)
theorem dX2_init_271 : decode cX2_init 271 = .ok (.aload_n 0, 1) := dk_42 (dk_at dksX2_init_11 8 rfl rfl)
theorem dX2_init_272 : decode cX2_init 272 = .ok (.sipush 240, 3) := dk_17 0 240 (dk_at dksX2_init_11 9 rfl rfl)
theorem dX2_init_275 : decode cX2_init 275 = .ok (.newarray .int, 2) := dk_188_10 (dk_at dksX2_init_11 12 rfl rfl)
theorem dX2_init_277 : decode cX2_init 277 = .ok (.putfield 91, 3) := dk_181 0 91 (dk_at dksX2_init_11 14 rfl rfl)
theorem dX2_init_280 : decode cX2_init 280 = .ok (.aload_n 0, 1) := dk_42 (dk_at dksX2_init_11 17 rfl rfl)
theorem dX2_init_281 : decode cX2_init 281 = .ok (.iconst 4, 1) := dk_7 (dk_at dksX2_init_11 18 rfl rfl)
theorem dX2_init_282 : decode cX2_init 282 = .ok (.newarray .long, 2) := dk_188_11 (dk_at dksX2_init_11 19 rfl rfl)
theorem dX2_init_284 : decode cX2_init 284 = .ok (.putfield 94, 3) := dk_181 0 94 (dk_at dksX2_init_11 21 rfl rfl)
theorem dX2_init_287 : decode cX2_init 287 = .ok (.return_, 1) := dk_177 (dk_at dksX2_init_12 0 rfl rfl)
abbrev cX2_tank : ByteArray := prog_13_method_8_code
def yX2_tank : MethodName := ⟨RX2, "tank", "(II)I"⟩
def dkwX2_tank_3 : List UInt8 := [100, 172]
abbrev dktX2_tank_3 : List UInt8 := dkwX2_tank_3 ++ []
def dkwX2_tank_2 : List UInt8 := [180, 0, 13, 42, 180, 0, 104, 28, 79, 42, 89, 180, 0, 104, 4, 96, 181, 0, 104, 42, 180, 0, 104, 4]
abbrev dktX2_tank_2 : List UInt8 := dkwX2_tank_2 ++ dktX2_tank_3
def dkwX2_tank_1 : List UInt8 := [172, 42, 180, 0, 104, 16, 30, 160, 0, 6, 16, 252, 172, 42, 180, 0, 7, 42, 180, 0, 104, 27, 79, 42]
abbrev dktX2_tank_1 : List UInt8 := dkwX2_tank_1 ++ dktX2_tank_2
def dkwX2_tank_0 : List UInt8 := [27, 16, 156, 16, 100, 184, 0, 110, 153, 0, 14, 28, 16, 156, 16, 100, 184, 0, 110, 154, 0, 6, 16, 254]
abbrev dktX2_tank_0 : List UInt8 := dkwX2_tank_0 ++ dktX2_tank_1
theorem dksX2_tank_0 : cX2_tank.data.toList.drop 0 = dktX2_tank_0 := by decide +kernel
theorem dksX2_tank_1 : cX2_tank.data.toList.drop 24 = dktX2_tank_1 := dk_seg dksX2_tank_0 24 rfl rfl
theorem dksX2_tank_2 : cX2_tank.data.toList.drop 48 = dktX2_tank_2 := dk_seg dksX2_tank_1 24 rfl rfl
theorem dksX2_tank_3 : cX2_tank.data.toList.drop 72 = dktX2_tank_3 := dk_seg dksX2_tank_2 24 rfl rfl
theorem dX2_tank_0 : decode cX2_tank 0 = .ok (.iload_n 1, 1) := dk_27 (dk_at dksX2_tank_0 0 rfl rfl)
theorem dX2_tank_1 : decode cX2_tank 1 = .ok (.bipush (-100), 2) := dk_16 156 (dk_at dksX2_tank_0 1 rfl rfl)
theorem dX2_tank_3 : decode cX2_tank 3 = .ok (.bipush 100, 2) := dk_16 100 (dk_at dksX2_tank_0 3 rfl rfl)
theorem dX2_tank_5 : decode cX2_tank 5 = .ok (.invokestatic 110, 3) := dk_184 0 110 (dk_at dksX2_tank_0 5 rfl rfl)
theorem dX2_tank_8 : decode cX2_tank 8 = .ok (.ifCond .eq 14, 3) := dk_153 0 14 (dk_at dksX2_tank_0 8 rfl rfl)
theorem dX2_tank_11 : decode cX2_tank 11 = .ok (.iload_n 2, 1) := dk_28 (dk_at dksX2_tank_0 11 rfl rfl)
theorem dX2_tank_12 : decode cX2_tank 12 = .ok (.bipush (-100), 2) := dk_16 156 (dk_at dksX2_tank_0 12 rfl rfl)
theorem dX2_tank_14 : decode cX2_tank 14 = .ok (.bipush 100, 2) := dk_16 100 (dk_at dksX2_tank_0 14 rfl rfl)
theorem dX2_tank_16 : decode cX2_tank 16 = .ok (.invokestatic 110, 3) := dk_184 0 110 (dk_at dksX2_tank_0 16 rfl rfl)
theorem dX2_tank_19 : decode cX2_tank 19 = .ok (.ifCond .ne 6, 3) := dk_154 0 6 (dk_at dksX2_tank_0 19 rfl rfl)
theorem dX2_tank_22 : decode cX2_tank 22 = .ok (.bipush (-2), 2) := dk_16 254 (dk_at dksX2_tank_0 22 rfl rfl)
theorem dX2_tank_24 : decode cX2_tank 24 = .ok (.ireturn, 1) := dk_172 (dk_at dksX2_tank_1 0 rfl rfl)
theorem dX2_tank_25 : decode cX2_tank 25 = .ok (.aload_n 0, 1) := dk_42 (dk_at dksX2_tank_1 1 rfl rfl)
theorem dX2_tank_26 : decode cX2_tank 26 = .ok (.getfield 104, 3) := dk_180 0 104 (dk_at dksX2_tank_1 2 rfl rfl)
theorem dX2_tank_29 : decode cX2_tank 29 = .ok (.bipush 30, 2) := dk_16 30 (dk_at dksX2_tank_1 5 rfl rfl)
theorem dX2_tank_31 : decode cX2_tank 31 = .ok (.if_icmp .ne 6, 3) := dk_160 0 6 (dk_at dksX2_tank_1 7 rfl rfl)
theorem dX2_tank_34 : decode cX2_tank 34 = .ok (.bipush (-4), 2) := dk_16 252 (dk_at dksX2_tank_1 10 rfl rfl)
theorem dX2_tank_36 : decode cX2_tank 36 = .ok (.ireturn, 1) := dk_172 (dk_at dksX2_tank_1 12 rfl rfl)
theorem dX2_tank_37 : decode cX2_tank 37 = .ok (.aload_n 0, 1) := dk_42 (dk_at dksX2_tank_1 13 rfl rfl)
theorem dX2_tank_38 : decode cX2_tank 38 = .ok (.getfield 7, 3) := dk_180 0 7 (dk_at dksX2_tank_1 14 rfl rfl)
theorem dX2_tank_41 : decode cX2_tank 41 = .ok (.aload_n 0, 1) := dk_42 (dk_at dksX2_tank_1 17 rfl rfl)
theorem dX2_tank_42 : decode cX2_tank 42 = .ok (.getfield 104, 3) := dk_180 0 104 (dk_at dksX2_tank_1 18 rfl rfl)
theorem dX2_tank_45 : decode cX2_tank 45 = .ok (.iload_n 1, 1) := dk_27 (dk_at dksX2_tank_1 21 rfl rfl)
theorem dX2_tank_46 : decode cX2_tank 46 = .ok (.iastore, 1) := dk_79 (dk_at dksX2_tank_1 22 rfl rfl)
theorem dX2_tank_47 : decode cX2_tank 47 = .ok (.aload_n 0, 1) := dk_42 (dk_at dksX2_tank_1 23 rfl rfl)
theorem dX2_tank_48 : decode cX2_tank 48 = .ok (.getfield 13, 3) := dk_180 0 13 (dk_at dksX2_tank_2 0 rfl rfl)
theorem dX2_tank_51 : decode cX2_tank 51 = .ok (.aload_n 0, 1) := dk_42 (dk_at dksX2_tank_2 3 rfl rfl)
theorem dX2_tank_52 : decode cX2_tank 52 = .ok (.getfield 104, 3) := dk_180 0 104 (dk_at dksX2_tank_2 4 rfl rfl)
theorem dX2_tank_55 : decode cX2_tank 55 = .ok (.iload_n 2, 1) := dk_28 (dk_at dksX2_tank_2 7 rfl rfl)
theorem dX2_tank_56 : decode cX2_tank 56 = .ok (.iastore, 1) := dk_79 (dk_at dksX2_tank_2 8 rfl rfl)
theorem dX2_tank_57 : decode cX2_tank 57 = .ok (.aload_n 0, 1) := dk_42 (dk_at dksX2_tank_2 9 rfl rfl)
theorem dX2_tank_58 : decode cX2_tank 58 = .ok (.dup, 1) := dk_89 (dk_at dksX2_tank_2 10 rfl rfl)
theorem dX2_tank_59 : decode cX2_tank 59 = .ok (.getfield 104, 3) := dk_180 0 104 (dk_at dksX2_tank_2 11 rfl rfl)
theorem dX2_tank_62 : decode cX2_tank 62 = .ok (.iconst 1, 1) := dk_4 (dk_at dksX2_tank_2 14 rfl rfl)
theorem dX2_tank_63 : decode cX2_tank 63 = .ok (.iadd, 1) := dk_96 (dk_at dksX2_tank_2 15 rfl rfl)
theorem dX2_tank_64 : decode cX2_tank 64 = .ok (.putfield 104, 3) := dk_181 0 104 (dk_at dksX2_tank_2 16 rfl rfl)
theorem dX2_tank_67 : decode cX2_tank 67 = .ok (.aload_n 0, 1) := dk_42 (dk_at dksX2_tank_2 19 rfl rfl)
theorem dX2_tank_68 : decode cX2_tank 68 = .ok (.getfield 104, 3) := dk_180 0 104 (dk_at dksX2_tank_2 20 rfl rfl)
theorem dX2_tank_71 : decode cX2_tank 71 = .ok (.iconst 1, 1) := dk_4 (dk_at dksX2_tank_2 23 rfl rfl)
theorem dX2_tank_72 : decode cX2_tank 72 = .ok (.isub, 1) := dk_100 (dk_at dksX2_tank_3 0 rfl rfl)
theorem dX2_tank_73 : decode cX2_tank 73 = .ok (.ireturn, 1) := dk_172 (dk_at dksX2_tank_3 1 rfl rfl)
abbrev cX2_within : ByteArray := prog_13_method_5_code
def yX2_within : MethodName := ⟨RX2, "within", "(III)Z"⟩
def dkwX2_within_0 : List UInt8 := [26, 27, 161, 0, 12, 26, 28, 163, 0, 7, 4, 167, 0, 4, 3, 172]
abbrev dktX2_within_0 : List UInt8 := dkwX2_within_0 ++ []
theorem dksX2_within_0 : cX2_within.data.toList.drop 0 = dktX2_within_0 := by decide +kernel
theorem dX2_within_0 : decode cX2_within 0 = .ok (.iload_n 0, 1) := dk_26 (dk_at dksX2_within_0 0 rfl rfl)
theorem dX2_within_1 : decode cX2_within 1 = .ok (.iload_n 1, 1) := dk_27 (dk_at dksX2_within_0 1 rfl rfl)
theorem dX2_within_2 : decode cX2_within 2 = .ok (.if_icmp .lt 12, 3) := dk_161 0 12 (dk_at dksX2_within_0 2 rfl rfl)
theorem dX2_within_5 : decode cX2_within 5 = .ok (.iload_n 0, 1) := dk_26 (dk_at dksX2_within_0 5 rfl rfl)
theorem dX2_within_6 : decode cX2_within 6 = .ok (.iload_n 2, 1) := dk_28 (dk_at dksX2_within_0 6 rfl rfl)
theorem dX2_within_7 : decode cX2_within 7 = .ok (.if_icmp .gt 7, 3) := dk_163 0 7 (dk_at dksX2_within_0 7 rfl rfl)
theorem dX2_within_10 : decode cX2_within 10 = .ok (.iconst 1, 1) := dk_4 (dk_at dksX2_within_0 10 rfl rfl)
theorem dX2_within_11 : decode cX2_within 11 = .ok (.goto 4, 3) := dk_167 0 4 (dk_at dksX2_within_0 11 rfl rfl)
theorem dX2_within_14 : decode cX2_within 14 = .ok (.iconst 0, 1) := dk_3 (dk_at dksX2_within_0 14 rfl rfl)
theorem dX2_within_15 : decode cX2_within 15 = .ok (.ireturn, 1) := dk_172 (dk_at dksX2_within_0 15 rfl rfl)
abbrev cX2_hit : ByteArray := prog_13_method_11_code
def yX2_hit : MethodName := ⟨RX2, "hit", "(IIII)I"⟩
def dkwX2_hit_2 : List UInt8 := [172]
abbrev dktX2_hit_2 : List UInt8 := dkwX2_hit_2 ++ []
def dkwX2_hit_1 : List UInt8 := [17, 0, 240, 160, 0, 6, 16, 252, 172, 42, 27, 28, 29, 21, 4, 182, 0, 122, 42, 180, 0, 107, 4, 100]
abbrev dktX2_hit_1 : List UInt8 := dkwX2_hit_1 ++ dktX2_hit_2
def dkwX2_hit_0 : List UInt8 := [42, 27, 28, 29, 21, 4, 182, 0, 118, 54, 5, 21, 5, 153, 0, 6, 21, 5, 172, 42, 180, 0, 107]
abbrev dktX2_hit_0 : List UInt8 := dkwX2_hit_0 ++ dktX2_hit_1
theorem dksX2_hit_0 : cX2_hit.data.toList.drop 0 = dktX2_hit_0 := by decide +kernel
theorem dksX2_hit_1 : cX2_hit.data.toList.drop 23 = dktX2_hit_1 := dk_seg dksX2_hit_0 23 rfl rfl
theorem dksX2_hit_2 : cX2_hit.data.toList.drop 47 = dktX2_hit_2 := dk_seg dksX2_hit_1 24 rfl rfl
theorem dX2_hit_0 : decode cX2_hit 0 = .ok (.aload_n 0, 1) := dk_42 (dk_at dksX2_hit_0 0 rfl rfl)
theorem dX2_hit_1 : decode cX2_hit 1 = .ok (.iload_n 1, 1) := dk_27 (dk_at dksX2_hit_0 1 rfl rfl)
theorem dX2_hit_2 : decode cX2_hit 2 = .ok (.iload_n 2, 1) := dk_28 (dk_at dksX2_hit_0 2 rfl rfl)
theorem dX2_hit_3 : decode cX2_hit 3 = .ok (.iload_n 3, 1) := dk_29 (dk_at dksX2_hit_0 3 rfl rfl)
theorem dX2_hit_4 : decode cX2_hit 4 = .ok (.iload 4, 2) := dk_21 4 (dk_at dksX2_hit_0 4 rfl rfl)
theorem dX2_hit_6 : decode cX2_hit 6 = .ok (.invokevirtual 118, 3) := dk_182 0 118 (dk_at dksX2_hit_0 6 rfl rfl)
theorem dX2_hit_9 : decode cX2_hit 9 = .ok (.istore 5, 2) := dk_54 5 (dk_at dksX2_hit_0 9 rfl rfl)
theorem dX2_hit_11 : decode cX2_hit 11 = .ok (.iload 5, 2) := dk_21 5 (dk_at dksX2_hit_0 11 rfl rfl)
theorem dX2_hit_13 : decode cX2_hit 13 = .ok (.ifCond .eq 6, 3) := dk_153 0 6 (dk_at dksX2_hit_0 13 rfl rfl)
theorem dX2_hit_16 : decode cX2_hit 16 = .ok (.iload 5, 2) := dk_21 5 (dk_at dksX2_hit_0 16 rfl rfl)
theorem dX2_hit_18 : decode cX2_hit 18 = .ok (.ireturn, 1) := dk_172 (dk_at dksX2_hit_0 18 rfl rfl)
theorem dX2_hit_19 : decode cX2_hit 19 = .ok (.aload_n 0, 1) := dk_42 (dk_at dksX2_hit_0 19 rfl rfl)
theorem dX2_hit_20 : decode cX2_hit 20 = .ok (.getfield 107, 3) := dk_180 0 107 (dk_at dksX2_hit_0 20 rfl rfl)
theorem dX2_hit_23 : decode cX2_hit 23 = .ok (.sipush 240, 3) := dk_17 0 240 (dk_at dksX2_hit_1 0 rfl rfl)
theorem dX2_hit_26 : decode cX2_hit 26 = .ok (.if_icmp .ne 6, 3) := dk_160 0 6 (dk_at dksX2_hit_1 3 rfl rfl)
theorem dX2_hit_29 : decode cX2_hit 29 = .ok (.bipush (-4), 2) := dk_16 252 (dk_at dksX2_hit_1 6 rfl rfl)
theorem dX2_hit_31 : decode cX2_hit 31 = .ok (.ireturn, 1) := dk_172 (dk_at dksX2_hit_1 8 rfl rfl)
theorem dX2_hit_32 : decode cX2_hit 32 = .ok (.aload_n 0, 1) := dk_42 (dk_at dksX2_hit_1 9 rfl rfl)
theorem dX2_hit_33 : decode cX2_hit 33 = .ok (.iload_n 1, 1) := dk_27 (dk_at dksX2_hit_1 10 rfl rfl)
theorem dX2_hit_34 : decode cX2_hit 34 = .ok (.iload_n 2, 1) := dk_28 (dk_at dksX2_hit_1 11 rfl rfl)
theorem dX2_hit_35 : decode cX2_hit 35 = .ok (.iload_n 3, 1) := dk_29 (dk_at dksX2_hit_1 12 rfl rfl)
theorem dX2_hit_36 : decode cX2_hit 36 = .ok (.iload 4, 2) := dk_21 4 (dk_at dksX2_hit_1 13 rfl rfl)
theorem dX2_hit_38 : decode cX2_hit 38 = .ok (.invokevirtual 122, 3) := dk_182 0 122 (dk_at dksX2_hit_1 15 rfl rfl)
theorem dX2_hit_41 : decode cX2_hit 41 = .ok (.aload_n 0, 1) := dk_42 (dk_at dksX2_hit_1 18 rfl rfl)
theorem dX2_hit_42 : decode cX2_hit 42 = .ok (.getfield 107, 3) := dk_180 0 107 (dk_at dksX2_hit_1 19 rfl rfl)
theorem dX2_hit_45 : decode cX2_hit 45 = .ok (.iconst 1, 1) := dk_4 (dk_at dksX2_hit_1 22 rfl rfl)
theorem dX2_hit_46 : decode cX2_hit 46 = .ok (.isub, 1) := dk_100 (dk_at dksX2_hit_1 23 rfl rfl)
theorem dX2_hit_47 : decode cX2_hit 47 = .ok (.ireturn, 1) := dk_172 (dk_at dksX2_hit_2 0 rfl rfl)
abbrev cX2_against : ByteArray := prog_13_method_9_code
def yX2_against : MethodName := ⟨RX2, "against", "(IIII)I"⟩
def dkwX2_against_3 : List UInt8 := [3, 167, 0, 5, 16, 254, 172]
abbrev dktX2_against_3 : List UInt8 := dkwX2_against_3 ++ []
def dkwX2_against_2 : List UInt8 := [17, 0, 255, 159, 0, 9, 21, 4, 2, 160, 0, 7, 4, 167, 0, 4, 3, 54, 5, 21, 5, 153, 0, 7]
abbrev dktX2_against_2 : List UInt8 := dkwX2_against_2 ++ dktX2_against_3
def dkwX2_against_1 : List UInt8 := [17, 0, 255, 184, 0, 110, 153, 0, 32, 21, 4, 2, 17, 0, 255, 184, 0, 110, 153, 0, 20, 29]
abbrev dktX2_against_1 : List UInt8 := dkwX2_against_1 ++ dktX2_against_2
def dkwX2_against_0 : List UInt8 := [42, 27, 182, 0, 114, 154, 0, 5, 2, 172, 28, 3, 17, 78, 32, 184, 0, 110, 153, 0, 43, 29, 3]
abbrev dktX2_against_0 : List UInt8 := dkwX2_against_0 ++ dktX2_against_1
theorem dksX2_against_0 : cX2_against.data.toList.drop 0 = dktX2_against_0 := by decide +kernel
theorem dksX2_against_1 : cX2_against.data.toList.drop 23 = dktX2_against_1 := dk_seg dksX2_against_0 23 rfl rfl
theorem dksX2_against_2 : cX2_against.data.toList.drop 45 = dktX2_against_2 := dk_seg dksX2_against_1 22 rfl rfl
theorem dksX2_against_3 : cX2_against.data.toList.drop 69 = dktX2_against_3 := dk_seg dksX2_against_2 24 rfl rfl
theorem dX2_against_0 : decode cX2_against 0 = .ok (.aload_n 0, 1) := dk_42 (dk_at dksX2_against_0 0 rfl rfl)
theorem dX2_against_1 : decode cX2_against 1 = .ok (.iload_n 1, 1) := dk_27 (dk_at dksX2_against_0 1 rfl rfl)
theorem dX2_against_2 : decode cX2_against 2 = .ok (.invokevirtual 114, 3) := dk_182 0 114 (dk_at dksX2_against_0 2 rfl rfl)
theorem dX2_against_5 : decode cX2_against 5 = .ok (.ifCond .ne 5, 3) := dk_154 0 5 (dk_at dksX2_against_0 5 rfl rfl)
theorem dX2_against_8 : decode cX2_against 8 = .ok (.iconst (-1), 1) := dk_2 (dk_at dksX2_against_0 8 rfl rfl)
theorem dX2_against_9 : decode cX2_against 9 = .ok (.ireturn, 1) := dk_172 (dk_at dksX2_against_0 9 rfl rfl)
theorem dX2_against_10 : decode cX2_against 10 = .ok (.iload_n 2, 1) := dk_28 (dk_at dksX2_against_0 10 rfl rfl)
theorem dX2_against_11 : decode cX2_against 11 = .ok (.iconst 0, 1) := dk_3 (dk_at dksX2_against_0 11 rfl rfl)
theorem dX2_against_12 : decode cX2_against 12 = .ok (.sipush 20000, 3) := dk_17 78 32 (dk_at dksX2_against_0 12 rfl rfl)
theorem dX2_against_15 : decode cX2_against 15 = .ok (.invokestatic 110, 3) := dk_184 0 110 (dk_at dksX2_against_0 15 rfl rfl)
theorem dX2_against_18 : decode cX2_against 18 = .ok (.ifCond .eq 43, 3) := dk_153 0 43 (dk_at dksX2_against_0 18 rfl rfl)
theorem dX2_against_21 : decode cX2_against 21 = .ok (.iload_n 3, 1) := dk_29 (dk_at dksX2_against_0 21 rfl rfl)
theorem dX2_against_22 : decode cX2_against 22 = .ok (.iconst 0, 1) := dk_3 (dk_at dksX2_against_0 22 rfl rfl)
theorem dX2_against_23 : decode cX2_against 23 = .ok (.sipush 255, 3) := dk_17 0 255 (dk_at dksX2_against_1 0 rfl rfl)
theorem dX2_against_26 : decode cX2_against 26 = .ok (.invokestatic 110, 3) := dk_184 0 110 (dk_at dksX2_against_1 3 rfl rfl)
theorem dX2_against_29 : decode cX2_against 29 = .ok (.ifCond .eq 32, 3) := dk_153 0 32 (dk_at dksX2_against_1 6 rfl rfl)
theorem dX2_against_32 : decode cX2_against 32 = .ok (.iload 4, 2) := dk_21 4 (dk_at dksX2_against_1 9 rfl rfl)
theorem dX2_against_34 : decode cX2_against 34 = .ok (.iconst (-1), 1) := dk_2 (dk_at dksX2_against_1 11 rfl rfl)
theorem dX2_against_35 : decode cX2_against 35 = .ok (.sipush 255, 3) := dk_17 0 255 (dk_at dksX2_against_1 12 rfl rfl)
theorem dX2_against_38 : decode cX2_against 38 = .ok (.invokestatic 110, 3) := dk_184 0 110 (dk_at dksX2_against_1 15 rfl rfl)
theorem dX2_against_41 : decode cX2_against 41 = .ok (.ifCond .eq 20, 3) := dk_153 0 20 (dk_at dksX2_against_1 18 rfl rfl)
theorem dX2_against_44 : decode cX2_against 44 = .ok (.iload_n 3, 1) := dk_29 (dk_at dksX2_against_1 21 rfl rfl)
theorem dX2_against_45 : decode cX2_against 45 = .ok (.sipush 255, 3) := dk_17 0 255 (dk_at dksX2_against_2 0 rfl rfl)
theorem dX2_against_48 : decode cX2_against 48 = .ok (.if_icmp .eq 9, 3) := dk_159 0 9 (dk_at dksX2_against_2 3 rfl rfl)
theorem dX2_against_51 : decode cX2_against 51 = .ok (.iload 4, 2) := dk_21 4 (dk_at dksX2_against_2 6 rfl rfl)
theorem dX2_against_53 : decode cX2_against 53 = .ok (.iconst (-1), 1) := dk_2 (dk_at dksX2_against_2 8 rfl rfl)
theorem dX2_against_54 : decode cX2_against 54 = .ok (.if_icmp .ne 7, 3) := dk_160 0 7 (dk_at dksX2_against_2 9 rfl rfl)
theorem dX2_against_57 : decode cX2_against 57 = .ok (.iconst 1, 1) := dk_4 (dk_at dksX2_against_2 12 rfl rfl)
theorem dX2_against_58 : decode cX2_against 58 = .ok (.goto 4, 3) := dk_167 0 4 (dk_at dksX2_against_2 13 rfl rfl)
theorem dX2_against_61 : decode cX2_against 61 = .ok (.iconst 0, 1) := dk_3 (dk_at dksX2_against_2 16 rfl rfl)
theorem dX2_against_62 : decode cX2_against 62 = .ok (.istore 5, 2) := dk_54 5 (dk_at dksX2_against_2 17 rfl rfl)
theorem dX2_against_64 : decode cX2_against 64 = .ok (.iload 5, 2) := dk_21 5 (dk_at dksX2_against_2 19 rfl rfl)
theorem dX2_against_66 : decode cX2_against 66 = .ok (.ifCond .eq 7, 3) := dk_153 0 7 (dk_at dksX2_against_2 21 rfl rfl)
theorem dX2_against_69 : decode cX2_against 69 = .ok (.iconst 0, 1) := dk_3 (dk_at dksX2_against_3 0 rfl rfl)
theorem dX2_against_70 : decode cX2_against 70 = .ok (.goto 5, 3) := dk_167 0 5 (dk_at dksX2_against_3 1 rfl rfl)
theorem dX2_against_73 : decode cX2_against 73 = .ok (.bipush (-2), 2) := dk_16 254 (dk_at dksX2_against_3 4 rfl rfl)
theorem dX2_against_75 : decode cX2_against 75 = .ok (.ireturn, 1) := dk_172 (dk_at dksX2_against_3 6 rfl rfl)
abbrev cX2_isTank : ByteArray := prog_13_method_6_code
def yX2_isTank : MethodName := ⟨RX2, "isTank", "(I)Z"⟩
def dkwX2_isTank_0 : List UInt8 := [27, 155, 0, 15, 27, 42, 180, 0, 104, 162, 0, 7, 4, 167, 0, 4, 3, 172]
abbrev dktX2_isTank_0 : List UInt8 := dkwX2_isTank_0 ++ []
theorem dksX2_isTank_0 : cX2_isTank.data.toList.drop 0 = dktX2_isTank_0 := by decide +kernel
theorem dX2_isTank_0 : decode cX2_isTank 0 = .ok (.iload_n 1, 1) := dk_27 (dk_at dksX2_isTank_0 0 rfl rfl)
theorem dX2_isTank_1 : decode cX2_isTank 1 = .ok (.ifCond .lt 15, 3) := dk_155 0 15 (dk_at dksX2_isTank_0 1 rfl rfl)
theorem dX2_isTank_4 : decode cX2_isTank 4 = .ok (.iload_n 1, 1) := dk_27 (dk_at dksX2_isTank_0 4 rfl rfl)
theorem dX2_isTank_5 : decode cX2_isTank 5 = .ok (.aload_n 0, 1) := dk_42 (dk_at dksX2_isTank_0 5 rfl rfl)
theorem dX2_isTank_6 : decode cX2_isTank 6 = .ok (.getfield 104, 3) := dk_180 0 104 (dk_at dksX2_isTank_0 6 rfl rfl)
theorem dX2_isTank_9 : decode cX2_isTank 9 = .ok (.if_icmp .ge 7, 3) := dk_162 0 7 (dk_at dksX2_isTank_0 9 rfl rfl)
theorem dX2_isTank_12 : decode cX2_isTank 12 = .ok (.iconst 1, 1) := dk_4 (dk_at dksX2_isTank_0 12 rfl rfl)
theorem dX2_isTank_13 : decode cX2_isTank 13 = .ok (.goto 4, 3) := dk_167 0 4 (dk_at dksX2_isTank_0 13 rfl rfl)
theorem dX2_isTank_16 : decode cX2_isTank 16 = .ok (.iconst 0, 1) := dk_3 (dk_at dksX2_isTank_0 16 rfl rfl)
theorem dX2_isTank_17 : decode cX2_isTank 17 = .ok (.ireturn, 1) := dk_172 (dk_at dksX2_isTank_0 17 rfl rfl)
abbrev cX2_addHit : ByteArray := prog_13_method_10_code
def yX2_addHit : MethodName := ⟨RX2, "addHit", "(IIII)V"⟩
def dkwX2_addHit_2 : List UInt8 := [181, 0, 107, 177]
abbrev dktX2_addHit_2 : List UInt8 := dkwX2_addHit_2 ++ []
def dkwX2_addHit_1 : List UInt8 := [42, 180, 0, 107, 29, 79, 42, 180, 0, 25, 42, 180, 0, 107, 21, 4, 79, 42, 89, 180, 0, 107, 4, 96]
abbrev dktX2_addHit_1 : List UInt8 := dkwX2_addHit_1 ++ dktX2_addHit_2
def dkwX2_addHit_0 : List UInt8 := [42, 180, 0, 16, 42, 180, 0, 107, 27, 79, 42, 180, 0, 19, 42, 180, 0, 107, 28, 79, 42, 180, 0, 22]
abbrev dktX2_addHit_0 : List UInt8 := dkwX2_addHit_0 ++ dktX2_addHit_1
theorem dksX2_addHit_0 : cX2_addHit.data.toList.drop 0 = dktX2_addHit_0 := by decide +kernel
theorem dksX2_addHit_1 : cX2_addHit.data.toList.drop 24 = dktX2_addHit_1 := dk_seg dksX2_addHit_0 24 rfl rfl
theorem dksX2_addHit_2 : cX2_addHit.data.toList.drop 48 = dktX2_addHit_2 := dk_seg dksX2_addHit_1 24 rfl rfl
theorem dX2_addHit_0 : decode cX2_addHit 0 = .ok (.aload_n 0, 1) := dk_42 (dk_at dksX2_addHit_0 0 rfl rfl)
theorem dX2_addHit_1 : decode cX2_addHit 1 = .ok (.getfield 16, 3) := dk_180 0 16 (dk_at dksX2_addHit_0 1 rfl rfl)
theorem dX2_addHit_4 : decode cX2_addHit 4 = .ok (.aload_n 0, 1) := dk_42 (dk_at dksX2_addHit_0 4 rfl rfl)
theorem dX2_addHit_5 : decode cX2_addHit 5 = .ok (.getfield 107, 3) := dk_180 0 107 (dk_at dksX2_addHit_0 5 rfl rfl)
theorem dX2_addHit_8 : decode cX2_addHit 8 = .ok (.iload_n 1, 1) := dk_27 (dk_at dksX2_addHit_0 8 rfl rfl)
theorem dX2_addHit_9 : decode cX2_addHit 9 = .ok (.iastore, 1) := dk_79 (dk_at dksX2_addHit_0 9 rfl rfl)
theorem dX2_addHit_10 : decode cX2_addHit 10 = .ok (.aload_n 0, 1) := dk_42 (dk_at dksX2_addHit_0 10 rfl rfl)
theorem dX2_addHit_11 : decode cX2_addHit 11 = .ok (.getfield 19, 3) := dk_180 0 19 (dk_at dksX2_addHit_0 11 rfl rfl)
theorem dX2_addHit_14 : decode cX2_addHit 14 = .ok (.aload_n 0, 1) := dk_42 (dk_at dksX2_addHit_0 14 rfl rfl)
theorem dX2_addHit_15 : decode cX2_addHit 15 = .ok (.getfield 107, 3) := dk_180 0 107 (dk_at dksX2_addHit_0 15 rfl rfl)
theorem dX2_addHit_18 : decode cX2_addHit 18 = .ok (.iload_n 2, 1) := dk_28 (dk_at dksX2_addHit_0 18 rfl rfl)
theorem dX2_addHit_19 : decode cX2_addHit 19 = .ok (.iastore, 1) := dk_79 (dk_at dksX2_addHit_0 19 rfl rfl)
theorem dX2_addHit_20 : decode cX2_addHit 20 = .ok (.aload_n 0, 1) := dk_42 (dk_at dksX2_addHit_0 20 rfl rfl)
theorem dX2_addHit_21 : decode cX2_addHit 21 = .ok (.getfield 22, 3) := dk_180 0 22 (dk_at dksX2_addHit_0 21 rfl rfl)
theorem dX2_addHit_24 : decode cX2_addHit 24 = .ok (.aload_n 0, 1) := dk_42 (dk_at dksX2_addHit_1 0 rfl rfl)
theorem dX2_addHit_25 : decode cX2_addHit 25 = .ok (.getfield 107, 3) := dk_180 0 107 (dk_at dksX2_addHit_1 1 rfl rfl)
theorem dX2_addHit_28 : decode cX2_addHit 28 = .ok (.iload_n 3, 1) := dk_29 (dk_at dksX2_addHit_1 4 rfl rfl)
theorem dX2_addHit_29 : decode cX2_addHit 29 = .ok (.iastore, 1) := dk_79 (dk_at dksX2_addHit_1 5 rfl rfl)
theorem dX2_addHit_30 : decode cX2_addHit 30 = .ok (.aload_n 0, 1) := dk_42 (dk_at dksX2_addHit_1 6 rfl rfl)
theorem dX2_addHit_31 : decode cX2_addHit 31 = .ok (.getfield 25, 3) := dk_180 0 25 (dk_at dksX2_addHit_1 7 rfl rfl)
theorem dX2_addHit_34 : decode cX2_addHit 34 = .ok (.aload_n 0, 1) := dk_42 (dk_at dksX2_addHit_1 10 rfl rfl)
theorem dX2_addHit_35 : decode cX2_addHit 35 = .ok (.getfield 107, 3) := dk_180 0 107 (dk_at dksX2_addHit_1 11 rfl rfl)
theorem dX2_addHit_38 : decode cX2_addHit 38 = .ok (.iload 4, 2) := dk_21 4 (dk_at dksX2_addHit_1 14 rfl rfl)
theorem dX2_addHit_40 : decode cX2_addHit 40 = .ok (.iastore, 1) := dk_79 (dk_at dksX2_addHit_1 16 rfl rfl)
theorem dX2_addHit_41 : decode cX2_addHit 41 = .ok (.aload_n 0, 1) := dk_42 (dk_at dksX2_addHit_1 17 rfl rfl)
theorem dX2_addHit_42 : decode cX2_addHit 42 = .ok (.dup, 1) := dk_89 (dk_at dksX2_addHit_1 18 rfl rfl)
theorem dX2_addHit_43 : decode cX2_addHit 43 = .ok (.getfield 107, 3) := dk_180 0 107 (dk_at dksX2_addHit_1 19 rfl rfl)
theorem dX2_addHit_46 : decode cX2_addHit 46 = .ok (.iconst 1, 1) := dk_4 (dk_at dksX2_addHit_1 22 rfl rfl)
theorem dX2_addHit_47 : decode cX2_addHit 47 = .ok (.iadd, 1) := dk_96 (dk_at dksX2_addHit_1 23 rfl rfl)
theorem dX2_addHit_48 : decode cX2_addHit 48 = .ok (.putfield 107, 3) := dk_181 0 107 (dk_at dksX2_addHit_2 0 rfl rfl)
theorem dX2_addHit_51 : decode cX2_addHit 51 = .ok (.return_, 1) := dk_177 (dk_at dksX2_addHit_2 3 rfl rfl)
abbrev cX2_load : ByteArray := prog_13_method_12_code
def yX2_load : MethodName := ⟨RX2, "load", "(IIII)I"⟩
def dkwX2_load_12 : List UInt8 := [167, 255, 195, 42, 180, 0, 107, 172]
abbrev dktX2_load_12 : List UInt8 := dkwX2_load_12 ++ []
def dkwX2_load_11 : List UInt8 := [180, 0, 52, 21, 6, 5, 96, 46, 42, 180, 0, 52, 21, 6, 6, 96, 46, 182, 0, 122, 132, 5, 1]
abbrev dktX2_load_11 : List UInt8 := dkwX2_load_11 ++ dktX2_load_12
def dkwX2_load_10 : List UInt8 := [21, 5, 104, 96, 54, 6, 42, 42, 180, 0, 52, 21, 6, 46, 42, 180, 0, 52, 21, 6, 4, 96, 46, 42]
abbrev dktX2_load_10 : List UInt8 := dkwX2_load_10 ++ dktX2_load_11
def dkwX2_load_9 : List UInt8 := [164, 0, 6, 16, 252, 172, 3, 54, 5, 21, 5, 21, 4, 162, 0, 60, 16, 40, 27, 104, 29, 96, 7]
abbrev dktX2_load_9 : List UInt8 := dkwX2_load_9 ++ dktX2_load_10
def dkwX2_load_8 : List UInt8 := [21, 7, 153, 0, 6, 21, 7, 172, 132, 5, 1, 167, 255, 185, 42, 180, 0, 107, 21, 4, 96, 17, 0, 240]
abbrev dktX2_load_8 : List UInt8 := dkwX2_load_8 ++ dktX2_load_9
def dkwX2_load_7 : List UInt8 := [46, 42, 180, 0, 52, 21, 6, 5, 96, 46, 42, 180, 0, 52, 21, 6, 6, 96, 46, 182, 0, 118, 54, 7]
abbrev dktX2_load_7 : List UInt8 := dkwX2_load_7 ++ dktX2_load_8
def dkwX2_load_6 : List UInt8 := [96, 7, 21, 5, 104, 96, 54, 6, 42, 42, 180, 0, 52, 21, 6, 46, 42, 180, 0, 52, 21, 6, 4, 96]
abbrev dktX2_load_6 : List UInt8 := dkwX2_load_6 ++ dktX2_load_7
def dkwX2_load_5 : List UInt8 := [158, 0, 9, 42, 6, 182, 0, 126, 172, 3, 54, 5, 21, 5, 21, 4, 162, 0, 70, 16, 40, 27, 104, 29]
abbrev dktX2_load_5 : List UInt8 := dkwX2_load_5 ++ dktX2_load_6
def dkwX2_load_4 : List UInt8 := [27, 46, 163, 0, 23, 20, 0, 130, 21, 4, 133, 105, 42, 180, 0, 49, 27, 46, 29, 100, 133, 148]
abbrev dktX2_load_4 : List UInt8 := dkwX2_load_4 ++ dktX2_load_5
def dkwX2_load_3 : List UInt8 := [182, 0, 126, 172, 21, 4, 156, 0, 9, 42, 7, 182, 0, 126, 172, 29, 155, 0, 33, 29, 42, 180, 0, 49]
abbrev dktX2_load_3 : List UInt8 := dkwX2_load_3 ++ dktX2_load_4
def dkwX2_load_2 : List UInt8 := [159, 0, 9, 42, 5, 182, 0, 126, 172, 42, 180, 0, 46, 27, 46, 16, 247, 160, 0, 9, 42, 4]
abbrev dktX2_load_2 : List UInt8 := dkwX2_load_2 ++ dktX2_load_3
def dkwX2_load_1 : List UInt8 := [154, 0, 6, 16, 254, 172, 42, 180, 0, 46, 27, 46, 16, 247, 159, 0, 19, 42, 180, 0, 46, 27, 46, 28]
abbrev dktX2_load_1 : List UInt8 := dkwX2_load_1 ++ dktX2_load_2
def dkwX2_load_0 : List UInt8 := [42, 3, 181, 0, 98, 27, 3, 6, 184, 0, 110, 154, 0, 5, 2, 172, 28, 3, 5, 184, 0, 110]
abbrev dktX2_load_0 : List UInt8 := dkwX2_load_0 ++ dktX2_load_1
theorem dksX2_load_0 : cX2_load.data.toList.drop 0 = dktX2_load_0 := by decide +kernel
theorem dksX2_load_1 : cX2_load.data.toList.drop 22 = dktX2_load_1 := dk_seg dksX2_load_0 22 rfl rfl
theorem dksX2_load_2 : cX2_load.data.toList.drop 46 = dktX2_load_2 := dk_seg dksX2_load_1 24 rfl rfl
theorem dksX2_load_3 : cX2_load.data.toList.drop 68 = dktX2_load_3 := dk_seg dksX2_load_2 22 rfl rfl
theorem dksX2_load_4 : cX2_load.data.toList.drop 92 = dktX2_load_4 := dk_seg dksX2_load_3 24 rfl rfl
theorem dksX2_load_5 : cX2_load.data.toList.drop 114 = dktX2_load_5 := dk_seg dksX2_load_4 22 rfl rfl
theorem dksX2_load_6 : cX2_load.data.toList.drop 138 = dktX2_load_6 := dk_seg dksX2_load_5 24 rfl rfl
theorem dksX2_load_7 : cX2_load.data.toList.drop 162 = dktX2_load_7 := dk_seg dksX2_load_6 24 rfl rfl
theorem dksX2_load_8 : cX2_load.data.toList.drop 186 = dktX2_load_8 := dk_seg dksX2_load_7 24 rfl rfl
theorem dksX2_load_9 : cX2_load.data.toList.drop 210 = dktX2_load_9 := dk_seg dksX2_load_8 24 rfl rfl
theorem dksX2_load_10 : cX2_load.data.toList.drop 233 = dktX2_load_10 := dk_seg dksX2_load_9 23 rfl rfl
theorem dksX2_load_11 : cX2_load.data.toList.drop 257 = dktX2_load_11 := dk_seg dksX2_load_10 24 rfl rfl
theorem dksX2_load_12 : cX2_load.data.toList.drop 280 = dktX2_load_12 := dk_seg dksX2_load_11 23 rfl rfl
theorem dX2_load_0 : decode cX2_load 0 = .ok (.aload_n 0, 1) := dk_42 (dk_at dksX2_load_0 0 rfl rfl)
theorem dX2_load_1 : decode cX2_load 1 = .ok (.iconst 0, 1) := dk_3 (dk_at dksX2_load_0 1 rfl rfl)
theorem dX2_load_2 : decode cX2_load 2 = .ok (.putfield 98, 3) := dk_181 0 98 (dk_at dksX2_load_0 2 rfl rfl)
theorem dX2_load_5 : decode cX2_load 5 = .ok (.iload_n 1, 1) := dk_27 (dk_at dksX2_load_0 5 rfl rfl)
theorem dX2_load_6 : decode cX2_load 6 = .ok (.iconst 0, 1) := dk_3 (dk_at dksX2_load_0 6 rfl rfl)
theorem dX2_load_7 : decode cX2_load 7 = .ok (.iconst 3, 1) := dk_6 (dk_at dksX2_load_0 7 rfl rfl)
theorem dX2_load_8 : decode cX2_load 8 = .ok (.invokestatic 110, 3) := dk_184 0 110 (dk_at dksX2_load_0 8 rfl rfl)
theorem dX2_load_11 : decode cX2_load 11 = .ok (.ifCond .ne 5, 3) := dk_154 0 5 (dk_at dksX2_load_0 11 rfl rfl)
theorem dX2_load_14 : decode cX2_load 14 = .ok (.iconst (-1), 1) := dk_2 (dk_at dksX2_load_0 14 rfl rfl)
theorem dX2_load_15 : decode cX2_load 15 = .ok (.ireturn, 1) := dk_172 (dk_at dksX2_load_0 15 rfl rfl)
theorem dX2_load_16 : decode cX2_load 16 = .ok (.iload_n 2, 1) := dk_28 (dk_at dksX2_load_0 16 rfl rfl)
theorem dX2_load_17 : decode cX2_load 17 = .ok (.iconst 0, 1) := dk_3 (dk_at dksX2_load_0 17 rfl rfl)
theorem dX2_load_18 : decode cX2_load 18 = .ok (.iconst 2, 1) := dk_5 (dk_at dksX2_load_0 18 rfl rfl)
theorem dX2_load_19 : decode cX2_load 19 = .ok (.invokestatic 110, 3) := dk_184 0 110 (dk_at dksX2_load_0 19 rfl rfl)
theorem dX2_load_22 : decode cX2_load 22 = .ok (.ifCond .ne 6, 3) := dk_154 0 6 (dk_at dksX2_load_1 0 rfl rfl)
theorem dX2_load_25 : decode cX2_load 25 = .ok (.bipush (-2), 2) := dk_16 254 (dk_at dksX2_load_1 3 rfl rfl)
theorem dX2_load_27 : decode cX2_load 27 = .ok (.ireturn, 1) := dk_172 (dk_at dksX2_load_1 5 rfl rfl)
theorem dX2_load_28 : decode cX2_load 28 = .ok (.aload_n 0, 1) := dk_42 (dk_at dksX2_load_1 6 rfl rfl)
theorem dX2_load_29 : decode cX2_load 29 = .ok (.getfield 46, 3) := dk_180 0 46 (dk_at dksX2_load_1 7 rfl rfl)
theorem dX2_load_32 : decode cX2_load 32 = .ok (.iload_n 1, 1) := dk_27 (dk_at dksX2_load_1 10 rfl rfl)
theorem dX2_load_33 : decode cX2_load 33 = .ok (.iaload, 1) := dk_46 (dk_at dksX2_load_1 11 rfl rfl)
theorem dX2_load_34 : decode cX2_load 34 = .ok (.bipush (-9), 2) := dk_16 247 (dk_at dksX2_load_1 12 rfl rfl)
theorem dX2_load_36 : decode cX2_load 36 = .ok (.if_icmp .eq 19, 3) := dk_159 0 19 (dk_at dksX2_load_1 14 rfl rfl)
theorem dX2_load_39 : decode cX2_load 39 = .ok (.aload_n 0, 1) := dk_42 (dk_at dksX2_load_1 17 rfl rfl)
theorem dX2_load_40 : decode cX2_load 40 = .ok (.getfield 46, 3) := dk_180 0 46 (dk_at dksX2_load_1 18 rfl rfl)
theorem dX2_load_43 : decode cX2_load 43 = .ok (.iload_n 1, 1) := dk_27 (dk_at dksX2_load_1 21 rfl rfl)
theorem dX2_load_44 : decode cX2_load 44 = .ok (.iaload, 1) := dk_46 (dk_at dksX2_load_1 22 rfl rfl)
theorem dX2_load_45 : decode cX2_load 45 = .ok (.iload_n 2, 1) := dk_28 (dk_at dksX2_load_1 23 rfl rfl)
theorem dX2_load_46 : decode cX2_load 46 = .ok (.if_icmp .eq 9, 3) := dk_159 0 9 (dk_at dksX2_load_2 0 rfl rfl)
theorem dX2_load_49 : decode cX2_load 49 = .ok (.aload_n 0, 1) := dk_42 (dk_at dksX2_load_2 3 rfl rfl)
theorem dX2_load_50 : decode cX2_load 50 = .ok (.iconst 2, 1) := dk_5 (dk_at dksX2_load_2 4 rfl rfl)
theorem dX2_load_51 : decode cX2_load 51 = .ok (.invokevirtual 126, 3) := dk_182 0 126 (dk_at dksX2_load_2 5 rfl rfl)
theorem dX2_load_54 : decode cX2_load 54 = .ok (.ireturn, 1) := dk_172 (dk_at dksX2_load_2 8 rfl rfl)
theorem dX2_load_55 : decode cX2_load 55 = .ok (.aload_n 0, 1) := dk_42 (dk_at dksX2_load_2 9 rfl rfl)
theorem dX2_load_56 : decode cX2_load 56 = .ok (.getfield 46, 3) := dk_180 0 46 (dk_at dksX2_load_2 10 rfl rfl)
theorem dX2_load_59 : decode cX2_load 59 = .ok (.iload_n 1, 1) := dk_27 (dk_at dksX2_load_2 13 rfl rfl)
theorem dX2_load_60 : decode cX2_load 60 = .ok (.iaload, 1) := dk_46 (dk_at dksX2_load_2 14 rfl rfl)
theorem dX2_load_61 : decode cX2_load 61 = .ok (.bipush (-9), 2) := dk_16 247 (dk_at dksX2_load_2 15 rfl rfl)
theorem dX2_load_63 : decode cX2_load 63 = .ok (.if_icmp .ne 9, 3) := dk_160 0 9 (dk_at dksX2_load_2 17 rfl rfl)
theorem dX2_load_66 : decode cX2_load 66 = .ok (.aload_n 0, 1) := dk_42 (dk_at dksX2_load_2 20 rfl rfl)
theorem dX2_load_67 : decode cX2_load 67 = .ok (.iconst 1, 1) := dk_4 (dk_at dksX2_load_2 21 rfl rfl)
theorem dX2_load_68 : decode cX2_load 68 = .ok (.invokevirtual 126, 3) := dk_182 0 126 (dk_at dksX2_load_3 0 rfl rfl)
theorem dX2_load_71 : decode cX2_load 71 = .ok (.ireturn, 1) := dk_172 (dk_at dksX2_load_3 3 rfl rfl)
theorem dX2_load_72 : decode cX2_load 72 = .ok (.iload 4, 2) := dk_21 4 (dk_at dksX2_load_3 4 rfl rfl)
theorem dX2_load_74 : decode cX2_load 74 = .ok (.ifCond .ge 9, 3) := dk_156 0 9 (dk_at dksX2_load_3 6 rfl rfl)
theorem dX2_load_77 : decode cX2_load 77 = .ok (.aload_n 0, 1) := dk_42 (dk_at dksX2_load_3 9 rfl rfl)
theorem dX2_load_78 : decode cX2_load 78 = .ok (.iconst 4, 1) := dk_7 (dk_at dksX2_load_3 10 rfl rfl)
theorem dX2_load_79 : decode cX2_load 79 = .ok (.invokevirtual 126, 3) := dk_182 0 126 (dk_at dksX2_load_3 11 rfl rfl)
theorem dX2_load_82 : decode cX2_load 82 = .ok (.ireturn, 1) := dk_172 (dk_at dksX2_load_3 14 rfl rfl)
theorem dX2_load_83 : decode cX2_load 83 = .ok (.iload_n 3, 1) := dk_29 (dk_at dksX2_load_3 15 rfl rfl)
theorem dX2_load_84 : decode cX2_load 84 = .ok (.ifCond .lt 33, 3) := dk_155 0 33 (dk_at dksX2_load_3 16 rfl rfl)
theorem dX2_load_87 : decode cX2_load 87 = .ok (.iload_n 3, 1) := dk_29 (dk_at dksX2_load_3 19 rfl rfl)
theorem dX2_load_88 : decode cX2_load 88 = .ok (.aload_n 0, 1) := dk_42 (dk_at dksX2_load_3 20 rfl rfl)
theorem dX2_load_89 : decode cX2_load 89 = .ok (.getfield 49, 3) := dk_180 0 49 (dk_at dksX2_load_3 21 rfl rfl)
theorem dX2_load_92 : decode cX2_load 92 = .ok (.iload_n 1, 1) := dk_27 (dk_at dksX2_load_4 0 rfl rfl)
theorem dX2_load_93 : decode cX2_load 93 = .ok (.iaload, 1) := dk_46 (dk_at dksX2_load_4 1 rfl rfl)
theorem dX2_load_94 : decode cX2_load 94 = .ok (.if_icmp .gt 23, 3) := dk_163 0 23 (dk_at dksX2_load_4 2 rfl rfl)
theorem dX2_load_97 : decode cX2_load 97 = .ok (.ldc2_w 130, 3) := dk_20 0 130 (dk_at dksX2_load_4 5 rfl rfl)
theorem dX2_load_100 : decode cX2_load 100 = .ok (.iload 4, 2) := dk_21 4 (dk_at dksX2_load_4 8 rfl rfl)
theorem dX2_load_102 : decode cX2_load 102 = .ok (.i2l, 1) := dk_133 (dk_at dksX2_load_4 10 rfl rfl)
theorem dX2_load_103 : decode cX2_load 103 = .ok (.lmul, 1) := dk_105 (dk_at dksX2_load_4 11 rfl rfl)
theorem dX2_load_104 : decode cX2_load 104 = .ok (.aload_n 0, 1) := dk_42 (dk_at dksX2_load_4 12 rfl rfl)
theorem dX2_load_105 : decode cX2_load 105 = .ok (.getfield 49, 3) := dk_180 0 49 (dk_at dksX2_load_4 13 rfl rfl)
theorem dX2_load_108 : decode cX2_load 108 = .ok (.iload_n 1, 1) := dk_27 (dk_at dksX2_load_4 16 rfl rfl)
theorem dX2_load_109 : decode cX2_load 109 = .ok (.iaload, 1) := dk_46 (dk_at dksX2_load_4 17 rfl rfl)
theorem dX2_load_110 : decode cX2_load 110 = .ok (.iload_n 3, 1) := dk_29 (dk_at dksX2_load_4 18 rfl rfl)
theorem dX2_load_111 : decode cX2_load 111 = .ok (.isub, 1) := dk_100 (dk_at dksX2_load_4 19 rfl rfl)
theorem dX2_load_112 : decode cX2_load 112 = .ok (.i2l, 1) := dk_133 (dk_at dksX2_load_4 20 rfl rfl)
theorem dX2_load_113 : decode cX2_load 113 = .ok (.lcmp, 1) := dk_148 (dk_at dksX2_load_4 21 rfl rfl)
theorem dX2_load_114 : decode cX2_load 114 = .ok (.ifCond .le 9, 3) := dk_158 0 9 (dk_at dksX2_load_5 0 rfl rfl)
theorem dX2_load_117 : decode cX2_load 117 = .ok (.aload_n 0, 1) := dk_42 (dk_at dksX2_load_5 3 rfl rfl)
theorem dX2_load_118 : decode cX2_load 118 = .ok (.iconst 3, 1) := dk_6 (dk_at dksX2_load_5 4 rfl rfl)
theorem dX2_load_119 : decode cX2_load 119 = .ok (.invokevirtual 126, 3) := dk_182 0 126 (dk_at dksX2_load_5 5 rfl rfl)
theorem dX2_load_122 : decode cX2_load 122 = .ok (.ireturn, 1) := dk_172 (dk_at dksX2_load_5 8 rfl rfl)
theorem dX2_load_123 : decode cX2_load 123 = .ok (.iconst 0, 1) := dk_3 (dk_at dksX2_load_5 9 rfl rfl)
theorem dX2_load_124 : decode cX2_load 124 = .ok (.istore 5, 2) := dk_54 5 (dk_at dksX2_load_5 10 rfl rfl)
theorem dX2_load_126 : decode cX2_load 126 = .ok (.iload 5, 2) := dk_21 5 (dk_at dksX2_load_5 12 rfl rfl)
theorem dX2_load_128 : decode cX2_load 128 = .ok (.iload 4, 2) := dk_21 4 (dk_at dksX2_load_5 14 rfl rfl)
theorem dX2_load_130 : decode cX2_load 130 = .ok (.if_icmp .ge 70, 3) := dk_162 0 70 (dk_at dksX2_load_5 16 rfl rfl)
theorem dX2_load_133 : decode cX2_load 133 = .ok (.bipush 40, 2) := dk_16 40 (dk_at dksX2_load_5 19 rfl rfl)
theorem dX2_load_135 : decode cX2_load 135 = .ok (.iload_n 1, 1) := dk_27 (dk_at dksX2_load_5 21 rfl rfl)
theorem dX2_load_136 : decode cX2_load 136 = .ok (.imul, 1) := dk_104 (dk_at dksX2_load_5 22 rfl rfl)
theorem dX2_load_137 : decode cX2_load 137 = .ok (.iload_n 3, 1) := dk_29 (dk_at dksX2_load_5 23 rfl rfl)
theorem dX2_load_138 : decode cX2_load 138 = .ok (.iadd, 1) := dk_96 (dk_at dksX2_load_6 0 rfl rfl)
theorem dX2_load_139 : decode cX2_load 139 = .ok (.iconst 4, 1) := dk_7 (dk_at dksX2_load_6 1 rfl rfl)
theorem dX2_load_140 : decode cX2_load 140 = .ok (.iload 5, 2) := dk_21 5 (dk_at dksX2_load_6 2 rfl rfl)
theorem dX2_load_142 : decode cX2_load 142 = .ok (.imul, 1) := dk_104 (dk_at dksX2_load_6 4 rfl rfl)
theorem dX2_load_143 : decode cX2_load 143 = .ok (.iadd, 1) := dk_96 (dk_at dksX2_load_6 5 rfl rfl)
theorem dX2_load_144 : decode cX2_load 144 = .ok (.istore 6, 2) := dk_54 6 (dk_at dksX2_load_6 6 rfl rfl)
theorem dX2_load_146 : decode cX2_load 146 = .ok (.aload_n 0, 1) := dk_42 (dk_at dksX2_load_6 8 rfl rfl)
theorem dX2_load_147 : decode cX2_load 147 = .ok (.aload_n 0, 1) := dk_42 (dk_at dksX2_load_6 9 rfl rfl)
theorem dX2_load_148 : decode cX2_load 148 = .ok (.getfield 52, 3) := dk_180 0 52 (dk_at dksX2_load_6 10 rfl rfl)
theorem dX2_load_151 : decode cX2_load 151 = .ok (.iload 6, 2) := dk_21 6 (dk_at dksX2_load_6 13 rfl rfl)
theorem dX2_load_153 : decode cX2_load 153 = .ok (.iaload, 1) := dk_46 (dk_at dksX2_load_6 15 rfl rfl)
theorem dX2_load_154 : decode cX2_load 154 = .ok (.aload_n 0, 1) := dk_42 (dk_at dksX2_load_6 16 rfl rfl)
theorem dX2_load_155 : decode cX2_load 155 = .ok (.getfield 52, 3) := dk_180 0 52 (dk_at dksX2_load_6 17 rfl rfl)
theorem dX2_load_158 : decode cX2_load 158 = .ok (.iload 6, 2) := dk_21 6 (dk_at dksX2_load_6 20 rfl rfl)
theorem dX2_load_160 : decode cX2_load 160 = .ok (.iconst 1, 1) := dk_4 (dk_at dksX2_load_6 22 rfl rfl)
theorem dX2_load_161 : decode cX2_load 161 = .ok (.iadd, 1) := dk_96 (dk_at dksX2_load_6 23 rfl rfl)
theorem dX2_load_162 : decode cX2_load 162 = .ok (.iaload, 1) := dk_46 (dk_at dksX2_load_7 0 rfl rfl)
theorem dX2_load_163 : decode cX2_load 163 = .ok (.aload_n 0, 1) := dk_42 (dk_at dksX2_load_7 1 rfl rfl)
theorem dX2_load_164 : decode cX2_load 164 = .ok (.getfield 52, 3) := dk_180 0 52 (dk_at dksX2_load_7 2 rfl rfl)
theorem dX2_load_167 : decode cX2_load 167 = .ok (.iload 6, 2) := dk_21 6 (dk_at dksX2_load_7 5 rfl rfl)
theorem dX2_load_169 : decode cX2_load 169 = .ok (.iconst 2, 1) := dk_5 (dk_at dksX2_load_7 7 rfl rfl)
theorem dX2_load_170 : decode cX2_load 170 = .ok (.iadd, 1) := dk_96 (dk_at dksX2_load_7 8 rfl rfl)
theorem dX2_load_171 : decode cX2_load 171 = .ok (.iaload, 1) := dk_46 (dk_at dksX2_load_7 9 rfl rfl)
theorem dX2_load_172 : decode cX2_load 172 = .ok (.aload_n 0, 1) := dk_42 (dk_at dksX2_load_7 10 rfl rfl)
theorem dX2_load_173 : decode cX2_load 173 = .ok (.getfield 52, 3) := dk_180 0 52 (dk_at dksX2_load_7 11 rfl rfl)
theorem dX2_load_176 : decode cX2_load 176 = .ok (.iload 6, 2) := dk_21 6 (dk_at dksX2_load_7 14 rfl rfl)
theorem dX2_load_178 : decode cX2_load 178 = .ok (.iconst 3, 1) := dk_6 (dk_at dksX2_load_7 16 rfl rfl)
theorem dX2_load_179 : decode cX2_load 179 = .ok (.iadd, 1) := dk_96 (dk_at dksX2_load_7 17 rfl rfl)
theorem dX2_load_180 : decode cX2_load 180 = .ok (.iaload, 1) := dk_46 (dk_at dksX2_load_7 18 rfl rfl)
theorem dX2_load_181 : decode cX2_load 181 = .ok (.invokevirtual 118, 3) := dk_182 0 118 (dk_at dksX2_load_7 19 rfl rfl)
theorem dX2_load_184 : decode cX2_load 184 = .ok (.istore 7, 2) := dk_54 7 (dk_at dksX2_load_7 22 rfl rfl)
theorem dX2_load_186 : decode cX2_load 186 = .ok (.iload 7, 2) := dk_21 7 (dk_at dksX2_load_8 0 rfl rfl)
theorem dX2_load_188 : decode cX2_load 188 = .ok (.ifCond .eq 6, 3) := dk_153 0 6 (dk_at dksX2_load_8 2 rfl rfl)
theorem dX2_load_191 : decode cX2_load 191 = .ok (.iload 7, 2) := dk_21 7 (dk_at dksX2_load_8 5 rfl rfl)
theorem dX2_load_193 : decode cX2_load 193 = .ok (.ireturn, 1) := dk_172 (dk_at dksX2_load_8 7 rfl rfl)
theorem dX2_load_194 : decode cX2_load 194 = .ok (.iinc 5 1, 3) := dk_132 5 1 (dk_at dksX2_load_8 8 rfl rfl)
theorem dX2_load_197 : decode cX2_load 197 = .ok (.goto (-71), 3) := dk_167 255 185 (dk_at dksX2_load_8 11 rfl rfl)
theorem dX2_load_200 : decode cX2_load 200 = .ok (.aload_n 0, 1) := dk_42 (dk_at dksX2_load_8 14 rfl rfl)
theorem dX2_load_201 : decode cX2_load 201 = .ok (.getfield 107, 3) := dk_180 0 107 (dk_at dksX2_load_8 15 rfl rfl)
theorem dX2_load_204 : decode cX2_load 204 = .ok (.iload 4, 2) := dk_21 4 (dk_at dksX2_load_8 18 rfl rfl)
theorem dX2_load_206 : decode cX2_load 206 = .ok (.iadd, 1) := dk_96 (dk_at dksX2_load_8 20 rfl rfl)
theorem dX2_load_207 : decode cX2_load 207 = .ok (.sipush 240, 3) := dk_17 0 240 (dk_at dksX2_load_8 21 rfl rfl)
theorem dX2_load_210 : decode cX2_load 210 = .ok (.if_icmp .le 6, 3) := dk_164 0 6 (dk_at dksX2_load_9 0 rfl rfl)
theorem dX2_load_213 : decode cX2_load 213 = .ok (.bipush (-4), 2) := dk_16 252 (dk_at dksX2_load_9 3 rfl rfl)
theorem dX2_load_215 : decode cX2_load 215 = .ok (.ireturn, 1) := dk_172 (dk_at dksX2_load_9 5 rfl rfl)
theorem dX2_load_216 : decode cX2_load 216 = .ok (.iconst 0, 1) := dk_3 (dk_at dksX2_load_9 6 rfl rfl)
theorem dX2_load_217 : decode cX2_load 217 = .ok (.istore 5, 2) := dk_54 5 (dk_at dksX2_load_9 7 rfl rfl)
theorem dX2_load_219 : decode cX2_load 219 = .ok (.iload 5, 2) := dk_21 5 (dk_at dksX2_load_9 9 rfl rfl)
theorem dX2_load_221 : decode cX2_load 221 = .ok (.iload 4, 2) := dk_21 4 (dk_at dksX2_load_9 11 rfl rfl)
theorem dX2_load_223 : decode cX2_load 223 = .ok (.if_icmp .ge 60, 3) := dk_162 0 60 (dk_at dksX2_load_9 13 rfl rfl)
theorem dX2_load_226 : decode cX2_load 226 = .ok (.bipush 40, 2) := dk_16 40 (dk_at dksX2_load_9 16 rfl rfl)
theorem dX2_load_228 : decode cX2_load 228 = .ok (.iload_n 1, 1) := dk_27 (dk_at dksX2_load_9 18 rfl rfl)
theorem dX2_load_229 : decode cX2_load 229 = .ok (.imul, 1) := dk_104 (dk_at dksX2_load_9 19 rfl rfl)
theorem dX2_load_230 : decode cX2_load 230 = .ok (.iload_n 3, 1) := dk_29 (dk_at dksX2_load_9 20 rfl rfl)
theorem dX2_load_231 : decode cX2_load 231 = .ok (.iadd, 1) := dk_96 (dk_at dksX2_load_9 21 rfl rfl)
theorem dX2_load_232 : decode cX2_load 232 = .ok (.iconst 4, 1) := dk_7 (dk_at dksX2_load_9 22 rfl rfl)
theorem dX2_load_233 : decode cX2_load 233 = .ok (.iload 5, 2) := dk_21 5 (dk_at dksX2_load_10 0 rfl rfl)
theorem dX2_load_235 : decode cX2_load 235 = .ok (.imul, 1) := dk_104 (dk_at dksX2_load_10 2 rfl rfl)
theorem dX2_load_236 : decode cX2_load 236 = .ok (.iadd, 1) := dk_96 (dk_at dksX2_load_10 3 rfl rfl)
theorem dX2_load_237 : decode cX2_load 237 = .ok (.istore 6, 2) := dk_54 6 (dk_at dksX2_load_10 4 rfl rfl)
theorem dX2_load_239 : decode cX2_load 239 = .ok (.aload_n 0, 1) := dk_42 (dk_at dksX2_load_10 6 rfl rfl)
theorem dX2_load_240 : decode cX2_load 240 = .ok (.aload_n 0, 1) := dk_42 (dk_at dksX2_load_10 7 rfl rfl)
theorem dX2_load_241 : decode cX2_load 241 = .ok (.getfield 52, 3) := dk_180 0 52 (dk_at dksX2_load_10 8 rfl rfl)
theorem dX2_load_244 : decode cX2_load 244 = .ok (.iload 6, 2) := dk_21 6 (dk_at dksX2_load_10 11 rfl rfl)
theorem dX2_load_246 : decode cX2_load 246 = .ok (.iaload, 1) := dk_46 (dk_at dksX2_load_10 13 rfl rfl)
theorem dX2_load_247 : decode cX2_load 247 = .ok (.aload_n 0, 1) := dk_42 (dk_at dksX2_load_10 14 rfl rfl)
theorem dX2_load_248 : decode cX2_load 248 = .ok (.getfield 52, 3) := dk_180 0 52 (dk_at dksX2_load_10 15 rfl rfl)
theorem dX2_load_251 : decode cX2_load 251 = .ok (.iload 6, 2) := dk_21 6 (dk_at dksX2_load_10 18 rfl rfl)
theorem dX2_load_253 : decode cX2_load 253 = .ok (.iconst 1, 1) := dk_4 (dk_at dksX2_load_10 20 rfl rfl)
theorem dX2_load_254 : decode cX2_load 254 = .ok (.iadd, 1) := dk_96 (dk_at dksX2_load_10 21 rfl rfl)
theorem dX2_load_255 : decode cX2_load 255 = .ok (.iaload, 1) := dk_46 (dk_at dksX2_load_10 22 rfl rfl)
theorem dX2_load_256 : decode cX2_load 256 = .ok (.aload_n 0, 1) := dk_42 (dk_at dksX2_load_10 23 rfl rfl)
theorem dX2_load_257 : decode cX2_load 257 = .ok (.getfield 52, 3) := dk_180 0 52 (dk_at dksX2_load_11 0 rfl rfl)
theorem dX2_load_260 : decode cX2_load 260 = .ok (.iload 6, 2) := dk_21 6 (dk_at dksX2_load_11 3 rfl rfl)
theorem dX2_load_262 : decode cX2_load 262 = .ok (.iconst 2, 1) := dk_5 (dk_at dksX2_load_11 5 rfl rfl)
theorem dX2_load_263 : decode cX2_load 263 = .ok (.iadd, 1) := dk_96 (dk_at dksX2_load_11 6 rfl rfl)
theorem dX2_load_264 : decode cX2_load 264 = .ok (.iaload, 1) := dk_46 (dk_at dksX2_load_11 7 rfl rfl)
theorem dX2_load_265 : decode cX2_load 265 = .ok (.aload_n 0, 1) := dk_42 (dk_at dksX2_load_11 8 rfl rfl)
theorem dX2_load_266 : decode cX2_load 266 = .ok (.getfield 52, 3) := dk_180 0 52 (dk_at dksX2_load_11 9 rfl rfl)
theorem dX2_load_269 : decode cX2_load 269 = .ok (.iload 6, 2) := dk_21 6 (dk_at dksX2_load_11 12 rfl rfl)
theorem dX2_load_271 : decode cX2_load 271 = .ok (.iconst 3, 1) := dk_6 (dk_at dksX2_load_11 14 rfl rfl)
theorem dX2_load_272 : decode cX2_load 272 = .ok (.iadd, 1) := dk_96 (dk_at dksX2_load_11 15 rfl rfl)
theorem dX2_load_273 : decode cX2_load 273 = .ok (.iaload, 1) := dk_46 (dk_at dksX2_load_11 16 rfl rfl)
theorem dX2_load_274 : decode cX2_load 274 = .ok (.invokevirtual 122, 3) := dk_182 0 122 (dk_at dksX2_load_11 17 rfl rfl)
theorem dX2_load_277 : decode cX2_load 277 = .ok (.iinc 5 1, 3) := dk_132 5 1 (dk_at dksX2_load_11 20 rfl rfl)
theorem dX2_load_280 : decode cX2_load 280 = .ok (.goto (-61), 3) := dk_167 255 195 (dk_at dksX2_load_12 0 rfl rfl)
theorem dX2_load_283 : decode cX2_load 283 = .ok (.aload_n 0, 1) := dk_42 (dk_at dksX2_load_12 3 rfl rfl)
theorem dX2_load_284 : decode cX2_load 284 = .ok (.getfield 107, 3) := dk_180 0 107 (dk_at dksX2_load_12 4 rfl rfl)
theorem dX2_load_287 : decode cX2_load 287 = .ok (.ireturn, 1) := dk_172 (dk_at dksX2_load_12 7 rfl rfl)
abbrev cX2_fails : ByteArray := prog_13_method_3_code
def yX2_fails : MethodName := ⟨RX2, "fails", "(I)I"⟩
def dkwX2_fails_0 : List UInt8 := [42, 27, 181, 0, 98, 16, 246, 27, 100, 172]
abbrev dktX2_fails_0 : List UInt8 := dkwX2_fails_0 ++ []
theorem dksX2_fails_0 : cX2_fails.data.toList.drop 0 = dktX2_fails_0 := by decide +kernel
theorem dX2_fails_0 : decode cX2_fails 0 = .ok (.aload_n 0, 1) := dk_42 (dk_at dksX2_fails_0 0 rfl rfl)
theorem dX2_fails_1 : decode cX2_fails 1 = .ok (.iload_n 1, 1) := dk_27 (dk_at dksX2_fails_0 1 rfl rfl)
theorem dX2_fails_2 : decode cX2_fails 2 = .ok (.putfield 98, 3) := dk_181 0 98 (dk_at dksX2_fails_0 2 rfl rfl)
theorem dX2_fails_5 : decode cX2_fails 5 = .ok (.bipush (-10), 2) := dk_16 246 (dk_at dksX2_fails_0 5 rfl rfl)
theorem dX2_fails_7 : decode cX2_fails 7 = .ok (.iload_n 1, 1) := dk_27 (dk_at dksX2_fails_0 7 rfl rfl)
theorem dX2_fails_8 : decode cX2_fails 8 = .ok (.isub, 1) := dk_100 (dk_at dksX2_fails_0 8 rfl rfl)
theorem dX2_fails_9 : decode cX2_fails 9 = .ok (.ireturn, 1) := dk_172 (dk_at dksX2_fails_0 9 rfl rfl)
abbrev cX2_clock : ByteArray := prog_13_method_13_code
def yX2_clock : MethodName := ⟨RX2, "clock", "(III)I"⟩
def dkwX2_clock_3 : List UInt8 := [180, 0, 34, 42, 180, 0, 132, 29, 79, 42, 89, 180, 0, 132, 4, 96, 181, 0, 132, 42, 180, 0, 132, 172]
abbrev dktX2_clock_3 : List UInt8 := dkwX2_clock_3 ++ []
def dkwX2_clock_2 : List UInt8 := [16, 252, 172, 42, 180, 0, 28, 42, 180, 0, 132, 27, 79, 42, 180, 0, 31, 42, 180, 0, 132, 28, 79, 42]
abbrev dktX2_clock_2 : List UInt8 := dkwX2_clock_2 ++ dktX2_clock_3
def dkwX2_clock_1 : List UInt8 := [17, 254, 12, 17, 1, 244, 184, 0, 110, 154, 0, 6, 16, 254, 172, 42, 180, 0, 132, 16, 20, 160, 0, 6]
abbrev dktX2_clock_1 : List UInt8 := dkwX2_clock_1 ++ dktX2_clock_2
def dkwX2_clock_0 : List UInt8 := [42, 27, 182, 0, 114, 154, 0, 5, 2, 172, 28, 3, 17, 78, 32, 184, 0, 110, 153, 0, 16, 29]
abbrev dktX2_clock_0 : List UInt8 := dkwX2_clock_0 ++ dktX2_clock_1
theorem dksX2_clock_0 : cX2_clock.data.toList.drop 0 = dktX2_clock_0 := by decide +kernel
theorem dksX2_clock_1 : cX2_clock.data.toList.drop 22 = dktX2_clock_1 := dk_seg dksX2_clock_0 22 rfl rfl
theorem dksX2_clock_2 : cX2_clock.data.toList.drop 46 = dktX2_clock_2 := dk_seg dksX2_clock_1 24 rfl rfl
theorem dksX2_clock_3 : cX2_clock.data.toList.drop 70 = dktX2_clock_3 := dk_seg dksX2_clock_2 24 rfl rfl
theorem dX2_clock_0 : decode cX2_clock 0 = .ok (.aload_n 0, 1) := dk_42 (dk_at dksX2_clock_0 0 rfl rfl)
theorem dX2_clock_1 : decode cX2_clock 1 = .ok (.iload_n 1, 1) := dk_27 (dk_at dksX2_clock_0 1 rfl rfl)
theorem dX2_clock_2 : decode cX2_clock 2 = .ok (.invokevirtual 114, 3) := dk_182 0 114 (dk_at dksX2_clock_0 2 rfl rfl)
theorem dX2_clock_5 : decode cX2_clock 5 = .ok (.ifCond .ne 5, 3) := dk_154 0 5 (dk_at dksX2_clock_0 5 rfl rfl)
theorem dX2_clock_8 : decode cX2_clock 8 = .ok (.iconst (-1), 1) := dk_2 (dk_at dksX2_clock_0 8 rfl rfl)
theorem dX2_clock_9 : decode cX2_clock 9 = .ok (.ireturn, 1) := dk_172 (dk_at dksX2_clock_0 9 rfl rfl)
theorem dX2_clock_10 : decode cX2_clock 10 = .ok (.iload_n 2, 1) := dk_28 (dk_at dksX2_clock_0 10 rfl rfl)
theorem dX2_clock_11 : decode cX2_clock 11 = .ok (.iconst 0, 1) := dk_3 (dk_at dksX2_clock_0 11 rfl rfl)
theorem dX2_clock_12 : decode cX2_clock 12 = .ok (.sipush 20000, 3) := dk_17 78 32 (dk_at dksX2_clock_0 12 rfl rfl)
theorem dX2_clock_15 : decode cX2_clock 15 = .ok (.invokestatic 110, 3) := dk_184 0 110 (dk_at dksX2_clock_0 15 rfl rfl)
theorem dX2_clock_18 : decode cX2_clock 18 = .ok (.ifCond .eq 16, 3) := dk_153 0 16 (dk_at dksX2_clock_0 18 rfl rfl)
theorem dX2_clock_21 : decode cX2_clock 21 = .ok (.iload_n 3, 1) := dk_29 (dk_at dksX2_clock_0 21 rfl rfl)
theorem dX2_clock_22 : decode cX2_clock 22 = .ok (.sipush (-500), 3) := dk_17 254 12 (dk_at dksX2_clock_1 0 rfl rfl)
theorem dX2_clock_25 : decode cX2_clock 25 = .ok (.sipush 500, 3) := dk_17 1 244 (dk_at dksX2_clock_1 3 rfl rfl)
theorem dX2_clock_28 : decode cX2_clock 28 = .ok (.invokestatic 110, 3) := dk_184 0 110 (dk_at dksX2_clock_1 6 rfl rfl)
theorem dX2_clock_31 : decode cX2_clock 31 = .ok (.ifCond .ne 6, 3) := dk_154 0 6 (dk_at dksX2_clock_1 9 rfl rfl)
theorem dX2_clock_34 : decode cX2_clock 34 = .ok (.bipush (-2), 2) := dk_16 254 (dk_at dksX2_clock_1 12 rfl rfl)
theorem dX2_clock_36 : decode cX2_clock 36 = .ok (.ireturn, 1) := dk_172 (dk_at dksX2_clock_1 14 rfl rfl)
theorem dX2_clock_37 : decode cX2_clock 37 = .ok (.aload_n 0, 1) := dk_42 (dk_at dksX2_clock_1 15 rfl rfl)
theorem dX2_clock_38 : decode cX2_clock 38 = .ok (.getfield 132, 3) := dk_180 0 132 (dk_at dksX2_clock_1 16 rfl rfl)
theorem dX2_clock_41 : decode cX2_clock 41 = .ok (.bipush 20, 2) := dk_16 20 (dk_at dksX2_clock_1 19 rfl rfl)
theorem dX2_clock_43 : decode cX2_clock 43 = .ok (.if_icmp .ne 6, 3) := dk_160 0 6 (dk_at dksX2_clock_1 21 rfl rfl)
theorem dX2_clock_46 : decode cX2_clock 46 = .ok (.bipush (-4), 2) := dk_16 252 (dk_at dksX2_clock_2 0 rfl rfl)
theorem dX2_clock_48 : decode cX2_clock 48 = .ok (.ireturn, 1) := dk_172 (dk_at dksX2_clock_2 2 rfl rfl)
theorem dX2_clock_49 : decode cX2_clock 49 = .ok (.aload_n 0, 1) := dk_42 (dk_at dksX2_clock_2 3 rfl rfl)
theorem dX2_clock_50 : decode cX2_clock 50 = .ok (.getfield 28, 3) := dk_180 0 28 (dk_at dksX2_clock_2 4 rfl rfl)
theorem dX2_clock_53 : decode cX2_clock 53 = .ok (.aload_n 0, 1) := dk_42 (dk_at dksX2_clock_2 7 rfl rfl)
theorem dX2_clock_54 : decode cX2_clock 54 = .ok (.getfield 132, 3) := dk_180 0 132 (dk_at dksX2_clock_2 8 rfl rfl)
theorem dX2_clock_57 : decode cX2_clock 57 = .ok (.iload_n 1, 1) := dk_27 (dk_at dksX2_clock_2 11 rfl rfl)
theorem dX2_clock_58 : decode cX2_clock 58 = .ok (.iastore, 1) := dk_79 (dk_at dksX2_clock_2 12 rfl rfl)
theorem dX2_clock_59 : decode cX2_clock 59 = .ok (.aload_n 0, 1) := dk_42 (dk_at dksX2_clock_2 13 rfl rfl)
theorem dX2_clock_60 : decode cX2_clock 60 = .ok (.getfield 31, 3) := dk_180 0 31 (dk_at dksX2_clock_2 14 rfl rfl)
theorem dX2_clock_63 : decode cX2_clock 63 = .ok (.aload_n 0, 1) := dk_42 (dk_at dksX2_clock_2 17 rfl rfl)
theorem dX2_clock_64 : decode cX2_clock 64 = .ok (.getfield 132, 3) := dk_180 0 132 (dk_at dksX2_clock_2 18 rfl rfl)
theorem dX2_clock_67 : decode cX2_clock 67 = .ok (.iload_n 2, 1) := dk_28 (dk_at dksX2_clock_2 21 rfl rfl)
theorem dX2_clock_68 : decode cX2_clock 68 = .ok (.iastore, 1) := dk_79 (dk_at dksX2_clock_2 22 rfl rfl)
theorem dX2_clock_69 : decode cX2_clock 69 = .ok (.aload_n 0, 1) := dk_42 (dk_at dksX2_clock_2 23 rfl rfl)
theorem dX2_clock_70 : decode cX2_clock 70 = .ok (.getfield 34, 3) := dk_180 0 34 (dk_at dksX2_clock_3 0 rfl rfl)
theorem dX2_clock_73 : decode cX2_clock 73 = .ok (.aload_n 0, 1) := dk_42 (dk_at dksX2_clock_3 3 rfl rfl)
theorem dX2_clock_74 : decode cX2_clock 74 = .ok (.getfield 132, 3) := dk_180 0 132 (dk_at dksX2_clock_3 4 rfl rfl)
theorem dX2_clock_77 : decode cX2_clock 77 = .ok (.iload_n 3, 1) := dk_29 (dk_at dksX2_clock_3 7 rfl rfl)
theorem dX2_clock_78 : decode cX2_clock 78 = .ok (.iastore, 1) := dk_79 (dk_at dksX2_clock_3 8 rfl rfl)
theorem dX2_clock_79 : decode cX2_clock 79 = .ok (.aload_n 0, 1) := dk_42 (dk_at dksX2_clock_3 9 rfl rfl)
theorem dX2_clock_80 : decode cX2_clock 80 = .ok (.dup, 1) := dk_89 (dk_at dksX2_clock_3 10 rfl rfl)
theorem dX2_clock_81 : decode cX2_clock 81 = .ok (.getfield 132, 3) := dk_180 0 132 (dk_at dksX2_clock_3 11 rfl rfl)
theorem dX2_clock_84 : decode cX2_clock 84 = .ok (.iconst 1, 1) := dk_4 (dk_at dksX2_clock_3 14 rfl rfl)
theorem dX2_clock_85 : decode cX2_clock 85 = .ok (.iadd, 1) := dk_96 (dk_at dksX2_clock_3 15 rfl rfl)
theorem dX2_clock_86 : decode cX2_clock 86 = .ok (.putfield 132, 3) := dk_181 0 132 (dk_at dksX2_clock_3 16 rfl rfl)
theorem dX2_clock_89 : decode cX2_clock 89 = .ok (.aload_n 0, 1) := dk_42 (dk_at dksX2_clock_3 19 rfl rfl)
theorem dX2_clock_90 : decode cX2_clock 90 = .ok (.getfield 132, 3) := dk_180 0 132 (dk_at dksX2_clock_3 20 rfl rfl)
theorem dX2_clock_93 : decode cX2_clock 93 = .ok (.ireturn, 1) := dk_172 (dk_at dksX2_clock_3 23 rfl rfl)
abbrev cX2_down : ByteArray := prog_13_method_14_code
def yX2_down : MethodName := ⟨RX2, "down", "(III)I"⟩
def dkwX2_down_3 : List UInt8 := [42, 180, 0, 135, 29, 79, 42, 89, 180, 0, 135, 4, 96, 181, 0, 135, 42, 180, 0, 135, 172]
abbrev dktX2_down_3 : List UInt8 := dkwX2_down_3 ++ []
def dkwX2_down_2 : List UInt8 := [42, 180, 0, 37, 42, 180, 0, 135, 27, 79, 42, 180, 0, 40, 42, 180, 0, 135, 28, 79, 42, 180, 0, 43]
abbrev dktX2_down_2 : List UInt8 := dkwX2_down_2 ++ dktX2_down_3
def dkwX2_down_1 : List UInt8 := [17, 78, 33, 184, 0, 110, 154, 0, 6, 16, 254, 172, 42, 180, 0, 135, 16, 20, 160, 0, 6, 16, 252, 172]
abbrev dktX2_down_1 : List UInt8 := dkwX2_down_1 ++ dktX2_down_2
def dkwX2_down_0 : List UInt8 := [42, 27, 182, 0, 114, 154, 0, 5, 2, 172, 28, 3, 17, 78, 32, 184, 0, 110, 153, 0, 14, 29, 28]
abbrev dktX2_down_0 : List UInt8 := dkwX2_down_0 ++ dktX2_down_1
theorem dksX2_down_0 : cX2_down.data.toList.drop 0 = dktX2_down_0 := by decide +kernel
theorem dksX2_down_1 : cX2_down.data.toList.drop 23 = dktX2_down_1 := dk_seg dksX2_down_0 23 rfl rfl
theorem dksX2_down_2 : cX2_down.data.toList.drop 47 = dktX2_down_2 := dk_seg dksX2_down_1 24 rfl rfl
theorem dksX2_down_3 : cX2_down.data.toList.drop 71 = dktX2_down_3 := dk_seg dksX2_down_2 24 rfl rfl
theorem dX2_down_0 : decode cX2_down 0 = .ok (.aload_n 0, 1) := dk_42 (dk_at dksX2_down_0 0 rfl rfl)
theorem dX2_down_1 : decode cX2_down 1 = .ok (.iload_n 1, 1) := dk_27 (dk_at dksX2_down_0 1 rfl rfl)
theorem dX2_down_2 : decode cX2_down 2 = .ok (.invokevirtual 114, 3) := dk_182 0 114 (dk_at dksX2_down_0 2 rfl rfl)
theorem dX2_down_5 : decode cX2_down 5 = .ok (.ifCond .ne 5, 3) := dk_154 0 5 (dk_at dksX2_down_0 5 rfl rfl)
theorem dX2_down_8 : decode cX2_down 8 = .ok (.iconst (-1), 1) := dk_2 (dk_at dksX2_down_0 8 rfl rfl)
theorem dX2_down_9 : decode cX2_down 9 = .ok (.ireturn, 1) := dk_172 (dk_at dksX2_down_0 9 rfl rfl)
theorem dX2_down_10 : decode cX2_down 10 = .ok (.iload_n 2, 1) := dk_28 (dk_at dksX2_down_0 10 rfl rfl)
theorem dX2_down_11 : decode cX2_down 11 = .ok (.iconst 0, 1) := dk_3 (dk_at dksX2_down_0 11 rfl rfl)
theorem dX2_down_12 : decode cX2_down 12 = .ok (.sipush 20000, 3) := dk_17 78 32 (dk_at dksX2_down_0 12 rfl rfl)
theorem dX2_down_15 : decode cX2_down 15 = .ok (.invokestatic 110, 3) := dk_184 0 110 (dk_at dksX2_down_0 15 rfl rfl)
theorem dX2_down_18 : decode cX2_down 18 = .ok (.ifCond .eq 14, 3) := dk_153 0 14 (dk_at dksX2_down_0 18 rfl rfl)
theorem dX2_down_21 : decode cX2_down 21 = .ok (.iload_n 3, 1) := dk_29 (dk_at dksX2_down_0 21 rfl rfl)
theorem dX2_down_22 : decode cX2_down 22 = .ok (.iload_n 2, 1) := dk_28 (dk_at dksX2_down_0 22 rfl rfl)
theorem dX2_down_23 : decode cX2_down 23 = .ok (.sipush 20001, 3) := dk_17 78 33 (dk_at dksX2_down_1 0 rfl rfl)
theorem dX2_down_26 : decode cX2_down 26 = .ok (.invokestatic 110, 3) := dk_184 0 110 (dk_at dksX2_down_1 3 rfl rfl)
theorem dX2_down_29 : decode cX2_down 29 = .ok (.ifCond .ne 6, 3) := dk_154 0 6 (dk_at dksX2_down_1 6 rfl rfl)
theorem dX2_down_32 : decode cX2_down 32 = .ok (.bipush (-2), 2) := dk_16 254 (dk_at dksX2_down_1 9 rfl rfl)
theorem dX2_down_34 : decode cX2_down 34 = .ok (.ireturn, 1) := dk_172 (dk_at dksX2_down_1 11 rfl rfl)
theorem dX2_down_35 : decode cX2_down 35 = .ok (.aload_n 0, 1) := dk_42 (dk_at dksX2_down_1 12 rfl rfl)
theorem dX2_down_36 : decode cX2_down 36 = .ok (.getfield 135, 3) := dk_180 0 135 (dk_at dksX2_down_1 13 rfl rfl)
theorem dX2_down_39 : decode cX2_down 39 = .ok (.bipush 20, 2) := dk_16 20 (dk_at dksX2_down_1 16 rfl rfl)
theorem dX2_down_41 : decode cX2_down 41 = .ok (.if_icmp .ne 6, 3) := dk_160 0 6 (dk_at dksX2_down_1 18 rfl rfl)
theorem dX2_down_44 : decode cX2_down 44 = .ok (.bipush (-4), 2) := dk_16 252 (dk_at dksX2_down_1 21 rfl rfl)
theorem dX2_down_46 : decode cX2_down 46 = .ok (.ireturn, 1) := dk_172 (dk_at dksX2_down_1 23 rfl rfl)
theorem dX2_down_47 : decode cX2_down 47 = .ok (.aload_n 0, 1) := dk_42 (dk_at dksX2_down_2 0 rfl rfl)
theorem dX2_down_48 : decode cX2_down 48 = .ok (.getfield 37, 3) := dk_180 0 37 (dk_at dksX2_down_2 1 rfl rfl)
theorem dX2_down_51 : decode cX2_down 51 = .ok (.aload_n 0, 1) := dk_42 (dk_at dksX2_down_2 4 rfl rfl)
theorem dX2_down_52 : decode cX2_down 52 = .ok (.getfield 135, 3) := dk_180 0 135 (dk_at dksX2_down_2 5 rfl rfl)
theorem dX2_down_55 : decode cX2_down 55 = .ok (.iload_n 1, 1) := dk_27 (dk_at dksX2_down_2 8 rfl rfl)
theorem dX2_down_56 : decode cX2_down 56 = .ok (.iastore, 1) := dk_79 (dk_at dksX2_down_2 9 rfl rfl)
theorem dX2_down_57 : decode cX2_down 57 = .ok (.aload_n 0, 1) := dk_42 (dk_at dksX2_down_2 10 rfl rfl)
theorem dX2_down_58 : decode cX2_down 58 = .ok (.getfield 40, 3) := dk_180 0 40 (dk_at dksX2_down_2 11 rfl rfl)
theorem dX2_down_61 : decode cX2_down 61 = .ok (.aload_n 0, 1) := dk_42 (dk_at dksX2_down_2 14 rfl rfl)
theorem dX2_down_62 : decode cX2_down 62 = .ok (.getfield 135, 3) := dk_180 0 135 (dk_at dksX2_down_2 15 rfl rfl)
theorem dX2_down_65 : decode cX2_down 65 = .ok (.iload_n 2, 1) := dk_28 (dk_at dksX2_down_2 18 rfl rfl)
theorem dX2_down_66 : decode cX2_down 66 = .ok (.iastore, 1) := dk_79 (dk_at dksX2_down_2 19 rfl rfl)
theorem dX2_down_67 : decode cX2_down 67 = .ok (.aload_n 0, 1) := dk_42 (dk_at dksX2_down_2 20 rfl rfl)
theorem dX2_down_68 : decode cX2_down 68 = .ok (.getfield 43, 3) := dk_180 0 43 (dk_at dksX2_down_2 21 rfl rfl)
theorem dX2_down_71 : decode cX2_down 71 = .ok (.aload_n 0, 1) := dk_42 (dk_at dksX2_down_3 0 rfl rfl)
theorem dX2_down_72 : decode cX2_down 72 = .ok (.getfield 135, 3) := dk_180 0 135 (dk_at dksX2_down_3 1 rfl rfl)
theorem dX2_down_75 : decode cX2_down 75 = .ok (.iload_n 3, 1) := dk_29 (dk_at dksX2_down_3 4 rfl rfl)
theorem dX2_down_76 : decode cX2_down 76 = .ok (.iastore, 1) := dk_79 (dk_at dksX2_down_3 5 rfl rfl)
theorem dX2_down_77 : decode cX2_down 77 = .ok (.aload_n 0, 1) := dk_42 (dk_at dksX2_down_3 6 rfl rfl)
theorem dX2_down_78 : decode cX2_down 78 = .ok (.dup, 1) := dk_89 (dk_at dksX2_down_3 7 rfl rfl)
theorem dX2_down_79 : decode cX2_down 79 = .ok (.getfield 135, 3) := dk_180 0 135 (dk_at dksX2_down_3 8 rfl rfl)
theorem dX2_down_82 : decode cX2_down 82 = .ok (.iconst 1, 1) := dk_4 (dk_at dksX2_down_3 11 rfl rfl)
theorem dX2_down_83 : decode cX2_down 83 = .ok (.iadd, 1) := dk_96 (dk_at dksX2_down_3 12 rfl rfl)
theorem dX2_down_84 : decode cX2_down 84 = .ok (.putfield 135, 3) := dk_181 0 135 (dk_at dksX2_down_3 13 rfl rfl)
theorem dX2_down_87 : decode cX2_down 87 = .ok (.aload_n 0, 1) := dk_42 (dk_at dksX2_down_3 16 rfl rfl)
theorem dX2_down_88 : decode cX2_down 88 = .ok (.getfield 135, 3) := dk_180 0 135 (dk_at dksX2_down_3 17 rfl rfl)
theorem dX2_down_91 : decode cX2_down 91 = .ok (.ireturn, 1) := dk_172 (dk_at dksX2_down_3 20 rfl rfl)
abbrev cX2_about : ByteArray := prog_13_method_20_code
def yX2_about : MethodName := ⟨RX2, "about", "(II)I"⟩
def dkwX2_about_8 : List UInt8 := [132, 4, 1, 167, 255, 220, 29, 172, 16, 254, 172]
abbrev dktX2_about_8 : List UInt8 := dkwX2_about_8 ++ []
def dkwX2_about_7 : List UInt8 := [180, 0, 16, 42, 180, 0, 79, 21, 4, 46, 46, 27, 160, 0, 7, 4, 167, 0, 4, 3, 96, 62]
abbrev dktX2_about_7 : List UInt8 := dkwX2_about_7 ++ dktX2_about_8
def dkwX2_about_6 : List UInt8 := [96, 62, 132, 4, 1, 167, 255, 216, 29, 172, 3, 54, 4, 21, 4, 42, 180, 0, 148, 162, 0, 33, 29, 42]
abbrev dktX2_about_6 : List UInt8 := dkwX2_about_6 ++ dktX2_about_7
def dkwX2_about_5 : List UInt8 := [180, 0, 16, 21, 4, 46, 27, 160, 0, 16, 42, 21, 4, 182, 0, 145, 154, 0, 7, 4, 167, 0, 4, 3]
abbrev dktX2_about_5 : List UInt8 := dkwX2_about_5 ++ dktX2_about_6
def dkwX2_about_4 : List UInt8 := [132, 4, 1, 167, 255, 225, 29, 172, 3, 54, 4, 21, 4, 42, 180, 0, 107, 162, 0, 37, 29, 42]
abbrev dktX2_about_4 : List UInt8 := dkwX2_about_4 ++ dktX2_about_5
def dkwX2_about_3 : List UInt8 := [162, 0, 28, 29, 42, 180, 0, 16, 21, 4, 46, 27, 160, 0, 7, 4, 167, 0, 4, 3, 96, 62]
abbrev dktX2_about_3 : List UInt8 := dkwX2_about_3 ++ dktX2_about_4
def dkwX2_about_2 : List UInt8 := [42, 180, 0, 7, 27, 46, 172, 42, 180, 0, 13, 27, 46, 172, 3, 54, 4, 21, 4, 42, 180, 0, 107]
abbrev dktX2_about_2 : List UInt8 := dkwX2_about_2 ++ dktX2_about_3
def dkwX2_about_1 : List UInt8 := [170, 0, 0, 0, 0, 0, 180, 0, 0, 0, 0, 0, 0, 0, 4, 0, 0, 0, 35, 0, 0, 0, 42, 0, 0, 0, 49, 0, 0, 0, 88, 0, 0, 0, 136]
abbrev dktX2_about_1 : List UInt8 := dkwX2_about_1 ++ dktX2_about_2
def dkwX2_about_0 : List UInt8 := [42, 27, 182, 0, 114, 154, 0, 5, 2, 172, 3, 62, 28]
abbrev dktX2_about_0 : List UInt8 := dkwX2_about_0 ++ dktX2_about_1
theorem dksX2_about_0 : cX2_about.data.toList.drop 0 = dktX2_about_0 := by decide +kernel
theorem dksX2_about_1 : cX2_about.data.toList.drop 13 = dktX2_about_1 := dk_seg dksX2_about_0 13 rfl rfl
theorem dksX2_about_2 : cX2_about.data.toList.drop 48 = dktX2_about_2 := dk_seg dksX2_about_1 35 rfl rfl
theorem dksX2_about_3 : cX2_about.data.toList.drop 71 = dktX2_about_3 := dk_seg dksX2_about_2 23 rfl rfl
theorem dksX2_about_4 : cX2_about.data.toList.drop 93 = dktX2_about_4 := dk_seg dksX2_about_3 22 rfl rfl
theorem dksX2_about_5 : cX2_about.data.toList.drop 115 = dktX2_about_5 := dk_seg dksX2_about_4 22 rfl rfl
theorem dksX2_about_6 : cX2_about.data.toList.drop 139 = dktX2_about_6 := dk_seg dksX2_about_5 24 rfl rfl
theorem dksX2_about_7 : cX2_about.data.toList.drop 163 = dktX2_about_7 := dk_seg dksX2_about_6 24 rfl rfl
theorem dksX2_about_8 : cX2_about.data.toList.drop 185 = dktX2_about_8 := dk_seg dksX2_about_7 22 rfl rfl
theorem dX2_about_0 : decode cX2_about 0 = .ok (.aload_n 0, 1) := dk_42 (dk_at dksX2_about_0 0 rfl rfl)
theorem dX2_about_1 : decode cX2_about 1 = .ok (.iload_n 1, 1) := dk_27 (dk_at dksX2_about_0 1 rfl rfl)
theorem dX2_about_2 : decode cX2_about 2 = .ok (.invokevirtual 114, 3) := dk_182 0 114 (dk_at dksX2_about_0 2 rfl rfl)
theorem dX2_about_5 : decode cX2_about 5 = .ok (.ifCond .ne 5, 3) := dk_154 0 5 (dk_at dksX2_about_0 5 rfl rfl)
theorem dX2_about_8 : decode cX2_about 8 = .ok (.iconst (-1), 1) := dk_2 (dk_at dksX2_about_0 8 rfl rfl)
theorem dX2_about_9 : decode cX2_about 9 = .ok (.ireturn, 1) := dk_172 (dk_at dksX2_about_0 9 rfl rfl)
theorem dX2_about_10 : decode cX2_about 10 = .ok (.iconst 0, 1) := dk_3 (dk_at dksX2_about_0 10 rfl rfl)
theorem dX2_about_11 : decode cX2_about 11 = .ok (.istore_n 3, 1) := dk_62 (dk_at dksX2_about_0 11 rfl rfl)
theorem dX2_about_12 : decode cX2_about 12 = .ok (.iload_n 2, 1) := dk_28 (dk_at dksX2_about_0 12 rfl rfl)
theorem dX2_about_13 : decode cX2_about 13 = .ok (.tableswitch 180 0 4 #[35, 42, 49, 88, 136], 35) := by decide +kernel
theorem dX2_about_48 : decode cX2_about 48 = .ok (.aload_n 0, 1) := dk_42 (dk_at dksX2_about_2 0 rfl rfl)
theorem dX2_about_49 : decode cX2_about 49 = .ok (.getfield 7, 3) := dk_180 0 7 (dk_at dksX2_about_2 1 rfl rfl)
theorem dX2_about_52 : decode cX2_about 52 = .ok (.iload_n 1, 1) := dk_27 (dk_at dksX2_about_2 4 rfl rfl)
theorem dX2_about_53 : decode cX2_about 53 = .ok (.iaload, 1) := dk_46 (dk_at dksX2_about_2 5 rfl rfl)
theorem dX2_about_54 : decode cX2_about 54 = .ok (.ireturn, 1) := dk_172 (dk_at dksX2_about_2 6 rfl rfl)
theorem dX2_about_55 : decode cX2_about 55 = .ok (.aload_n 0, 1) := dk_42 (dk_at dksX2_about_2 7 rfl rfl)
theorem dX2_about_56 : decode cX2_about 56 = .ok (.getfield 13, 3) := dk_180 0 13 (dk_at dksX2_about_2 8 rfl rfl)
theorem dX2_about_59 : decode cX2_about 59 = .ok (.iload_n 1, 1) := dk_27 (dk_at dksX2_about_2 11 rfl rfl)
theorem dX2_about_60 : decode cX2_about 60 = .ok (.iaload, 1) := dk_46 (dk_at dksX2_about_2 12 rfl rfl)
theorem dX2_about_61 : decode cX2_about 61 = .ok (.ireturn, 1) := dk_172 (dk_at dksX2_about_2 13 rfl rfl)
theorem dX2_about_62 : decode cX2_about 62 = .ok (.iconst 0, 1) := dk_3 (dk_at dksX2_about_2 14 rfl rfl)
theorem dX2_about_63 : decode cX2_about 63 = .ok (.istore 4, 2) := dk_54 4 (dk_at dksX2_about_2 15 rfl rfl)
theorem dX2_about_65 : decode cX2_about 65 = .ok (.iload 4, 2) := dk_21 4 (dk_at dksX2_about_2 17 rfl rfl)
theorem dX2_about_67 : decode cX2_about 67 = .ok (.aload_n 0, 1) := dk_42 (dk_at dksX2_about_2 19 rfl rfl)
theorem dX2_about_68 : decode cX2_about 68 = .ok (.getfield 107, 3) := dk_180 0 107 (dk_at dksX2_about_2 20 rfl rfl)
theorem dX2_about_71 : decode cX2_about 71 = .ok (.if_icmp .ge 28, 3) := dk_162 0 28 (dk_at dksX2_about_3 0 rfl rfl)
theorem dX2_about_74 : decode cX2_about 74 = .ok (.iload_n 3, 1) := dk_29 (dk_at dksX2_about_3 3 rfl rfl)
theorem dX2_about_75 : decode cX2_about 75 = .ok (.aload_n 0, 1) := dk_42 (dk_at dksX2_about_3 4 rfl rfl)
theorem dX2_about_76 : decode cX2_about 76 = .ok (.getfield 16, 3) := dk_180 0 16 (dk_at dksX2_about_3 5 rfl rfl)
theorem dX2_about_79 : decode cX2_about 79 = .ok (.iload 4, 2) := dk_21 4 (dk_at dksX2_about_3 8 rfl rfl)
theorem dX2_about_81 : decode cX2_about 81 = .ok (.iaload, 1) := dk_46 (dk_at dksX2_about_3 10 rfl rfl)
theorem dX2_about_82 : decode cX2_about 82 = .ok (.iload_n 1, 1) := dk_27 (dk_at dksX2_about_3 11 rfl rfl)
theorem dX2_about_83 : decode cX2_about 83 = .ok (.if_icmp .ne 7, 3) := dk_160 0 7 (dk_at dksX2_about_3 12 rfl rfl)
theorem dX2_about_86 : decode cX2_about 86 = .ok (.iconst 1, 1) := dk_4 (dk_at dksX2_about_3 15 rfl rfl)
theorem dX2_about_87 : decode cX2_about 87 = .ok (.goto 4, 3) := dk_167 0 4 (dk_at dksX2_about_3 16 rfl rfl)
theorem dX2_about_90 : decode cX2_about 90 = .ok (.iconst 0, 1) := dk_3 (dk_at dksX2_about_3 19 rfl rfl)
theorem dX2_about_91 : decode cX2_about 91 = .ok (.iadd, 1) := dk_96 (dk_at dksX2_about_3 20 rfl rfl)
theorem dX2_about_92 : decode cX2_about 92 = .ok (.istore_n 3, 1) := dk_62 (dk_at dksX2_about_3 21 rfl rfl)
theorem dX2_about_93 : decode cX2_about 93 = .ok (.iinc 4 1, 3) := dk_132 4 1 (dk_at dksX2_about_4 0 rfl rfl)
theorem dX2_about_96 : decode cX2_about 96 = .ok (.goto (-31), 3) := dk_167 255 225 (dk_at dksX2_about_4 3 rfl rfl)
theorem dX2_about_99 : decode cX2_about 99 = .ok (.iload_n 3, 1) := dk_29 (dk_at dksX2_about_4 6 rfl rfl)
theorem dX2_about_100 : decode cX2_about 100 = .ok (.ireturn, 1) := dk_172 (dk_at dksX2_about_4 7 rfl rfl)
theorem dX2_about_101 : decode cX2_about 101 = .ok (.iconst 0, 1) := dk_3 (dk_at dksX2_about_4 8 rfl rfl)
theorem dX2_about_102 : decode cX2_about 102 = .ok (.istore 4, 2) := dk_54 4 (dk_at dksX2_about_4 9 rfl rfl)
theorem dX2_about_104 : decode cX2_about 104 = .ok (.iload 4, 2) := dk_21 4 (dk_at dksX2_about_4 11 rfl rfl)
theorem dX2_about_106 : decode cX2_about 106 = .ok (.aload_n 0, 1) := dk_42 (dk_at dksX2_about_4 13 rfl rfl)
theorem dX2_about_107 : decode cX2_about 107 = .ok (.getfield 107, 3) := dk_180 0 107 (dk_at dksX2_about_4 14 rfl rfl)
theorem dX2_about_110 : decode cX2_about 110 = .ok (.if_icmp .ge 37, 3) := dk_162 0 37 (dk_at dksX2_about_4 17 rfl rfl)
theorem dX2_about_113 : decode cX2_about 113 = .ok (.iload_n 3, 1) := dk_29 (dk_at dksX2_about_4 20 rfl rfl)
theorem dX2_about_114 : decode cX2_about 114 = .ok (.aload_n 0, 1) := dk_42 (dk_at dksX2_about_4 21 rfl rfl)
theorem dX2_about_115 : decode cX2_about 115 = .ok (.getfield 16, 3) := dk_180 0 16 (dk_at dksX2_about_5 0 rfl rfl)
theorem dX2_about_118 : decode cX2_about 118 = .ok (.iload 4, 2) := dk_21 4 (dk_at dksX2_about_5 3 rfl rfl)
theorem dX2_about_120 : decode cX2_about 120 = .ok (.iaload, 1) := dk_46 (dk_at dksX2_about_5 5 rfl rfl)
theorem dX2_about_121 : decode cX2_about 121 = .ok (.iload_n 1, 1) := dk_27 (dk_at dksX2_about_5 6 rfl rfl)
theorem dX2_about_122 : decode cX2_about 122 = .ok (.if_icmp .ne 16, 3) := dk_160 0 16 (dk_at dksX2_about_5 7 rfl rfl)
theorem dX2_about_125 : decode cX2_about 125 = .ok (.aload_n 0, 1) := dk_42 (dk_at dksX2_about_5 10 rfl rfl)
theorem dX2_about_126 : decode cX2_about 126 = .ok (.iload 4, 2) := dk_21 4 (dk_at dksX2_about_5 11 rfl rfl)
theorem dX2_about_128 : decode cX2_about 128 = .ok (.invokevirtual 145, 3) := dk_182 0 145 (dk_at dksX2_about_5 13 rfl rfl)
theorem dX2_about_131 : decode cX2_about 131 = .ok (.ifCond .ne 7, 3) := dk_154 0 7 (dk_at dksX2_about_5 16 rfl rfl)
theorem dX2_about_134 : decode cX2_about 134 = .ok (.iconst 1, 1) := dk_4 (dk_at dksX2_about_5 19 rfl rfl)
theorem dX2_about_135 : decode cX2_about 135 = .ok (.goto 4, 3) := dk_167 0 4 (dk_at dksX2_about_5 20 rfl rfl)
theorem dX2_about_138 : decode cX2_about 138 = .ok (.iconst 0, 1) := dk_3 (dk_at dksX2_about_5 23 rfl rfl)
theorem dX2_about_139 : decode cX2_about 139 = .ok (.iadd, 1) := dk_96 (dk_at dksX2_about_6 0 rfl rfl)
theorem dX2_about_140 : decode cX2_about 140 = .ok (.istore_n 3, 1) := dk_62 (dk_at dksX2_about_6 1 rfl rfl)
theorem dX2_about_141 : decode cX2_about 141 = .ok (.iinc 4 1, 3) := dk_132 4 1 (dk_at dksX2_about_6 2 rfl rfl)
theorem dX2_about_144 : decode cX2_about 144 = .ok (.goto (-40), 3) := dk_167 255 216 (dk_at dksX2_about_6 5 rfl rfl)
theorem dX2_about_147 : decode cX2_about 147 = .ok (.iload_n 3, 1) := dk_29 (dk_at dksX2_about_6 8 rfl rfl)
theorem dX2_about_148 : decode cX2_about 148 = .ok (.ireturn, 1) := dk_172 (dk_at dksX2_about_6 9 rfl rfl)
theorem dX2_about_149 : decode cX2_about 149 = .ok (.iconst 0, 1) := dk_3 (dk_at dksX2_about_6 10 rfl rfl)
theorem dX2_about_150 : decode cX2_about 150 = .ok (.istore 4, 2) := dk_54 4 (dk_at dksX2_about_6 11 rfl rfl)
theorem dX2_about_152 : decode cX2_about 152 = .ok (.iload 4, 2) := dk_21 4 (dk_at dksX2_about_6 13 rfl rfl)
theorem dX2_about_154 : decode cX2_about 154 = .ok (.aload_n 0, 1) := dk_42 (dk_at dksX2_about_6 15 rfl rfl)
theorem dX2_about_155 : decode cX2_about 155 = .ok (.getfield 148, 3) := dk_180 0 148 (dk_at dksX2_about_6 16 rfl rfl)
theorem dX2_about_158 : decode cX2_about 158 = .ok (.if_icmp .ge 33, 3) := dk_162 0 33 (dk_at dksX2_about_6 19 rfl rfl)
theorem dX2_about_161 : decode cX2_about 161 = .ok (.iload_n 3, 1) := dk_29 (dk_at dksX2_about_6 22 rfl rfl)
theorem dX2_about_162 : decode cX2_about 162 = .ok (.aload_n 0, 1) := dk_42 (dk_at dksX2_about_6 23 rfl rfl)
theorem dX2_about_163 : decode cX2_about 163 = .ok (.getfield 16, 3) := dk_180 0 16 (dk_at dksX2_about_7 0 rfl rfl)
theorem dX2_about_166 : decode cX2_about 166 = .ok (.aload_n 0, 1) := dk_42 (dk_at dksX2_about_7 3 rfl rfl)
theorem dX2_about_167 : decode cX2_about 167 = .ok (.getfield 79, 3) := dk_180 0 79 (dk_at dksX2_about_7 4 rfl rfl)
theorem dX2_about_170 : decode cX2_about 170 = .ok (.iload 4, 2) := dk_21 4 (dk_at dksX2_about_7 7 rfl rfl)
theorem dX2_about_172 : decode cX2_about 172 = .ok (.iaload, 1) := dk_46 (dk_at dksX2_about_7 9 rfl rfl)
theorem dX2_about_173 : decode cX2_about 173 = .ok (.iaload, 1) := dk_46 (dk_at dksX2_about_7 10 rfl rfl)
theorem dX2_about_174 : decode cX2_about 174 = .ok (.iload_n 1, 1) := dk_27 (dk_at dksX2_about_7 11 rfl rfl)
theorem dX2_about_175 : decode cX2_about 175 = .ok (.if_icmp .ne 7, 3) := dk_160 0 7 (dk_at dksX2_about_7 12 rfl rfl)
theorem dX2_about_178 : decode cX2_about 178 = .ok (.iconst 1, 1) := dk_4 (dk_at dksX2_about_7 15 rfl rfl)
theorem dX2_about_179 : decode cX2_about 179 = .ok (.goto 4, 3) := dk_167 0 4 (dk_at dksX2_about_7 16 rfl rfl)
theorem dX2_about_182 : decode cX2_about 182 = .ok (.iconst 0, 1) := dk_3 (dk_at dksX2_about_7 19 rfl rfl)
theorem dX2_about_183 : decode cX2_about 183 = .ok (.iadd, 1) := dk_96 (dk_at dksX2_about_7 20 rfl rfl)
theorem dX2_about_184 : decode cX2_about 184 = .ok (.istore_n 3, 1) := dk_62 (dk_at dksX2_about_7 21 rfl rfl)
theorem dX2_about_185 : decode cX2_about 185 = .ok (.iinc 4 1, 3) := dk_132 4 1 (dk_at dksX2_about_8 0 rfl rfl)
theorem dX2_about_188 : decode cX2_about 188 = .ok (.goto (-36), 3) := dk_167 255 220 (dk_at dksX2_about_8 3 rfl rfl)
theorem dX2_about_191 : decode cX2_about 191 = .ok (.iload_n 3, 1) := dk_29 (dk_at dksX2_about_8 6 rfl rfl)
theorem dX2_about_192 : decode cX2_about 192 = .ok (.ireturn, 1) := dk_172 (dk_at dksX2_about_8 7 rfl rfl)
theorem dX2_about_193 : decode cX2_about 193 = .ok (.bipush (-2), 2) := dk_16 254 (dk_at dksX2_about_8 8 rfl rfl)
theorem dX2_about_195 : decode cX2_about 195 = .ok (.ireturn, 1) := dk_172 (dk_at dksX2_about_8 10 rfl rfl)
abbrev cX2_isLooked : ByteArray := prog_13_method_19_code
def yX2_isLooked : MethodName := ⟨RX2, "isLooked", "(I)Z"⟩
def dkwX2_isLooked_1 : List UInt8 := [167, 0, 4, 3, 172]
abbrev dktX2_isLooked_1 : List UInt8 := dkwX2_isLooked_1 ++ []
def dkwX2_isLooked_0 : List UInt8 := [42, 42, 180, 0, 16, 27, 46, 42, 180, 0, 19, 27, 46, 182, 0, 141, 16, 247, 160, 0, 7, 4]
abbrev dktX2_isLooked_0 : List UInt8 := dkwX2_isLooked_0 ++ dktX2_isLooked_1
theorem dksX2_isLooked_0 : cX2_isLooked.data.toList.drop 0 = dktX2_isLooked_0 := by decide +kernel
theorem dksX2_isLooked_1 : cX2_isLooked.data.toList.drop 22 = dktX2_isLooked_1 := dk_seg dksX2_isLooked_0 22 rfl rfl
theorem dX2_isLooked_0 : decode cX2_isLooked 0 = .ok (.aload_n 0, 1) := dk_42 (dk_at dksX2_isLooked_0 0 rfl rfl)
theorem dX2_isLooked_1 : decode cX2_isLooked 1 = .ok (.aload_n 0, 1) := dk_42 (dk_at dksX2_isLooked_0 1 rfl rfl)
theorem dX2_isLooked_2 : decode cX2_isLooked 2 = .ok (.getfield 16, 3) := dk_180 0 16 (dk_at dksX2_isLooked_0 2 rfl rfl)
theorem dX2_isLooked_5 : decode cX2_isLooked 5 = .ok (.iload_n 1, 1) := dk_27 (dk_at dksX2_isLooked_0 5 rfl rfl)
theorem dX2_isLooked_6 : decode cX2_isLooked 6 = .ok (.iaload, 1) := dk_46 (dk_at dksX2_isLooked_0 6 rfl rfl)
theorem dX2_isLooked_7 : decode cX2_isLooked 7 = .ok (.aload_n 0, 1) := dk_42 (dk_at dksX2_isLooked_0 7 rfl rfl)
theorem dX2_isLooked_8 : decode cX2_isLooked 8 = .ok (.getfield 19, 3) := dk_180 0 19 (dk_at dksX2_isLooked_0 8 rfl rfl)
theorem dX2_isLooked_11 : decode cX2_isLooked 11 = .ok (.iload_n 1, 1) := dk_27 (dk_at dksX2_isLooked_0 11 rfl rfl)
theorem dX2_isLooked_12 : decode cX2_isLooked 12 = .ok (.iaload, 1) := dk_46 (dk_at dksX2_isLooked_0 12 rfl rfl)
theorem dX2_isLooked_13 : decode cX2_isLooked 13 = .ok (.invokevirtual 141, 3) := dk_182 0 141 (dk_at dksX2_isLooked_0 13 rfl rfl)
theorem dX2_isLooked_16 : decode cX2_isLooked 16 = .ok (.bipush (-9), 2) := dk_16 247 (dk_at dksX2_isLooked_0 16 rfl rfl)
theorem dX2_isLooked_18 : decode cX2_isLooked 18 = .ok (.if_icmp .ne 7, 3) := dk_160 0 7 (dk_at dksX2_isLooked_0 18 rfl rfl)
theorem dX2_isLooked_21 : decode cX2_isLooked 21 = .ok (.iconst 1, 1) := dk_4 (dk_at dksX2_isLooked_0 21 rfl rfl)
theorem dX2_isLooked_22 : decode cX2_isLooked 22 = .ok (.goto 4, 3) := dk_167 0 4 (dk_at dksX2_isLooked_1 0 rfl rfl)
theorem dX2_isLooked_25 : decode cX2_isLooked 25 = .ok (.iconst 0, 1) := dk_3 (dk_at dksX2_isLooked_1 3 rfl rfl)
theorem dX2_isLooked_26 : decode cX2_isLooked 26 = .ok (.ireturn, 1) := dk_172 (dk_at dksX2_isLooked_1 4 rfl rfl)
abbrev cX2_downUpTo : ByteArray := prog_13_method_18_code
def yX2_downUpTo : MethodName := ⟨RX2, "downUpTo", "(II)I"⟩
def dkwX2_downUpTo_3 : List UInt8 := [132, 4, 1, 167, 255, 192, 29, 172]
abbrev dktX2_downUpTo_3 : List UInt8 := dkwX2_downUpTo_3 ++ []
def dkwX2_downUpTo_2 : List UInt8 := [162, 0, 22, 42, 180, 0, 43, 21, 4, 46, 29, 164, 0, 11, 42, 180, 0, 43, 21, 4, 46, 62]
abbrev dktX2_downUpTo_2 : List UInt8 := dkwX2_downUpTo_2 ++ dktX2_downUpTo_3
def dkwX2_downUpTo_1 : List UInt8 := [160, 0, 44, 28, 42, 180, 0, 40, 21, 4, 46, 161, 0, 33, 28, 42, 180, 0, 43, 21, 4, 46]
abbrev dktX2_downUpTo_1 : List UInt8 := dkwX2_downUpTo_1 ++ dktX2_downUpTo_2
def dkwX2_downUpTo_0 : List UInt8 := [16, 247, 62, 3, 54, 4, 21, 4, 42, 180, 0, 135, 162, 0, 61, 42, 180, 0, 37, 21, 4, 46, 27]
abbrev dktX2_downUpTo_0 : List UInt8 := dkwX2_downUpTo_0 ++ dktX2_downUpTo_1
theorem dksX2_downUpTo_0 : cX2_downUpTo.data.toList.drop 0 = dktX2_downUpTo_0 := by decide +kernel
theorem dksX2_downUpTo_1 : cX2_downUpTo.data.toList.drop 23 = dktX2_downUpTo_1 := dk_seg dksX2_downUpTo_0 23 rfl rfl
theorem dksX2_downUpTo_2 : cX2_downUpTo.data.toList.drop 45 = dktX2_downUpTo_2 := dk_seg dksX2_downUpTo_1 22 rfl rfl
theorem dksX2_downUpTo_3 : cX2_downUpTo.data.toList.drop 67 = dktX2_downUpTo_3 := dk_seg dksX2_downUpTo_2 22 rfl rfl
theorem dX2_downUpTo_0 : decode cX2_downUpTo 0 = .ok (.bipush (-9), 2) := dk_16 247 (dk_at dksX2_downUpTo_0 0 rfl rfl)
theorem dX2_downUpTo_2 : decode cX2_downUpTo 2 = .ok (.istore_n 3, 1) := dk_62 (dk_at dksX2_downUpTo_0 2 rfl rfl)
theorem dX2_downUpTo_3 : decode cX2_downUpTo 3 = .ok (.iconst 0, 1) := dk_3 (dk_at dksX2_downUpTo_0 3 rfl rfl)
theorem dX2_downUpTo_4 : decode cX2_downUpTo 4 = .ok (.istore 4, 2) := dk_54 4 (dk_at dksX2_downUpTo_0 4 rfl rfl)
theorem dX2_downUpTo_6 : decode cX2_downUpTo 6 = .ok (.iload 4, 2) := dk_21 4 (dk_at dksX2_downUpTo_0 6 rfl rfl)
theorem dX2_downUpTo_8 : decode cX2_downUpTo 8 = .ok (.aload_n 0, 1) := dk_42 (dk_at dksX2_downUpTo_0 8 rfl rfl)
theorem dX2_downUpTo_9 : decode cX2_downUpTo 9 = .ok (.getfield 135, 3) := dk_180 0 135 (dk_at dksX2_downUpTo_0 9 rfl rfl)
theorem dX2_downUpTo_12 : decode cX2_downUpTo 12 = .ok (.if_icmp .ge 61, 3) := dk_162 0 61 (dk_at dksX2_downUpTo_0 12 rfl rfl)
theorem dX2_downUpTo_15 : decode cX2_downUpTo 15 = .ok (.aload_n 0, 1) := dk_42 (dk_at dksX2_downUpTo_0 15 rfl rfl)
theorem dX2_downUpTo_16 : decode cX2_downUpTo 16 = .ok (.getfield 37, 3) := dk_180 0 37 (dk_at dksX2_downUpTo_0 16 rfl rfl)
theorem dX2_downUpTo_19 : decode cX2_downUpTo 19 = .ok (.iload 4, 2) := dk_21 4 (dk_at dksX2_downUpTo_0 19 rfl rfl)
theorem dX2_downUpTo_21 : decode cX2_downUpTo 21 = .ok (.iaload, 1) := dk_46 (dk_at dksX2_downUpTo_0 21 rfl rfl)
theorem dX2_downUpTo_22 : decode cX2_downUpTo 22 = .ok (.iload_n 1, 1) := dk_27 (dk_at dksX2_downUpTo_0 22 rfl rfl)
theorem dX2_downUpTo_23 : decode cX2_downUpTo 23 = .ok (.if_icmp .ne 44, 3) := dk_160 0 44 (dk_at dksX2_downUpTo_1 0 rfl rfl)
theorem dX2_downUpTo_26 : decode cX2_downUpTo 26 = .ok (.iload_n 2, 1) := dk_28 (dk_at dksX2_downUpTo_1 3 rfl rfl)
theorem dX2_downUpTo_27 : decode cX2_downUpTo 27 = .ok (.aload_n 0, 1) := dk_42 (dk_at dksX2_downUpTo_1 4 rfl rfl)
theorem dX2_downUpTo_28 : decode cX2_downUpTo 28 = .ok (.getfield 40, 3) := dk_180 0 40 (dk_at dksX2_downUpTo_1 5 rfl rfl)
theorem dX2_downUpTo_31 : decode cX2_downUpTo 31 = .ok (.iload 4, 2) := dk_21 4 (dk_at dksX2_downUpTo_1 8 rfl rfl)
theorem dX2_downUpTo_33 : decode cX2_downUpTo 33 = .ok (.iaload, 1) := dk_46 (dk_at dksX2_downUpTo_1 10 rfl rfl)
theorem dX2_downUpTo_34 : decode cX2_downUpTo 34 = .ok (.if_icmp .lt 33, 3) := dk_161 0 33 (dk_at dksX2_downUpTo_1 11 rfl rfl)
theorem dX2_downUpTo_37 : decode cX2_downUpTo 37 = .ok (.iload_n 2, 1) := dk_28 (dk_at dksX2_downUpTo_1 14 rfl rfl)
theorem dX2_downUpTo_38 : decode cX2_downUpTo 38 = .ok (.aload_n 0, 1) := dk_42 (dk_at dksX2_downUpTo_1 15 rfl rfl)
theorem dX2_downUpTo_39 : decode cX2_downUpTo 39 = .ok (.getfield 43, 3) := dk_180 0 43 (dk_at dksX2_downUpTo_1 16 rfl rfl)
theorem dX2_downUpTo_42 : decode cX2_downUpTo 42 = .ok (.iload 4, 2) := dk_21 4 (dk_at dksX2_downUpTo_1 19 rfl rfl)
theorem dX2_downUpTo_44 : decode cX2_downUpTo 44 = .ok (.iaload, 1) := dk_46 (dk_at dksX2_downUpTo_1 21 rfl rfl)
theorem dX2_downUpTo_45 : decode cX2_downUpTo 45 = .ok (.if_icmp .ge 22, 3) := dk_162 0 22 (dk_at dksX2_downUpTo_2 0 rfl rfl)
theorem dX2_downUpTo_48 : decode cX2_downUpTo 48 = .ok (.aload_n 0, 1) := dk_42 (dk_at dksX2_downUpTo_2 3 rfl rfl)
theorem dX2_downUpTo_49 : decode cX2_downUpTo 49 = .ok (.getfield 43, 3) := dk_180 0 43 (dk_at dksX2_downUpTo_2 4 rfl rfl)
theorem dX2_downUpTo_52 : decode cX2_downUpTo 52 = .ok (.iload 4, 2) := dk_21 4 (dk_at dksX2_downUpTo_2 7 rfl rfl)
theorem dX2_downUpTo_54 : decode cX2_downUpTo 54 = .ok (.iaload, 1) := dk_46 (dk_at dksX2_downUpTo_2 9 rfl rfl)
theorem dX2_downUpTo_55 : decode cX2_downUpTo 55 = .ok (.iload_n 3, 1) := dk_29 (dk_at dksX2_downUpTo_2 10 rfl rfl)
theorem dX2_downUpTo_56 : decode cX2_downUpTo 56 = .ok (.if_icmp .le 11, 3) := dk_164 0 11 (dk_at dksX2_downUpTo_2 11 rfl rfl)
theorem dX2_downUpTo_59 : decode cX2_downUpTo 59 = .ok (.aload_n 0, 1) := dk_42 (dk_at dksX2_downUpTo_2 14 rfl rfl)
theorem dX2_downUpTo_60 : decode cX2_downUpTo 60 = .ok (.getfield 43, 3) := dk_180 0 43 (dk_at dksX2_downUpTo_2 15 rfl rfl)
theorem dX2_downUpTo_63 : decode cX2_downUpTo 63 = .ok (.iload 4, 2) := dk_21 4 (dk_at dksX2_downUpTo_2 18 rfl rfl)
theorem dX2_downUpTo_65 : decode cX2_downUpTo 65 = .ok (.iaload, 1) := dk_46 (dk_at dksX2_downUpTo_2 20 rfl rfl)
theorem dX2_downUpTo_66 : decode cX2_downUpTo 66 = .ok (.istore_n 3, 1) := dk_62 (dk_at dksX2_downUpTo_2 21 rfl rfl)
theorem dX2_downUpTo_67 : decode cX2_downUpTo 67 = .ok (.iinc 4 1, 3) := dk_132 4 1 (dk_at dksX2_downUpTo_3 0 rfl rfl)
theorem dX2_downUpTo_70 : decode cX2_downUpTo 70 = .ok (.goto (-64), 3) := dk_167 255 192 (dk_at dksX2_downUpTo_3 3 rfl rfl)
theorem dX2_downUpTo_73 : decode cX2_downUpTo 73 = .ok (.iload_n 3, 1) := dk_29 (dk_at dksX2_downUpTo_3 6 rfl rfl)
theorem dX2_downUpTo_74 : decode cX2_downUpTo 74 = .ok (.ireturn, 1) := dk_172 (dk_at dksX2_downUpTo_3 7 rfl rfl)
abbrev cX2_struck : ByteArray := prog_13_method_21_code
def yX2_struck : MethodName := ⟨RX2, "struck", "(II)I"⟩
def dkwX2_struck_6 : List UInt8 := [167, 255, 227, 132, 3, 1, 167, 255, 205, 16, 247, 172, 16, 254, 172]
abbrev dktX2_struck_6 : List UInt8 := dkwX2_struck_6 ++ []
def dkwX2_struck_5 : List UInt8 := [29, 4, 96, 46, 162, 0, 22, 42, 180, 0, 79, 21, 4, 46, 27, 160, 0, 5, 29, 172, 132, 4, 1]
abbrev dktX2_struck_5 : List UInt8 := dkwX2_struck_5 ++ dktX2_struck_6
def dkwX2_struck_4 : List UInt8 := [3, 62, 29, 42, 180, 0, 160, 162, 0, 49, 42, 180, 0, 76, 29, 46, 54, 4, 21, 4, 42, 180, 0, 76]
abbrev dktX2_struck_4 : List UInt8 := dkwX2_struck_4 ++ dktX2_struck_5
def dkwX2_struck_3 : List UInt8 := [182, 0, 138, 172, 42, 27, 182, 0, 157, 172, 42, 27, 182, 0, 145, 153, 0, 7, 4, 167, 0, 4, 3, 172]
abbrev dktX2_struck_3 : List UInt8 := dkwX2_struck_3 ++ dktX2_struck_4
def dkwX2_struck_2 : List UInt8 := [42, 180, 0, 16, 27, 46, 172, 42, 180, 0, 19, 27, 46, 172, 42, 27, 182, 0, 154, 172, 42, 27]
abbrev dktX2_struck_2 : List UInt8 := dkwX2_struck_2 ++ dktX2_struck_3
def dkwX2_struck_1 : List UInt8 := [170, 0, 0, 0, 146, 0, 0, 0, 0, 0, 0, 0, 6, 0, 0, 0, 41, 0, 0, 0, 48, 0, 0, 0, 55, 0, 0, 0, 61, 0, 0, 0, 67, 0, 0, 0, 73, 0, 0, 0, 87]
abbrev dktX2_struck_1 : List UInt8 := dkwX2_struck_1 ++ dktX2_struck_2
def dkwX2_struck_0 : List UInt8 := [42, 27, 182, 0, 151, 154, 0, 5, 2, 172, 28]
abbrev dktX2_struck_0 : List UInt8 := dkwX2_struck_0 ++ dktX2_struck_1
theorem dksX2_struck_0 : cX2_struck.data.toList.drop 0 = dktX2_struck_0 := by decide +kernel
theorem dksX2_struck_1 : cX2_struck.data.toList.drop 11 = dktX2_struck_1 := dk_seg dksX2_struck_0 11 rfl rfl
theorem dksX2_struck_2 : cX2_struck.data.toList.drop 52 = dktX2_struck_2 := dk_seg dksX2_struck_1 41 rfl rfl
theorem dksX2_struck_3 : cX2_struck.data.toList.drop 74 = dktX2_struck_3 := dk_seg dksX2_struck_2 22 rfl rfl
theorem dksX2_struck_4 : cX2_struck.data.toList.drop 98 = dktX2_struck_4 := dk_seg dksX2_struck_3 24 rfl rfl
theorem dksX2_struck_5 : cX2_struck.data.toList.drop 122 = dktX2_struck_5 := dk_seg dksX2_struck_4 24 rfl rfl
theorem dksX2_struck_6 : cX2_struck.data.toList.drop 145 = dktX2_struck_6 := dk_seg dksX2_struck_5 23 rfl rfl
theorem dX2_struck_0 : decode cX2_struck 0 = .ok (.aload_n 0, 1) := dk_42 (dk_at dksX2_struck_0 0 rfl rfl)
theorem dX2_struck_1 : decode cX2_struck 1 = .ok (.iload_n 1, 1) := dk_27 (dk_at dksX2_struck_0 1 rfl rfl)
theorem dX2_struck_2 : decode cX2_struck 2 = .ok (.invokevirtual 151, 3) := dk_182 0 151 (dk_at dksX2_struck_0 2 rfl rfl)
theorem dX2_struck_5 : decode cX2_struck 5 = .ok (.ifCond .ne 5, 3) := dk_154 0 5 (dk_at dksX2_struck_0 5 rfl rfl)
theorem dX2_struck_8 : decode cX2_struck 8 = .ok (.iconst (-1), 1) := dk_2 (dk_at dksX2_struck_0 8 rfl rfl)
theorem dX2_struck_9 : decode cX2_struck 9 = .ok (.ireturn, 1) := dk_172 (dk_at dksX2_struck_0 9 rfl rfl)
theorem dX2_struck_10 : decode cX2_struck 10 = .ok (.iload_n 2, 1) := dk_28 (dk_at dksX2_struck_0 10 rfl rfl)
theorem dX2_struck_11 : decode cX2_struck 11 = .ok (.tableswitch 146 0 6 #[41, 48, 55, 61, 67, 73, 87], 41) := by decide +kernel
theorem dX2_struck_52 : decode cX2_struck 52 = .ok (.aload_n 0, 1) := dk_42 (dk_at dksX2_struck_2 0 rfl rfl)
theorem dX2_struck_53 : decode cX2_struck 53 = .ok (.getfield 16, 3) := dk_180 0 16 (dk_at dksX2_struck_2 1 rfl rfl)
theorem dX2_struck_56 : decode cX2_struck 56 = .ok (.iload_n 1, 1) := dk_27 (dk_at dksX2_struck_2 4 rfl rfl)
theorem dX2_struck_57 : decode cX2_struck 57 = .ok (.iaload, 1) := dk_46 (dk_at dksX2_struck_2 5 rfl rfl)
theorem dX2_struck_58 : decode cX2_struck 58 = .ok (.ireturn, 1) := dk_172 (dk_at dksX2_struck_2 6 rfl rfl)
theorem dX2_struck_59 : decode cX2_struck 59 = .ok (.aload_n 0, 1) := dk_42 (dk_at dksX2_struck_2 7 rfl rfl)
theorem dX2_struck_60 : decode cX2_struck 60 = .ok (.getfield 19, 3) := dk_180 0 19 (dk_at dksX2_struck_2 8 rfl rfl)
theorem dX2_struck_63 : decode cX2_struck 63 = .ok (.iload_n 1, 1) := dk_27 (dk_at dksX2_struck_2 11 rfl rfl)
theorem dX2_struck_64 : decode cX2_struck 64 = .ok (.iaload, 1) := dk_46 (dk_at dksX2_struck_2 12 rfl rfl)
theorem dX2_struck_65 : decode cX2_struck 65 = .ok (.ireturn, 1) := dk_172 (dk_at dksX2_struck_2 13 rfl rfl)
theorem dX2_struck_66 : decode cX2_struck 66 = .ok (.aload_n 0, 1) := dk_42 (dk_at dksX2_struck_2 14 rfl rfl)
theorem dX2_struck_67 : decode cX2_struck 67 = .ok (.iload_n 1, 1) := dk_27 (dk_at dksX2_struck_2 15 rfl rfl)
theorem dX2_struck_68 : decode cX2_struck 68 = .ok (.invokevirtual 154, 3) := dk_182 0 154 (dk_at dksX2_struck_2 16 rfl rfl)
theorem dX2_struck_71 : decode cX2_struck 71 = .ok (.ireturn, 1) := dk_172 (dk_at dksX2_struck_2 19 rfl rfl)
theorem dX2_struck_72 : decode cX2_struck 72 = .ok (.aload_n 0, 1) := dk_42 (dk_at dksX2_struck_2 20 rfl rfl)
theorem dX2_struck_73 : decode cX2_struck 73 = .ok (.iload_n 1, 1) := dk_27 (dk_at dksX2_struck_2 21 rfl rfl)
theorem dX2_struck_74 : decode cX2_struck 74 = .ok (.invokevirtual 138, 3) := dk_182 0 138 (dk_at dksX2_struck_3 0 rfl rfl)
theorem dX2_struck_77 : decode cX2_struck 77 = .ok (.ireturn, 1) := dk_172 (dk_at dksX2_struck_3 3 rfl rfl)
theorem dX2_struck_78 : decode cX2_struck 78 = .ok (.aload_n 0, 1) := dk_42 (dk_at dksX2_struck_3 4 rfl rfl)
theorem dX2_struck_79 : decode cX2_struck 79 = .ok (.iload_n 1, 1) := dk_27 (dk_at dksX2_struck_3 5 rfl rfl)
theorem dX2_struck_80 : decode cX2_struck 80 = .ok (.invokevirtual 157, 3) := dk_182 0 157 (dk_at dksX2_struck_3 6 rfl rfl)
theorem dX2_struck_83 : decode cX2_struck 83 = .ok (.ireturn, 1) := dk_172 (dk_at dksX2_struck_3 9 rfl rfl)
theorem dX2_struck_84 : decode cX2_struck 84 = .ok (.aload_n 0, 1) := dk_42 (dk_at dksX2_struck_3 10 rfl rfl)
theorem dX2_struck_85 : decode cX2_struck 85 = .ok (.iload_n 1, 1) := dk_27 (dk_at dksX2_struck_3 11 rfl rfl)
theorem dX2_struck_86 : decode cX2_struck 86 = .ok (.invokevirtual 145, 3) := dk_182 0 145 (dk_at dksX2_struck_3 12 rfl rfl)
theorem dX2_struck_89 : decode cX2_struck 89 = .ok (.ifCond .eq 7, 3) := dk_153 0 7 (dk_at dksX2_struck_3 15 rfl rfl)
theorem dX2_struck_92 : decode cX2_struck 92 = .ok (.iconst 1, 1) := dk_4 (dk_at dksX2_struck_3 18 rfl rfl)
theorem dX2_struck_93 : decode cX2_struck 93 = .ok (.goto 4, 3) := dk_167 0 4 (dk_at dksX2_struck_3 19 rfl rfl)
theorem dX2_struck_96 : decode cX2_struck 96 = .ok (.iconst 0, 1) := dk_3 (dk_at dksX2_struck_3 22 rfl rfl)
theorem dX2_struck_97 : decode cX2_struck 97 = .ok (.ireturn, 1) := dk_172 (dk_at dksX2_struck_3 23 rfl rfl)
theorem dX2_struck_98 : decode cX2_struck 98 = .ok (.iconst 0, 1) := dk_3 (dk_at dksX2_struck_4 0 rfl rfl)
theorem dX2_struck_99 : decode cX2_struck 99 = .ok (.istore_n 3, 1) := dk_62 (dk_at dksX2_struck_4 1 rfl rfl)
theorem dX2_struck_100 : decode cX2_struck 100 = .ok (.iload_n 3, 1) := dk_29 (dk_at dksX2_struck_4 2 rfl rfl)
theorem dX2_struck_101 : decode cX2_struck 101 = .ok (.aload_n 0, 1) := dk_42 (dk_at dksX2_struck_4 3 rfl rfl)
theorem dX2_struck_102 : decode cX2_struck 102 = .ok (.getfield 160, 3) := dk_180 0 160 (dk_at dksX2_struck_4 4 rfl rfl)
theorem dX2_struck_105 : decode cX2_struck 105 = .ok (.if_icmp .ge 49, 3) := dk_162 0 49 (dk_at dksX2_struck_4 7 rfl rfl)
theorem dX2_struck_108 : decode cX2_struck 108 = .ok (.aload_n 0, 1) := dk_42 (dk_at dksX2_struck_4 10 rfl rfl)
theorem dX2_struck_109 : decode cX2_struck 109 = .ok (.getfield 76, 3) := dk_180 0 76 (dk_at dksX2_struck_4 11 rfl rfl)
theorem dX2_struck_112 : decode cX2_struck 112 = .ok (.iload_n 3, 1) := dk_29 (dk_at dksX2_struck_4 14 rfl rfl)
theorem dX2_struck_113 : decode cX2_struck 113 = .ok (.iaload, 1) := dk_46 (dk_at dksX2_struck_4 15 rfl rfl)
theorem dX2_struck_114 : decode cX2_struck 114 = .ok (.istore 4, 2) := dk_54 4 (dk_at dksX2_struck_4 16 rfl rfl)
theorem dX2_struck_116 : decode cX2_struck 116 = .ok (.iload 4, 2) := dk_21 4 (dk_at dksX2_struck_4 18 rfl rfl)
theorem dX2_struck_118 : decode cX2_struck 118 = .ok (.aload_n 0, 1) := dk_42 (dk_at dksX2_struck_4 20 rfl rfl)
theorem dX2_struck_119 : decode cX2_struck 119 = .ok (.getfield 76, 3) := dk_180 0 76 (dk_at dksX2_struck_4 21 rfl rfl)
theorem dX2_struck_122 : decode cX2_struck 122 = .ok (.iload_n 3, 1) := dk_29 (dk_at dksX2_struck_5 0 rfl rfl)
theorem dX2_struck_123 : decode cX2_struck 123 = .ok (.iconst 1, 1) := dk_4 (dk_at dksX2_struck_5 1 rfl rfl)
theorem dX2_struck_124 : decode cX2_struck 124 = .ok (.iadd, 1) := dk_96 (dk_at dksX2_struck_5 2 rfl rfl)
theorem dX2_struck_125 : decode cX2_struck 125 = .ok (.iaload, 1) := dk_46 (dk_at dksX2_struck_5 3 rfl rfl)
theorem dX2_struck_126 : decode cX2_struck 126 = .ok (.if_icmp .ge 22, 3) := dk_162 0 22 (dk_at dksX2_struck_5 4 rfl rfl)
theorem dX2_struck_129 : decode cX2_struck 129 = .ok (.aload_n 0, 1) := dk_42 (dk_at dksX2_struck_5 7 rfl rfl)
theorem dX2_struck_130 : decode cX2_struck 130 = .ok (.getfield 79, 3) := dk_180 0 79 (dk_at dksX2_struck_5 8 rfl rfl)
theorem dX2_struck_133 : decode cX2_struck 133 = .ok (.iload 4, 2) := dk_21 4 (dk_at dksX2_struck_5 11 rfl rfl)
theorem dX2_struck_135 : decode cX2_struck 135 = .ok (.iaload, 1) := dk_46 (dk_at dksX2_struck_5 13 rfl rfl)
theorem dX2_struck_136 : decode cX2_struck 136 = .ok (.iload_n 1, 1) := dk_27 (dk_at dksX2_struck_5 14 rfl rfl)
theorem dX2_struck_137 : decode cX2_struck 137 = .ok (.if_icmp .ne 5, 3) := dk_160 0 5 (dk_at dksX2_struck_5 15 rfl rfl)
theorem dX2_struck_140 : decode cX2_struck 140 = .ok (.iload_n 3, 1) := dk_29 (dk_at dksX2_struck_5 18 rfl rfl)
theorem dX2_struck_141 : decode cX2_struck 141 = .ok (.ireturn, 1) := dk_172 (dk_at dksX2_struck_5 19 rfl rfl)
theorem dX2_struck_142 : decode cX2_struck 142 = .ok (.iinc 4 1, 3) := dk_132 4 1 (dk_at dksX2_struck_5 20 rfl rfl)
theorem dX2_struck_145 : decode cX2_struck 145 = .ok (.goto (-29), 3) := dk_167 255 227 (dk_at dksX2_struck_6 0 rfl rfl)
theorem dX2_struck_148 : decode cX2_struck 148 = .ok (.iinc 3 1, 3) := dk_132 3 1 (dk_at dksX2_struck_6 3 rfl rfl)
theorem dX2_struck_151 : decode cX2_struck 151 = .ok (.goto (-51), 3) := dk_167 255 205 (dk_at dksX2_struck_6 6 rfl rfl)
theorem dX2_struck_154 : decode cX2_struck 154 = .ok (.bipush (-9), 2) := dk_16 247 (dk_at dksX2_struck_6 9 rfl rfl)
theorem dX2_struck_156 : decode cX2_struck 156 = .ok (.ireturn, 1) := dk_172 (dk_at dksX2_struck_6 11 rfl rfl)
theorem dX2_struck_157 : decode cX2_struck 157 = .ok (.bipush (-2), 2) := dk_16 254 (dk_at dksX2_struck_6 12 rfl rfl)
theorem dX2_struck_159 : decode cX2_struck 159 = .ok (.ireturn, 1) := dk_172 (dk_at dksX2_struck_6 14 rfl rfl)
abbrev cX2_isHit : ByteArray := prog_13_method_7_code
def yX2_isHit : MethodName := ⟨RX2, "isHit", "(I)Z"⟩
def dkwX2_isHit_0 : List UInt8 := [27, 155, 0, 15, 27, 42, 180, 0, 107, 162, 0, 7, 4, 167, 0, 4, 3, 172]
abbrev dktX2_isHit_0 : List UInt8 := dkwX2_isHit_0 ++ []
theorem dksX2_isHit_0 : cX2_isHit.data.toList.drop 0 = dktX2_isHit_0 := by decide +kernel
theorem dX2_isHit_0 : decode cX2_isHit 0 = .ok (.iload_n 1, 1) := dk_27 (dk_at dksX2_isHit_0 0 rfl rfl)
theorem dX2_isHit_1 : decode cX2_isHit 1 = .ok (.ifCond .lt 15, 3) := dk_155 0 15 (dk_at dksX2_isHit_0 1 rfl rfl)
theorem dX2_isHit_4 : decode cX2_isHit 4 = .ok (.iload_n 1, 1) := dk_27 (dk_at dksX2_isHit_0 4 rfl rfl)
theorem dX2_isHit_5 : decode cX2_isHit 5 = .ok (.aload_n 0, 1) := dk_42 (dk_at dksX2_isHit_0 5 rfl rfl)
theorem dX2_isHit_6 : decode cX2_isHit 6 = .ok (.getfield 107, 3) := dk_180 0 107 (dk_at dksX2_isHit_0 6 rfl rfl)
theorem dX2_isHit_9 : decode cX2_isHit 9 = .ok (.if_icmp .ge 7, 3) := dk_162 0 7 (dk_at dksX2_isHit_0 9 rfl rfl)
theorem dX2_isHit_12 : decode cX2_isHit 12 = .ok (.iconst 1, 1) := dk_4 (dk_at dksX2_isHit_0 12 rfl rfl)
theorem dX2_isHit_13 : decode cX2_isHit 13 = .ok (.goto 4, 3) := dk_167 0 4 (dk_at dksX2_isHit_0 13 rfl rfl)
theorem dX2_isHit_16 : decode cX2_isHit 16 = .ok (.iconst 0, 1) := dk_3 (dk_at dksX2_isHit_0 16 rfl rfl)
theorem dX2_isHit_17 : decode cX2_isHit 17 = .ok (.ireturn, 1) := dk_172 (dk_at dksX2_isHit_0 17 rfl rfl)
abbrev cX2_rightTime : ByteArray := prog_13_method_17_code
def yX2_rightTime : MethodName := ⟨RX2, "rightTime", "(I)I"⟩
def dkwX2_rightTime_2 : List UInt8 := [42, 180, 0, 34, 28, 46, 100, 172, 132, 2, 255, 167, 255, 205, 42, 180, 0, 19, 27, 46, 172]
abbrev dktX2_rightTime_2 : List UInt8 := dkwX2_rightTime_2 ++ []
def dkwX2_rightTime_1 : List UInt8 := [160, 0, 32, 42, 180, 0, 31, 28, 46, 42, 180, 0, 19, 27, 46, 163, 0, 17, 42, 180, 0, 19, 27, 46]
abbrev dktX2_rightTime_1 : List UInt8 := dkwX2_rightTime_1 ++ dktX2_rightTime_2
def dkwX2_rightTime_0 : List UInt8 := [42, 180, 0, 132, 4, 100, 61, 28, 155, 0, 53, 42, 180, 0, 28, 28, 46, 42, 180, 0, 16, 27, 46]
abbrev dktX2_rightTime_0 : List UInt8 := dkwX2_rightTime_0 ++ dktX2_rightTime_1
theorem dksX2_rightTime_0 : cX2_rightTime.data.toList.drop 0 = dktX2_rightTime_0 := by decide +kernel
theorem dksX2_rightTime_1 : cX2_rightTime.data.toList.drop 23 = dktX2_rightTime_1 := dk_seg dksX2_rightTime_0 23 rfl rfl
theorem dksX2_rightTime_2 : cX2_rightTime.data.toList.drop 47 = dktX2_rightTime_2 := dk_seg dksX2_rightTime_1 24 rfl rfl
theorem dX2_rightTime_0 : decode cX2_rightTime 0 = .ok (.aload_n 0, 1) := dk_42 (dk_at dksX2_rightTime_0 0 rfl rfl)
theorem dX2_rightTime_1 : decode cX2_rightTime 1 = .ok (.getfield 132, 3) := dk_180 0 132 (dk_at dksX2_rightTime_0 1 rfl rfl)
theorem dX2_rightTime_4 : decode cX2_rightTime 4 = .ok (.iconst 1, 1) := dk_4 (dk_at dksX2_rightTime_0 4 rfl rfl)
theorem dX2_rightTime_5 : decode cX2_rightTime 5 = .ok (.isub, 1) := dk_100 (dk_at dksX2_rightTime_0 5 rfl rfl)
theorem dX2_rightTime_6 : decode cX2_rightTime 6 = .ok (.istore_n 2, 1) := dk_61 (dk_at dksX2_rightTime_0 6 rfl rfl)
theorem dX2_rightTime_7 : decode cX2_rightTime 7 = .ok (.iload_n 2, 1) := dk_28 (dk_at dksX2_rightTime_0 7 rfl rfl)
theorem dX2_rightTime_8 : decode cX2_rightTime 8 = .ok (.ifCond .lt 53, 3) := dk_155 0 53 (dk_at dksX2_rightTime_0 8 rfl rfl)
theorem dX2_rightTime_11 : decode cX2_rightTime 11 = .ok (.aload_n 0, 1) := dk_42 (dk_at dksX2_rightTime_0 11 rfl rfl)
theorem dX2_rightTime_12 : decode cX2_rightTime 12 = .ok (.getfield 28, 3) := dk_180 0 28 (dk_at dksX2_rightTime_0 12 rfl rfl)
theorem dX2_rightTime_15 : decode cX2_rightTime 15 = .ok (.iload_n 2, 1) := dk_28 (dk_at dksX2_rightTime_0 15 rfl rfl)
theorem dX2_rightTime_16 : decode cX2_rightTime 16 = .ok (.iaload, 1) := dk_46 (dk_at dksX2_rightTime_0 16 rfl rfl)
theorem dX2_rightTime_17 : decode cX2_rightTime 17 = .ok (.aload_n 0, 1) := dk_42 (dk_at dksX2_rightTime_0 17 rfl rfl)
theorem dX2_rightTime_18 : decode cX2_rightTime 18 = .ok (.getfield 16, 3) := dk_180 0 16 (dk_at dksX2_rightTime_0 18 rfl rfl)
theorem dX2_rightTime_21 : decode cX2_rightTime 21 = .ok (.iload_n 1, 1) := dk_27 (dk_at dksX2_rightTime_0 21 rfl rfl)
theorem dX2_rightTime_22 : decode cX2_rightTime 22 = .ok (.iaload, 1) := dk_46 (dk_at dksX2_rightTime_0 22 rfl rfl)
theorem dX2_rightTime_23 : decode cX2_rightTime 23 = .ok (.if_icmp .ne 32, 3) := dk_160 0 32 (dk_at dksX2_rightTime_1 0 rfl rfl)
theorem dX2_rightTime_26 : decode cX2_rightTime 26 = .ok (.aload_n 0, 1) := dk_42 (dk_at dksX2_rightTime_1 3 rfl rfl)
theorem dX2_rightTime_27 : decode cX2_rightTime 27 = .ok (.getfield 31, 3) := dk_180 0 31 (dk_at dksX2_rightTime_1 4 rfl rfl)
theorem dX2_rightTime_30 : decode cX2_rightTime 30 = .ok (.iload_n 2, 1) := dk_28 (dk_at dksX2_rightTime_1 7 rfl rfl)
theorem dX2_rightTime_31 : decode cX2_rightTime 31 = .ok (.iaload, 1) := dk_46 (dk_at dksX2_rightTime_1 8 rfl rfl)
theorem dX2_rightTime_32 : decode cX2_rightTime 32 = .ok (.aload_n 0, 1) := dk_42 (dk_at dksX2_rightTime_1 9 rfl rfl)
theorem dX2_rightTime_33 : decode cX2_rightTime 33 = .ok (.getfield 19, 3) := dk_180 0 19 (dk_at dksX2_rightTime_1 10 rfl rfl)
theorem dX2_rightTime_36 : decode cX2_rightTime 36 = .ok (.iload_n 1, 1) := dk_27 (dk_at dksX2_rightTime_1 13 rfl rfl)
theorem dX2_rightTime_37 : decode cX2_rightTime 37 = .ok (.iaload, 1) := dk_46 (dk_at dksX2_rightTime_1 14 rfl rfl)
theorem dX2_rightTime_38 : decode cX2_rightTime 38 = .ok (.if_icmp .gt 17, 3) := dk_163 0 17 (dk_at dksX2_rightTime_1 15 rfl rfl)
theorem dX2_rightTime_41 : decode cX2_rightTime 41 = .ok (.aload_n 0, 1) := dk_42 (dk_at dksX2_rightTime_1 18 rfl rfl)
theorem dX2_rightTime_42 : decode cX2_rightTime 42 = .ok (.getfield 19, 3) := dk_180 0 19 (dk_at dksX2_rightTime_1 19 rfl rfl)
theorem dX2_rightTime_45 : decode cX2_rightTime 45 = .ok (.iload_n 1, 1) := dk_27 (dk_at dksX2_rightTime_1 22 rfl rfl)
theorem dX2_rightTime_46 : decode cX2_rightTime 46 = .ok (.iaload, 1) := dk_46 (dk_at dksX2_rightTime_1 23 rfl rfl)
theorem dX2_rightTime_47 : decode cX2_rightTime 47 = .ok (.aload_n 0, 1) := dk_42 (dk_at dksX2_rightTime_2 0 rfl rfl)
theorem dX2_rightTime_48 : decode cX2_rightTime 48 = .ok (.getfield 34, 3) := dk_180 0 34 (dk_at dksX2_rightTime_2 1 rfl rfl)
theorem dX2_rightTime_51 : decode cX2_rightTime 51 = .ok (.iload_n 2, 1) := dk_28 (dk_at dksX2_rightTime_2 4 rfl rfl)
theorem dX2_rightTime_52 : decode cX2_rightTime 52 = .ok (.iaload, 1) := dk_46 (dk_at dksX2_rightTime_2 5 rfl rfl)
theorem dX2_rightTime_53 : decode cX2_rightTime 53 = .ok (.isub, 1) := dk_100 (dk_at dksX2_rightTime_2 6 rfl rfl)
theorem dX2_rightTime_54 : decode cX2_rightTime 54 = .ok (.ireturn, 1) := dk_172 (dk_at dksX2_rightTime_2 7 rfl rfl)
theorem dX2_rightTime_55 : decode cX2_rightTime 55 = .ok (.iinc 2 (-1), 3) := dk_132 2 255 (dk_at dksX2_rightTime_2 8 rfl rfl)
theorem dX2_rightTime_58 : decode cX2_rightTime 58 = .ok (.goto (-51), 3) := dk_167 255 205 (dk_at dksX2_rightTime_2 11 rfl rfl)
theorem dX2_rightTime_61 : decode cX2_rightTime 61 = .ok (.aload_n 0, 1) := dk_42 (dk_at dksX2_rightTime_2 14 rfl rfl)
theorem dX2_rightTime_62 : decode cX2_rightTime 62 = .ok (.getfield 19, 3) := dk_180 0 19 (dk_at dksX2_rightTime_2 15 rfl rfl)
theorem dX2_rightTime_65 : decode cX2_rightTime 65 = .ok (.iload_n 1, 1) := dk_27 (dk_at dksX2_rightTime_2 18 rfl rfl)
theorem dX2_rightTime_66 : decode cX2_rightTime 66 = .ok (.iaload, 1) := dk_46 (dk_at dksX2_rightTime_2 19 rfl rfl)
theorem dX2_rightTime_67 : decode cX2_rightTime 67 = .ok (.ireturn, 1) := dk_172 (dk_at dksX2_rightTime_2 20 rfl rfl)
abbrev cX2_kindOf : ByteArray := prog_13_method_15_code
def yX2_kindOf : MethodName := ⟨RX2, "kindOf", "(I)I"⟩
def dkwX2_kindOf_1 : List UInt8 := [167, 0, 20, 42, 180, 0, 25, 27, 46, 17, 0, 255, 162, 0, 7, 4, 167, 0, 4, 6, 172]
abbrev dktX2_kindOf_1 : List UInt8 := dkwX2_kindOf_1 ++ []
def dkwX2_kindOf_0 : List UInt8 := [42, 180, 0, 22, 27, 46, 17, 0, 255, 162, 0, 5, 3, 172, 42, 180, 0, 25, 27, 46, 156, 0, 7, 5]
abbrev dktX2_kindOf_0 : List UInt8 := dkwX2_kindOf_0 ++ dktX2_kindOf_1
theorem dksX2_kindOf_0 : cX2_kindOf.data.toList.drop 0 = dktX2_kindOf_0 := by decide +kernel
theorem dksX2_kindOf_1 : cX2_kindOf.data.toList.drop 24 = dktX2_kindOf_1 := dk_seg dksX2_kindOf_0 24 rfl rfl
theorem dX2_kindOf_0 : decode cX2_kindOf 0 = .ok (.aload_n 0, 1) := dk_42 (dk_at dksX2_kindOf_0 0 rfl rfl)
theorem dX2_kindOf_1 : decode cX2_kindOf 1 = .ok (.getfield 22, 3) := dk_180 0 22 (dk_at dksX2_kindOf_0 1 rfl rfl)
theorem dX2_kindOf_4 : decode cX2_kindOf 4 = .ok (.iload_n 1, 1) := dk_27 (dk_at dksX2_kindOf_0 4 rfl rfl)
theorem dX2_kindOf_5 : decode cX2_kindOf 5 = .ok (.iaload, 1) := dk_46 (dk_at dksX2_kindOf_0 5 rfl rfl)
theorem dX2_kindOf_6 : decode cX2_kindOf 6 = .ok (.sipush 255, 3) := dk_17 0 255 (dk_at dksX2_kindOf_0 6 rfl rfl)
theorem dX2_kindOf_9 : decode cX2_kindOf 9 = .ok (.if_icmp .ge 5, 3) := dk_162 0 5 (dk_at dksX2_kindOf_0 9 rfl rfl)
theorem dX2_kindOf_12 : decode cX2_kindOf 12 = .ok (.iconst 0, 1) := dk_3 (dk_at dksX2_kindOf_0 12 rfl rfl)
theorem dX2_kindOf_13 : decode cX2_kindOf 13 = .ok (.ireturn, 1) := dk_172 (dk_at dksX2_kindOf_0 13 rfl rfl)
theorem dX2_kindOf_14 : decode cX2_kindOf 14 = .ok (.aload_n 0, 1) := dk_42 (dk_at dksX2_kindOf_0 14 rfl rfl)
theorem dX2_kindOf_15 : decode cX2_kindOf 15 = .ok (.getfield 25, 3) := dk_180 0 25 (dk_at dksX2_kindOf_0 15 rfl rfl)
theorem dX2_kindOf_18 : decode cX2_kindOf 18 = .ok (.iload_n 1, 1) := dk_27 (dk_at dksX2_kindOf_0 18 rfl rfl)
theorem dX2_kindOf_19 : decode cX2_kindOf 19 = .ok (.iaload, 1) := dk_46 (dk_at dksX2_kindOf_0 19 rfl rfl)
theorem dX2_kindOf_20 : decode cX2_kindOf 20 = .ok (.ifCond .ge 7, 3) := dk_156 0 7 (dk_at dksX2_kindOf_0 20 rfl rfl)
theorem dX2_kindOf_23 : decode cX2_kindOf 23 = .ok (.iconst 2, 1) := dk_5 (dk_at dksX2_kindOf_0 23 rfl rfl)
theorem dX2_kindOf_24 : decode cX2_kindOf 24 = .ok (.goto 20, 3) := dk_167 0 20 (dk_at dksX2_kindOf_1 0 rfl rfl)
theorem dX2_kindOf_27 : decode cX2_kindOf 27 = .ok (.aload_n 0, 1) := dk_42 (dk_at dksX2_kindOf_1 3 rfl rfl)
theorem dX2_kindOf_28 : decode cX2_kindOf 28 = .ok (.getfield 25, 3) := dk_180 0 25 (dk_at dksX2_kindOf_1 4 rfl rfl)
theorem dX2_kindOf_31 : decode cX2_kindOf 31 = .ok (.iload_n 1, 1) := dk_27 (dk_at dksX2_kindOf_1 7 rfl rfl)
theorem dX2_kindOf_32 : decode cX2_kindOf 32 = .ok (.iaload, 1) := dk_46 (dk_at dksX2_kindOf_1 8 rfl rfl)
theorem dX2_kindOf_33 : decode cX2_kindOf 33 = .ok (.sipush 255, 3) := dk_17 0 255 (dk_at dksX2_kindOf_1 9 rfl rfl)
theorem dX2_kindOf_36 : decode cX2_kindOf 36 = .ok (.if_icmp .ge 7, 3) := dk_162 0 7 (dk_at dksX2_kindOf_1 12 rfl rfl)
theorem dX2_kindOf_39 : decode cX2_kindOf 39 = .ok (.iconst 1, 1) := dk_4 (dk_at dksX2_kindOf_1 15 rfl rfl)
theorem dX2_kindOf_40 : decode cX2_kindOf 40 = .ok (.goto 4, 3) := dk_167 0 4 (dk_at dksX2_kindOf_1 16 rfl rfl)
theorem dX2_kindOf_43 : decode cX2_kindOf 43 = .ok (.iconst 3, 1) := dk_6 (dk_at dksX2_kindOf_1 19 rfl rfl)
theorem dX2_kindOf_44 : decode cX2_kindOf 44 = .ok (.ireturn, 1) := dk_172 (dk_at dksX2_kindOf_1 20 rfl rfl)
abbrev cX2_amountOf : ByteArray := prog_13_method_16_code
def yX2_amountOf : MethodName := ⟨RX2, "amountOf", "(I)I"⟩
def dkwX2_amountOf_1 : List UInt8 := [182, 0, 138, 6, 160, 0, 9, 17, 15, 240, 167, 0, 9, 42, 180, 0, 22, 27, 46, 172]
abbrev dktX2_amountOf_1 : List UInt8 := dkwX2_amountOf_1 ++ []
def dkwX2_amountOf_0 : List UInt8 := [42, 27, 182, 0, 138, 4, 160, 0, 15, 16, 16, 42, 180, 0, 25, 27, 46, 104, 167, 0, 24, 42, 27]
abbrev dktX2_amountOf_0 : List UInt8 := dkwX2_amountOf_0 ++ dktX2_amountOf_1
theorem dksX2_amountOf_0 : cX2_amountOf.data.toList.drop 0 = dktX2_amountOf_0 := by decide +kernel
theorem dksX2_amountOf_1 : cX2_amountOf.data.toList.drop 23 = dktX2_amountOf_1 := dk_seg dksX2_amountOf_0 23 rfl rfl
theorem dX2_amountOf_0 : decode cX2_amountOf 0 = .ok (.aload_n 0, 1) := dk_42 (dk_at dksX2_amountOf_0 0 rfl rfl)
theorem dX2_amountOf_1 : decode cX2_amountOf 1 = .ok (.iload_n 1, 1) := dk_27 (dk_at dksX2_amountOf_0 1 rfl rfl)
theorem dX2_amountOf_2 : decode cX2_amountOf 2 = .ok (.invokevirtual 138, 3) := dk_182 0 138 (dk_at dksX2_amountOf_0 2 rfl rfl)
theorem dX2_amountOf_5 : decode cX2_amountOf 5 = .ok (.iconst 1, 1) := dk_4 (dk_at dksX2_amountOf_0 5 rfl rfl)
theorem dX2_amountOf_6 : decode cX2_amountOf 6 = .ok (.if_icmp .ne 15, 3) := dk_160 0 15 (dk_at dksX2_amountOf_0 6 rfl rfl)
theorem dX2_amountOf_9 : decode cX2_amountOf 9 = .ok (.bipush 16, 2) := dk_16 16 (dk_at dksX2_amountOf_0 9 rfl rfl)
theorem dX2_amountOf_11 : decode cX2_amountOf 11 = .ok (.aload_n 0, 1) := dk_42 (dk_at dksX2_amountOf_0 11 rfl rfl)
theorem dX2_amountOf_12 : decode cX2_amountOf 12 = .ok (.getfield 25, 3) := dk_180 0 25 (dk_at dksX2_amountOf_0 12 rfl rfl)
theorem dX2_amountOf_15 : decode cX2_amountOf 15 = .ok (.iload_n 1, 1) := dk_27 (dk_at dksX2_amountOf_0 15 rfl rfl)
theorem dX2_amountOf_16 : decode cX2_amountOf 16 = .ok (.iaload, 1) := dk_46 (dk_at dksX2_amountOf_0 16 rfl rfl)
theorem dX2_amountOf_17 : decode cX2_amountOf 17 = .ok (.imul, 1) := dk_104 (dk_at dksX2_amountOf_0 17 rfl rfl)
theorem dX2_amountOf_18 : decode cX2_amountOf 18 = .ok (.goto 24, 3) := dk_167 0 24 (dk_at dksX2_amountOf_0 18 rfl rfl)
theorem dX2_amountOf_21 : decode cX2_amountOf 21 = .ok (.aload_n 0, 1) := dk_42 (dk_at dksX2_amountOf_0 21 rfl rfl)
theorem dX2_amountOf_22 : decode cX2_amountOf 22 = .ok (.iload_n 1, 1) := dk_27 (dk_at dksX2_amountOf_0 22 rfl rfl)
theorem dX2_amountOf_23 : decode cX2_amountOf 23 = .ok (.invokevirtual 138, 3) := dk_182 0 138 (dk_at dksX2_amountOf_1 0 rfl rfl)
theorem dX2_amountOf_26 : decode cX2_amountOf 26 = .ok (.iconst 3, 1) := dk_6 (dk_at dksX2_amountOf_1 3 rfl rfl)
theorem dX2_amountOf_27 : decode cX2_amountOf 27 = .ok (.if_icmp .ne 9, 3) := dk_160 0 9 (dk_at dksX2_amountOf_1 4 rfl rfl)
theorem dX2_amountOf_30 : decode cX2_amountOf 30 = .ok (.sipush 4080, 3) := dk_17 15 240 (dk_at dksX2_amountOf_1 7 rfl rfl)
theorem dX2_amountOf_33 : decode cX2_amountOf 33 = .ok (.goto 9, 3) := dk_167 0 9 (dk_at dksX2_amountOf_1 10 rfl rfl)
theorem dX2_amountOf_36 : decode cX2_amountOf 36 = .ok (.aload_n 0, 1) := dk_42 (dk_at dksX2_amountOf_1 13 rfl rfl)
theorem dX2_amountOf_37 : decode cX2_amountOf 37 = .ok (.getfield 22, 3) := dk_180 0 22 (dk_at dksX2_amountOf_1 14 rfl rfl)
theorem dX2_amountOf_40 : decode cX2_amountOf 40 = .ok (.iload_n 1, 1) := dk_27 (dk_at dksX2_amountOf_1 17 rfl rfl)
theorem dX2_amountOf_41 : decode cX2_amountOf 41 = .ok (.iaload, 1) := dk_46 (dk_at dksX2_amountOf_1 18 rfl rfl)
theorem dX2_amountOf_42 : decode cX2_amountOf 42 = .ok (.ireturn, 1) := dk_172 (dk_at dksX2_amountOf_1 19 rfl rfl)
abbrev cX2_exposure : ByteArray := prog_13_method_22_code
def yX2_exposure : MethodName := ⟨RX2, "exposure", "(II)J"⟩
def dkwX2_exposure_7 : List UInt8 := [21, 8, 54, 6, 167, 255, 130, 132, 5, 1, 167, 255, 112, 33, 173]
abbrev dktX2_exposure_7 : List UInt8 := dkwX2_exposure_7 ++ []
def dkwX2_exposure_6 : List UInt8 := [180, 0, 40, 21, 9, 46, 54, 8, 132, 9, 1, 167, 255, 182, 33, 21, 8, 21, 6, 100, 133, 97, 66]
abbrev dktX2_exposure_6 : List UInt8 := dkwX2_exposure_6 ++ dktX2_exposure_7
def dkwX2_exposure_5 : List UInt8 := [46, 42, 180, 0, 40, 21, 9, 46, 164, 0, 24, 42, 180, 0, 40, 21, 9, 46, 21, 8, 162, 0, 12, 42]
abbrev dktX2_exposure_5 : List UInt8 := dkwX2_exposure_5 ++ dktX2_exposure_6
def dkwX2_exposure_4 : List UInt8 := [46, 21, 5, 160, 0, 53, 42, 180, 0, 40, 21, 9, 46, 21, 6, 164, 0, 41, 42, 180, 0, 43, 21, 9]
abbrev dktX2_exposure_4 : List UInt8 := dkwX2_exposure_4 ++ dktX2_exposure_5
def dkwX2_exposure_3 : List UInt8 := [167, 255, 229, 28, 54, 8, 3, 54, 9, 21, 9, 42, 180, 0, 135, 162, 0, 71, 42, 180, 0, 37, 21, 9]
abbrev dktX2_exposure_3 : List UInt8 := dkwX2_exposure_3 ++ dktX2_exposure_4
def dkwX2_exposure_2 : List UInt8 := [162, 0, 126, 42, 21, 5, 21, 6, 182, 0, 141, 54, 7, 21, 7, 16, 247, 159, 0, 10, 21, 7, 54, 6]
abbrev dktX2_exposure_2 : List UInt8 := dkwX2_exposure_2 ++ dktX2_exposure_3
def dkwX2_exposure_1 : List UInt8 := [20, 0, 102, 173, 9, 66, 3, 54, 5, 21, 5, 42, 180, 0, 104, 162, 0, 141, 27, 54, 6, 21, 6, 28]
abbrev dktX2_exposure_1 : List UInt8 := dkwX2_exposure_1 ++ dktX2_exposure_2
def dkwX2_exposure_0 : List UInt8 := [27, 3, 17, 78, 32, 184, 0, 110, 153, 0, 14, 28, 27, 17, 78, 33, 184, 0, 110, 154, 0, 7]
abbrev dktX2_exposure_0 : List UInt8 := dkwX2_exposure_0 ++ dktX2_exposure_1
theorem dksX2_exposure_0 : cX2_exposure.data.toList.drop 0 = dktX2_exposure_0 := by decide +kernel
theorem dksX2_exposure_1 : cX2_exposure.data.toList.drop 22 = dktX2_exposure_1 := dk_seg dksX2_exposure_0 22 rfl rfl
theorem dksX2_exposure_2 : cX2_exposure.data.toList.drop 46 = dktX2_exposure_2 := dk_seg dksX2_exposure_1 24 rfl rfl
theorem dksX2_exposure_3 : cX2_exposure.data.toList.drop 70 = dktX2_exposure_3 := dk_seg dksX2_exposure_2 24 rfl rfl
theorem dksX2_exposure_4 : cX2_exposure.data.toList.drop 94 = dktX2_exposure_4 := dk_seg dksX2_exposure_3 24 rfl rfl
theorem dksX2_exposure_5 : cX2_exposure.data.toList.drop 118 = dktX2_exposure_5 := dk_seg dksX2_exposure_4 24 rfl rfl
theorem dksX2_exposure_6 : cX2_exposure.data.toList.drop 142 = dktX2_exposure_6 := dk_seg dksX2_exposure_5 24 rfl rfl
theorem dksX2_exposure_7 : cX2_exposure.data.toList.drop 165 = dktX2_exposure_7 := dk_seg dksX2_exposure_6 23 rfl rfl
theorem dX2_exposure_0 : decode cX2_exposure 0 = .ok (.iload_n 1, 1) := dk_27 (dk_at dksX2_exposure_0 0 rfl rfl)
theorem dX2_exposure_1 : decode cX2_exposure 1 = .ok (.iconst 0, 1) := dk_3 (dk_at dksX2_exposure_0 1 rfl rfl)
theorem dX2_exposure_2 : decode cX2_exposure 2 = .ok (.sipush 20000, 3) := dk_17 78 32 (dk_at dksX2_exposure_0 2 rfl rfl)
theorem dX2_exposure_5 : decode cX2_exposure 5 = .ok (.invokestatic 110, 3) := dk_184 0 110 (dk_at dksX2_exposure_0 5 rfl rfl)
theorem dX2_exposure_8 : decode cX2_exposure 8 = .ok (.ifCond .eq 14, 3) := dk_153 0 14 (dk_at dksX2_exposure_0 8 rfl rfl)
theorem dX2_exposure_11 : decode cX2_exposure 11 = .ok (.iload_n 2, 1) := dk_28 (dk_at dksX2_exposure_0 11 rfl rfl)
theorem dX2_exposure_12 : decode cX2_exposure 12 = .ok (.iload_n 1, 1) := dk_27 (dk_at dksX2_exposure_0 12 rfl rfl)
theorem dX2_exposure_13 : decode cX2_exposure 13 = .ok (.sipush 20001, 3) := dk_17 78 33 (dk_at dksX2_exposure_0 13 rfl rfl)
theorem dX2_exposure_16 : decode cX2_exposure 16 = .ok (.invokestatic 110, 3) := dk_184 0 110 (dk_at dksX2_exposure_0 16 rfl rfl)
theorem dX2_exposure_19 : decode cX2_exposure 19 = .ok (.ifCond .ne 7, 3) := dk_154 0 7 (dk_at dksX2_exposure_0 19 rfl rfl)
theorem dX2_exposure_22 : decode cX2_exposure 22 = .ok (.ldc2_w 102, 3) := dk_20 0 102 (dk_at dksX2_exposure_1 0 rfl rfl)
theorem dX2_exposure_25 : decode cX2_exposure 25 = .ok (.lreturn, 1) := dk_173 (dk_at dksX2_exposure_1 3 rfl rfl)
theorem dX2_exposure_26 : decode cX2_exposure 26 = .ok (.lconst 0, 1) := dk_9 (dk_at dksX2_exposure_1 4 rfl rfl)
theorem dX2_exposure_27 : decode cX2_exposure 27 = .ok (.lstore_n 3, 1) := dk_66 (dk_at dksX2_exposure_1 5 rfl rfl)
theorem dX2_exposure_28 : decode cX2_exposure 28 = .ok (.iconst 0, 1) := dk_3 (dk_at dksX2_exposure_1 6 rfl rfl)
theorem dX2_exposure_29 : decode cX2_exposure 29 = .ok (.istore 5, 2) := dk_54 5 (dk_at dksX2_exposure_1 7 rfl rfl)
theorem dX2_exposure_31 : decode cX2_exposure 31 = .ok (.iload 5, 2) := dk_21 5 (dk_at dksX2_exposure_1 9 rfl rfl)
theorem dX2_exposure_33 : decode cX2_exposure 33 = .ok (.aload_n 0, 1) := dk_42 (dk_at dksX2_exposure_1 11 rfl rfl)
theorem dX2_exposure_34 : decode cX2_exposure 34 = .ok (.getfield 104, 3) := dk_180 0 104 (dk_at dksX2_exposure_1 12 rfl rfl)
theorem dX2_exposure_37 : decode cX2_exposure 37 = .ok (.if_icmp .ge 141, 3) := dk_162 0 141 (dk_at dksX2_exposure_1 15 rfl rfl)
theorem dX2_exposure_40 : decode cX2_exposure 40 = .ok (.iload_n 1, 1) := dk_27 (dk_at dksX2_exposure_1 18 rfl rfl)
theorem dX2_exposure_41 : decode cX2_exposure 41 = .ok (.istore 6, 2) := dk_54 6 (dk_at dksX2_exposure_1 19 rfl rfl)
theorem dX2_exposure_43 : decode cX2_exposure 43 = .ok (.iload 6, 2) := dk_21 6 (dk_at dksX2_exposure_1 21 rfl rfl)
theorem dX2_exposure_45 : decode cX2_exposure 45 = .ok (.iload_n 2, 1) := dk_28 (dk_at dksX2_exposure_1 23 rfl rfl)
theorem dX2_exposure_46 : decode cX2_exposure 46 = .ok (.if_icmp .ge 126, 3) := dk_162 0 126 (dk_at dksX2_exposure_2 0 rfl rfl)
theorem dX2_exposure_49 : decode cX2_exposure 49 = .ok (.aload_n 0, 1) := dk_42 (dk_at dksX2_exposure_2 3 rfl rfl)
theorem dX2_exposure_50 : decode cX2_exposure 50 = .ok (.iload 5, 2) := dk_21 5 (dk_at dksX2_exposure_2 4 rfl rfl)
theorem dX2_exposure_52 : decode cX2_exposure 52 = .ok (.iload 6, 2) := dk_21 6 (dk_at dksX2_exposure_2 6 rfl rfl)
theorem dX2_exposure_54 : decode cX2_exposure 54 = .ok (.invokevirtual 141, 3) := dk_182 0 141 (dk_at dksX2_exposure_2 8 rfl rfl)
theorem dX2_exposure_57 : decode cX2_exposure 57 = .ok (.istore 7, 2) := dk_54 7 (dk_at dksX2_exposure_2 11 rfl rfl)
theorem dX2_exposure_59 : decode cX2_exposure 59 = .ok (.iload 7, 2) := dk_21 7 (dk_at dksX2_exposure_2 13 rfl rfl)
theorem dX2_exposure_61 : decode cX2_exposure 61 = .ok (.bipush (-9), 2) := dk_16 247 (dk_at dksX2_exposure_2 15 rfl rfl)
theorem dX2_exposure_63 : decode cX2_exposure 63 = .ok (.if_icmp .eq 10, 3) := dk_159 0 10 (dk_at dksX2_exposure_2 17 rfl rfl)
theorem dX2_exposure_66 : decode cX2_exposure 66 = .ok (.iload 7, 2) := dk_21 7 (dk_at dksX2_exposure_2 20 rfl rfl)
theorem dX2_exposure_68 : decode cX2_exposure 68 = .ok (.istore 6, 2) := dk_54 6 (dk_at dksX2_exposure_2 22 rfl rfl)
theorem dX2_exposure_70 : decode cX2_exposure 70 = .ok (.goto (-27), 3) := dk_167 255 229 (dk_at dksX2_exposure_3 0 rfl rfl)
theorem dX2_exposure_73 : decode cX2_exposure 73 = .ok (.iload_n 2, 1) := dk_28 (dk_at dksX2_exposure_3 3 rfl rfl)
theorem dX2_exposure_74 : decode cX2_exposure 74 = .ok (.istore 8, 2) := dk_54 8 (dk_at dksX2_exposure_3 4 rfl rfl)
theorem dX2_exposure_76 : decode cX2_exposure 76 = .ok (.iconst 0, 1) := dk_3 (dk_at dksX2_exposure_3 6 rfl rfl)
theorem dX2_exposure_77 : decode cX2_exposure 77 = .ok (.istore 9, 2) := dk_54 9 (dk_at dksX2_exposure_3 7 rfl rfl)
theorem dX2_exposure_79 : decode cX2_exposure 79 = .ok (.iload 9, 2) := dk_21 9 (dk_at dksX2_exposure_3 9 rfl rfl)
theorem dX2_exposure_81 : decode cX2_exposure 81 = .ok (.aload_n 0, 1) := dk_42 (dk_at dksX2_exposure_3 11 rfl rfl)
theorem dX2_exposure_82 : decode cX2_exposure 82 = .ok (.getfield 135, 3) := dk_180 0 135 (dk_at dksX2_exposure_3 12 rfl rfl)
theorem dX2_exposure_85 : decode cX2_exposure 85 = .ok (.if_icmp .ge 71, 3) := dk_162 0 71 (dk_at dksX2_exposure_3 15 rfl rfl)
theorem dX2_exposure_88 : decode cX2_exposure 88 = .ok (.aload_n 0, 1) := dk_42 (dk_at dksX2_exposure_3 18 rfl rfl)
theorem dX2_exposure_89 : decode cX2_exposure 89 = .ok (.getfield 37, 3) := dk_180 0 37 (dk_at dksX2_exposure_3 19 rfl rfl)
theorem dX2_exposure_92 : decode cX2_exposure 92 = .ok (.iload 9, 2) := dk_21 9 (dk_at dksX2_exposure_3 22 rfl rfl)
theorem dX2_exposure_94 : decode cX2_exposure 94 = .ok (.iaload, 1) := dk_46 (dk_at dksX2_exposure_4 0 rfl rfl)
theorem dX2_exposure_95 : decode cX2_exposure 95 = .ok (.iload 5, 2) := dk_21 5 (dk_at dksX2_exposure_4 1 rfl rfl)
theorem dX2_exposure_97 : decode cX2_exposure 97 = .ok (.if_icmp .ne 53, 3) := dk_160 0 53 (dk_at dksX2_exposure_4 3 rfl rfl)
theorem dX2_exposure_100 : decode cX2_exposure 100 = .ok (.aload_n 0, 1) := dk_42 (dk_at dksX2_exposure_4 6 rfl rfl)
theorem dX2_exposure_101 : decode cX2_exposure 101 = .ok (.getfield 40, 3) := dk_180 0 40 (dk_at dksX2_exposure_4 7 rfl rfl)
theorem dX2_exposure_104 : decode cX2_exposure 104 = .ok (.iload 9, 2) := dk_21 9 (dk_at dksX2_exposure_4 10 rfl rfl)
theorem dX2_exposure_106 : decode cX2_exposure 106 = .ok (.iaload, 1) := dk_46 (dk_at dksX2_exposure_4 12 rfl rfl)
theorem dX2_exposure_107 : decode cX2_exposure 107 = .ok (.iload 6, 2) := dk_21 6 (dk_at dksX2_exposure_4 13 rfl rfl)
theorem dX2_exposure_109 : decode cX2_exposure 109 = .ok (.if_icmp .le 41, 3) := dk_164 0 41 (dk_at dksX2_exposure_4 15 rfl rfl)
theorem dX2_exposure_112 : decode cX2_exposure 112 = .ok (.aload_n 0, 1) := dk_42 (dk_at dksX2_exposure_4 18 rfl rfl)
theorem dX2_exposure_113 : decode cX2_exposure 113 = .ok (.getfield 43, 3) := dk_180 0 43 (dk_at dksX2_exposure_4 19 rfl rfl)
theorem dX2_exposure_116 : decode cX2_exposure 116 = .ok (.iload 9, 2) := dk_21 9 (dk_at dksX2_exposure_4 22 rfl rfl)
theorem dX2_exposure_118 : decode cX2_exposure 118 = .ok (.iaload, 1) := dk_46 (dk_at dksX2_exposure_5 0 rfl rfl)
theorem dX2_exposure_119 : decode cX2_exposure 119 = .ok (.aload_n 0, 1) := dk_42 (dk_at dksX2_exposure_5 1 rfl rfl)
theorem dX2_exposure_120 : decode cX2_exposure 120 = .ok (.getfield 40, 3) := dk_180 0 40 (dk_at dksX2_exposure_5 2 rfl rfl)
theorem dX2_exposure_123 : decode cX2_exposure 123 = .ok (.iload 9, 2) := dk_21 9 (dk_at dksX2_exposure_5 5 rfl rfl)
theorem dX2_exposure_125 : decode cX2_exposure 125 = .ok (.iaload, 1) := dk_46 (dk_at dksX2_exposure_5 7 rfl rfl)
theorem dX2_exposure_126 : decode cX2_exposure 126 = .ok (.if_icmp .le 24, 3) := dk_164 0 24 (dk_at dksX2_exposure_5 8 rfl rfl)
theorem dX2_exposure_129 : decode cX2_exposure 129 = .ok (.aload_n 0, 1) := dk_42 (dk_at dksX2_exposure_5 11 rfl rfl)
theorem dX2_exposure_130 : decode cX2_exposure 130 = .ok (.getfield 40, 3) := dk_180 0 40 (dk_at dksX2_exposure_5 12 rfl rfl)
theorem dX2_exposure_133 : decode cX2_exposure 133 = .ok (.iload 9, 2) := dk_21 9 (dk_at dksX2_exposure_5 15 rfl rfl)
theorem dX2_exposure_135 : decode cX2_exposure 135 = .ok (.iaload, 1) := dk_46 (dk_at dksX2_exposure_5 17 rfl rfl)
theorem dX2_exposure_136 : decode cX2_exposure 136 = .ok (.iload 8, 2) := dk_21 8 (dk_at dksX2_exposure_5 18 rfl rfl)
theorem dX2_exposure_138 : decode cX2_exposure 138 = .ok (.if_icmp .ge 12, 3) := dk_162 0 12 (dk_at dksX2_exposure_5 20 rfl rfl)
theorem dX2_exposure_141 : decode cX2_exposure 141 = .ok (.aload_n 0, 1) := dk_42 (dk_at dksX2_exposure_5 23 rfl rfl)
theorem dX2_exposure_142 : decode cX2_exposure 142 = .ok (.getfield 40, 3) := dk_180 0 40 (dk_at dksX2_exposure_6 0 rfl rfl)
theorem dX2_exposure_145 : decode cX2_exposure 145 = .ok (.iload 9, 2) := dk_21 9 (dk_at dksX2_exposure_6 3 rfl rfl)
theorem dX2_exposure_147 : decode cX2_exposure 147 = .ok (.iaload, 1) := dk_46 (dk_at dksX2_exposure_6 5 rfl rfl)
theorem dX2_exposure_148 : decode cX2_exposure 148 = .ok (.istore 8, 2) := dk_54 8 (dk_at dksX2_exposure_6 6 rfl rfl)
theorem dX2_exposure_150 : decode cX2_exposure 150 = .ok (.iinc 9 1, 3) := dk_132 9 1 (dk_at dksX2_exposure_6 8 rfl rfl)
theorem dX2_exposure_153 : decode cX2_exposure 153 = .ok (.goto (-74), 3) := dk_167 255 182 (dk_at dksX2_exposure_6 11 rfl rfl)
theorem dX2_exposure_156 : decode cX2_exposure 156 = .ok (.lload_n 3, 1) := dk_33 (dk_at dksX2_exposure_6 14 rfl rfl)
theorem dX2_exposure_157 : decode cX2_exposure 157 = .ok (.iload 8, 2) := dk_21 8 (dk_at dksX2_exposure_6 15 rfl rfl)
theorem dX2_exposure_159 : decode cX2_exposure 159 = .ok (.iload 6, 2) := dk_21 6 (dk_at dksX2_exposure_6 17 rfl rfl)
theorem dX2_exposure_161 : decode cX2_exposure 161 = .ok (.isub, 1) := dk_100 (dk_at dksX2_exposure_6 19 rfl rfl)
theorem dX2_exposure_162 : decode cX2_exposure 162 = .ok (.i2l, 1) := dk_133 (dk_at dksX2_exposure_6 20 rfl rfl)
theorem dX2_exposure_163 : decode cX2_exposure 163 = .ok (.ladd, 1) := dk_97 (dk_at dksX2_exposure_6 21 rfl rfl)
theorem dX2_exposure_164 : decode cX2_exposure 164 = .ok (.lstore_n 3, 1) := dk_66 (dk_at dksX2_exposure_6 22 rfl rfl)
theorem dX2_exposure_165 : decode cX2_exposure 165 = .ok (.iload 8, 2) := dk_21 8 (dk_at dksX2_exposure_7 0 rfl rfl)
theorem dX2_exposure_167 : decode cX2_exposure 167 = .ok (.istore 6, 2) := dk_54 6 (dk_at dksX2_exposure_7 2 rfl rfl)
theorem dX2_exposure_169 : decode cX2_exposure 169 = .ok (.goto (-126), 3) := dk_167 255 130 (dk_at dksX2_exposure_7 4 rfl rfl)
theorem dX2_exposure_172 : decode cX2_exposure 172 = .ok (.iinc 5 1, 3) := dk_132 5 1 (dk_at dksX2_exposure_7 7 rfl rfl)
theorem dX2_exposure_175 : decode cX2_exposure 175 = .ok (.goto (-144), 3) := dk_167 255 112 (dk_at dksX2_exposure_7 10 rfl rfl)
theorem dX2_exposure_178 : decode cX2_exposure 178 = .ok (.lload_n 3, 1) := dk_33 (dk_at dksX2_exposure_7 13 rfl rfl)
theorem dX2_exposure_179 : decode cX2_exposure 179 = .ok (.lreturn, 1) := dk_173 (dk_at dksX2_exposure_7 14 rfl rfl)
abbrev cX2_rule : ByteArray := prog_13_method_24_code
def yX2_rule : MethodName := ⟨RX2, "rule", "(II)I"⟩
def dkwX2_rule_2 : List UInt8 := [28, 79, 29, 172]
abbrev dktX2_rule_2 : List UInt8 := dkwX2_rule_2 ++ []
def dkwX2_rule_1 : List UInt8 := [184, 0, 163, 184, 0, 110, 154, 0, 6, 16, 254, 172, 42, 180, 0, 55, 27, 46, 62, 42, 180, 0, 55, 27]
abbrev dktX2_rule_1 : List UInt8 := dkwX2_rule_1 ++ dktX2_rule_2
def dkwX2_rule_0 : List UInt8 := [27, 3, 6, 184, 0, 110, 154, 0, 5, 2, 172, 28, 27, 6, 160, 0, 7, 3, 167, 0, 4, 4, 27]
abbrev dktX2_rule_0 : List UInt8 := dkwX2_rule_0 ++ dktX2_rule_1
theorem dksX2_rule_0 : cX2_rule.data.toList.drop 0 = dktX2_rule_0 := by decide +kernel
theorem dksX2_rule_1 : cX2_rule.data.toList.drop 23 = dktX2_rule_1 := dk_seg dksX2_rule_0 23 rfl rfl
theorem dksX2_rule_2 : cX2_rule.data.toList.drop 47 = dktX2_rule_2 := dk_seg dksX2_rule_1 24 rfl rfl
theorem dX2_rule_0 : decode cX2_rule 0 = .ok (.iload_n 1, 1) := dk_27 (dk_at dksX2_rule_0 0 rfl rfl)
theorem dX2_rule_1 : decode cX2_rule 1 = .ok (.iconst 0, 1) := dk_3 (dk_at dksX2_rule_0 1 rfl rfl)
theorem dX2_rule_2 : decode cX2_rule 2 = .ok (.iconst 3, 1) := dk_6 (dk_at dksX2_rule_0 2 rfl rfl)
theorem dX2_rule_3 : decode cX2_rule 3 = .ok (.invokestatic 110, 3) := dk_184 0 110 (dk_at dksX2_rule_0 3 rfl rfl)
theorem dX2_rule_6 : decode cX2_rule 6 = .ok (.ifCond .ne 5, 3) := dk_154 0 5 (dk_at dksX2_rule_0 6 rfl rfl)
theorem dX2_rule_9 : decode cX2_rule 9 = .ok (.iconst (-1), 1) := dk_2 (dk_at dksX2_rule_0 9 rfl rfl)
theorem dX2_rule_10 : decode cX2_rule 10 = .ok (.ireturn, 1) := dk_172 (dk_at dksX2_rule_0 10 rfl rfl)
theorem dX2_rule_11 : decode cX2_rule 11 = .ok (.iload_n 2, 1) := dk_28 (dk_at dksX2_rule_0 11 rfl rfl)
theorem dX2_rule_12 : decode cX2_rule 12 = .ok (.iload_n 1, 1) := dk_27 (dk_at dksX2_rule_0 12 rfl rfl)
theorem dX2_rule_13 : decode cX2_rule 13 = .ok (.iconst 3, 1) := dk_6 (dk_at dksX2_rule_0 13 rfl rfl)
theorem dX2_rule_14 : decode cX2_rule 14 = .ok (.if_icmp .ne 7, 3) := dk_160 0 7 (dk_at dksX2_rule_0 14 rfl rfl)
theorem dX2_rule_17 : decode cX2_rule 17 = .ok (.iconst 0, 1) := dk_3 (dk_at dksX2_rule_0 17 rfl rfl)
theorem dX2_rule_18 : decode cX2_rule 18 = .ok (.goto 4, 3) := dk_167 0 4 (dk_at dksX2_rule_0 18 rfl rfl)
theorem dX2_rule_21 : decode cX2_rule 21 = .ok (.iconst 1, 1) := dk_4 (dk_at dksX2_rule_0 21 rfl rfl)
theorem dX2_rule_22 : decode cX2_rule 22 = .ok (.iload_n 1, 1) := dk_27 (dk_at dksX2_rule_0 22 rfl rfl)
theorem dX2_rule_23 : decode cX2_rule 23 = .ok (.invokestatic 163, 3) := dk_184 0 163 (dk_at dksX2_rule_1 0 rfl rfl)
theorem dX2_rule_26 : decode cX2_rule 26 = .ok (.invokestatic 110, 3) := dk_184 0 110 (dk_at dksX2_rule_1 3 rfl rfl)
theorem dX2_rule_29 : decode cX2_rule 29 = .ok (.ifCond .ne 6, 3) := dk_154 0 6 (dk_at dksX2_rule_1 6 rfl rfl)
theorem dX2_rule_32 : decode cX2_rule 32 = .ok (.bipush (-2), 2) := dk_16 254 (dk_at dksX2_rule_1 9 rfl rfl)
theorem dX2_rule_34 : decode cX2_rule 34 = .ok (.ireturn, 1) := dk_172 (dk_at dksX2_rule_1 11 rfl rfl)
theorem dX2_rule_35 : decode cX2_rule 35 = .ok (.aload_n 0, 1) := dk_42 (dk_at dksX2_rule_1 12 rfl rfl)
theorem dX2_rule_36 : decode cX2_rule 36 = .ok (.getfield 55, 3) := dk_180 0 55 (dk_at dksX2_rule_1 13 rfl rfl)
theorem dX2_rule_39 : decode cX2_rule 39 = .ok (.iload_n 1, 1) := dk_27 (dk_at dksX2_rule_1 16 rfl rfl)
theorem dX2_rule_40 : decode cX2_rule 40 = .ok (.iaload, 1) := dk_46 (dk_at dksX2_rule_1 17 rfl rfl)
theorem dX2_rule_41 : decode cX2_rule 41 = .ok (.istore_n 3, 1) := dk_62 (dk_at dksX2_rule_1 18 rfl rfl)
theorem dX2_rule_42 : decode cX2_rule 42 = .ok (.aload_n 0, 1) := dk_42 (dk_at dksX2_rule_1 19 rfl rfl)
theorem dX2_rule_43 : decode cX2_rule 43 = .ok (.getfield 55, 3) := dk_180 0 55 (dk_at dksX2_rule_1 20 rfl rfl)
theorem dX2_rule_46 : decode cX2_rule 46 = .ok (.iload_n 1, 1) := dk_27 (dk_at dksX2_rule_1 23 rfl rfl)
theorem dX2_rule_47 : decode cX2_rule 47 = .ok (.iload_n 2, 1) := dk_28 (dk_at dksX2_rule_2 0 rfl rfl)
theorem dX2_rule_48 : decode cX2_rule 48 = .ok (.iastore, 1) := dk_79 (dk_at dksX2_rule_2 1 rfl rfl)
theorem dX2_rule_49 : decode cX2_rule 49 = .ok (.iload_n 3, 1) := dk_29 (dk_at dksX2_rule_2 2 rfl rfl)
theorem dX2_rule_50 : decode cX2_rule 50 = .ok (.ireturn, 1) := dk_172 (dk_at dksX2_rule_2 3 rfl rfl)
abbrev cX2_mostOf : ByteArray := prog_13_method_23_code
def yX2_mostOf : MethodName := ⟨RX2, "mostOf", "(I)I"⟩
def dkwX2_mostOf_1 : List UInt8 := [172]
abbrev dktX2_mostOf_1 : List UInt8 := dkwX2_mostOf_1 ++ []
def dkwX2_mostOf_0 : List UInt8 := [26, 5, 162, 0, 9, 17, 1, 44, 167, 0, 16, 26, 5, 160, 0, 8, 16, 12, 167, 0, 6, 17, 15, 240]
abbrev dktX2_mostOf_0 : List UInt8 := dkwX2_mostOf_0 ++ dktX2_mostOf_1
theorem dksX2_mostOf_0 : cX2_mostOf.data.toList.drop 0 = dktX2_mostOf_0 := by decide +kernel
theorem dksX2_mostOf_1 : cX2_mostOf.data.toList.drop 24 = dktX2_mostOf_1 := dk_seg dksX2_mostOf_0 24 rfl rfl
theorem dX2_mostOf_0 : decode cX2_mostOf 0 = .ok (.iload_n 0, 1) := dk_26 (dk_at dksX2_mostOf_0 0 rfl rfl)
theorem dX2_mostOf_1 : decode cX2_mostOf 1 = .ok (.iconst 2, 1) := dk_5 (dk_at dksX2_mostOf_0 1 rfl rfl)
theorem dX2_mostOf_2 : decode cX2_mostOf 2 = .ok (.if_icmp .ge 9, 3) := dk_162 0 9 (dk_at dksX2_mostOf_0 2 rfl rfl)
theorem dX2_mostOf_5 : decode cX2_mostOf 5 = .ok (.sipush 300, 3) := dk_17 1 44 (dk_at dksX2_mostOf_0 5 rfl rfl)
theorem dX2_mostOf_8 : decode cX2_mostOf 8 = .ok (.goto 16, 3) := dk_167 0 16 (dk_at dksX2_mostOf_0 8 rfl rfl)
theorem dX2_mostOf_11 : decode cX2_mostOf 11 = .ok (.iload_n 0, 1) := dk_26 (dk_at dksX2_mostOf_0 11 rfl rfl)
theorem dX2_mostOf_12 : decode cX2_mostOf 12 = .ok (.iconst 2, 1) := dk_5 (dk_at dksX2_mostOf_0 12 rfl rfl)
theorem dX2_mostOf_13 : decode cX2_mostOf 13 = .ok (.if_icmp .ne 8, 3) := dk_160 0 8 (dk_at dksX2_mostOf_0 13 rfl rfl)
theorem dX2_mostOf_16 : decode cX2_mostOf 16 = .ok (.bipush 12, 2) := dk_16 12 (dk_at dksX2_mostOf_0 16 rfl rfl)
theorem dX2_mostOf_18 : decode cX2_mostOf 18 = .ok (.goto 6, 3) := dk_167 0 6 (dk_at dksX2_mostOf_0 18 rfl rfl)
theorem dX2_mostOf_21 : decode cX2_mostOf 21 = .ok (.sipush 4080, 3) := dk_17 15 240 (dk_at dksX2_mostOf_0 21 rfl rfl)
theorem dX2_mostOf_24 : decode cX2_mostOf 24 = .ok (.ireturn, 1) := dk_172 (dk_at dksX2_mostOf_1 0 rfl rfl)
abbrev cX2_build : ByteArray := prog_13_method_30_code
def yX2_build : MethodName := ⟨RX2, "build", "()I"⟩
def dkwX2_build_11 : List UInt8 := [42, 180, 0, 174, 42, 180, 0, 148, 79, 42, 180, 0, 174, 172]
abbrev dktX2_build_11 : List UInt8 := dkwX2_build_11 ++ []
def dkwX2_build_10 : List UInt8 := [180, 0, 148, 4, 96, 181, 0, 148, 132, 3, 1, 167, 255, 189, 132, 1, 1, 167, 255, 100, 42, 180, 0, 76]
abbrev dktX2_build_10 : List UInt8 := dkwX2_build_10 ++ dktX2_build_11
def dkwX2_build_9 : List UInt8 := [79, 42, 180, 0, 82, 42, 180, 0, 148, 42, 180, 0, 61, 42, 180, 0, 73, 29, 46, 46, 79, 42, 89]
abbrev dktX2_build_9 : List UInt8 := dkwX2_build_9 ++ dktX2_build_10
def dkwX2_build_8 : List UInt8 := [180, 0, 73, 29, 46, 16, 247, 159, 0, 48, 42, 180, 0, 79, 42, 180, 0, 148, 42, 180, 0, 73, 29, 46]
abbrev dktX2_build_8 : List UInt8 := dkwX2_build_8 ++ dktX2_build_9
def dkwX2_build_7 : List UInt8 := [167, 0, 4, 3, 96, 79, 132, 3, 1, 167, 255, 216, 3, 62, 29, 42, 180, 0, 104, 162, 0, 65, 42]
abbrev dktX2_build_7 : List UInt8 := dkwX2_build_7 ++ dktX2_build_8
def dkwX2_build_6 : List UInt8 := [180, 0, 85, 27, 92, 46, 42, 180, 0, 58, 29, 46, 42, 180, 0, 67, 27, 46, 160, 0, 7, 4]
abbrev dktX2_build_6 : List UInt8 := dkwX2_build_6 ++ dktX2_build_7
def dkwX2_build_5 : List UInt8 := [46, 182, 0, 177, 61, 42, 180, 0, 85, 27, 3, 79, 3, 62, 29, 42, 180, 0, 107, 162, 0, 38, 42]
abbrev dktX2_build_5 : List UInt8 := dkwX2_build_5 ++ dktX2_build_6
def dkwX2_build_4 : List UInt8 := [27, 42, 180, 0, 174, 162, 0, 154, 42, 180, 0, 76, 27, 42, 180, 0, 148, 79, 42, 42, 180, 0, 67, 27]
abbrev dktX2_build_4 : List UInt8 := dkwX2_build_4 ++ dktX2_build_5
def dkwX2_build_3 : List UInt8 := [89, 180, 0, 189, 4, 96, 181, 0, 189, 42, 42, 180, 0, 174, 181, 0, 160, 42, 3, 181, 0, 148, 3, 60]
abbrev dktX2_build_3 : List UInt8 := dkwX2_build_3 ++ dktX2_build_4
def dkwX2_build_2 : List UInt8 := [180, 0, 91, 27, 42, 180, 0, 79, 27, 46, 79, 132, 1, 1, 167, 255, 233, 42, 16, 247, 182, 0, 186, 42]
abbrev dktX2_build_2 : List UInt8 := dkwX2_build_2 ++ dktX2_build_3
def dkwX2_build_1 : List UInt8 := [180, 0, 76, 27, 46, 79, 132, 1, 1, 167, 255, 233, 3, 60, 27, 42, 180, 0, 148, 162, 0, 21, 42]
abbrev dktX2_build_1 : List UInt8 := dkwX2_build_1 ++ dktX2_build_2
def dkwX2_build_0 : List UInt8 := [42, 42, 180, 0, 160, 181, 0, 183, 3, 60, 27, 42, 180, 0, 160, 163, 0, 21, 42, 180, 0, 88, 27, 42]
abbrev dktX2_build_0 : List UInt8 := dkwX2_build_0 ++ dktX2_build_1
theorem dksX2_build_0 : cX2_build.data.toList.drop 0 = dktX2_build_0 := by decide +kernel
theorem dksX2_build_1 : cX2_build.data.toList.drop 24 = dktX2_build_1 := dk_seg dksX2_build_0 24 rfl rfl
theorem dksX2_build_2 : cX2_build.data.toList.drop 47 = dktX2_build_2 := dk_seg dksX2_build_1 23 rfl rfl
theorem dksX2_build_3 : cX2_build.data.toList.drop 71 = dktX2_build_3 := dk_seg dksX2_build_2 24 rfl rfl
theorem dksX2_build_4 : cX2_build.data.toList.drop 95 = dktX2_build_4 := dk_seg dksX2_build_3 24 rfl rfl
theorem dksX2_build_5 : cX2_build.data.toList.drop 119 = dktX2_build_5 := dk_seg dksX2_build_4 24 rfl rfl
theorem dksX2_build_6 : cX2_build.data.toList.drop 142 = dktX2_build_6 := dk_seg dksX2_build_5 23 rfl rfl
theorem dksX2_build_7 : cX2_build.data.toList.drop 164 = dktX2_build_7 := dk_seg dksX2_build_6 22 rfl rfl
theorem dksX2_build_8 : cX2_build.data.toList.drop 187 = dktX2_build_8 := dk_seg dksX2_build_7 23 rfl rfl
theorem dksX2_build_9 : cX2_build.data.toList.drop 211 = dktX2_build_9 := dk_seg dksX2_build_8 24 rfl rfl
theorem dksX2_build_10 : cX2_build.data.toList.drop 234 = dktX2_build_10 := dk_seg dksX2_build_9 23 rfl rfl
theorem dksX2_build_11 : cX2_build.data.toList.drop 258 = dktX2_build_11 := dk_seg dksX2_build_10 24 rfl rfl
theorem dX2_build_0 : decode cX2_build 0 = .ok (.aload_n 0, 1) := dk_42 (dk_at dksX2_build_0 0 rfl rfl)
theorem dX2_build_1 : decode cX2_build 1 = .ok (.aload_n 0, 1) := dk_42 (dk_at dksX2_build_0 1 rfl rfl)
theorem dX2_build_2 : decode cX2_build 2 = .ok (.getfield 160, 3) := dk_180 0 160 (dk_at dksX2_build_0 2 rfl rfl)
theorem dX2_build_5 : decode cX2_build 5 = .ok (.putfield 183, 3) := dk_181 0 183 (dk_at dksX2_build_0 5 rfl rfl)
theorem dX2_build_8 : decode cX2_build 8 = .ok (.iconst 0, 1) := dk_3 (dk_at dksX2_build_0 8 rfl rfl)
theorem dX2_build_9 : decode cX2_build 9 = .ok (.istore_n 1, 1) := dk_60 (dk_at dksX2_build_0 9 rfl rfl)
theorem dX2_build_10 : decode cX2_build 10 = .ok (.iload_n 1, 1) := dk_27 (dk_at dksX2_build_0 10 rfl rfl)
theorem dX2_build_11 : decode cX2_build 11 = .ok (.aload_n 0, 1) := dk_42 (dk_at dksX2_build_0 11 rfl rfl)
theorem dX2_build_12 : decode cX2_build 12 = .ok (.getfield 160, 3) := dk_180 0 160 (dk_at dksX2_build_0 12 rfl rfl)
theorem dX2_build_15 : decode cX2_build 15 = .ok (.if_icmp .gt 21, 3) := dk_163 0 21 (dk_at dksX2_build_0 15 rfl rfl)
theorem dX2_build_18 : decode cX2_build 18 = .ok (.aload_n 0, 1) := dk_42 (dk_at dksX2_build_0 18 rfl rfl)
theorem dX2_build_19 : decode cX2_build 19 = .ok (.getfield 88, 3) := dk_180 0 88 (dk_at dksX2_build_0 19 rfl rfl)
theorem dX2_build_22 : decode cX2_build 22 = .ok (.iload_n 1, 1) := dk_27 (dk_at dksX2_build_0 22 rfl rfl)
theorem dX2_build_23 : decode cX2_build 23 = .ok (.aload_n 0, 1) := dk_42 (dk_at dksX2_build_0 23 rfl rfl)
theorem dX2_build_24 : decode cX2_build 24 = .ok (.getfield 76, 3) := dk_180 0 76 (dk_at dksX2_build_1 0 rfl rfl)
theorem dX2_build_27 : decode cX2_build 27 = .ok (.iload_n 1, 1) := dk_27 (dk_at dksX2_build_1 3 rfl rfl)
theorem dX2_build_28 : decode cX2_build 28 = .ok (.iaload, 1) := dk_46 (dk_at dksX2_build_1 4 rfl rfl)
theorem dX2_build_29 : decode cX2_build 29 = .ok (.iastore, 1) := dk_79 (dk_at dksX2_build_1 5 rfl rfl)
theorem dX2_build_30 : decode cX2_build 30 = .ok (.iinc 1 1, 3) := dk_132 1 1 (dk_at dksX2_build_1 6 rfl rfl)
theorem dX2_build_33 : decode cX2_build 33 = .ok (.goto (-23), 3) := dk_167 255 233 (dk_at dksX2_build_1 9 rfl rfl)
theorem dX2_build_36 : decode cX2_build 36 = .ok (.iconst 0, 1) := dk_3 (dk_at dksX2_build_1 12 rfl rfl)
theorem dX2_build_37 : decode cX2_build 37 = .ok (.istore_n 1, 1) := dk_60 (dk_at dksX2_build_1 13 rfl rfl)
theorem dX2_build_38 : decode cX2_build 38 = .ok (.iload_n 1, 1) := dk_27 (dk_at dksX2_build_1 14 rfl rfl)
theorem dX2_build_39 : decode cX2_build 39 = .ok (.aload_n 0, 1) := dk_42 (dk_at dksX2_build_1 15 rfl rfl)
theorem dX2_build_40 : decode cX2_build 40 = .ok (.getfield 148, 3) := dk_180 0 148 (dk_at dksX2_build_1 16 rfl rfl)
theorem dX2_build_43 : decode cX2_build 43 = .ok (.if_icmp .ge 21, 3) := dk_162 0 21 (dk_at dksX2_build_1 19 rfl rfl)
theorem dX2_build_46 : decode cX2_build 46 = .ok (.aload_n 0, 1) := dk_42 (dk_at dksX2_build_1 22 rfl rfl)
theorem dX2_build_47 : decode cX2_build 47 = .ok (.getfield 91, 3) := dk_180 0 91 (dk_at dksX2_build_2 0 rfl rfl)
theorem dX2_build_50 : decode cX2_build 50 = .ok (.iload_n 1, 1) := dk_27 (dk_at dksX2_build_2 3 rfl rfl)
theorem dX2_build_51 : decode cX2_build 51 = .ok (.aload_n 0, 1) := dk_42 (dk_at dksX2_build_2 4 rfl rfl)
theorem dX2_build_52 : decode cX2_build 52 = .ok (.getfield 79, 3) := dk_180 0 79 (dk_at dksX2_build_2 5 rfl rfl)
theorem dX2_build_55 : decode cX2_build 55 = .ok (.iload_n 1, 1) := dk_27 (dk_at dksX2_build_2 8 rfl rfl)
theorem dX2_build_56 : decode cX2_build 56 = .ok (.iaload, 1) := dk_46 (dk_at dksX2_build_2 9 rfl rfl)
theorem dX2_build_57 : decode cX2_build 57 = .ok (.iastore, 1) := dk_79 (dk_at dksX2_build_2 10 rfl rfl)
theorem dX2_build_58 : decode cX2_build 58 = .ok (.iinc 1 1, 3) := dk_132 1 1 (dk_at dksX2_build_2 11 rfl rfl)
theorem dX2_build_61 : decode cX2_build 61 = .ok (.goto (-23), 3) := dk_167 255 233 (dk_at dksX2_build_2 14 rfl rfl)
theorem dX2_build_64 : decode cX2_build 64 = .ok (.aload_n 0, 1) := dk_42 (dk_at dksX2_build_2 17 rfl rfl)
theorem dX2_build_65 : decode cX2_build 65 = .ok (.bipush (-9), 2) := dk_16 247 (dk_at dksX2_build_2 18 rfl rfl)
theorem dX2_build_67 : decode cX2_build 67 = .ok (.invokevirtual 186, 3) := dk_182 0 186 (dk_at dksX2_build_2 20 rfl rfl)
theorem dX2_build_70 : decode cX2_build 70 = .ok (.aload_n 0, 1) := dk_42 (dk_at dksX2_build_2 23 rfl rfl)
theorem dX2_build_71 : decode cX2_build 71 = .ok (.dup, 1) := dk_89 (dk_at dksX2_build_3 0 rfl rfl)
theorem dX2_build_72 : decode cX2_build 72 = .ok (.getfield 189, 3) := dk_180 0 189 (dk_at dksX2_build_3 1 rfl rfl)
theorem dX2_build_75 : decode cX2_build 75 = .ok (.iconst 1, 1) := dk_4 (dk_at dksX2_build_3 4 rfl rfl)
theorem dX2_build_76 : decode cX2_build 76 = .ok (.iadd, 1) := dk_96 (dk_at dksX2_build_3 5 rfl rfl)
theorem dX2_build_77 : decode cX2_build 77 = .ok (.putfield 189, 3) := dk_181 0 189 (dk_at dksX2_build_3 6 rfl rfl)
theorem dX2_build_80 : decode cX2_build 80 = .ok (.aload_n 0, 1) := dk_42 (dk_at dksX2_build_3 9 rfl rfl)
theorem dX2_build_81 : decode cX2_build 81 = .ok (.aload_n 0, 1) := dk_42 (dk_at dksX2_build_3 10 rfl rfl)
theorem dX2_build_82 : decode cX2_build 82 = .ok (.getfield 174, 3) := dk_180 0 174 (dk_at dksX2_build_3 11 rfl rfl)
theorem dX2_build_85 : decode cX2_build 85 = .ok (.putfield 160, 3) := dk_181 0 160 (dk_at dksX2_build_3 14 rfl rfl)
theorem dX2_build_88 : decode cX2_build 88 = .ok (.aload_n 0, 1) := dk_42 (dk_at dksX2_build_3 17 rfl rfl)
theorem dX2_build_89 : decode cX2_build 89 = .ok (.iconst 0, 1) := dk_3 (dk_at dksX2_build_3 18 rfl rfl)
theorem dX2_build_90 : decode cX2_build 90 = .ok (.putfield 148, 3) := dk_181 0 148 (dk_at dksX2_build_3 19 rfl rfl)
theorem dX2_build_93 : decode cX2_build 93 = .ok (.iconst 0, 1) := dk_3 (dk_at dksX2_build_3 22 rfl rfl)
theorem dX2_build_94 : decode cX2_build 94 = .ok (.istore_n 1, 1) := dk_60 (dk_at dksX2_build_3 23 rfl rfl)
theorem dX2_build_95 : decode cX2_build 95 = .ok (.iload_n 1, 1) := dk_27 (dk_at dksX2_build_4 0 rfl rfl)
theorem dX2_build_96 : decode cX2_build 96 = .ok (.aload_n 0, 1) := dk_42 (dk_at dksX2_build_4 1 rfl rfl)
theorem dX2_build_97 : decode cX2_build 97 = .ok (.getfield 174, 3) := dk_180 0 174 (dk_at dksX2_build_4 2 rfl rfl)
theorem dX2_build_100 : decode cX2_build 100 = .ok (.if_icmp .ge 154, 3) := dk_162 0 154 (dk_at dksX2_build_4 5 rfl rfl)
theorem dX2_build_103 : decode cX2_build 103 = .ok (.aload_n 0, 1) := dk_42 (dk_at dksX2_build_4 8 rfl rfl)
theorem dX2_build_104 : decode cX2_build 104 = .ok (.getfield 76, 3) := dk_180 0 76 (dk_at dksX2_build_4 9 rfl rfl)
theorem dX2_build_107 : decode cX2_build 107 = .ok (.iload_n 1, 1) := dk_27 (dk_at dksX2_build_4 12 rfl rfl)
theorem dX2_build_108 : decode cX2_build 108 = .ok (.aload_n 0, 1) := dk_42 (dk_at dksX2_build_4 13 rfl rfl)
theorem dX2_build_109 : decode cX2_build 109 = .ok (.getfield 148, 3) := dk_180 0 148 (dk_at dksX2_build_4 14 rfl rfl)
theorem dX2_build_112 : decode cX2_build 112 = .ok (.iastore, 1) := dk_79 (dk_at dksX2_build_4 17 rfl rfl)
theorem dX2_build_113 : decode cX2_build 113 = .ok (.aload_n 0, 1) := dk_42 (dk_at dksX2_build_4 18 rfl rfl)
theorem dX2_build_114 : decode cX2_build 114 = .ok (.aload_n 0, 1) := dk_42 (dk_at dksX2_build_4 19 rfl rfl)
theorem dX2_build_115 : decode cX2_build 115 = .ok (.getfield 67, 3) := dk_180 0 67 (dk_at dksX2_build_4 20 rfl rfl)
theorem dX2_build_118 : decode cX2_build 118 = .ok (.iload_n 1, 1) := dk_27 (dk_at dksX2_build_4 23 rfl rfl)
theorem dX2_build_119 : decode cX2_build 119 = .ok (.iaload, 1) := dk_46 (dk_at dksX2_build_5 0 rfl rfl)
theorem dX2_build_120 : decode cX2_build 120 = .ok (.invokevirtual 177, 3) := dk_182 0 177 (dk_at dksX2_build_5 1 rfl rfl)
theorem dX2_build_123 : decode cX2_build 123 = .ok (.istore_n 2, 1) := dk_61 (dk_at dksX2_build_5 4 rfl rfl)
theorem dX2_build_124 : decode cX2_build 124 = .ok (.aload_n 0, 1) := dk_42 (dk_at dksX2_build_5 5 rfl rfl)
theorem dX2_build_125 : decode cX2_build 125 = .ok (.getfield 85, 3) := dk_180 0 85 (dk_at dksX2_build_5 6 rfl rfl)
theorem dX2_build_128 : decode cX2_build 128 = .ok (.iload_n 1, 1) := dk_27 (dk_at dksX2_build_5 9 rfl rfl)
theorem dX2_build_129 : decode cX2_build 129 = .ok (.iconst 0, 1) := dk_3 (dk_at dksX2_build_5 10 rfl rfl)
theorem dX2_build_130 : decode cX2_build 130 = .ok (.iastore, 1) := dk_79 (dk_at dksX2_build_5 11 rfl rfl)
theorem dX2_build_131 : decode cX2_build 131 = .ok (.iconst 0, 1) := dk_3 (dk_at dksX2_build_5 12 rfl rfl)
theorem dX2_build_132 : decode cX2_build 132 = .ok (.istore_n 3, 1) := dk_62 (dk_at dksX2_build_5 13 rfl rfl)
theorem dX2_build_133 : decode cX2_build 133 = .ok (.iload_n 3, 1) := dk_29 (dk_at dksX2_build_5 14 rfl rfl)
theorem dX2_build_134 : decode cX2_build 134 = .ok (.aload_n 0, 1) := dk_42 (dk_at dksX2_build_5 15 rfl rfl)
theorem dX2_build_135 : decode cX2_build 135 = .ok (.getfield 107, 3) := dk_180 0 107 (dk_at dksX2_build_5 16 rfl rfl)
theorem dX2_build_138 : decode cX2_build 138 = .ok (.if_icmp .ge 38, 3) := dk_162 0 38 (dk_at dksX2_build_5 19 rfl rfl)
theorem dX2_build_141 : decode cX2_build 141 = .ok (.aload_n 0, 1) := dk_42 (dk_at dksX2_build_5 22 rfl rfl)
theorem dX2_build_142 : decode cX2_build 142 = .ok (.getfield 85, 3) := dk_180 0 85 (dk_at dksX2_build_6 0 rfl rfl)
theorem dX2_build_145 : decode cX2_build 145 = .ok (.iload_n 1, 1) := dk_27 (dk_at dksX2_build_6 3 rfl rfl)
theorem dX2_build_146 : decode cX2_build 146 = .ok (.dup2, 1) := dk_92 (dk_at dksX2_build_6 4 rfl rfl)
theorem dX2_build_147 : decode cX2_build 147 = .ok (.iaload, 1) := dk_46 (dk_at dksX2_build_6 5 rfl rfl)
theorem dX2_build_148 : decode cX2_build 148 = .ok (.aload_n 0, 1) := dk_42 (dk_at dksX2_build_6 6 rfl rfl)
theorem dX2_build_149 : decode cX2_build 149 = .ok (.getfield 58, 3) := dk_180 0 58 (dk_at dksX2_build_6 7 rfl rfl)
theorem dX2_build_152 : decode cX2_build 152 = .ok (.iload_n 3, 1) := dk_29 (dk_at dksX2_build_6 10 rfl rfl)
theorem dX2_build_153 : decode cX2_build 153 = .ok (.iaload, 1) := dk_46 (dk_at dksX2_build_6 11 rfl rfl)
theorem dX2_build_154 : decode cX2_build 154 = .ok (.aload_n 0, 1) := dk_42 (dk_at dksX2_build_6 12 rfl rfl)
theorem dX2_build_155 : decode cX2_build 155 = .ok (.getfield 67, 3) := dk_180 0 67 (dk_at dksX2_build_6 13 rfl rfl)
theorem dX2_build_158 : decode cX2_build 158 = .ok (.iload_n 1, 1) := dk_27 (dk_at dksX2_build_6 16 rfl rfl)
theorem dX2_build_159 : decode cX2_build 159 = .ok (.iaload, 1) := dk_46 (dk_at dksX2_build_6 17 rfl rfl)
theorem dX2_build_160 : decode cX2_build 160 = .ok (.if_icmp .ne 7, 3) := dk_160 0 7 (dk_at dksX2_build_6 18 rfl rfl)
theorem dX2_build_163 : decode cX2_build 163 = .ok (.iconst 1, 1) := dk_4 (dk_at dksX2_build_6 21 rfl rfl)
theorem dX2_build_164 : decode cX2_build 164 = .ok (.goto 4, 3) := dk_167 0 4 (dk_at dksX2_build_7 0 rfl rfl)
theorem dX2_build_167 : decode cX2_build 167 = .ok (.iconst 0, 1) := dk_3 (dk_at dksX2_build_7 3 rfl rfl)
theorem dX2_build_168 : decode cX2_build 168 = .ok (.iadd, 1) := dk_96 (dk_at dksX2_build_7 4 rfl rfl)
theorem dX2_build_169 : decode cX2_build 169 = .ok (.iastore, 1) := dk_79 (dk_at dksX2_build_7 5 rfl rfl)
theorem dX2_build_170 : decode cX2_build 170 = .ok (.iinc 3 1, 3) := dk_132 3 1 (dk_at dksX2_build_7 6 rfl rfl)
theorem dX2_build_173 : decode cX2_build 173 = .ok (.goto (-40), 3) := dk_167 255 216 (dk_at dksX2_build_7 9 rfl rfl)
theorem dX2_build_176 : decode cX2_build 176 = .ok (.iconst 0, 1) := dk_3 (dk_at dksX2_build_7 12 rfl rfl)
theorem dX2_build_177 : decode cX2_build 177 = .ok (.istore_n 3, 1) := dk_62 (dk_at dksX2_build_7 13 rfl rfl)
theorem dX2_build_178 : decode cX2_build 178 = .ok (.iload_n 3, 1) := dk_29 (dk_at dksX2_build_7 14 rfl rfl)
theorem dX2_build_179 : decode cX2_build 179 = .ok (.aload_n 0, 1) := dk_42 (dk_at dksX2_build_7 15 rfl rfl)
theorem dX2_build_180 : decode cX2_build 180 = .ok (.getfield 104, 3) := dk_180 0 104 (dk_at dksX2_build_7 16 rfl rfl)
theorem dX2_build_183 : decode cX2_build 183 = .ok (.if_icmp .ge 65, 3) := dk_162 0 65 (dk_at dksX2_build_7 19 rfl rfl)
theorem dX2_build_186 : decode cX2_build 186 = .ok (.aload_n 0, 1) := dk_42 (dk_at dksX2_build_7 22 rfl rfl)
theorem dX2_build_187 : decode cX2_build 187 = .ok (.getfield 73, 3) := dk_180 0 73 (dk_at dksX2_build_8 0 rfl rfl)
theorem dX2_build_190 : decode cX2_build 190 = .ok (.iload_n 3, 1) := dk_29 (dk_at dksX2_build_8 3 rfl rfl)
theorem dX2_build_191 : decode cX2_build 191 = .ok (.iaload, 1) := dk_46 (dk_at dksX2_build_8 4 rfl rfl)
theorem dX2_build_192 : decode cX2_build 192 = .ok (.bipush (-9), 2) := dk_16 247 (dk_at dksX2_build_8 5 rfl rfl)
theorem dX2_build_194 : decode cX2_build 194 = .ok (.if_icmp .eq 48, 3) := dk_159 0 48 (dk_at dksX2_build_8 7 rfl rfl)
theorem dX2_build_197 : decode cX2_build 197 = .ok (.aload_n 0, 1) := dk_42 (dk_at dksX2_build_8 10 rfl rfl)
theorem dX2_build_198 : decode cX2_build 198 = .ok (.getfield 79, 3) := dk_180 0 79 (dk_at dksX2_build_8 11 rfl rfl)
theorem dX2_build_201 : decode cX2_build 201 = .ok (.aload_n 0, 1) := dk_42 (dk_at dksX2_build_8 14 rfl rfl)
theorem dX2_build_202 : decode cX2_build 202 = .ok (.getfield 148, 3) := dk_180 0 148 (dk_at dksX2_build_8 15 rfl rfl)
theorem dX2_build_205 : decode cX2_build 205 = .ok (.aload_n 0, 1) := dk_42 (dk_at dksX2_build_8 18 rfl rfl)
theorem dX2_build_206 : decode cX2_build 206 = .ok (.getfield 73, 3) := dk_180 0 73 (dk_at dksX2_build_8 19 rfl rfl)
theorem dX2_build_209 : decode cX2_build 209 = .ok (.iload_n 3, 1) := dk_29 (dk_at dksX2_build_8 22 rfl rfl)
theorem dX2_build_210 : decode cX2_build 210 = .ok (.iaload, 1) := dk_46 (dk_at dksX2_build_8 23 rfl rfl)
theorem dX2_build_211 : decode cX2_build 211 = .ok (.iastore, 1) := dk_79 (dk_at dksX2_build_9 0 rfl rfl)
theorem dX2_build_212 : decode cX2_build 212 = .ok (.aload_n 0, 1) := dk_42 (dk_at dksX2_build_9 1 rfl rfl)
theorem dX2_build_213 : decode cX2_build 213 = .ok (.getfield 82, 3) := dk_180 0 82 (dk_at dksX2_build_9 2 rfl rfl)
theorem dX2_build_216 : decode cX2_build 216 = .ok (.aload_n 0, 1) := dk_42 (dk_at dksX2_build_9 5 rfl rfl)
theorem dX2_build_217 : decode cX2_build 217 = .ok (.getfield 148, 3) := dk_180 0 148 (dk_at dksX2_build_9 6 rfl rfl)
theorem dX2_build_220 : decode cX2_build 220 = .ok (.aload_n 0, 1) := dk_42 (dk_at dksX2_build_9 9 rfl rfl)
theorem dX2_build_221 : decode cX2_build 221 = .ok (.getfield 61, 3) := dk_180 0 61 (dk_at dksX2_build_9 10 rfl rfl)
theorem dX2_build_224 : decode cX2_build 224 = .ok (.aload_n 0, 1) := dk_42 (dk_at dksX2_build_9 13 rfl rfl)
theorem dX2_build_225 : decode cX2_build 225 = .ok (.getfield 73, 3) := dk_180 0 73 (dk_at dksX2_build_9 14 rfl rfl)
theorem dX2_build_228 : decode cX2_build 228 = .ok (.iload_n 3, 1) := dk_29 (dk_at dksX2_build_9 17 rfl rfl)
theorem dX2_build_229 : decode cX2_build 229 = .ok (.iaload, 1) := dk_46 (dk_at dksX2_build_9 18 rfl rfl)
theorem dX2_build_230 : decode cX2_build 230 = .ok (.iaload, 1) := dk_46 (dk_at dksX2_build_9 19 rfl rfl)
theorem dX2_build_231 : decode cX2_build 231 = .ok (.iastore, 1) := dk_79 (dk_at dksX2_build_9 20 rfl rfl)
theorem dX2_build_232 : decode cX2_build 232 = .ok (.aload_n 0, 1) := dk_42 (dk_at dksX2_build_9 21 rfl rfl)
theorem dX2_build_233 : decode cX2_build 233 = .ok (.dup, 1) := dk_89 (dk_at dksX2_build_9 22 rfl rfl)
theorem dX2_build_234 : decode cX2_build 234 = .ok (.getfield 148, 3) := dk_180 0 148 (dk_at dksX2_build_10 0 rfl rfl)
theorem dX2_build_237 : decode cX2_build 237 = .ok (.iconst 1, 1) := dk_4 (dk_at dksX2_build_10 3 rfl rfl)
theorem dX2_build_238 : decode cX2_build 238 = .ok (.iadd, 1) := dk_96 (dk_at dksX2_build_10 4 rfl rfl)
theorem dX2_build_239 : decode cX2_build 239 = .ok (.putfield 148, 3) := dk_181 0 148 (dk_at dksX2_build_10 5 rfl rfl)
theorem dX2_build_242 : decode cX2_build 242 = .ok (.iinc 3 1, 3) := dk_132 3 1 (dk_at dksX2_build_10 8 rfl rfl)
theorem dX2_build_245 : decode cX2_build 245 = .ok (.goto (-67), 3) := dk_167 255 189 (dk_at dksX2_build_10 11 rfl rfl)
theorem dX2_build_248 : decode cX2_build 248 = .ok (.iinc 1 1, 3) := dk_132 1 1 (dk_at dksX2_build_10 14 rfl rfl)
theorem dX2_build_251 : decode cX2_build 251 = .ok (.goto (-156), 3) := dk_167 255 100 (dk_at dksX2_build_10 17 rfl rfl)
theorem dX2_build_254 : decode cX2_build 254 = .ok (.aload_n 0, 1) := dk_42 (dk_at dksX2_build_10 20 rfl rfl)
theorem dX2_build_255 : decode cX2_build 255 = .ok (.getfield 76, 3) := dk_180 0 76 (dk_at dksX2_build_10 21 rfl rfl)
theorem dX2_build_258 : decode cX2_build 258 = .ok (.aload_n 0, 1) := dk_42 (dk_at dksX2_build_11 0 rfl rfl)
theorem dX2_build_259 : decode cX2_build 259 = .ok (.getfield 174, 3) := dk_180 0 174 (dk_at dksX2_build_11 1 rfl rfl)
theorem dX2_build_262 : decode cX2_build 262 = .ok (.aload_n 0, 1) := dk_42 (dk_at dksX2_build_11 4 rfl rfl)
theorem dX2_build_263 : decode cX2_build 263 = .ok (.getfield 148, 3) := dk_180 0 148 (dk_at dksX2_build_11 5 rfl rfl)
theorem dX2_build_266 : decode cX2_build 266 = .ok (.iastore, 1) := dk_79 (dk_at dksX2_build_11 8 rfl rfl)
theorem dX2_build_267 : decode cX2_build 267 = .ok (.aload_n 0, 1) := dk_42 (dk_at dksX2_build_11 9 rfl rfl)
theorem dX2_build_268 : decode cX2_build 268 = .ok (.getfield 174, 3) := dk_180 0 174 (dk_at dksX2_build_11 10 rfl rfl)
theorem dX2_build_271 : decode cX2_build 271 = .ok (.ireturn, 1) := dk_172 (dk_at dksX2_build_11 13 rfl rfl)
abbrev cX2_make : ByteArray := prog_13_method_29_code
def yX2_make : MethodName := ⟨RX2, "make", "(I)V"⟩
def dkwX2_make_8 : List UInt8 := [28, 79, 42, 89, 180, 0, 174, 4, 96, 181, 0, 174, 132, 2, 1, 167, 255, 64, 177]
abbrev dktX2_make_8 : List UInt8 := dkwX2_make_8 ++ []
def dkwX2_make_7 : List UInt8 := [4, 100, 46, 79, 132, 4, 255, 167, 255, 199, 42, 180, 0, 70, 21, 4, 29, 79, 42, 180, 0, 67, 21, 4]
abbrev dktX2_make_7 : List UInt8 := dkwX2_make_7 ++ dktX2_make_8
def dkwX2_make_6 : List UInt8 := [21, 4, 42, 180, 0, 70, 21, 4, 4, 100, 46, 79, 42, 180, 0, 67, 21, 4, 42, 180, 0, 67, 21, 4]
abbrev dktX2_make_6 : List UInt8 := dkwX2_make_6 ++ dktX2_make_7
def dkwX2_make_5 : List UInt8 := [158, 0, 58, 42, 29, 42, 180, 0, 70, 21, 4, 4, 100, 46, 182, 0, 180, 153, 0, 41, 42, 180, 0, 70]
abbrev dktX2_make_5 : List UInt8 := dkwX2_make_5 ++ dktX2_make_6
def dkwX2_make_4 : List UInt8 := [42, 180, 0, 73, 21, 4, 46, 62, 132, 4, 1, 167, 255, 203, 42, 180, 0, 174, 54, 4, 21, 4]
abbrev dktX2_make_4 : List UInt8 := dkwX2_make_4 ++ dktX2_make_5
def dkwX2_make_3 : List UInt8 := [159, 0, 32, 29, 16, 247, 159, 0, 18, 42, 42, 180, 0, 73, 21, 4, 46, 29, 182, 0, 180, 153, 0, 11]
abbrev dktX2_make_3 : List UInt8 := dkwX2_make_3 ++ dktX2_make_4
def dkwX2_make_2 : List UInt8 := [16, 247, 62, 3, 54, 4, 21, 4, 42, 180, 0, 104, 162, 0, 50, 42, 180, 0, 73, 21, 4, 46, 16, 247]
abbrev dktX2_make_2 : List UInt8 := dkwX2_make_2 ++ dktX2_make_3
def dkwX2_make_1 : List UInt8 := [28, 46, 28, 160, 0, 174, 42, 28, 182, 0, 177, 42, 180, 0, 55, 5, 46, 162, 0, 6, 167, 0, 157]
abbrev dktX2_make_1 : List UInt8 := dkwX2_make_1 ++ dktX2_make_2
def dkwX2_make_0 : List UInt8 := [42, 27, 182, 0, 170, 42, 3, 181, 0, 174, 3, 61, 28, 42, 180, 0, 107, 162, 0, 190, 42, 180, 0, 58]
abbrev dktX2_make_0 : List UInt8 := dkwX2_make_0 ++ dktX2_make_1
theorem dksX2_make_0 : cX2_make.data.toList.drop 0 = dktX2_make_0 := by decide +kernel
theorem dksX2_make_1 : cX2_make.data.toList.drop 24 = dktX2_make_1 := dk_seg dksX2_make_0 24 rfl rfl
theorem dksX2_make_2 : cX2_make.data.toList.drop 47 = dktX2_make_2 := dk_seg dksX2_make_1 23 rfl rfl
theorem dksX2_make_3 : cX2_make.data.toList.drop 71 = dktX2_make_3 := dk_seg dksX2_make_2 24 rfl rfl
theorem dksX2_make_4 : cX2_make.data.toList.drop 95 = dktX2_make_4 := dk_seg dksX2_make_3 24 rfl rfl
theorem dksX2_make_5 : cX2_make.data.toList.drop 117 = dktX2_make_5 := dk_seg dksX2_make_4 22 rfl rfl
theorem dksX2_make_6 : cX2_make.data.toList.drop 141 = dktX2_make_6 := dk_seg dksX2_make_5 24 rfl rfl
theorem dksX2_make_7 : cX2_make.data.toList.drop 165 = dktX2_make_7 := dk_seg dksX2_make_6 24 rfl rfl
theorem dksX2_make_8 : cX2_make.data.toList.drop 189 = dktX2_make_8 := dk_seg dksX2_make_7 24 rfl rfl
theorem dX2_make_0 : decode cX2_make 0 = .ok (.aload_n 0, 1) := dk_42 (dk_at dksX2_make_0 0 rfl rfl)
theorem dX2_make_1 : decode cX2_make 1 = .ok (.iload_n 1, 1) := dk_27 (dk_at dksX2_make_0 1 rfl rfl)
theorem dX2_make_2 : decode cX2_make 2 = .ok (.invokevirtual 170, 3) := dk_182 0 170 (dk_at dksX2_make_0 2 rfl rfl)
theorem dX2_make_5 : decode cX2_make 5 = .ok (.aload_n 0, 1) := dk_42 (dk_at dksX2_make_0 5 rfl rfl)
theorem dX2_make_6 : decode cX2_make 6 = .ok (.iconst 0, 1) := dk_3 (dk_at dksX2_make_0 6 rfl rfl)
theorem dX2_make_7 : decode cX2_make 7 = .ok (.putfield 174, 3) := dk_181 0 174 (dk_at dksX2_make_0 7 rfl rfl)
theorem dX2_make_10 : decode cX2_make 10 = .ok (.iconst 0, 1) := dk_3 (dk_at dksX2_make_0 10 rfl rfl)
theorem dX2_make_11 : decode cX2_make 11 = .ok (.istore_n 2, 1) := dk_61 (dk_at dksX2_make_0 11 rfl rfl)
theorem dX2_make_12 : decode cX2_make 12 = .ok (.iload_n 2, 1) := dk_28 (dk_at dksX2_make_0 12 rfl rfl)
theorem dX2_make_13 : decode cX2_make 13 = .ok (.aload_n 0, 1) := dk_42 (dk_at dksX2_make_0 13 rfl rfl)
theorem dX2_make_14 : decode cX2_make 14 = .ok (.getfield 107, 3) := dk_180 0 107 (dk_at dksX2_make_0 14 rfl rfl)
theorem dX2_make_17 : decode cX2_make 17 = .ok (.if_icmp .ge 190, 3) := dk_162 0 190 (dk_at dksX2_make_0 17 rfl rfl)
theorem dX2_make_20 : decode cX2_make 20 = .ok (.aload_n 0, 1) := dk_42 (dk_at dksX2_make_0 20 rfl rfl)
theorem dX2_make_21 : decode cX2_make 21 = .ok (.getfield 58, 3) := dk_180 0 58 (dk_at dksX2_make_0 21 rfl rfl)
theorem dX2_make_24 : decode cX2_make 24 = .ok (.iload_n 2, 1) := dk_28 (dk_at dksX2_make_1 0 rfl rfl)
theorem dX2_make_25 : decode cX2_make 25 = .ok (.iaload, 1) := dk_46 (dk_at dksX2_make_1 1 rfl rfl)
theorem dX2_make_26 : decode cX2_make 26 = .ok (.iload_n 2, 1) := dk_28 (dk_at dksX2_make_1 2 rfl rfl)
theorem dX2_make_27 : decode cX2_make 27 = .ok (.if_icmp .ne 174, 3) := dk_160 0 174 (dk_at dksX2_make_1 3 rfl rfl)
theorem dX2_make_30 : decode cX2_make 30 = .ok (.aload_n 0, 1) := dk_42 (dk_at dksX2_make_1 6 rfl rfl)
theorem dX2_make_31 : decode cX2_make 31 = .ok (.iload_n 2, 1) := dk_28 (dk_at dksX2_make_1 7 rfl rfl)
theorem dX2_make_32 : decode cX2_make 32 = .ok (.invokevirtual 177, 3) := dk_182 0 177 (dk_at dksX2_make_1 8 rfl rfl)
theorem dX2_make_35 : decode cX2_make 35 = .ok (.aload_n 0, 1) := dk_42 (dk_at dksX2_make_1 11 rfl rfl)
theorem dX2_make_36 : decode cX2_make 36 = .ok (.getfield 55, 3) := dk_180 0 55 (dk_at dksX2_make_1 12 rfl rfl)
theorem dX2_make_39 : decode cX2_make 39 = .ok (.iconst 2, 1) := dk_5 (dk_at dksX2_make_1 15 rfl rfl)
theorem dX2_make_40 : decode cX2_make 40 = .ok (.iaload, 1) := dk_46 (dk_at dksX2_make_1 16 rfl rfl)
theorem dX2_make_41 : decode cX2_make 41 = .ok (.if_icmp .ge 6, 3) := dk_162 0 6 (dk_at dksX2_make_1 17 rfl rfl)
theorem dX2_make_44 : decode cX2_make 44 = .ok (.goto 157, 3) := dk_167 0 157 (dk_at dksX2_make_1 20 rfl rfl)
theorem dX2_make_47 : decode cX2_make 47 = .ok (.bipush (-9), 2) := dk_16 247 (dk_at dksX2_make_2 0 rfl rfl)
theorem dX2_make_49 : decode cX2_make 49 = .ok (.istore_n 3, 1) := dk_62 (dk_at dksX2_make_2 2 rfl rfl)
theorem dX2_make_50 : decode cX2_make 50 = .ok (.iconst 0, 1) := dk_3 (dk_at dksX2_make_2 3 rfl rfl)
theorem dX2_make_51 : decode cX2_make 51 = .ok (.istore 4, 2) := dk_54 4 (dk_at dksX2_make_2 4 rfl rfl)
theorem dX2_make_53 : decode cX2_make 53 = .ok (.iload 4, 2) := dk_21 4 (dk_at dksX2_make_2 6 rfl rfl)
theorem dX2_make_55 : decode cX2_make 55 = .ok (.aload_n 0, 1) := dk_42 (dk_at dksX2_make_2 8 rfl rfl)
theorem dX2_make_56 : decode cX2_make 56 = .ok (.getfield 104, 3) := dk_180 0 104 (dk_at dksX2_make_2 9 rfl rfl)
theorem dX2_make_59 : decode cX2_make 59 = .ok (.if_icmp .ge 50, 3) := dk_162 0 50 (dk_at dksX2_make_2 12 rfl rfl)
theorem dX2_make_62 : decode cX2_make 62 = .ok (.aload_n 0, 1) := dk_42 (dk_at dksX2_make_2 15 rfl rfl)
theorem dX2_make_63 : decode cX2_make 63 = .ok (.getfield 73, 3) := dk_180 0 73 (dk_at dksX2_make_2 16 rfl rfl)
theorem dX2_make_66 : decode cX2_make 66 = .ok (.iload 4, 2) := dk_21 4 (dk_at dksX2_make_2 19 rfl rfl)
theorem dX2_make_68 : decode cX2_make 68 = .ok (.iaload, 1) := dk_46 (dk_at dksX2_make_2 21 rfl rfl)
theorem dX2_make_69 : decode cX2_make 69 = .ok (.bipush (-9), 2) := dk_16 247 (dk_at dksX2_make_2 22 rfl rfl)
theorem dX2_make_71 : decode cX2_make 71 = .ok (.if_icmp .eq 32, 3) := dk_159 0 32 (dk_at dksX2_make_3 0 rfl rfl)
theorem dX2_make_74 : decode cX2_make 74 = .ok (.iload_n 3, 1) := dk_29 (dk_at dksX2_make_3 3 rfl rfl)
theorem dX2_make_75 : decode cX2_make 75 = .ok (.bipush (-9), 2) := dk_16 247 (dk_at dksX2_make_3 4 rfl rfl)
theorem dX2_make_77 : decode cX2_make 77 = .ok (.if_icmp .eq 18, 3) := dk_159 0 18 (dk_at dksX2_make_3 6 rfl rfl)
theorem dX2_make_80 : decode cX2_make 80 = .ok (.aload_n 0, 1) := dk_42 (dk_at dksX2_make_3 9 rfl rfl)
theorem dX2_make_81 : decode cX2_make 81 = .ok (.aload_n 0, 1) := dk_42 (dk_at dksX2_make_3 10 rfl rfl)
theorem dX2_make_82 : decode cX2_make 82 = .ok (.getfield 73, 3) := dk_180 0 73 (dk_at dksX2_make_3 11 rfl rfl)
theorem dX2_make_85 : decode cX2_make 85 = .ok (.iload 4, 2) := dk_21 4 (dk_at dksX2_make_3 14 rfl rfl)
theorem dX2_make_87 : decode cX2_make 87 = .ok (.iaload, 1) := dk_46 (dk_at dksX2_make_3 16 rfl rfl)
theorem dX2_make_88 : decode cX2_make 88 = .ok (.iload_n 3, 1) := dk_29 (dk_at dksX2_make_3 17 rfl rfl)
theorem dX2_make_89 : decode cX2_make 89 = .ok (.invokevirtual 180, 3) := dk_182 0 180 (dk_at dksX2_make_3 18 rfl rfl)
theorem dX2_make_92 : decode cX2_make 92 = .ok (.ifCond .eq 11, 3) := dk_153 0 11 (dk_at dksX2_make_3 21 rfl rfl)
theorem dX2_make_95 : decode cX2_make 95 = .ok (.aload_n 0, 1) := dk_42 (dk_at dksX2_make_4 0 rfl rfl)
theorem dX2_make_96 : decode cX2_make 96 = .ok (.getfield 73, 3) := dk_180 0 73 (dk_at dksX2_make_4 1 rfl rfl)
theorem dX2_make_99 : decode cX2_make 99 = .ok (.iload 4, 2) := dk_21 4 (dk_at dksX2_make_4 4 rfl rfl)
theorem dX2_make_101 : decode cX2_make 101 = .ok (.iaload, 1) := dk_46 (dk_at dksX2_make_4 6 rfl rfl)
theorem dX2_make_102 : decode cX2_make 102 = .ok (.istore_n 3, 1) := dk_62 (dk_at dksX2_make_4 7 rfl rfl)
theorem dX2_make_103 : decode cX2_make 103 = .ok (.iinc 4 1, 3) := dk_132 4 1 (dk_at dksX2_make_4 8 rfl rfl)
theorem dX2_make_106 : decode cX2_make 106 = .ok (.goto (-53), 3) := dk_167 255 203 (dk_at dksX2_make_4 11 rfl rfl)
theorem dX2_make_109 : decode cX2_make 109 = .ok (.aload_n 0, 1) := dk_42 (dk_at dksX2_make_4 14 rfl rfl)
theorem dX2_make_110 : decode cX2_make 110 = .ok (.getfield 174, 3) := dk_180 0 174 (dk_at dksX2_make_4 15 rfl rfl)
theorem dX2_make_113 : decode cX2_make 113 = .ok (.istore 4, 2) := dk_54 4 (dk_at dksX2_make_4 18 rfl rfl)
theorem dX2_make_115 : decode cX2_make 115 = .ok (.iload 4, 2) := dk_21 4 (dk_at dksX2_make_4 20 rfl rfl)
theorem dX2_make_117 : decode cX2_make 117 = .ok (.ifCond .le 58, 3) := dk_158 0 58 (dk_at dksX2_make_5 0 rfl rfl)
theorem dX2_make_120 : decode cX2_make 120 = .ok (.aload_n 0, 1) := dk_42 (dk_at dksX2_make_5 3 rfl rfl)
theorem dX2_make_121 : decode cX2_make 121 = .ok (.iload_n 3, 1) := dk_29 (dk_at dksX2_make_5 4 rfl rfl)
theorem dX2_make_122 : decode cX2_make 122 = .ok (.aload_n 0, 1) := dk_42 (dk_at dksX2_make_5 5 rfl rfl)
theorem dX2_make_123 : decode cX2_make 123 = .ok (.getfield 70, 3) := dk_180 0 70 (dk_at dksX2_make_5 6 rfl rfl)
theorem dX2_make_126 : decode cX2_make 126 = .ok (.iload 4, 2) := dk_21 4 (dk_at dksX2_make_5 9 rfl rfl)
theorem dX2_make_128 : decode cX2_make 128 = .ok (.iconst 1, 1) := dk_4 (dk_at dksX2_make_5 11 rfl rfl)
theorem dX2_make_129 : decode cX2_make 129 = .ok (.isub, 1) := dk_100 (dk_at dksX2_make_5 12 rfl rfl)
theorem dX2_make_130 : decode cX2_make 130 = .ok (.iaload, 1) := dk_46 (dk_at dksX2_make_5 13 rfl rfl)
theorem dX2_make_131 : decode cX2_make 131 = .ok (.invokevirtual 180, 3) := dk_182 0 180 (dk_at dksX2_make_5 14 rfl rfl)
theorem dX2_make_134 : decode cX2_make 134 = .ok (.ifCond .eq 41, 3) := dk_153 0 41 (dk_at dksX2_make_5 17 rfl rfl)
theorem dX2_make_137 : decode cX2_make 137 = .ok (.aload_n 0, 1) := dk_42 (dk_at dksX2_make_5 20 rfl rfl)
theorem dX2_make_138 : decode cX2_make 138 = .ok (.getfield 70, 3) := dk_180 0 70 (dk_at dksX2_make_5 21 rfl rfl)
theorem dX2_make_141 : decode cX2_make 141 = .ok (.iload 4, 2) := dk_21 4 (dk_at dksX2_make_6 0 rfl rfl)
theorem dX2_make_143 : decode cX2_make 143 = .ok (.aload_n 0, 1) := dk_42 (dk_at dksX2_make_6 2 rfl rfl)
theorem dX2_make_144 : decode cX2_make 144 = .ok (.getfield 70, 3) := dk_180 0 70 (dk_at dksX2_make_6 3 rfl rfl)
theorem dX2_make_147 : decode cX2_make 147 = .ok (.iload 4, 2) := dk_21 4 (dk_at dksX2_make_6 6 rfl rfl)
theorem dX2_make_149 : decode cX2_make 149 = .ok (.iconst 1, 1) := dk_4 (dk_at dksX2_make_6 8 rfl rfl)
theorem dX2_make_150 : decode cX2_make 150 = .ok (.isub, 1) := dk_100 (dk_at dksX2_make_6 9 rfl rfl)
theorem dX2_make_151 : decode cX2_make 151 = .ok (.iaload, 1) := dk_46 (dk_at dksX2_make_6 10 rfl rfl)
theorem dX2_make_152 : decode cX2_make 152 = .ok (.iastore, 1) := dk_79 (dk_at dksX2_make_6 11 rfl rfl)
theorem dX2_make_153 : decode cX2_make 153 = .ok (.aload_n 0, 1) := dk_42 (dk_at dksX2_make_6 12 rfl rfl)
theorem dX2_make_154 : decode cX2_make 154 = .ok (.getfield 67, 3) := dk_180 0 67 (dk_at dksX2_make_6 13 rfl rfl)
theorem dX2_make_157 : decode cX2_make 157 = .ok (.iload 4, 2) := dk_21 4 (dk_at dksX2_make_6 16 rfl rfl)
theorem dX2_make_159 : decode cX2_make 159 = .ok (.aload_n 0, 1) := dk_42 (dk_at dksX2_make_6 18 rfl rfl)
theorem dX2_make_160 : decode cX2_make 160 = .ok (.getfield 67, 3) := dk_180 0 67 (dk_at dksX2_make_6 19 rfl rfl)
theorem dX2_make_163 : decode cX2_make 163 = .ok (.iload 4, 2) := dk_21 4 (dk_at dksX2_make_6 22 rfl rfl)
theorem dX2_make_165 : decode cX2_make 165 = .ok (.iconst 1, 1) := dk_4 (dk_at dksX2_make_7 0 rfl rfl)
theorem dX2_make_166 : decode cX2_make 166 = .ok (.isub, 1) := dk_100 (dk_at dksX2_make_7 1 rfl rfl)
theorem dX2_make_167 : decode cX2_make 167 = .ok (.iaload, 1) := dk_46 (dk_at dksX2_make_7 2 rfl rfl)
theorem dX2_make_168 : decode cX2_make 168 = .ok (.iastore, 1) := dk_79 (dk_at dksX2_make_7 3 rfl rfl)
theorem dX2_make_169 : decode cX2_make 169 = .ok (.iinc 4 (-1), 3) := dk_132 4 255 (dk_at dksX2_make_7 4 rfl rfl)
theorem dX2_make_172 : decode cX2_make 172 = .ok (.goto (-57), 3) := dk_167 255 199 (dk_at dksX2_make_7 7 rfl rfl)
theorem dX2_make_175 : decode cX2_make 175 = .ok (.aload_n 0, 1) := dk_42 (dk_at dksX2_make_7 10 rfl rfl)
theorem dX2_make_176 : decode cX2_make 176 = .ok (.getfield 70, 3) := dk_180 0 70 (dk_at dksX2_make_7 11 rfl rfl)
theorem dX2_make_179 : decode cX2_make 179 = .ok (.iload 4, 2) := dk_21 4 (dk_at dksX2_make_7 14 rfl rfl)
theorem dX2_make_181 : decode cX2_make 181 = .ok (.iload_n 3, 1) := dk_29 (dk_at dksX2_make_7 16 rfl rfl)
theorem dX2_make_182 : decode cX2_make 182 = .ok (.iastore, 1) := dk_79 (dk_at dksX2_make_7 17 rfl rfl)
theorem dX2_make_183 : decode cX2_make 183 = .ok (.aload_n 0, 1) := dk_42 (dk_at dksX2_make_7 18 rfl rfl)
theorem dX2_make_184 : decode cX2_make 184 = .ok (.getfield 67, 3) := dk_180 0 67 (dk_at dksX2_make_7 19 rfl rfl)
theorem dX2_make_187 : decode cX2_make 187 = .ok (.iload 4, 2) := dk_21 4 (dk_at dksX2_make_7 22 rfl rfl)
theorem dX2_make_189 : decode cX2_make 189 = .ok (.iload_n 2, 1) := dk_28 (dk_at dksX2_make_8 0 rfl rfl)
theorem dX2_make_190 : decode cX2_make 190 = .ok (.iastore, 1) := dk_79 (dk_at dksX2_make_8 1 rfl rfl)
theorem dX2_make_191 : decode cX2_make 191 = .ok (.aload_n 0, 1) := dk_42 (dk_at dksX2_make_8 2 rfl rfl)
theorem dX2_make_192 : decode cX2_make 192 = .ok (.dup, 1) := dk_89 (dk_at dksX2_make_8 3 rfl rfl)
theorem dX2_make_193 : decode cX2_make 193 = .ok (.getfield 174, 3) := dk_180 0 174 (dk_at dksX2_make_8 4 rfl rfl)
theorem dX2_make_196 : decode cX2_make 196 = .ok (.iconst 1, 1) := dk_4 (dk_at dksX2_make_8 7 rfl rfl)
theorem dX2_make_197 : decode cX2_make 197 = .ok (.iadd, 1) := dk_96 (dk_at dksX2_make_8 8 rfl rfl)
theorem dX2_make_198 : decode cX2_make 198 = .ok (.putfield 174, 3) := dk_181 0 174 (dk_at dksX2_make_8 9 rfl rfl)
theorem dX2_make_201 : decode cX2_make 201 = .ok (.iinc 2 1, 3) := dk_132 2 1 (dk_at dksX2_make_8 12 rfl rfl)
theorem dX2_make_204 : decode cX2_make 204 = .ok (.goto (-192), 3) := dk_167 255 64 (dk_at dksX2_make_8 15 rfl rfl)
theorem dX2_make_207 : decode cX2_make 207 = .ok (.return_, 1) := dk_177 (dk_at dksX2_make_8 18 rfl rfl)
abbrev cX2_join : ByteArray := prog_13_method_26_code
def yX2_join : MethodName := ⟨RX2, "join", "(I)V"⟩
def dkwX2_join_8 : List UInt8 := [132, 3, 1, 132, 5, 1, 167, 255, 197, 132, 4, 1, 167, 255, 182, 132, 2, 1, 167, 255, 135, 177]
abbrev dktX2_join_8 : List UInt8 := dkwX2_join_8 ++ []
def dkwX2_join_7 : List UInt8 := [21, 5, 182, 0, 166, 153, 0, 22, 42, 180, 0, 58, 21, 5, 28, 79, 42, 180, 0, 64, 29, 21, 5, 79]
abbrev dktX2_join_7 : List UInt8 := dkwX2_join_7 ++ dktX2_join_8
def dkwX2_join_6 : List UInt8 := [162, 0, 56, 42, 180, 0, 58, 21, 5, 46, 16, 247, 160, 0, 38, 42, 42, 180, 0, 64, 21, 4, 46]
abbrev dktX2_join_6 : List UInt8 := dkwX2_join_6 ++ dktX2_join_7
def dkwX2_join_5 : List UInt8 := [3, 28, 79, 4, 62, 3, 54, 4, 21, 4, 29, 162, 0, 74, 3, 54, 5, 21, 5, 42, 180, 0, 107]
abbrev dktX2_join_5 : List UInt8 := dkwX2_join_5 ++ dktX2_join_6
def dkwX2_join_4 : List UInt8 := [180, 0, 58, 28, 46, 16, 247, 159, 0, 6, 167, 0, 99, 42, 180, 0, 58, 28, 28, 79, 42, 180, 0, 64]
abbrev dktX2_join_4 : List UInt8 := dkwX2_join_4 ++ dktX2_join_5
def dkwX2_join_3 : List UInt8 := [16, 247, 167, 0, 4, 2, 79, 132, 2, 1, 167, 255, 180, 3, 61, 28, 42, 180, 0, 107, 162, 0, 119, 42]
abbrev dktX2_join_3 : List UInt8 := dkwX2_join_3 ++ dktX2_join_4
def dkwX2_join_2 : List UInt8 := [180, 0, 55, 6, 46, 161, 0, 7, 4, 167, 0, 4, 3, 62, 42, 180, 0, 58, 28, 29, 153, 0, 8]
abbrev dktX2_join_2 : List UInt8 := dkwX2_join_2 ++ dktX2_join_3
def dkwX2_join_1 : List UInt8 := [180, 0, 16, 28, 46, 27, 159, 0, 29, 42, 28, 182, 0, 145, 153, 0, 21, 42, 28, 182, 0, 157, 42]
abbrev dktX2_join_1 : List UInt8 := dkwX2_join_1 ++ dktX2_join_2
def dkwX2_join_0 : List UInt8 := [3, 61, 28, 42, 180, 0, 107, 162, 0, 74, 42, 180, 0, 61, 28, 42, 28, 182, 0, 154, 79, 42]
abbrev dktX2_join_0 : List UInt8 := dkwX2_join_0 ++ dktX2_join_1
theorem dksX2_join_0 : cX2_join.data.toList.drop 0 = dktX2_join_0 := by decide +kernel
theorem dksX2_join_1 : cX2_join.data.toList.drop 22 = dktX2_join_1 := dk_seg dksX2_join_0 22 rfl rfl
theorem dksX2_join_2 : cX2_join.data.toList.drop 45 = dktX2_join_2 := dk_seg dksX2_join_1 23 rfl rfl
theorem dksX2_join_3 : cX2_join.data.toList.drop 68 = dktX2_join_3 := dk_seg dksX2_join_2 23 rfl rfl
theorem dksX2_join_4 : cX2_join.data.toList.drop 92 = dktX2_join_4 := dk_seg dksX2_join_3 24 rfl rfl
theorem dksX2_join_5 : cX2_join.data.toList.drop 116 = dktX2_join_5 := dk_seg dksX2_join_4 24 rfl rfl
theorem dksX2_join_6 : cX2_join.data.toList.drop 139 = dktX2_join_6 := dk_seg dksX2_join_5 23 rfl rfl
theorem dksX2_join_7 : cX2_join.data.toList.drop 162 = dktX2_join_7 := dk_seg dksX2_join_6 23 rfl rfl
theorem dksX2_join_8 : cX2_join.data.toList.drop 186 = dktX2_join_8 := dk_seg dksX2_join_7 24 rfl rfl
theorem dX2_join_0 : decode cX2_join 0 = .ok (.iconst 0, 1) := dk_3 (dk_at dksX2_join_0 0 rfl rfl)
theorem dX2_join_1 : decode cX2_join 1 = .ok (.istore_n 2, 1) := dk_61 (dk_at dksX2_join_0 1 rfl rfl)
theorem dX2_join_2 : decode cX2_join 2 = .ok (.iload_n 2, 1) := dk_28 (dk_at dksX2_join_0 2 rfl rfl)
theorem dX2_join_3 : decode cX2_join 3 = .ok (.aload_n 0, 1) := dk_42 (dk_at dksX2_join_0 3 rfl rfl)
theorem dX2_join_4 : decode cX2_join 4 = .ok (.getfield 107, 3) := dk_180 0 107 (dk_at dksX2_join_0 4 rfl rfl)
theorem dX2_join_7 : decode cX2_join 7 = .ok (.if_icmp .ge 74, 3) := dk_162 0 74 (dk_at dksX2_join_0 7 rfl rfl)
theorem dX2_join_10 : decode cX2_join 10 = .ok (.aload_n 0, 1) := dk_42 (dk_at dksX2_join_0 10 rfl rfl)
theorem dX2_join_11 : decode cX2_join 11 = .ok (.getfield 61, 3) := dk_180 0 61 (dk_at dksX2_join_0 11 rfl rfl)
theorem dX2_join_14 : decode cX2_join 14 = .ok (.iload_n 2, 1) := dk_28 (dk_at dksX2_join_0 14 rfl rfl)
theorem dX2_join_15 : decode cX2_join 15 = .ok (.aload_n 0, 1) := dk_42 (dk_at dksX2_join_0 15 rfl rfl)
theorem dX2_join_16 : decode cX2_join 16 = .ok (.iload_n 2, 1) := dk_28 (dk_at dksX2_join_0 16 rfl rfl)
theorem dX2_join_17 : decode cX2_join 17 = .ok (.invokevirtual 154, 3) := dk_182 0 154 (dk_at dksX2_join_0 17 rfl rfl)
theorem dX2_join_20 : decode cX2_join 20 = .ok (.iastore, 1) := dk_79 (dk_at dksX2_join_0 20 rfl rfl)
theorem dX2_join_21 : decode cX2_join 21 = .ok (.aload_n 0, 1) := dk_42 (dk_at dksX2_join_0 21 rfl rfl)
theorem dX2_join_22 : decode cX2_join 22 = .ok (.getfield 16, 3) := dk_180 0 16 (dk_at dksX2_join_1 0 rfl rfl)
theorem dX2_join_25 : decode cX2_join 25 = .ok (.iload_n 2, 1) := dk_28 (dk_at dksX2_join_1 3 rfl rfl)
theorem dX2_join_26 : decode cX2_join 26 = .ok (.iaload, 1) := dk_46 (dk_at dksX2_join_1 4 rfl rfl)
theorem dX2_join_27 : decode cX2_join 27 = .ok (.iload_n 1, 1) := dk_27 (dk_at dksX2_join_1 5 rfl rfl)
theorem dX2_join_28 : decode cX2_join 28 = .ok (.if_icmp .eq 29, 3) := dk_159 0 29 (dk_at dksX2_join_1 6 rfl rfl)
theorem dX2_join_31 : decode cX2_join 31 = .ok (.aload_n 0, 1) := dk_42 (dk_at dksX2_join_1 9 rfl rfl)
theorem dX2_join_32 : decode cX2_join 32 = .ok (.iload_n 2, 1) := dk_28 (dk_at dksX2_join_1 10 rfl rfl)
theorem dX2_join_33 : decode cX2_join 33 = .ok (.invokevirtual 145, 3) := dk_182 0 145 (dk_at dksX2_join_1 11 rfl rfl)
theorem dX2_join_36 : decode cX2_join 36 = .ok (.ifCond .eq 21, 3) := dk_153 0 21 (dk_at dksX2_join_1 14 rfl rfl)
theorem dX2_join_39 : decode cX2_join 39 = .ok (.aload_n 0, 1) := dk_42 (dk_at dksX2_join_1 17 rfl rfl)
theorem dX2_join_40 : decode cX2_join 40 = .ok (.iload_n 2, 1) := dk_28 (dk_at dksX2_join_1 18 rfl rfl)
theorem dX2_join_41 : decode cX2_join 41 = .ok (.invokevirtual 157, 3) := dk_182 0 157 (dk_at dksX2_join_1 19 rfl rfl)
theorem dX2_join_44 : decode cX2_join 44 = .ok (.aload_n 0, 1) := dk_42 (dk_at dksX2_join_1 22 rfl rfl)
theorem dX2_join_45 : decode cX2_join 45 = .ok (.getfield 55, 3) := dk_180 0 55 (dk_at dksX2_join_2 0 rfl rfl)
theorem dX2_join_48 : decode cX2_join 48 = .ok (.iconst 3, 1) := dk_6 (dk_at dksX2_join_2 3 rfl rfl)
theorem dX2_join_49 : decode cX2_join 49 = .ok (.iaload, 1) := dk_46 (dk_at dksX2_join_2 4 rfl rfl)
theorem dX2_join_50 : decode cX2_join 50 = .ok (.if_icmp .lt 7, 3) := dk_161 0 7 (dk_at dksX2_join_2 5 rfl rfl)
theorem dX2_join_53 : decode cX2_join 53 = .ok (.iconst 1, 1) := dk_4 (dk_at dksX2_join_2 8 rfl rfl)
theorem dX2_join_54 : decode cX2_join 54 = .ok (.goto 4, 3) := dk_167 0 4 (dk_at dksX2_join_2 9 rfl rfl)
theorem dX2_join_57 : decode cX2_join 57 = .ok (.iconst 0, 1) := dk_3 (dk_at dksX2_join_2 12 rfl rfl)
theorem dX2_join_58 : decode cX2_join 58 = .ok (.istore_n 3, 1) := dk_62 (dk_at dksX2_join_2 13 rfl rfl)
theorem dX2_join_59 : decode cX2_join 59 = .ok (.aload_n 0, 1) := dk_42 (dk_at dksX2_join_2 14 rfl rfl)
theorem dX2_join_60 : decode cX2_join 60 = .ok (.getfield 58, 3) := dk_180 0 58 (dk_at dksX2_join_2 15 rfl rfl)
theorem dX2_join_63 : decode cX2_join 63 = .ok (.iload_n 2, 1) := dk_28 (dk_at dksX2_join_2 18 rfl rfl)
theorem dX2_join_64 : decode cX2_join 64 = .ok (.iload_n 3, 1) := dk_29 (dk_at dksX2_join_2 19 rfl rfl)
theorem dX2_join_65 : decode cX2_join 65 = .ok (.ifCond .eq 8, 3) := dk_153 0 8 (dk_at dksX2_join_2 20 rfl rfl)
theorem dX2_join_68 : decode cX2_join 68 = .ok (.bipush (-9), 2) := dk_16 247 (dk_at dksX2_join_3 0 rfl rfl)
theorem dX2_join_70 : decode cX2_join 70 = .ok (.goto 4, 3) := dk_167 0 4 (dk_at dksX2_join_3 2 rfl rfl)
theorem dX2_join_73 : decode cX2_join 73 = .ok (.iconst (-1), 1) := dk_2 (dk_at dksX2_join_3 5 rfl rfl)
theorem dX2_join_74 : decode cX2_join 74 = .ok (.iastore, 1) := dk_79 (dk_at dksX2_join_3 6 rfl rfl)
theorem dX2_join_75 : decode cX2_join 75 = .ok (.iinc 2 1, 3) := dk_132 2 1 (dk_at dksX2_join_3 7 rfl rfl)
theorem dX2_join_78 : decode cX2_join 78 = .ok (.goto (-76), 3) := dk_167 255 180 (dk_at dksX2_join_3 10 rfl rfl)
theorem dX2_join_81 : decode cX2_join 81 = .ok (.iconst 0, 1) := dk_3 (dk_at dksX2_join_3 13 rfl rfl)
theorem dX2_join_82 : decode cX2_join 82 = .ok (.istore_n 2, 1) := dk_61 (dk_at dksX2_join_3 14 rfl rfl)
theorem dX2_join_83 : decode cX2_join 83 = .ok (.iload_n 2, 1) := dk_28 (dk_at dksX2_join_3 15 rfl rfl)
theorem dX2_join_84 : decode cX2_join 84 = .ok (.aload_n 0, 1) := dk_42 (dk_at dksX2_join_3 16 rfl rfl)
theorem dX2_join_85 : decode cX2_join 85 = .ok (.getfield 107, 3) := dk_180 0 107 (dk_at dksX2_join_3 17 rfl rfl)
theorem dX2_join_88 : decode cX2_join 88 = .ok (.if_icmp .ge 119, 3) := dk_162 0 119 (dk_at dksX2_join_3 20 rfl rfl)
theorem dX2_join_91 : decode cX2_join 91 = .ok (.aload_n 0, 1) := dk_42 (dk_at dksX2_join_3 23 rfl rfl)
theorem dX2_join_92 : decode cX2_join 92 = .ok (.getfield 58, 3) := dk_180 0 58 (dk_at dksX2_join_4 0 rfl rfl)
theorem dX2_join_95 : decode cX2_join 95 = .ok (.iload_n 2, 1) := dk_28 (dk_at dksX2_join_4 3 rfl rfl)
theorem dX2_join_96 : decode cX2_join 96 = .ok (.iaload, 1) := dk_46 (dk_at dksX2_join_4 4 rfl rfl)
theorem dX2_join_97 : decode cX2_join 97 = .ok (.bipush (-9), 2) := dk_16 247 (dk_at dksX2_join_4 5 rfl rfl)
theorem dX2_join_99 : decode cX2_join 99 = .ok (.if_icmp .eq 6, 3) := dk_159 0 6 (dk_at dksX2_join_4 7 rfl rfl)
theorem dX2_join_102 : decode cX2_join 102 = .ok (.goto 99, 3) := dk_167 0 99 (dk_at dksX2_join_4 10 rfl rfl)
theorem dX2_join_105 : decode cX2_join 105 = .ok (.aload_n 0, 1) := dk_42 (dk_at dksX2_join_4 13 rfl rfl)
theorem dX2_join_106 : decode cX2_join 106 = .ok (.getfield 58, 3) := dk_180 0 58 (dk_at dksX2_join_4 14 rfl rfl)
theorem dX2_join_109 : decode cX2_join 109 = .ok (.iload_n 2, 1) := dk_28 (dk_at dksX2_join_4 17 rfl rfl)
theorem dX2_join_110 : decode cX2_join 110 = .ok (.iload_n 2, 1) := dk_28 (dk_at dksX2_join_4 18 rfl rfl)
theorem dX2_join_111 : decode cX2_join 111 = .ok (.iastore, 1) := dk_79 (dk_at dksX2_join_4 19 rfl rfl)
theorem dX2_join_112 : decode cX2_join 112 = .ok (.aload_n 0, 1) := dk_42 (dk_at dksX2_join_4 20 rfl rfl)
theorem dX2_join_113 : decode cX2_join 113 = .ok (.getfield 64, 3) := dk_180 0 64 (dk_at dksX2_join_4 21 rfl rfl)
theorem dX2_join_116 : decode cX2_join 116 = .ok (.iconst 0, 1) := dk_3 (dk_at dksX2_join_5 0 rfl rfl)
theorem dX2_join_117 : decode cX2_join 117 = .ok (.iload_n 2, 1) := dk_28 (dk_at dksX2_join_5 1 rfl rfl)
theorem dX2_join_118 : decode cX2_join 118 = .ok (.iastore, 1) := dk_79 (dk_at dksX2_join_5 2 rfl rfl)
theorem dX2_join_119 : decode cX2_join 119 = .ok (.iconst 1, 1) := dk_4 (dk_at dksX2_join_5 3 rfl rfl)
theorem dX2_join_120 : decode cX2_join 120 = .ok (.istore_n 3, 1) := dk_62 (dk_at dksX2_join_5 4 rfl rfl)
theorem dX2_join_121 : decode cX2_join 121 = .ok (.iconst 0, 1) := dk_3 (dk_at dksX2_join_5 5 rfl rfl)
theorem dX2_join_122 : decode cX2_join 122 = .ok (.istore 4, 2) := dk_54 4 (dk_at dksX2_join_5 6 rfl rfl)
theorem dX2_join_124 : decode cX2_join 124 = .ok (.iload 4, 2) := dk_21 4 (dk_at dksX2_join_5 8 rfl rfl)
theorem dX2_join_126 : decode cX2_join 126 = .ok (.iload_n 3, 1) := dk_29 (dk_at dksX2_join_5 10 rfl rfl)
theorem dX2_join_127 : decode cX2_join 127 = .ok (.if_icmp .ge 74, 3) := dk_162 0 74 (dk_at dksX2_join_5 11 rfl rfl)
theorem dX2_join_130 : decode cX2_join 130 = .ok (.iconst 0, 1) := dk_3 (dk_at dksX2_join_5 14 rfl rfl)
theorem dX2_join_131 : decode cX2_join 131 = .ok (.istore 5, 2) := dk_54 5 (dk_at dksX2_join_5 15 rfl rfl)
theorem dX2_join_133 : decode cX2_join 133 = .ok (.iload 5, 2) := dk_21 5 (dk_at dksX2_join_5 17 rfl rfl)
theorem dX2_join_135 : decode cX2_join 135 = .ok (.aload_n 0, 1) := dk_42 (dk_at dksX2_join_5 19 rfl rfl)
theorem dX2_join_136 : decode cX2_join 136 = .ok (.getfield 107, 3) := dk_180 0 107 (dk_at dksX2_join_5 20 rfl rfl)
theorem dX2_join_139 : decode cX2_join 139 = .ok (.if_icmp .ge 56, 3) := dk_162 0 56 (dk_at dksX2_join_6 0 rfl rfl)
theorem dX2_join_142 : decode cX2_join 142 = .ok (.aload_n 0, 1) := dk_42 (dk_at dksX2_join_6 3 rfl rfl)
theorem dX2_join_143 : decode cX2_join 143 = .ok (.getfield 58, 3) := dk_180 0 58 (dk_at dksX2_join_6 4 rfl rfl)
theorem dX2_join_146 : decode cX2_join 146 = .ok (.iload 5, 2) := dk_21 5 (dk_at dksX2_join_6 7 rfl rfl)
theorem dX2_join_148 : decode cX2_join 148 = .ok (.iaload, 1) := dk_46 (dk_at dksX2_join_6 9 rfl rfl)
theorem dX2_join_149 : decode cX2_join 149 = .ok (.bipush (-9), 2) := dk_16 247 (dk_at dksX2_join_6 10 rfl rfl)
theorem dX2_join_151 : decode cX2_join 151 = .ok (.if_icmp .ne 38, 3) := dk_160 0 38 (dk_at dksX2_join_6 12 rfl rfl)
theorem dX2_join_154 : decode cX2_join 154 = .ok (.aload_n 0, 1) := dk_42 (dk_at dksX2_join_6 15 rfl rfl)
theorem dX2_join_155 : decode cX2_join 155 = .ok (.aload_n 0, 1) := dk_42 (dk_at dksX2_join_6 16 rfl rfl)
theorem dX2_join_156 : decode cX2_join 156 = .ok (.getfield 64, 3) := dk_180 0 64 (dk_at dksX2_join_6 17 rfl rfl)
theorem dX2_join_159 : decode cX2_join 159 = .ok (.iload 4, 2) := dk_21 4 (dk_at dksX2_join_6 20 rfl rfl)
theorem dX2_join_161 : decode cX2_join 161 = .ok (.iaload, 1) := dk_46 (dk_at dksX2_join_6 22 rfl rfl)
theorem dX2_join_162 : decode cX2_join 162 = .ok (.iload 5, 2) := dk_21 5 (dk_at dksX2_join_7 0 rfl rfl)
theorem dX2_join_164 : decode cX2_join 164 = .ok (.invokevirtual 166, 3) := dk_182 0 166 (dk_at dksX2_join_7 2 rfl rfl)
theorem dX2_join_167 : decode cX2_join 167 = .ok (.ifCond .eq 22, 3) := dk_153 0 22 (dk_at dksX2_join_7 5 rfl rfl)
theorem dX2_join_170 : decode cX2_join 170 = .ok (.aload_n 0, 1) := dk_42 (dk_at dksX2_join_7 8 rfl rfl)
theorem dX2_join_171 : decode cX2_join 171 = .ok (.getfield 58, 3) := dk_180 0 58 (dk_at dksX2_join_7 9 rfl rfl)
theorem dX2_join_174 : decode cX2_join 174 = .ok (.iload 5, 2) := dk_21 5 (dk_at dksX2_join_7 12 rfl rfl)
theorem dX2_join_176 : decode cX2_join 176 = .ok (.iload_n 2, 1) := dk_28 (dk_at dksX2_join_7 14 rfl rfl)
theorem dX2_join_177 : decode cX2_join 177 = .ok (.iastore, 1) := dk_79 (dk_at dksX2_join_7 15 rfl rfl)
theorem dX2_join_178 : decode cX2_join 178 = .ok (.aload_n 0, 1) := dk_42 (dk_at dksX2_join_7 16 rfl rfl)
theorem dX2_join_179 : decode cX2_join 179 = .ok (.getfield 64, 3) := dk_180 0 64 (dk_at dksX2_join_7 17 rfl rfl)
theorem dX2_join_182 : decode cX2_join 182 = .ok (.iload_n 3, 1) := dk_29 (dk_at dksX2_join_7 20 rfl rfl)
theorem dX2_join_183 : decode cX2_join 183 = .ok (.iload 5, 2) := dk_21 5 (dk_at dksX2_join_7 21 rfl rfl)
theorem dX2_join_185 : decode cX2_join 185 = .ok (.iastore, 1) := dk_79 (dk_at dksX2_join_7 23 rfl rfl)
theorem dX2_join_186 : decode cX2_join 186 = .ok (.iinc 3 1, 3) := dk_132 3 1 (dk_at dksX2_join_8 0 rfl rfl)
theorem dX2_join_189 : decode cX2_join 189 = .ok (.iinc 5 1, 3) := dk_132 5 1 (dk_at dksX2_join_8 3 rfl rfl)
theorem dX2_join_192 : decode cX2_join 192 = .ok (.goto (-59), 3) := dk_167 255 197 (dk_at dksX2_join_8 6 rfl rfl)
theorem dX2_join_195 : decode cX2_join 195 = .ok (.iinc 4 1, 3) := dk_132 4 1 (dk_at dksX2_join_8 9 rfl rfl)
theorem dX2_join_198 : decode cX2_join 198 = .ok (.goto (-74), 3) := dk_167 255 182 (dk_at dksX2_join_8 12 rfl rfl)
theorem dX2_join_201 : decode cX2_join 201 = .ok (.iinc 2 1, 3) := dk_132 2 1 (dk_at dksX2_join_8 15 rfl rfl)
theorem dX2_join_204 : decode cX2_join 204 = .ok (.goto (-121), 3) := dk_167 255 135 (dk_at dksX2_join_8 18 rfl rfl)
theorem dX2_join_207 : decode cX2_join 207 = .ok (.return_, 1) := dk_177 (dk_at dksX2_join_8 21 rfl rfl)
abbrev cX2_isNear : ByteArray := prog_13_method_25_code
def yX2_isNear : MethodName := ⟨RX2, "isNear", "(II)Z"⟩
def dkwX2_isNear_5 : List UInt8 := [163, 0, 7, 4, 167, 0, 4, 3, 172]
abbrev dktX2_isNear_5 : List UInt8 := dkwX2_isNear_5 ++ []
def dkwX2_isNear_4 : List UInt8 := [21, 6, 104, 21, 7, 21, 7, 104, 96, 42, 180, 0, 55, 4, 46, 42, 180, 0, 55, 4, 46, 104]
abbrev dktX2_isNear_4 : List UInt8 := dkwX2_isNear_4 ++ dktX2_isNear_5
def dkwX2_isNear_3 : List UInt8 := [29, 42, 180, 0, 55, 3, 46, 163, 0, 45, 29, 42, 180, 0, 55, 3, 46, 116, 161, 0, 34, 21, 6]
abbrev dktX2_isNear_3 : List UInt8 := dkwX2_isNear_3 ++ dktX2_isNear_4
def dkwX2_isNear_2 : List UInt8 := [42, 180, 0, 13, 21, 4, 46, 42, 180, 0, 13, 21, 5, 46, 100, 54, 7, 21, 4, 21, 5, 159, 0, 55]
abbrev dktX2_isNear_2 : List UInt8 := dkwX2_isNear_2 ++ dktX2_isNear_3
def dkwX2_isNear_1 : List UInt8 := [180, 0, 16, 28, 46, 54, 5, 42, 180, 0, 7, 21, 4, 46, 42, 180, 0, 7, 21, 5, 46, 100, 54, 6]
abbrev dktX2_isNear_1 : List UInt8 := dkwX2_isNear_1 ++ dktX2_isNear_2
def dkwX2_isNear_0 : List UInt8 := [42, 180, 0, 61, 27, 46, 42, 180, 0, 61, 28, 46, 100, 62, 42, 180, 0, 16, 27, 46, 54, 4, 42]
abbrev dktX2_isNear_0 : List UInt8 := dkwX2_isNear_0 ++ dktX2_isNear_1
theorem dksX2_isNear_0 : cX2_isNear.data.toList.drop 0 = dktX2_isNear_0 := by decide +kernel
theorem dksX2_isNear_1 : cX2_isNear.data.toList.drop 23 = dktX2_isNear_1 := dk_seg dksX2_isNear_0 23 rfl rfl
theorem dksX2_isNear_2 : cX2_isNear.data.toList.drop 47 = dktX2_isNear_2 := dk_seg dksX2_isNear_1 24 rfl rfl
theorem dksX2_isNear_3 : cX2_isNear.data.toList.drop 71 = dktX2_isNear_3 := dk_seg dksX2_isNear_2 24 rfl rfl
theorem dksX2_isNear_4 : cX2_isNear.data.toList.drop 94 = dktX2_isNear_4 := dk_seg dksX2_isNear_3 23 rfl rfl
theorem dksX2_isNear_5 : cX2_isNear.data.toList.drop 116 = dktX2_isNear_5 := dk_seg dksX2_isNear_4 22 rfl rfl
theorem dX2_isNear_0 : decode cX2_isNear 0 = .ok (.aload_n 0, 1) := dk_42 (dk_at dksX2_isNear_0 0 rfl rfl)
theorem dX2_isNear_1 : decode cX2_isNear 1 = .ok (.getfield 61, 3) := dk_180 0 61 (dk_at dksX2_isNear_0 1 rfl rfl)
theorem dX2_isNear_4 : decode cX2_isNear 4 = .ok (.iload_n 1, 1) := dk_27 (dk_at dksX2_isNear_0 4 rfl rfl)
theorem dX2_isNear_5 : decode cX2_isNear 5 = .ok (.iaload, 1) := dk_46 (dk_at dksX2_isNear_0 5 rfl rfl)
theorem dX2_isNear_6 : decode cX2_isNear 6 = .ok (.aload_n 0, 1) := dk_42 (dk_at dksX2_isNear_0 6 rfl rfl)
theorem dX2_isNear_7 : decode cX2_isNear 7 = .ok (.getfield 61, 3) := dk_180 0 61 (dk_at dksX2_isNear_0 7 rfl rfl)
theorem dX2_isNear_10 : decode cX2_isNear 10 = .ok (.iload_n 2, 1) := dk_28 (dk_at dksX2_isNear_0 10 rfl rfl)
theorem dX2_isNear_11 : decode cX2_isNear 11 = .ok (.iaload, 1) := dk_46 (dk_at dksX2_isNear_0 11 rfl rfl)
theorem dX2_isNear_12 : decode cX2_isNear 12 = .ok (.isub, 1) := dk_100 (dk_at dksX2_isNear_0 12 rfl rfl)
theorem dX2_isNear_13 : decode cX2_isNear 13 = .ok (.istore_n 3, 1) := dk_62 (dk_at dksX2_isNear_0 13 rfl rfl)
theorem dX2_isNear_14 : decode cX2_isNear 14 = .ok (.aload_n 0, 1) := dk_42 (dk_at dksX2_isNear_0 14 rfl rfl)
theorem dX2_isNear_15 : decode cX2_isNear 15 = .ok (.getfield 16, 3) := dk_180 0 16 (dk_at dksX2_isNear_0 15 rfl rfl)
theorem dX2_isNear_18 : decode cX2_isNear 18 = .ok (.iload_n 1, 1) := dk_27 (dk_at dksX2_isNear_0 18 rfl rfl)
theorem dX2_isNear_19 : decode cX2_isNear 19 = .ok (.iaload, 1) := dk_46 (dk_at dksX2_isNear_0 19 rfl rfl)
theorem dX2_isNear_20 : decode cX2_isNear 20 = .ok (.istore 4, 2) := dk_54 4 (dk_at dksX2_isNear_0 20 rfl rfl)
theorem dX2_isNear_22 : decode cX2_isNear 22 = .ok (.aload_n 0, 1) := dk_42 (dk_at dksX2_isNear_0 22 rfl rfl)
theorem dX2_isNear_23 : decode cX2_isNear 23 = .ok (.getfield 16, 3) := dk_180 0 16 (dk_at dksX2_isNear_1 0 rfl rfl)
theorem dX2_isNear_26 : decode cX2_isNear 26 = .ok (.iload_n 2, 1) := dk_28 (dk_at dksX2_isNear_1 3 rfl rfl)
theorem dX2_isNear_27 : decode cX2_isNear 27 = .ok (.iaload, 1) := dk_46 (dk_at dksX2_isNear_1 4 rfl rfl)
theorem dX2_isNear_28 : decode cX2_isNear 28 = .ok (.istore 5, 2) := dk_54 5 (dk_at dksX2_isNear_1 5 rfl rfl)
theorem dX2_isNear_30 : decode cX2_isNear 30 = .ok (.aload_n 0, 1) := dk_42 (dk_at dksX2_isNear_1 7 rfl rfl)
theorem dX2_isNear_31 : decode cX2_isNear 31 = .ok (.getfield 7, 3) := dk_180 0 7 (dk_at dksX2_isNear_1 8 rfl rfl)
theorem dX2_isNear_34 : decode cX2_isNear 34 = .ok (.iload 4, 2) := dk_21 4 (dk_at dksX2_isNear_1 11 rfl rfl)
theorem dX2_isNear_36 : decode cX2_isNear 36 = .ok (.iaload, 1) := dk_46 (dk_at dksX2_isNear_1 13 rfl rfl)
theorem dX2_isNear_37 : decode cX2_isNear 37 = .ok (.aload_n 0, 1) := dk_42 (dk_at dksX2_isNear_1 14 rfl rfl)
theorem dX2_isNear_38 : decode cX2_isNear 38 = .ok (.getfield 7, 3) := dk_180 0 7 (dk_at dksX2_isNear_1 15 rfl rfl)
theorem dX2_isNear_41 : decode cX2_isNear 41 = .ok (.iload 5, 2) := dk_21 5 (dk_at dksX2_isNear_1 18 rfl rfl)
theorem dX2_isNear_43 : decode cX2_isNear 43 = .ok (.iaload, 1) := dk_46 (dk_at dksX2_isNear_1 20 rfl rfl)
theorem dX2_isNear_44 : decode cX2_isNear 44 = .ok (.isub, 1) := dk_100 (dk_at dksX2_isNear_1 21 rfl rfl)
theorem dX2_isNear_45 : decode cX2_isNear 45 = .ok (.istore 6, 2) := dk_54 6 (dk_at dksX2_isNear_1 22 rfl rfl)
theorem dX2_isNear_47 : decode cX2_isNear 47 = .ok (.aload_n 0, 1) := dk_42 (dk_at dksX2_isNear_2 0 rfl rfl)
theorem dX2_isNear_48 : decode cX2_isNear 48 = .ok (.getfield 13, 3) := dk_180 0 13 (dk_at dksX2_isNear_2 1 rfl rfl)
theorem dX2_isNear_51 : decode cX2_isNear 51 = .ok (.iload 4, 2) := dk_21 4 (dk_at dksX2_isNear_2 4 rfl rfl)
theorem dX2_isNear_53 : decode cX2_isNear 53 = .ok (.iaload, 1) := dk_46 (dk_at dksX2_isNear_2 6 rfl rfl)
theorem dX2_isNear_54 : decode cX2_isNear 54 = .ok (.aload_n 0, 1) := dk_42 (dk_at dksX2_isNear_2 7 rfl rfl)
theorem dX2_isNear_55 : decode cX2_isNear 55 = .ok (.getfield 13, 3) := dk_180 0 13 (dk_at dksX2_isNear_2 8 rfl rfl)
theorem dX2_isNear_58 : decode cX2_isNear 58 = .ok (.iload 5, 2) := dk_21 5 (dk_at dksX2_isNear_2 11 rfl rfl)
theorem dX2_isNear_60 : decode cX2_isNear 60 = .ok (.iaload, 1) := dk_46 (dk_at dksX2_isNear_2 13 rfl rfl)
theorem dX2_isNear_61 : decode cX2_isNear 61 = .ok (.isub, 1) := dk_100 (dk_at dksX2_isNear_2 14 rfl rfl)
theorem dX2_isNear_62 : decode cX2_isNear 62 = .ok (.istore 7, 2) := dk_54 7 (dk_at dksX2_isNear_2 15 rfl rfl)
theorem dX2_isNear_64 : decode cX2_isNear 64 = .ok (.iload 4, 2) := dk_21 4 (dk_at dksX2_isNear_2 17 rfl rfl)
theorem dX2_isNear_66 : decode cX2_isNear 66 = .ok (.iload 5, 2) := dk_21 5 (dk_at dksX2_isNear_2 19 rfl rfl)
theorem dX2_isNear_68 : decode cX2_isNear 68 = .ok (.if_icmp .eq 55, 3) := dk_159 0 55 (dk_at dksX2_isNear_2 21 rfl rfl)
theorem dX2_isNear_71 : decode cX2_isNear 71 = .ok (.iload_n 3, 1) := dk_29 (dk_at dksX2_isNear_3 0 rfl rfl)
theorem dX2_isNear_72 : decode cX2_isNear 72 = .ok (.aload_n 0, 1) := dk_42 (dk_at dksX2_isNear_3 1 rfl rfl)
theorem dX2_isNear_73 : decode cX2_isNear 73 = .ok (.getfield 55, 3) := dk_180 0 55 (dk_at dksX2_isNear_3 2 rfl rfl)
theorem dX2_isNear_76 : decode cX2_isNear 76 = .ok (.iconst 0, 1) := dk_3 (dk_at dksX2_isNear_3 5 rfl rfl)
theorem dX2_isNear_77 : decode cX2_isNear 77 = .ok (.iaload, 1) := dk_46 (dk_at dksX2_isNear_3 6 rfl rfl)
theorem dX2_isNear_78 : decode cX2_isNear 78 = .ok (.if_icmp .gt 45, 3) := dk_163 0 45 (dk_at dksX2_isNear_3 7 rfl rfl)
theorem dX2_isNear_81 : decode cX2_isNear 81 = .ok (.iload_n 3, 1) := dk_29 (dk_at dksX2_isNear_3 10 rfl rfl)
theorem dX2_isNear_82 : decode cX2_isNear 82 = .ok (.aload_n 0, 1) := dk_42 (dk_at dksX2_isNear_3 11 rfl rfl)
theorem dX2_isNear_83 : decode cX2_isNear 83 = .ok (.getfield 55, 3) := dk_180 0 55 (dk_at dksX2_isNear_3 12 rfl rfl)
theorem dX2_isNear_86 : decode cX2_isNear 86 = .ok (.iconst 0, 1) := dk_3 (dk_at dksX2_isNear_3 15 rfl rfl)
theorem dX2_isNear_87 : decode cX2_isNear 87 = .ok (.iaload, 1) := dk_46 (dk_at dksX2_isNear_3 16 rfl rfl)
theorem dX2_isNear_88 : decode cX2_isNear 88 = .ok (.ineg, 1) := dk_116 (dk_at dksX2_isNear_3 17 rfl rfl)
theorem dX2_isNear_89 : decode cX2_isNear 89 = .ok (.if_icmp .lt 34, 3) := dk_161 0 34 (dk_at dksX2_isNear_3 18 rfl rfl)
theorem dX2_isNear_92 : decode cX2_isNear 92 = .ok (.iload 6, 2) := dk_21 6 (dk_at dksX2_isNear_3 21 rfl rfl)
theorem dX2_isNear_94 : decode cX2_isNear 94 = .ok (.iload 6, 2) := dk_21 6 (dk_at dksX2_isNear_4 0 rfl rfl)
theorem dX2_isNear_96 : decode cX2_isNear 96 = .ok (.imul, 1) := dk_104 (dk_at dksX2_isNear_4 2 rfl rfl)
theorem dX2_isNear_97 : decode cX2_isNear 97 = .ok (.iload 7, 2) := dk_21 7 (dk_at dksX2_isNear_4 3 rfl rfl)
theorem dX2_isNear_99 : decode cX2_isNear 99 = .ok (.iload 7, 2) := dk_21 7 (dk_at dksX2_isNear_4 5 rfl rfl)
theorem dX2_isNear_101 : decode cX2_isNear 101 = .ok (.imul, 1) := dk_104 (dk_at dksX2_isNear_4 7 rfl rfl)
theorem dX2_isNear_102 : decode cX2_isNear 102 = .ok (.iadd, 1) := dk_96 (dk_at dksX2_isNear_4 8 rfl rfl)
theorem dX2_isNear_103 : decode cX2_isNear 103 = .ok (.aload_n 0, 1) := dk_42 (dk_at dksX2_isNear_4 9 rfl rfl)
theorem dX2_isNear_104 : decode cX2_isNear 104 = .ok (.getfield 55, 3) := dk_180 0 55 (dk_at dksX2_isNear_4 10 rfl rfl)
theorem dX2_isNear_107 : decode cX2_isNear 107 = .ok (.iconst 1, 1) := dk_4 (dk_at dksX2_isNear_4 13 rfl rfl)
theorem dX2_isNear_108 : decode cX2_isNear 108 = .ok (.iaload, 1) := dk_46 (dk_at dksX2_isNear_4 14 rfl rfl)
theorem dX2_isNear_109 : decode cX2_isNear 109 = .ok (.aload_n 0, 1) := dk_42 (dk_at dksX2_isNear_4 15 rfl rfl)
theorem dX2_isNear_110 : decode cX2_isNear 110 = .ok (.getfield 55, 3) := dk_180 0 55 (dk_at dksX2_isNear_4 16 rfl rfl)
theorem dX2_isNear_113 : decode cX2_isNear 113 = .ok (.iconst 1, 1) := dk_4 (dk_at dksX2_isNear_4 19 rfl rfl)
theorem dX2_isNear_114 : decode cX2_isNear 114 = .ok (.iaload, 1) := dk_46 (dk_at dksX2_isNear_4 20 rfl rfl)
theorem dX2_isNear_115 : decode cX2_isNear 115 = .ok (.imul, 1) := dk_104 (dk_at dksX2_isNear_4 21 rfl rfl)
theorem dX2_isNear_116 : decode cX2_isNear 116 = .ok (.if_icmp .gt 7, 3) := dk_163 0 7 (dk_at dksX2_isNear_5 0 rfl rfl)
theorem dX2_isNear_119 : decode cX2_isNear 119 = .ok (.iconst 1, 1) := dk_4 (dk_at dksX2_isNear_5 3 rfl rfl)
theorem dX2_isNear_120 : decode cX2_isNear 120 = .ok (.goto 4, 3) := dk_167 0 4 (dk_at dksX2_isNear_5 4 rfl rfl)
theorem dX2_isNear_123 : decode cX2_isNear 123 = .ok (.iconst 0, 1) := dk_3 (dk_at dksX2_isNear_5 7 rfl rfl)
theorem dX2_isNear_124 : decode cX2_isNear 124 = .ok (.ireturn, 1) := dk_172 (dk_at dksX2_isNear_5 8 rfl rfl)
abbrev cX2_findBest : ByteArray := prog_13_method_27_code
def yX2_findBest : MethodName := ⟨RX2, "findBest", "(I)I"⟩
def dkwX2_findBest_5 : List UInt8 := [132, 3, 1, 167, 255, 163, 28, 172]
abbrev dktX2_findBest_5 : List UInt8 := dkwX2_findBest_5 ++ []
def dkwX2_findBest_4 : List UInt8 := [46, 42, 180, 0, 61, 42, 180, 0, 73, 21, 4, 46, 46, 162, 0, 11, 42, 180, 0, 73, 21, 4, 29, 79]
abbrev dktX2_findBest_4 : List UInt8 := dkwX2_findBest_4 ++ dktX2_findBest_5
def dkwX2_findBest_3 : List UInt8 := [4, 167, 0, 4, 3, 96, 61, 42, 180, 0, 73, 21, 4, 46, 16, 247, 159, 0, 24, 42, 180, 0, 61, 29]
abbrev dktX2_findBest_3 : List UInt8 := dkwX2_findBest_3 ++ dktX2_findBest_4
def dkwX2_findBest_2 : List UInt8 := [167, 0, 72, 42, 180, 0, 16, 29, 46, 54, 4, 28, 42, 180, 0, 73, 21, 4, 46, 16, 247, 160, 0, 7]
abbrev dktX2_findBest_2 : List UInt8 := dkwX2_findBest_2 ++ dktX2_findBest_3
def dkwX2_findBest_1 : List UInt8 := [3, 61, 3, 62, 29, 42, 180, 0, 107, 162, 0, 91, 42, 180, 0, 58, 29, 46, 27, 159, 0, 6]
abbrev dktX2_findBest_1 : List UInt8 := dkwX2_findBest_1 ++ dktX2_findBest_2
def dkwX2_findBest_0 : List UInt8 := [3, 61, 28, 42, 180, 0, 104, 162, 0, 17, 42, 180, 0, 73, 28, 16, 247, 79, 132, 2, 1, 167, 255, 237]
abbrev dktX2_findBest_0 : List UInt8 := dkwX2_findBest_0 ++ dktX2_findBest_1
theorem dksX2_findBest_0 : cX2_findBest.data.toList.drop 0 = dktX2_findBest_0 := by decide +kernel
theorem dksX2_findBest_1 : cX2_findBest.data.toList.drop 24 = dktX2_findBest_1 := dk_seg dksX2_findBest_0 24 rfl rfl
theorem dksX2_findBest_2 : cX2_findBest.data.toList.drop 46 = dktX2_findBest_2 := dk_seg dksX2_findBest_1 22 rfl rfl
theorem dksX2_findBest_3 : cX2_findBest.data.toList.drop 70 = dktX2_findBest_3 := dk_seg dksX2_findBest_2 24 rfl rfl
theorem dksX2_findBest_4 : cX2_findBest.data.toList.drop 94 = dktX2_findBest_4 := dk_seg dksX2_findBest_3 24 rfl rfl
theorem dksX2_findBest_5 : cX2_findBest.data.toList.drop 118 = dktX2_findBest_5 := dk_seg dksX2_findBest_4 24 rfl rfl
theorem dX2_findBest_0 : decode cX2_findBest 0 = .ok (.iconst 0, 1) := dk_3 (dk_at dksX2_findBest_0 0 rfl rfl)
theorem dX2_findBest_1 : decode cX2_findBest 1 = .ok (.istore_n 2, 1) := dk_61 (dk_at dksX2_findBest_0 1 rfl rfl)
theorem dX2_findBest_2 : decode cX2_findBest 2 = .ok (.iload_n 2, 1) := dk_28 (dk_at dksX2_findBest_0 2 rfl rfl)
theorem dX2_findBest_3 : decode cX2_findBest 3 = .ok (.aload_n 0, 1) := dk_42 (dk_at dksX2_findBest_0 3 rfl rfl)
theorem dX2_findBest_4 : decode cX2_findBest 4 = .ok (.getfield 104, 3) := dk_180 0 104 (dk_at dksX2_findBest_0 4 rfl rfl)
theorem dX2_findBest_7 : decode cX2_findBest 7 = .ok (.if_icmp .ge 17, 3) := dk_162 0 17 (dk_at dksX2_findBest_0 7 rfl rfl)
theorem dX2_findBest_10 : decode cX2_findBest 10 = .ok (.aload_n 0, 1) := dk_42 (dk_at dksX2_findBest_0 10 rfl rfl)
theorem dX2_findBest_11 : decode cX2_findBest 11 = .ok (.getfield 73, 3) := dk_180 0 73 (dk_at dksX2_findBest_0 11 rfl rfl)
theorem dX2_findBest_14 : decode cX2_findBest 14 = .ok (.iload_n 2, 1) := dk_28 (dk_at dksX2_findBest_0 14 rfl rfl)
theorem dX2_findBest_15 : decode cX2_findBest 15 = .ok (.bipush (-9), 2) := dk_16 247 (dk_at dksX2_findBest_0 15 rfl rfl)
theorem dX2_findBest_17 : decode cX2_findBest 17 = .ok (.iastore, 1) := dk_79 (dk_at dksX2_findBest_0 17 rfl rfl)
theorem dX2_findBest_18 : decode cX2_findBest 18 = .ok (.iinc 2 1, 3) := dk_132 2 1 (dk_at dksX2_findBest_0 18 rfl rfl)
theorem dX2_findBest_21 : decode cX2_findBest 21 = .ok (.goto (-19), 3) := dk_167 255 237 (dk_at dksX2_findBest_0 21 rfl rfl)
theorem dX2_findBest_24 : decode cX2_findBest 24 = .ok (.iconst 0, 1) := dk_3 (dk_at dksX2_findBest_1 0 rfl rfl)
theorem dX2_findBest_25 : decode cX2_findBest 25 = .ok (.istore_n 2, 1) := dk_61 (dk_at dksX2_findBest_1 1 rfl rfl)
theorem dX2_findBest_26 : decode cX2_findBest 26 = .ok (.iconst 0, 1) := dk_3 (dk_at dksX2_findBest_1 2 rfl rfl)
theorem dX2_findBest_27 : decode cX2_findBest 27 = .ok (.istore_n 3, 1) := dk_62 (dk_at dksX2_findBest_1 3 rfl rfl)
theorem dX2_findBest_28 : decode cX2_findBest 28 = .ok (.iload_n 3, 1) := dk_29 (dk_at dksX2_findBest_1 4 rfl rfl)
theorem dX2_findBest_29 : decode cX2_findBest 29 = .ok (.aload_n 0, 1) := dk_42 (dk_at dksX2_findBest_1 5 rfl rfl)
theorem dX2_findBest_30 : decode cX2_findBest 30 = .ok (.getfield 107, 3) := dk_180 0 107 (dk_at dksX2_findBest_1 6 rfl rfl)
theorem dX2_findBest_33 : decode cX2_findBest 33 = .ok (.if_icmp .ge 91, 3) := dk_162 0 91 (dk_at dksX2_findBest_1 9 rfl rfl)
theorem dX2_findBest_36 : decode cX2_findBest 36 = .ok (.aload_n 0, 1) := dk_42 (dk_at dksX2_findBest_1 12 rfl rfl)
theorem dX2_findBest_37 : decode cX2_findBest 37 = .ok (.getfield 58, 3) := dk_180 0 58 (dk_at dksX2_findBest_1 13 rfl rfl)
theorem dX2_findBest_40 : decode cX2_findBest 40 = .ok (.iload_n 3, 1) := dk_29 (dk_at dksX2_findBest_1 16 rfl rfl)
theorem dX2_findBest_41 : decode cX2_findBest 41 = .ok (.iaload, 1) := dk_46 (dk_at dksX2_findBest_1 17 rfl rfl)
theorem dX2_findBest_42 : decode cX2_findBest 42 = .ok (.iload_n 1, 1) := dk_27 (dk_at dksX2_findBest_1 18 rfl rfl)
theorem dX2_findBest_43 : decode cX2_findBest 43 = .ok (.if_icmp .eq 6, 3) := dk_159 0 6 (dk_at dksX2_findBest_1 19 rfl rfl)
theorem dX2_findBest_46 : decode cX2_findBest 46 = .ok (.goto 72, 3) := dk_167 0 72 (dk_at dksX2_findBest_2 0 rfl rfl)
theorem dX2_findBest_49 : decode cX2_findBest 49 = .ok (.aload_n 0, 1) := dk_42 (dk_at dksX2_findBest_2 3 rfl rfl)
theorem dX2_findBest_50 : decode cX2_findBest 50 = .ok (.getfield 16, 3) := dk_180 0 16 (dk_at dksX2_findBest_2 4 rfl rfl)
theorem dX2_findBest_53 : decode cX2_findBest 53 = .ok (.iload_n 3, 1) := dk_29 (dk_at dksX2_findBest_2 7 rfl rfl)
theorem dX2_findBest_54 : decode cX2_findBest 54 = .ok (.iaload, 1) := dk_46 (dk_at dksX2_findBest_2 8 rfl rfl)
theorem dX2_findBest_55 : decode cX2_findBest 55 = .ok (.istore 4, 2) := dk_54 4 (dk_at dksX2_findBest_2 9 rfl rfl)
theorem dX2_findBest_57 : decode cX2_findBest 57 = .ok (.iload_n 2, 1) := dk_28 (dk_at dksX2_findBest_2 11 rfl rfl)
theorem dX2_findBest_58 : decode cX2_findBest 58 = .ok (.aload_n 0, 1) := dk_42 (dk_at dksX2_findBest_2 12 rfl rfl)
theorem dX2_findBest_59 : decode cX2_findBest 59 = .ok (.getfield 73, 3) := dk_180 0 73 (dk_at dksX2_findBest_2 13 rfl rfl)
theorem dX2_findBest_62 : decode cX2_findBest 62 = .ok (.iload 4, 2) := dk_21 4 (dk_at dksX2_findBest_2 16 rfl rfl)
theorem dX2_findBest_64 : decode cX2_findBest 64 = .ok (.iaload, 1) := dk_46 (dk_at dksX2_findBest_2 18 rfl rfl)
theorem dX2_findBest_65 : decode cX2_findBest 65 = .ok (.bipush (-9), 2) := dk_16 247 (dk_at dksX2_findBest_2 19 rfl rfl)
theorem dX2_findBest_67 : decode cX2_findBest 67 = .ok (.if_icmp .ne 7, 3) := dk_160 0 7 (dk_at dksX2_findBest_2 21 rfl rfl)
theorem dX2_findBest_70 : decode cX2_findBest 70 = .ok (.iconst 1, 1) := dk_4 (dk_at dksX2_findBest_3 0 rfl rfl)
theorem dX2_findBest_71 : decode cX2_findBest 71 = .ok (.goto 4, 3) := dk_167 0 4 (dk_at dksX2_findBest_3 1 rfl rfl)
theorem dX2_findBest_74 : decode cX2_findBest 74 = .ok (.iconst 0, 1) := dk_3 (dk_at dksX2_findBest_3 4 rfl rfl)
theorem dX2_findBest_75 : decode cX2_findBest 75 = .ok (.iadd, 1) := dk_96 (dk_at dksX2_findBest_3 5 rfl rfl)
theorem dX2_findBest_76 : decode cX2_findBest 76 = .ok (.istore_n 2, 1) := dk_61 (dk_at dksX2_findBest_3 6 rfl rfl)
theorem dX2_findBest_77 : decode cX2_findBest 77 = .ok (.aload_n 0, 1) := dk_42 (dk_at dksX2_findBest_3 7 rfl rfl)
theorem dX2_findBest_78 : decode cX2_findBest 78 = .ok (.getfield 73, 3) := dk_180 0 73 (dk_at dksX2_findBest_3 8 rfl rfl)
theorem dX2_findBest_81 : decode cX2_findBest 81 = .ok (.iload 4, 2) := dk_21 4 (dk_at dksX2_findBest_3 11 rfl rfl)
theorem dX2_findBest_83 : decode cX2_findBest 83 = .ok (.iaload, 1) := dk_46 (dk_at dksX2_findBest_3 13 rfl rfl)
theorem dX2_findBest_84 : decode cX2_findBest 84 = .ok (.bipush (-9), 2) := dk_16 247 (dk_at dksX2_findBest_3 14 rfl rfl)
theorem dX2_findBest_86 : decode cX2_findBest 86 = .ok (.if_icmp .eq 24, 3) := dk_159 0 24 (dk_at dksX2_findBest_3 16 rfl rfl)
theorem dX2_findBest_89 : decode cX2_findBest 89 = .ok (.aload_n 0, 1) := dk_42 (dk_at dksX2_findBest_3 19 rfl rfl)
theorem dX2_findBest_90 : decode cX2_findBest 90 = .ok (.getfield 61, 3) := dk_180 0 61 (dk_at dksX2_findBest_3 20 rfl rfl)
theorem dX2_findBest_93 : decode cX2_findBest 93 = .ok (.iload_n 3, 1) := dk_29 (dk_at dksX2_findBest_3 23 rfl rfl)
theorem dX2_findBest_94 : decode cX2_findBest 94 = .ok (.iaload, 1) := dk_46 (dk_at dksX2_findBest_4 0 rfl rfl)
theorem dX2_findBest_95 : decode cX2_findBest 95 = .ok (.aload_n 0, 1) := dk_42 (dk_at dksX2_findBest_4 1 rfl rfl)
theorem dX2_findBest_96 : decode cX2_findBest 96 = .ok (.getfield 61, 3) := dk_180 0 61 (dk_at dksX2_findBest_4 2 rfl rfl)
theorem dX2_findBest_99 : decode cX2_findBest 99 = .ok (.aload_n 0, 1) := dk_42 (dk_at dksX2_findBest_4 5 rfl rfl)
theorem dX2_findBest_100 : decode cX2_findBest 100 = .ok (.getfield 73, 3) := dk_180 0 73 (dk_at dksX2_findBest_4 6 rfl rfl)
theorem dX2_findBest_103 : decode cX2_findBest 103 = .ok (.iload 4, 2) := dk_21 4 (dk_at dksX2_findBest_4 9 rfl rfl)
theorem dX2_findBest_105 : decode cX2_findBest 105 = .ok (.iaload, 1) := dk_46 (dk_at dksX2_findBest_4 11 rfl rfl)
theorem dX2_findBest_106 : decode cX2_findBest 106 = .ok (.iaload, 1) := dk_46 (dk_at dksX2_findBest_4 12 rfl rfl)
theorem dX2_findBest_107 : decode cX2_findBest 107 = .ok (.if_icmp .ge 11, 3) := dk_162 0 11 (dk_at dksX2_findBest_4 13 rfl rfl)
theorem dX2_findBest_110 : decode cX2_findBest 110 = .ok (.aload_n 0, 1) := dk_42 (dk_at dksX2_findBest_4 16 rfl rfl)
theorem dX2_findBest_111 : decode cX2_findBest 111 = .ok (.getfield 73, 3) := dk_180 0 73 (dk_at dksX2_findBest_4 17 rfl rfl)
theorem dX2_findBest_114 : decode cX2_findBest 114 = .ok (.iload 4, 2) := dk_21 4 (dk_at dksX2_findBest_4 20 rfl rfl)
theorem dX2_findBest_116 : decode cX2_findBest 116 = .ok (.iload_n 3, 1) := dk_29 (dk_at dksX2_findBest_4 22 rfl rfl)
theorem dX2_findBest_117 : decode cX2_findBest 117 = .ok (.iastore, 1) := dk_79 (dk_at dksX2_findBest_4 23 rfl rfl)
theorem dX2_findBest_118 : decode cX2_findBest 118 = .ok (.iinc 3 1, 3) := dk_132 3 1 (dk_at dksX2_findBest_5 0 rfl rfl)
theorem dX2_findBest_121 : decode cX2_findBest 121 = .ok (.goto (-93), 3) := dk_167 255 163 (dk_at dksX2_findBest_5 3 rfl rfl)
theorem dX2_findBest_124 : decode cX2_findBest 124 = .ok (.iload_n 2, 1) := dk_28 (dk_at dksX2_findBest_5 6 rfl rfl)
theorem dX2_findBest_125 : decode cX2_findBest 125 = .ok (.ireturn, 1) := dk_172 (dk_at dksX2_findBest_5 7 rfl rfl)
abbrev cX2_isAhead : ByteArray := prog_13_method_28_code
def yX2_isAhead : MethodName := ⟨RX2, "isAhead", "(II)Z"⟩
def dkwX2_isAhead_1 : List UInt8 := [180, 0, 61, 28, 46, 160, 0, 12, 27, 28, 162, 0, 7, 4, 167, 0, 4, 3, 172]
abbrev dktX2_isAhead_1 : List UInt8 := dkwX2_isAhead_1 ++ []
def dkwX2_isAhead_0 : List UInt8 := [42, 180, 0, 61, 27, 46, 42, 180, 0, 61, 28, 46, 161, 0, 23, 42, 180, 0, 61, 27, 46, 42]
abbrev dktX2_isAhead_0 : List UInt8 := dkwX2_isAhead_0 ++ dktX2_isAhead_1
theorem dksX2_isAhead_0 : cX2_isAhead.data.toList.drop 0 = dktX2_isAhead_0 := by decide +kernel
theorem dksX2_isAhead_1 : cX2_isAhead.data.toList.drop 22 = dktX2_isAhead_1 := dk_seg dksX2_isAhead_0 22 rfl rfl
theorem dX2_isAhead_0 : decode cX2_isAhead 0 = .ok (.aload_n 0, 1) := dk_42 (dk_at dksX2_isAhead_0 0 rfl rfl)
theorem dX2_isAhead_1 : decode cX2_isAhead 1 = .ok (.getfield 61, 3) := dk_180 0 61 (dk_at dksX2_isAhead_0 1 rfl rfl)
theorem dX2_isAhead_4 : decode cX2_isAhead 4 = .ok (.iload_n 1, 1) := dk_27 (dk_at dksX2_isAhead_0 4 rfl rfl)
theorem dX2_isAhead_5 : decode cX2_isAhead 5 = .ok (.iaload, 1) := dk_46 (dk_at dksX2_isAhead_0 5 rfl rfl)
theorem dX2_isAhead_6 : decode cX2_isAhead 6 = .ok (.aload_n 0, 1) := dk_42 (dk_at dksX2_isAhead_0 6 rfl rfl)
theorem dX2_isAhead_7 : decode cX2_isAhead 7 = .ok (.getfield 61, 3) := dk_180 0 61 (dk_at dksX2_isAhead_0 7 rfl rfl)
theorem dX2_isAhead_10 : decode cX2_isAhead 10 = .ok (.iload_n 2, 1) := dk_28 (dk_at dksX2_isAhead_0 10 rfl rfl)
theorem dX2_isAhead_11 : decode cX2_isAhead 11 = .ok (.iaload, 1) := dk_46 (dk_at dksX2_isAhead_0 11 rfl rfl)
theorem dX2_isAhead_12 : decode cX2_isAhead 12 = .ok (.if_icmp .lt 23, 3) := dk_161 0 23 (dk_at dksX2_isAhead_0 12 rfl rfl)
theorem dX2_isAhead_15 : decode cX2_isAhead 15 = .ok (.aload_n 0, 1) := dk_42 (dk_at dksX2_isAhead_0 15 rfl rfl)
theorem dX2_isAhead_16 : decode cX2_isAhead 16 = .ok (.getfield 61, 3) := dk_180 0 61 (dk_at dksX2_isAhead_0 16 rfl rfl)
theorem dX2_isAhead_19 : decode cX2_isAhead 19 = .ok (.iload_n 1, 1) := dk_27 (dk_at dksX2_isAhead_0 19 rfl rfl)
theorem dX2_isAhead_20 : decode cX2_isAhead 20 = .ok (.iaload, 1) := dk_46 (dk_at dksX2_isAhead_0 20 rfl rfl)
theorem dX2_isAhead_21 : decode cX2_isAhead 21 = .ok (.aload_n 0, 1) := dk_42 (dk_at dksX2_isAhead_0 21 rfl rfl)
theorem dX2_isAhead_22 : decode cX2_isAhead 22 = .ok (.getfield 61, 3) := dk_180 0 61 (dk_at dksX2_isAhead_1 0 rfl rfl)
theorem dX2_isAhead_25 : decode cX2_isAhead 25 = .ok (.iload_n 2, 1) := dk_28 (dk_at dksX2_isAhead_1 3 rfl rfl)
theorem dX2_isAhead_26 : decode cX2_isAhead 26 = .ok (.iaload, 1) := dk_46 (dk_at dksX2_isAhead_1 4 rfl rfl)
theorem dX2_isAhead_27 : decode cX2_isAhead 27 = .ok (.if_icmp .ne 12, 3) := dk_160 0 12 (dk_at dksX2_isAhead_1 5 rfl rfl)
theorem dX2_isAhead_30 : decode cX2_isAhead 30 = .ok (.iload_n 1, 1) := dk_27 (dk_at dksX2_isAhead_1 8 rfl rfl)
theorem dX2_isAhead_31 : decode cX2_isAhead 31 = .ok (.iload_n 2, 1) := dk_28 (dk_at dksX2_isAhead_1 9 rfl rfl)
theorem dX2_isAhead_32 : decode cX2_isAhead 32 = .ok (.if_icmp .ge 7, 3) := dk_162 0 7 (dk_at dksX2_isAhead_1 10 rfl rfl)
theorem dX2_isAhead_35 : decode cX2_isAhead 35 = .ok (.iconst 1, 1) := dk_4 (dk_at dksX2_isAhead_1 13 rfl rfl)
theorem dX2_isAhead_36 : decode cX2_isAhead 36 = .ok (.goto 4, 3) := dk_167 0 4 (dk_at dksX2_isAhead_1 14 rfl rfl)
theorem dX2_isAhead_39 : decode cX2_isAhead 39 = .ok (.iconst 0, 1) := dk_3 (dk_at dksX2_isAhead_1 17 rfl rfl)
theorem dX2_isAhead_40 : decode cX2_isAhead 40 = .ok (.ireturn, 1) := dk_172 (dk_at dksX2_isAhead_1 18 rfl rfl)
abbrev cX2_others : ByteArray := prog_13_method_32_code
def yX2_others : MethodName := ⟨RX2, "others", "()I"⟩
def dkwX2_others_1 : List UInt8 := [42, 28, 182, 0, 192, 153, 0, 7, 4, 167, 0, 4, 3, 96, 60, 132, 2, 1, 167, 255, 229, 27, 172]
abbrev dktX2_others_1 : List UInt8 := dkwX2_others_1 ++ []
def dkwX2_others_0 : List UInt8 := [42, 180, 0, 189, 5, 162, 0, 6, 16, 253, 172, 3, 60, 3, 61, 28, 42, 180, 0, 160, 162, 0, 25, 27]
abbrev dktX2_others_0 : List UInt8 := dkwX2_others_0 ++ dktX2_others_1
theorem dksX2_others_0 : cX2_others.data.toList.drop 0 = dktX2_others_0 := by decide +kernel
theorem dksX2_others_1 : cX2_others.data.toList.drop 24 = dktX2_others_1 := dk_seg dksX2_others_0 24 rfl rfl
theorem dX2_others_0 : decode cX2_others 0 = .ok (.aload_n 0, 1) := dk_42 (dk_at dksX2_others_0 0 rfl rfl)
theorem dX2_others_1 : decode cX2_others 1 = .ok (.getfield 189, 3) := dk_180 0 189 (dk_at dksX2_others_0 1 rfl rfl)
theorem dX2_others_4 : decode cX2_others 4 = .ok (.iconst 2, 1) := dk_5 (dk_at dksX2_others_0 4 rfl rfl)
theorem dX2_others_5 : decode cX2_others 5 = .ok (.if_icmp .ge 6, 3) := dk_162 0 6 (dk_at dksX2_others_0 5 rfl rfl)
theorem dX2_others_8 : decode cX2_others 8 = .ok (.bipush (-3), 2) := dk_16 253 (dk_at dksX2_others_0 8 rfl rfl)
theorem dX2_others_10 : decode cX2_others 10 = .ok (.ireturn, 1) := dk_172 (dk_at dksX2_others_0 10 rfl rfl)
theorem dX2_others_11 : decode cX2_others 11 = .ok (.iconst 0, 1) := dk_3 (dk_at dksX2_others_0 11 rfl rfl)
theorem dX2_others_12 : decode cX2_others 12 = .ok (.istore_n 1, 1) := dk_60 (dk_at dksX2_others_0 12 rfl rfl)
theorem dX2_others_13 : decode cX2_others 13 = .ok (.iconst 0, 1) := dk_3 (dk_at dksX2_others_0 13 rfl rfl)
theorem dX2_others_14 : decode cX2_others 14 = .ok (.istore_n 2, 1) := dk_61 (dk_at dksX2_others_0 14 rfl rfl)
theorem dX2_others_15 : decode cX2_others 15 = .ok (.iload_n 2, 1) := dk_28 (dk_at dksX2_others_0 15 rfl rfl)
theorem dX2_others_16 : decode cX2_others 16 = .ok (.aload_n 0, 1) := dk_42 (dk_at dksX2_others_0 16 rfl rfl)
theorem dX2_others_17 : decode cX2_others 17 = .ok (.getfield 160, 3) := dk_180 0 160 (dk_at dksX2_others_0 17 rfl rfl)
theorem dX2_others_20 : decode cX2_others 20 = .ok (.if_icmp .ge 25, 3) := dk_162 0 25 (dk_at dksX2_others_0 20 rfl rfl)
theorem dX2_others_23 : decode cX2_others 23 = .ok (.iload_n 1, 1) := dk_27 (dk_at dksX2_others_0 23 rfl rfl)
theorem dX2_others_24 : decode cX2_others 24 = .ok (.aload_n 0, 1) := dk_42 (dk_at dksX2_others_1 0 rfl rfl)
theorem dX2_others_25 : decode cX2_others 25 = .ok (.iload_n 2, 1) := dk_28 (dk_at dksX2_others_1 1 rfl rfl)
theorem dX2_others_26 : decode cX2_others 26 = .ok (.invokevirtual 192, 3) := dk_182 0 192 (dk_at dksX2_others_1 2 rfl rfl)
theorem dX2_others_29 : decode cX2_others 29 = .ok (.ifCond .eq 7, 3) := dk_153 0 7 (dk_at dksX2_others_1 5 rfl rfl)
theorem dX2_others_32 : decode cX2_others 32 = .ok (.iconst 1, 1) := dk_4 (dk_at dksX2_others_1 8 rfl rfl)
theorem dX2_others_33 : decode cX2_others 33 = .ok (.goto 4, 3) := dk_167 0 4 (dk_at dksX2_others_1 9 rfl rfl)
theorem dX2_others_36 : decode cX2_others 36 = .ok (.iconst 0, 1) := dk_3 (dk_at dksX2_others_1 12 rfl rfl)
theorem dX2_others_37 : decode cX2_others 37 = .ok (.iadd, 1) := dk_96 (dk_at dksX2_others_1 13 rfl rfl)
theorem dX2_others_38 : decode cX2_others 38 = .ok (.istore_n 1, 1) := dk_60 (dk_at dksX2_others_1 14 rfl rfl)
theorem dX2_others_39 : decode cX2_others 39 = .ok (.iinc 2 1, 3) := dk_132 2 1 (dk_at dksX2_others_1 15 rfl rfl)
theorem dX2_others_42 : decode cX2_others 42 = .ok (.goto (-27), 3) := dk_167 255 229 (dk_at dksX2_others_1 18 rfl rfl)
theorem dX2_others_45 : decode cX2_others 45 = .ok (.iload_n 1, 1) := dk_27 (dk_at dksX2_others_1 21 rfl rfl)
theorem dX2_others_46 : decode cX2_others 46 = .ok (.ireturn, 1) := dk_172 (dk_at dksX2_others_1 22 rfl rfl)
abbrev cX2_isNew : ByteArray := prog_13_method_31_code
def yX2_isNew : MethodName := ⟨RX2, "isNew", "(I)Z"⟩
def dkwX2_isNew_5 : List UInt8 := [132, 3, 1, 167, 255, 154, 4, 172]
abbrev dktX2_isNew_5 : List UInt8 := dkwX2_isNew_5 ++ []
def dkwX2_isNew_4 : List UInt8 := [160, 0, 7, 4, 167, 0, 4, 3, 54, 4, 132, 5, 1, 167, 255, 204, 21, 4, 153, 0, 5, 3, 172]
abbrev dktX2_isNew_4 : List UInt8 := dkwX2_isNew_4 ++ dktX2_isNew_5
def dkwX2_isNew_3 : List UInt8 := [42, 180, 0, 88, 29, 46, 21, 5, 96, 46, 42, 180, 0, 79, 42, 180, 0, 76, 27, 46, 21, 5, 96, 46]
abbrev dktX2_isNew_3 : List UInt8 := dkwX2_isNew_3 ++ dktX2_isNew_4
def dkwX2_isNew_2 : List UInt8 := [167, 0, 4, 3, 54, 4, 3, 54, 5, 21, 5, 28, 162, 0, 52, 21, 4, 153, 0, 47, 42, 180, 0, 91]
abbrev dktX2_isNew_2 : List UInt8 := dkwX2_isNew_2 ++ dktX2_isNew_3
def dkwX2_isNew_1 : List UInt8 := [162, 0, 100, 42, 180, 0, 88, 29, 4, 96, 46, 42, 180, 0, 88, 29, 46, 100, 28, 160, 0, 7, 4]
abbrev dktX2_isNew_1 : List UInt8 := dkwX2_isNew_1 ++ dktX2_isNew_2
def dkwX2_isNew_0 : List UInt8 := [42, 180, 0, 76, 27, 4, 96, 46, 42, 180, 0, 76, 27, 46, 100, 61, 3, 62, 29, 42, 180, 0, 183]
abbrev dktX2_isNew_0 : List UInt8 := dkwX2_isNew_0 ++ dktX2_isNew_1
theorem dksX2_isNew_0 : cX2_isNew.data.toList.drop 0 = dktX2_isNew_0 := by decide +kernel
theorem dksX2_isNew_1 : cX2_isNew.data.toList.drop 23 = dktX2_isNew_1 := dk_seg dksX2_isNew_0 23 rfl rfl
theorem dksX2_isNew_2 : cX2_isNew.data.toList.drop 46 = dktX2_isNew_2 := dk_seg dksX2_isNew_1 23 rfl rfl
theorem dksX2_isNew_3 : cX2_isNew.data.toList.drop 70 = dktX2_isNew_3 := dk_seg dksX2_isNew_2 24 rfl rfl
theorem dksX2_isNew_4 : cX2_isNew.data.toList.drop 94 = dktX2_isNew_4 := dk_seg dksX2_isNew_3 24 rfl rfl
theorem dksX2_isNew_5 : cX2_isNew.data.toList.drop 117 = dktX2_isNew_5 := dk_seg dksX2_isNew_4 23 rfl rfl
theorem dX2_isNew_0 : decode cX2_isNew 0 = .ok (.aload_n 0, 1) := dk_42 (dk_at dksX2_isNew_0 0 rfl rfl)
theorem dX2_isNew_1 : decode cX2_isNew 1 = .ok (.getfield 76, 3) := dk_180 0 76 (dk_at dksX2_isNew_0 1 rfl rfl)
theorem dX2_isNew_4 : decode cX2_isNew 4 = .ok (.iload_n 1, 1) := dk_27 (dk_at dksX2_isNew_0 4 rfl rfl)
theorem dX2_isNew_5 : decode cX2_isNew 5 = .ok (.iconst 1, 1) := dk_4 (dk_at dksX2_isNew_0 5 rfl rfl)
theorem dX2_isNew_6 : decode cX2_isNew 6 = .ok (.iadd, 1) := dk_96 (dk_at dksX2_isNew_0 6 rfl rfl)
theorem dX2_isNew_7 : decode cX2_isNew 7 = .ok (.iaload, 1) := dk_46 (dk_at dksX2_isNew_0 7 rfl rfl)
theorem dX2_isNew_8 : decode cX2_isNew 8 = .ok (.aload_n 0, 1) := dk_42 (dk_at dksX2_isNew_0 8 rfl rfl)
theorem dX2_isNew_9 : decode cX2_isNew 9 = .ok (.getfield 76, 3) := dk_180 0 76 (dk_at dksX2_isNew_0 9 rfl rfl)
theorem dX2_isNew_12 : decode cX2_isNew 12 = .ok (.iload_n 1, 1) := dk_27 (dk_at dksX2_isNew_0 12 rfl rfl)
theorem dX2_isNew_13 : decode cX2_isNew 13 = .ok (.iaload, 1) := dk_46 (dk_at dksX2_isNew_0 13 rfl rfl)
theorem dX2_isNew_14 : decode cX2_isNew 14 = .ok (.isub, 1) := dk_100 (dk_at dksX2_isNew_0 14 rfl rfl)
theorem dX2_isNew_15 : decode cX2_isNew 15 = .ok (.istore_n 2, 1) := dk_61 (dk_at dksX2_isNew_0 15 rfl rfl)
theorem dX2_isNew_16 : decode cX2_isNew 16 = .ok (.iconst 0, 1) := dk_3 (dk_at dksX2_isNew_0 16 rfl rfl)
theorem dX2_isNew_17 : decode cX2_isNew 17 = .ok (.istore_n 3, 1) := dk_62 (dk_at dksX2_isNew_0 17 rfl rfl)
theorem dX2_isNew_18 : decode cX2_isNew 18 = .ok (.iload_n 3, 1) := dk_29 (dk_at dksX2_isNew_0 18 rfl rfl)
theorem dX2_isNew_19 : decode cX2_isNew 19 = .ok (.aload_n 0, 1) := dk_42 (dk_at dksX2_isNew_0 19 rfl rfl)
theorem dX2_isNew_20 : decode cX2_isNew 20 = .ok (.getfield 183, 3) := dk_180 0 183 (dk_at dksX2_isNew_0 20 rfl rfl)
theorem dX2_isNew_23 : decode cX2_isNew 23 = .ok (.if_icmp .ge 100, 3) := dk_162 0 100 (dk_at dksX2_isNew_1 0 rfl rfl)
theorem dX2_isNew_26 : decode cX2_isNew 26 = .ok (.aload_n 0, 1) := dk_42 (dk_at dksX2_isNew_1 3 rfl rfl)
theorem dX2_isNew_27 : decode cX2_isNew 27 = .ok (.getfield 88, 3) := dk_180 0 88 (dk_at dksX2_isNew_1 4 rfl rfl)
theorem dX2_isNew_30 : decode cX2_isNew 30 = .ok (.iload_n 3, 1) := dk_29 (dk_at dksX2_isNew_1 7 rfl rfl)
theorem dX2_isNew_31 : decode cX2_isNew 31 = .ok (.iconst 1, 1) := dk_4 (dk_at dksX2_isNew_1 8 rfl rfl)
theorem dX2_isNew_32 : decode cX2_isNew 32 = .ok (.iadd, 1) := dk_96 (dk_at dksX2_isNew_1 9 rfl rfl)
theorem dX2_isNew_33 : decode cX2_isNew 33 = .ok (.iaload, 1) := dk_46 (dk_at dksX2_isNew_1 10 rfl rfl)
theorem dX2_isNew_34 : decode cX2_isNew 34 = .ok (.aload_n 0, 1) := dk_42 (dk_at dksX2_isNew_1 11 rfl rfl)
theorem dX2_isNew_35 : decode cX2_isNew 35 = .ok (.getfield 88, 3) := dk_180 0 88 (dk_at dksX2_isNew_1 12 rfl rfl)
theorem dX2_isNew_38 : decode cX2_isNew 38 = .ok (.iload_n 3, 1) := dk_29 (dk_at dksX2_isNew_1 15 rfl rfl)
theorem dX2_isNew_39 : decode cX2_isNew 39 = .ok (.iaload, 1) := dk_46 (dk_at dksX2_isNew_1 16 rfl rfl)
theorem dX2_isNew_40 : decode cX2_isNew 40 = .ok (.isub, 1) := dk_100 (dk_at dksX2_isNew_1 17 rfl rfl)
theorem dX2_isNew_41 : decode cX2_isNew 41 = .ok (.iload_n 2, 1) := dk_28 (dk_at dksX2_isNew_1 18 rfl rfl)
theorem dX2_isNew_42 : decode cX2_isNew 42 = .ok (.if_icmp .ne 7, 3) := dk_160 0 7 (dk_at dksX2_isNew_1 19 rfl rfl)
theorem dX2_isNew_45 : decode cX2_isNew 45 = .ok (.iconst 1, 1) := dk_4 (dk_at dksX2_isNew_1 22 rfl rfl)
theorem dX2_isNew_46 : decode cX2_isNew 46 = .ok (.goto 4, 3) := dk_167 0 4 (dk_at dksX2_isNew_2 0 rfl rfl)
theorem dX2_isNew_49 : decode cX2_isNew 49 = .ok (.iconst 0, 1) := dk_3 (dk_at dksX2_isNew_2 3 rfl rfl)
theorem dX2_isNew_50 : decode cX2_isNew 50 = .ok (.istore 4, 2) := dk_54 4 (dk_at dksX2_isNew_2 4 rfl rfl)
theorem dX2_isNew_52 : decode cX2_isNew 52 = .ok (.iconst 0, 1) := dk_3 (dk_at dksX2_isNew_2 6 rfl rfl)
theorem dX2_isNew_53 : decode cX2_isNew 53 = .ok (.istore 5, 2) := dk_54 5 (dk_at dksX2_isNew_2 7 rfl rfl)
theorem dX2_isNew_55 : decode cX2_isNew 55 = .ok (.iload 5, 2) := dk_21 5 (dk_at dksX2_isNew_2 9 rfl rfl)
theorem dX2_isNew_57 : decode cX2_isNew 57 = .ok (.iload_n 2, 1) := dk_28 (dk_at dksX2_isNew_2 11 rfl rfl)
theorem dX2_isNew_58 : decode cX2_isNew 58 = .ok (.if_icmp .ge 52, 3) := dk_162 0 52 (dk_at dksX2_isNew_2 12 rfl rfl)
theorem dX2_isNew_61 : decode cX2_isNew 61 = .ok (.iload 4, 2) := dk_21 4 (dk_at dksX2_isNew_2 15 rfl rfl)
theorem dX2_isNew_63 : decode cX2_isNew 63 = .ok (.ifCond .eq 47, 3) := dk_153 0 47 (dk_at dksX2_isNew_2 17 rfl rfl)
theorem dX2_isNew_66 : decode cX2_isNew 66 = .ok (.aload_n 0, 1) := dk_42 (dk_at dksX2_isNew_2 20 rfl rfl)
theorem dX2_isNew_67 : decode cX2_isNew 67 = .ok (.getfield 91, 3) := dk_180 0 91 (dk_at dksX2_isNew_2 21 rfl rfl)
theorem dX2_isNew_70 : decode cX2_isNew 70 = .ok (.aload_n 0, 1) := dk_42 (dk_at dksX2_isNew_3 0 rfl rfl)
theorem dX2_isNew_71 : decode cX2_isNew 71 = .ok (.getfield 88, 3) := dk_180 0 88 (dk_at dksX2_isNew_3 1 rfl rfl)
theorem dX2_isNew_74 : decode cX2_isNew 74 = .ok (.iload_n 3, 1) := dk_29 (dk_at dksX2_isNew_3 4 rfl rfl)
theorem dX2_isNew_75 : decode cX2_isNew 75 = .ok (.iaload, 1) := dk_46 (dk_at dksX2_isNew_3 5 rfl rfl)
theorem dX2_isNew_76 : decode cX2_isNew 76 = .ok (.iload 5, 2) := dk_21 5 (dk_at dksX2_isNew_3 6 rfl rfl)
theorem dX2_isNew_78 : decode cX2_isNew 78 = .ok (.iadd, 1) := dk_96 (dk_at dksX2_isNew_3 8 rfl rfl)
theorem dX2_isNew_79 : decode cX2_isNew 79 = .ok (.iaload, 1) := dk_46 (dk_at dksX2_isNew_3 9 rfl rfl)
theorem dX2_isNew_80 : decode cX2_isNew 80 = .ok (.aload_n 0, 1) := dk_42 (dk_at dksX2_isNew_3 10 rfl rfl)
theorem dX2_isNew_81 : decode cX2_isNew 81 = .ok (.getfield 79, 3) := dk_180 0 79 (dk_at dksX2_isNew_3 11 rfl rfl)
theorem dX2_isNew_84 : decode cX2_isNew 84 = .ok (.aload_n 0, 1) := dk_42 (dk_at dksX2_isNew_3 14 rfl rfl)
theorem dX2_isNew_85 : decode cX2_isNew 85 = .ok (.getfield 76, 3) := dk_180 0 76 (dk_at dksX2_isNew_3 15 rfl rfl)
theorem dX2_isNew_88 : decode cX2_isNew 88 = .ok (.iload_n 1, 1) := dk_27 (dk_at dksX2_isNew_3 18 rfl rfl)
theorem dX2_isNew_89 : decode cX2_isNew 89 = .ok (.iaload, 1) := dk_46 (dk_at dksX2_isNew_3 19 rfl rfl)
theorem dX2_isNew_90 : decode cX2_isNew 90 = .ok (.iload 5, 2) := dk_21 5 (dk_at dksX2_isNew_3 20 rfl rfl)
theorem dX2_isNew_92 : decode cX2_isNew 92 = .ok (.iadd, 1) := dk_96 (dk_at dksX2_isNew_3 22 rfl rfl)
theorem dX2_isNew_93 : decode cX2_isNew 93 = .ok (.iaload, 1) := dk_46 (dk_at dksX2_isNew_3 23 rfl rfl)
theorem dX2_isNew_94 : decode cX2_isNew 94 = .ok (.if_icmp .ne 7, 3) := dk_160 0 7 (dk_at dksX2_isNew_4 0 rfl rfl)
theorem dX2_isNew_97 : decode cX2_isNew 97 = .ok (.iconst 1, 1) := dk_4 (dk_at dksX2_isNew_4 3 rfl rfl)
theorem dX2_isNew_98 : decode cX2_isNew 98 = .ok (.goto 4, 3) := dk_167 0 4 (dk_at dksX2_isNew_4 4 rfl rfl)
theorem dX2_isNew_101 : decode cX2_isNew 101 = .ok (.iconst 0, 1) := dk_3 (dk_at dksX2_isNew_4 7 rfl rfl)
theorem dX2_isNew_102 : decode cX2_isNew 102 = .ok (.istore 4, 2) := dk_54 4 (dk_at dksX2_isNew_4 8 rfl rfl)
theorem dX2_isNew_104 : decode cX2_isNew 104 = .ok (.iinc 5 1, 3) := dk_132 5 1 (dk_at dksX2_isNew_4 10 rfl rfl)
theorem dX2_isNew_107 : decode cX2_isNew 107 = .ok (.goto (-52), 3) := dk_167 255 204 (dk_at dksX2_isNew_4 13 rfl rfl)
theorem dX2_isNew_110 : decode cX2_isNew 110 = .ok (.iload 4, 2) := dk_21 4 (dk_at dksX2_isNew_4 16 rfl rfl)
theorem dX2_isNew_112 : decode cX2_isNew 112 = .ok (.ifCond .eq 5, 3) := dk_153 0 5 (dk_at dksX2_isNew_4 18 rfl rfl)
theorem dX2_isNew_115 : decode cX2_isNew 115 = .ok (.iconst 0, 1) := dk_3 (dk_at dksX2_isNew_4 21 rfl rfl)
theorem dX2_isNew_116 : decode cX2_isNew 116 = .ok (.ireturn, 1) := dk_172 (dk_at dksX2_isNew_4 22 rfl rfl)
theorem dX2_isNew_117 : decode cX2_isNew 117 = .ok (.iinc 3 1, 3) := dk_132 3 1 (dk_at dksX2_isNew_5 0 rfl rfl)
theorem dX2_isNew_120 : decode cX2_isNew 120 = .ok (.goto (-102), 3) := dk_167 255 154 (dk_at dksX2_isNew_5 3 rfl rfl)
theorem dX2_isNew_123 : decode cX2_isNew 123 = .ok (.iconst 1, 1) := dk_4 (dk_at dksX2_isNew_5 6 rfl rfl)
theorem dX2_isNew_124 : decode cX2_isNew 124 = .ok (.ireturn, 1) := dk_172 (dk_at dksX2_isNew_5 7 rfl rfl)
abbrev cX2_isOther : ByteArray := prog_13_method_34_code
def yX2_isOther : MethodName := ⟨RX2, "isOther", "(I)I"⟩
def dkwX2_isOther_1 : List UInt8 := [182, 0, 192, 153, 0, 7, 4, 167, 0, 4, 3, 172]
abbrev dktX2_isOther_1 : List UInt8 := dkwX2_isOther_1 ++ []
def dkwX2_isOther_0 : List UInt8 := [42, 27, 182, 0, 195, 154, 0, 5, 2, 172, 42, 180, 0, 189, 5, 162, 0, 6, 16, 253, 172, 42, 27]
abbrev dktX2_isOther_0 : List UInt8 := dkwX2_isOther_0 ++ dktX2_isOther_1
theorem dksX2_isOther_0 : cX2_isOther.data.toList.drop 0 = dktX2_isOther_0 := by decide +kernel
theorem dksX2_isOther_1 : cX2_isOther.data.toList.drop 23 = dktX2_isOther_1 := dk_seg dksX2_isOther_0 23 rfl rfl
theorem dX2_isOther_0 : decode cX2_isOther 0 = .ok (.aload_n 0, 1) := dk_42 (dk_at dksX2_isOther_0 0 rfl rfl)
theorem dX2_isOther_1 : decode cX2_isOther 1 = .ok (.iload_n 1, 1) := dk_27 (dk_at dksX2_isOther_0 1 rfl rfl)
theorem dX2_isOther_2 : decode cX2_isOther 2 = .ok (.invokevirtual 195, 3) := dk_182 0 195 (dk_at dksX2_isOther_0 2 rfl rfl)
theorem dX2_isOther_5 : decode cX2_isOther 5 = .ok (.ifCond .ne 5, 3) := dk_154 0 5 (dk_at dksX2_isOther_0 5 rfl rfl)
theorem dX2_isOther_8 : decode cX2_isOther 8 = .ok (.iconst (-1), 1) := dk_2 (dk_at dksX2_isOther_0 8 rfl rfl)
theorem dX2_isOther_9 : decode cX2_isOther 9 = .ok (.ireturn, 1) := dk_172 (dk_at dksX2_isOther_0 9 rfl rfl)
theorem dX2_isOther_10 : decode cX2_isOther 10 = .ok (.aload_n 0, 1) := dk_42 (dk_at dksX2_isOther_0 10 rfl rfl)
theorem dX2_isOther_11 : decode cX2_isOther 11 = .ok (.getfield 189, 3) := dk_180 0 189 (dk_at dksX2_isOther_0 11 rfl rfl)
theorem dX2_isOther_14 : decode cX2_isOther 14 = .ok (.iconst 2, 1) := dk_5 (dk_at dksX2_isOther_0 14 rfl rfl)
theorem dX2_isOther_15 : decode cX2_isOther 15 = .ok (.if_icmp .ge 6, 3) := dk_162 0 6 (dk_at dksX2_isOther_0 15 rfl rfl)
theorem dX2_isOther_18 : decode cX2_isOther 18 = .ok (.bipush (-3), 2) := dk_16 253 (dk_at dksX2_isOther_0 18 rfl rfl)
theorem dX2_isOther_20 : decode cX2_isOther 20 = .ok (.ireturn, 1) := dk_172 (dk_at dksX2_isOther_0 20 rfl rfl)
theorem dX2_isOther_21 : decode cX2_isOther 21 = .ok (.aload_n 0, 1) := dk_42 (dk_at dksX2_isOther_0 21 rfl rfl)
theorem dX2_isOther_22 : decode cX2_isOther 22 = .ok (.iload_n 1, 1) := dk_27 (dk_at dksX2_isOther_0 22 rfl rfl)
theorem dX2_isOther_23 : decode cX2_isOther 23 = .ok (.invokevirtual 192, 3) := dk_182 0 192 (dk_at dksX2_isOther_1 0 rfl rfl)
theorem dX2_isOther_26 : decode cX2_isOther 26 = .ok (.ifCond .eq 7, 3) := dk_153 0 7 (dk_at dksX2_isOther_1 3 rfl rfl)
theorem dX2_isOther_29 : decode cX2_isOther 29 = .ok (.iconst 1, 1) := dk_4 (dk_at dksX2_isOther_1 6 rfl rfl)
theorem dX2_isOther_30 : decode cX2_isOther 30 = .ok (.goto 4, 3) := dk_167 0 4 (dk_at dksX2_isOther_1 7 rfl rfl)
theorem dX2_isOther_33 : decode cX2_isOther 33 = .ok (.iconst 0, 1) := dk_3 (dk_at dksX2_isOther_1 10 rfl rfl)
theorem dX2_isOther_34 : decode cX2_isOther 34 = .ok (.ireturn, 1) := dk_172 (dk_at dksX2_isOther_1 11 rfl rfl)
abbrev cX2_isEvent : ByteArray := prog_13_method_33_code
def yX2_isEvent : MethodName := ⟨RX2, "isEvent", "(I)Z"⟩
def dkwX2_isEvent_0 : List UInt8 := [27, 155, 0, 15, 27, 42, 180, 0, 160, 162, 0, 7, 4, 167, 0, 4, 3, 172]
abbrev dktX2_isEvent_0 : List UInt8 := dkwX2_isEvent_0 ++ []
theorem dksX2_isEvent_0 : cX2_isEvent.data.toList.drop 0 = dktX2_isEvent_0 := by decide +kernel
theorem dX2_isEvent_0 : decode cX2_isEvent 0 = .ok (.iload_n 1, 1) := dk_27 (dk_at dksX2_isEvent_0 0 rfl rfl)
theorem dX2_isEvent_1 : decode cX2_isEvent 1 = .ok (.ifCond .lt 15, 3) := dk_155 0 15 (dk_at dksX2_isEvent_0 1 rfl rfl)
theorem dX2_isEvent_4 : decode cX2_isEvent 4 = .ok (.iload_n 1, 1) := dk_27 (dk_at dksX2_isEvent_0 4 rfl rfl)
theorem dX2_isEvent_5 : decode cX2_isEvent 5 = .ok (.aload_n 0, 1) := dk_42 (dk_at dksX2_isEvent_0 5 rfl rfl)
theorem dX2_isEvent_6 : decode cX2_isEvent 6 = .ok (.getfield 160, 3) := dk_180 0 160 (dk_at dksX2_isEvent_0 6 rfl rfl)
theorem dX2_isEvent_9 : decode cX2_isEvent 9 = .ok (.if_icmp .ge 7, 3) := dk_162 0 7 (dk_at dksX2_isEvent_0 9 rfl rfl)
theorem dX2_isEvent_12 : decode cX2_isEvent 12 = .ok (.iconst 1, 1) := dk_4 (dk_at dksX2_isEvent_0 12 rfl rfl)
theorem dX2_isEvent_13 : decode cX2_isEvent 13 = .ok (.goto 4, 3) := dk_167 0 4 (dk_at dksX2_isEvent_0 13 rfl rfl)
theorem dX2_isEvent_16 : decode cX2_isEvent 16 = .ok (.iconst 0, 1) := dk_3 (dk_at dksX2_isEvent_0 16 rfl rfl)
theorem dX2_isEvent_17 : decode cX2_isEvent 17 = .ok (.ireturn, 1) := dk_172 (dk_at dksX2_isEvent_0 17 rfl rfl)
abbrev cX2_without : ByteArray := prog_13_method_35_code
def yX2_without : MethodName := ⟨RX2, "without", "(I)I"⟩
def dkwX2_without_0 : List UInt8 := [42, 27, 182, 0, 114, 154, 0, 5, 2, 172, 42, 27, 182, 0, 186, 42, 180, 0, 174, 172]
abbrev dktX2_without_0 : List UInt8 := dkwX2_without_0 ++ []
theorem dksX2_without_0 : cX2_without.data.toList.drop 0 = dktX2_without_0 := by decide +kernel
theorem dX2_without_0 : decode cX2_without 0 = .ok (.aload_n 0, 1) := dk_42 (dk_at dksX2_without_0 0 rfl rfl)
theorem dX2_without_1 : decode cX2_without 1 = .ok (.iload_n 1, 1) := dk_27 (dk_at dksX2_without_0 1 rfl rfl)
theorem dX2_without_2 : decode cX2_without 2 = .ok (.invokevirtual 114, 3) := dk_182 0 114 (dk_at dksX2_without_0 2 rfl rfl)
theorem dX2_without_5 : decode cX2_without 5 = .ok (.ifCond .ne 5, 3) := dk_154 0 5 (dk_at dksX2_without_0 5 rfl rfl)
theorem dX2_without_8 : decode cX2_without 8 = .ok (.iconst (-1), 1) := dk_2 (dk_at dksX2_without_0 8 rfl rfl)
theorem dX2_without_9 : decode cX2_without 9 = .ok (.ireturn, 1) := dk_172 (dk_at dksX2_without_0 9 rfl rfl)
theorem dX2_without_10 : decode cX2_without 10 = .ok (.aload_n 0, 1) := dk_42 (dk_at dksX2_without_0 10 rfl rfl)
theorem dX2_without_11 : decode cX2_without 11 = .ok (.iload_n 1, 1) := dk_27 (dk_at dksX2_without_0 11 rfl rfl)
theorem dX2_without_12 : decode cX2_without 12 = .ok (.invokevirtual 186, 3) := dk_182 0 186 (dk_at dksX2_without_0 12 rfl rfl)
theorem dX2_without_15 : decode cX2_without 15 = .ok (.aload_n 0, 1) := dk_42 (dk_at dksX2_without_0 15 rfl rfl)
theorem dX2_without_16 : decode cX2_without 16 = .ok (.getfield 174, 3) := dk_180 0 174 (dk_at dksX2_without_0 16 rfl rfl)
theorem dX2_without_19 : decode cX2_without 19 = .ok (.ireturn, 1) := dk_172 (dk_at dksX2_without_0 19 rfl rfl)
abbrev cX2_event : ByteArray := prog_13_method_37_code
def yX2_event : MethodName := ⟨RX2, "event", "(II)I"⟩
def dkwX2_event_8 : List UInt8 := [54, 4, 132, 5, 1, 167, 255, 217, 21, 4, 172, 16, 254, 172]
abbrev dktX2_event_8 : List UInt8 := dkwX2_event_8 ++ []
def dkwX2_event_7 : List UInt8 := [162, 0, 32, 42, 42, 180, 0, 79, 21, 5, 46, 182, 0, 138, 5, 161, 0, 7, 3, 167, 0, 5, 21, 4]
abbrev dktX2_event_7 : List UInt8 := dkwX2_event_7 ++ dktX2_event_8
def dkwX2_event_6 : List UInt8 := [46, 172, 4, 54, 4, 42, 180, 0, 76, 27, 46, 54, 5, 21, 5, 42, 180, 0, 76, 27, 4, 96, 46]
abbrev dktX2_event_6 : List UInt8 := dkwX2_event_6 ++ dktX2_event_7
def dkwX2_event_5 : List UInt8 := [180, 0, 82, 21, 4, 46, 167, 0, 4, 29, 62, 132, 4, 1, 167, 255, 217, 29, 172, 42, 180, 0, 85, 27]
abbrev dktX2_event_5 : List UInt8 := dkwX2_event_5 ++ dktX2_event_6
def dkwX2_event_4 : List UInt8 := [180, 0, 76, 27, 4, 96, 46, 162, 0, 32, 42, 180, 0, 82, 21, 4, 46, 29, 164, 0, 13, 42]
abbrev dktX2_event_4 : List UInt8 := dkwX2_event_4 ++ dktX2_event_5
def dkwX2_event_3 : List UInt8 := [180, 0, 82, 42, 180, 0, 76, 27, 46, 46, 62, 42, 180, 0, 76, 27, 46, 54, 4, 21, 4, 42]
abbrev dktX2_event_3 : List UInt8 := dkwX2_event_3 ++ dktX2_event_4
def dkwX2_event_2 : List UInt8 := [42, 180, 0, 76, 27, 4, 96, 46, 42, 180, 0, 76, 27, 46, 100, 172, 42, 27, 182, 0, 198, 172, 42]
abbrev dktX2_event_2 : List UInt8 := dkwX2_event_2 ++ dktX2_event_3
def dkwX2_event_1 : List UInt8 := [170, 0, 0, 0, 182, 0, 0, 0, 0, 0, 0, 0, 4, 0, 0, 0, 33, 0, 0, 0, 49, 0, 0, 0, 55, 0, 0, 0, 119, 0, 0, 0, 126]
abbrev dktX2_event_1 : List UInt8 := dkwX2_event_1 ++ dktX2_event_2
def dkwX2_event_0 : List UInt8 := [42, 27, 182, 0, 195, 154, 0, 5, 2, 172, 28]
abbrev dktX2_event_0 : List UInt8 := dkwX2_event_0 ++ dktX2_event_1
theorem dksX2_event_0 : cX2_event.data.toList.drop 0 = dktX2_event_0 := by decide +kernel
theorem dksX2_event_1 : cX2_event.data.toList.drop 11 = dktX2_event_1 := dk_seg dksX2_event_0 11 rfl rfl
theorem dksX2_event_2 : cX2_event.data.toList.drop 44 = dktX2_event_2 := dk_seg dksX2_event_1 33 rfl rfl
theorem dksX2_event_3 : cX2_event.data.toList.drop 67 = dktX2_event_3 := dk_seg dksX2_event_2 23 rfl rfl
theorem dksX2_event_4 : cX2_event.data.toList.drop 89 = dktX2_event_4 := dk_seg dksX2_event_3 22 rfl rfl
theorem dksX2_event_5 : cX2_event.data.toList.drop 111 = dktX2_event_5 := dk_seg dksX2_event_4 22 rfl rfl
theorem dksX2_event_6 : cX2_event.data.toList.drop 135 = dktX2_event_6 := dk_seg dksX2_event_5 24 rfl rfl
theorem dksX2_event_7 : cX2_event.data.toList.drop 158 = dktX2_event_7 := dk_seg dksX2_event_6 23 rfl rfl
theorem dksX2_event_8 : cX2_event.data.toList.drop 182 = dktX2_event_8 := dk_seg dksX2_event_7 24 rfl rfl
theorem dX2_event_0 : decode cX2_event 0 = .ok (.aload_n 0, 1) := dk_42 (dk_at dksX2_event_0 0 rfl rfl)
theorem dX2_event_1 : decode cX2_event 1 = .ok (.iload_n 1, 1) := dk_27 (dk_at dksX2_event_0 1 rfl rfl)
theorem dX2_event_2 : decode cX2_event 2 = .ok (.invokevirtual 195, 3) := dk_182 0 195 (dk_at dksX2_event_0 2 rfl rfl)
theorem dX2_event_5 : decode cX2_event 5 = .ok (.ifCond .ne 5, 3) := dk_154 0 5 (dk_at dksX2_event_0 5 rfl rfl)
theorem dX2_event_8 : decode cX2_event 8 = .ok (.iconst (-1), 1) := dk_2 (dk_at dksX2_event_0 8 rfl rfl)
theorem dX2_event_9 : decode cX2_event 9 = .ok (.ireturn, 1) := dk_172 (dk_at dksX2_event_0 9 rfl rfl)
theorem dX2_event_10 : decode cX2_event 10 = .ok (.iload_n 2, 1) := dk_28 (dk_at dksX2_event_0 10 rfl rfl)
theorem dX2_event_11 : decode cX2_event 11 = .ok (.tableswitch 182 0 4 #[33, 49, 55, 119, 126], 33) := by decide +kernel
theorem dX2_event_44 : decode cX2_event 44 = .ok (.aload_n 0, 1) := dk_42 (dk_at dksX2_event_2 0 rfl rfl)
theorem dX2_event_45 : decode cX2_event 45 = .ok (.getfield 76, 3) := dk_180 0 76 (dk_at dksX2_event_2 1 rfl rfl)
theorem dX2_event_48 : decode cX2_event 48 = .ok (.iload_n 1, 1) := dk_27 (dk_at dksX2_event_2 4 rfl rfl)
theorem dX2_event_49 : decode cX2_event 49 = .ok (.iconst 1, 1) := dk_4 (dk_at dksX2_event_2 5 rfl rfl)
theorem dX2_event_50 : decode cX2_event 50 = .ok (.iadd, 1) := dk_96 (dk_at dksX2_event_2 6 rfl rfl)
theorem dX2_event_51 : decode cX2_event 51 = .ok (.iaload, 1) := dk_46 (dk_at dksX2_event_2 7 rfl rfl)
theorem dX2_event_52 : decode cX2_event 52 = .ok (.aload_n 0, 1) := dk_42 (dk_at dksX2_event_2 8 rfl rfl)
theorem dX2_event_53 : decode cX2_event 53 = .ok (.getfield 76, 3) := dk_180 0 76 (dk_at dksX2_event_2 9 rfl rfl)
theorem dX2_event_56 : decode cX2_event 56 = .ok (.iload_n 1, 1) := dk_27 (dk_at dksX2_event_2 12 rfl rfl)
theorem dX2_event_57 : decode cX2_event 57 = .ok (.iaload, 1) := dk_46 (dk_at dksX2_event_2 13 rfl rfl)
theorem dX2_event_58 : decode cX2_event 58 = .ok (.isub, 1) := dk_100 (dk_at dksX2_event_2 14 rfl rfl)
theorem dX2_event_59 : decode cX2_event 59 = .ok (.ireturn, 1) := dk_172 (dk_at dksX2_event_2 15 rfl rfl)
theorem dX2_event_60 : decode cX2_event 60 = .ok (.aload_n 0, 1) := dk_42 (dk_at dksX2_event_2 16 rfl rfl)
theorem dX2_event_61 : decode cX2_event 61 = .ok (.iload_n 1, 1) := dk_27 (dk_at dksX2_event_2 17 rfl rfl)
theorem dX2_event_62 : decode cX2_event 62 = .ok (.invokevirtual 198, 3) := dk_182 0 198 (dk_at dksX2_event_2 18 rfl rfl)
theorem dX2_event_65 : decode cX2_event 65 = .ok (.ireturn, 1) := dk_172 (dk_at dksX2_event_2 21 rfl rfl)
theorem dX2_event_66 : decode cX2_event 66 = .ok (.aload_n 0, 1) := dk_42 (dk_at dksX2_event_2 22 rfl rfl)
theorem dX2_event_67 : decode cX2_event 67 = .ok (.getfield 82, 3) := dk_180 0 82 (dk_at dksX2_event_3 0 rfl rfl)
theorem dX2_event_70 : decode cX2_event 70 = .ok (.aload_n 0, 1) := dk_42 (dk_at dksX2_event_3 3 rfl rfl)
theorem dX2_event_71 : decode cX2_event 71 = .ok (.getfield 76, 3) := dk_180 0 76 (dk_at dksX2_event_3 4 rfl rfl)
theorem dX2_event_74 : decode cX2_event 74 = .ok (.iload_n 1, 1) := dk_27 (dk_at dksX2_event_3 7 rfl rfl)
theorem dX2_event_75 : decode cX2_event 75 = .ok (.iaload, 1) := dk_46 (dk_at dksX2_event_3 8 rfl rfl)
theorem dX2_event_76 : decode cX2_event 76 = .ok (.iaload, 1) := dk_46 (dk_at dksX2_event_3 9 rfl rfl)
theorem dX2_event_77 : decode cX2_event 77 = .ok (.istore_n 3, 1) := dk_62 (dk_at dksX2_event_3 10 rfl rfl)
theorem dX2_event_78 : decode cX2_event 78 = .ok (.aload_n 0, 1) := dk_42 (dk_at dksX2_event_3 11 rfl rfl)
theorem dX2_event_79 : decode cX2_event 79 = .ok (.getfield 76, 3) := dk_180 0 76 (dk_at dksX2_event_3 12 rfl rfl)
theorem dX2_event_82 : decode cX2_event 82 = .ok (.iload_n 1, 1) := dk_27 (dk_at dksX2_event_3 15 rfl rfl)
theorem dX2_event_83 : decode cX2_event 83 = .ok (.iaload, 1) := dk_46 (dk_at dksX2_event_3 16 rfl rfl)
theorem dX2_event_84 : decode cX2_event 84 = .ok (.istore 4, 2) := dk_54 4 (dk_at dksX2_event_3 17 rfl rfl)
theorem dX2_event_86 : decode cX2_event 86 = .ok (.iload 4, 2) := dk_21 4 (dk_at dksX2_event_3 19 rfl rfl)
theorem dX2_event_88 : decode cX2_event 88 = .ok (.aload_n 0, 1) := dk_42 (dk_at dksX2_event_3 21 rfl rfl)
theorem dX2_event_89 : decode cX2_event 89 = .ok (.getfield 76, 3) := dk_180 0 76 (dk_at dksX2_event_4 0 rfl rfl)
theorem dX2_event_92 : decode cX2_event 92 = .ok (.iload_n 1, 1) := dk_27 (dk_at dksX2_event_4 3 rfl rfl)
theorem dX2_event_93 : decode cX2_event 93 = .ok (.iconst 1, 1) := dk_4 (dk_at dksX2_event_4 4 rfl rfl)
theorem dX2_event_94 : decode cX2_event 94 = .ok (.iadd, 1) := dk_96 (dk_at dksX2_event_4 5 rfl rfl)
theorem dX2_event_95 : decode cX2_event 95 = .ok (.iaload, 1) := dk_46 (dk_at dksX2_event_4 6 rfl rfl)
theorem dX2_event_96 : decode cX2_event 96 = .ok (.if_icmp .ge 32, 3) := dk_162 0 32 (dk_at dksX2_event_4 7 rfl rfl)
theorem dX2_event_99 : decode cX2_event 99 = .ok (.aload_n 0, 1) := dk_42 (dk_at dksX2_event_4 10 rfl rfl)
theorem dX2_event_100 : decode cX2_event 100 = .ok (.getfield 82, 3) := dk_180 0 82 (dk_at dksX2_event_4 11 rfl rfl)
theorem dX2_event_103 : decode cX2_event 103 = .ok (.iload 4, 2) := dk_21 4 (dk_at dksX2_event_4 14 rfl rfl)
theorem dX2_event_105 : decode cX2_event 105 = .ok (.iaload, 1) := dk_46 (dk_at dksX2_event_4 16 rfl rfl)
theorem dX2_event_106 : decode cX2_event 106 = .ok (.iload_n 3, 1) := dk_29 (dk_at dksX2_event_4 17 rfl rfl)
theorem dX2_event_107 : decode cX2_event 107 = .ok (.if_icmp .le 13, 3) := dk_164 0 13 (dk_at dksX2_event_4 18 rfl rfl)
theorem dX2_event_110 : decode cX2_event 110 = .ok (.aload_n 0, 1) := dk_42 (dk_at dksX2_event_4 21 rfl rfl)
theorem dX2_event_111 : decode cX2_event 111 = .ok (.getfield 82, 3) := dk_180 0 82 (dk_at dksX2_event_5 0 rfl rfl)
theorem dX2_event_114 : decode cX2_event 114 = .ok (.iload 4, 2) := dk_21 4 (dk_at dksX2_event_5 3 rfl rfl)
theorem dX2_event_116 : decode cX2_event 116 = .ok (.iaload, 1) := dk_46 (dk_at dksX2_event_5 5 rfl rfl)
theorem dX2_event_117 : decode cX2_event 117 = .ok (.goto 4, 3) := dk_167 0 4 (dk_at dksX2_event_5 6 rfl rfl)
theorem dX2_event_120 : decode cX2_event 120 = .ok (.iload_n 3, 1) := dk_29 (dk_at dksX2_event_5 9 rfl rfl)
theorem dX2_event_121 : decode cX2_event 121 = .ok (.istore_n 3, 1) := dk_62 (dk_at dksX2_event_5 10 rfl rfl)
theorem dX2_event_122 : decode cX2_event 122 = .ok (.iinc 4 1, 3) := dk_132 4 1 (dk_at dksX2_event_5 11 rfl rfl)
theorem dX2_event_125 : decode cX2_event 125 = .ok (.goto (-39), 3) := dk_167 255 217 (dk_at dksX2_event_5 14 rfl rfl)
theorem dX2_event_128 : decode cX2_event 128 = .ok (.iload_n 3, 1) := dk_29 (dk_at dksX2_event_5 17 rfl rfl)
theorem dX2_event_129 : decode cX2_event 129 = .ok (.ireturn, 1) := dk_172 (dk_at dksX2_event_5 18 rfl rfl)
theorem dX2_event_130 : decode cX2_event 130 = .ok (.aload_n 0, 1) := dk_42 (dk_at dksX2_event_5 19 rfl rfl)
theorem dX2_event_131 : decode cX2_event 131 = .ok (.getfield 85, 3) := dk_180 0 85 (dk_at dksX2_event_5 20 rfl rfl)
theorem dX2_event_134 : decode cX2_event 134 = .ok (.iload_n 1, 1) := dk_27 (dk_at dksX2_event_5 23 rfl rfl)
theorem dX2_event_135 : decode cX2_event 135 = .ok (.iaload, 1) := dk_46 (dk_at dksX2_event_6 0 rfl rfl)
theorem dX2_event_136 : decode cX2_event 136 = .ok (.ireturn, 1) := dk_172 (dk_at dksX2_event_6 1 rfl rfl)
theorem dX2_event_137 : decode cX2_event 137 = .ok (.iconst 1, 1) := dk_4 (dk_at dksX2_event_6 2 rfl rfl)
theorem dX2_event_138 : decode cX2_event 138 = .ok (.istore 4, 2) := dk_54 4 (dk_at dksX2_event_6 3 rfl rfl)
theorem dX2_event_140 : decode cX2_event 140 = .ok (.aload_n 0, 1) := dk_42 (dk_at dksX2_event_6 5 rfl rfl)
theorem dX2_event_141 : decode cX2_event 141 = .ok (.getfield 76, 3) := dk_180 0 76 (dk_at dksX2_event_6 6 rfl rfl)
theorem dX2_event_144 : decode cX2_event 144 = .ok (.iload_n 1, 1) := dk_27 (dk_at dksX2_event_6 9 rfl rfl)
theorem dX2_event_145 : decode cX2_event 145 = .ok (.iaload, 1) := dk_46 (dk_at dksX2_event_6 10 rfl rfl)
theorem dX2_event_146 : decode cX2_event 146 = .ok (.istore 5, 2) := dk_54 5 (dk_at dksX2_event_6 11 rfl rfl)
theorem dX2_event_148 : decode cX2_event 148 = .ok (.iload 5, 2) := dk_21 5 (dk_at dksX2_event_6 13 rfl rfl)
theorem dX2_event_150 : decode cX2_event 150 = .ok (.aload_n 0, 1) := dk_42 (dk_at dksX2_event_6 15 rfl rfl)
theorem dX2_event_151 : decode cX2_event 151 = .ok (.getfield 76, 3) := dk_180 0 76 (dk_at dksX2_event_6 16 rfl rfl)
theorem dX2_event_154 : decode cX2_event 154 = .ok (.iload_n 1, 1) := dk_27 (dk_at dksX2_event_6 19 rfl rfl)
theorem dX2_event_155 : decode cX2_event 155 = .ok (.iconst 1, 1) := dk_4 (dk_at dksX2_event_6 20 rfl rfl)
theorem dX2_event_156 : decode cX2_event 156 = .ok (.iadd, 1) := dk_96 (dk_at dksX2_event_6 21 rfl rfl)
theorem dX2_event_157 : decode cX2_event 157 = .ok (.iaload, 1) := dk_46 (dk_at dksX2_event_6 22 rfl rfl)
theorem dX2_event_158 : decode cX2_event 158 = .ok (.if_icmp .ge 32, 3) := dk_162 0 32 (dk_at dksX2_event_7 0 rfl rfl)
theorem dX2_event_161 : decode cX2_event 161 = .ok (.aload_n 0, 1) := dk_42 (dk_at dksX2_event_7 3 rfl rfl)
theorem dX2_event_162 : decode cX2_event 162 = .ok (.aload_n 0, 1) := dk_42 (dk_at dksX2_event_7 4 rfl rfl)
theorem dX2_event_163 : decode cX2_event 163 = .ok (.getfield 79, 3) := dk_180 0 79 (dk_at dksX2_event_7 5 rfl rfl)
theorem dX2_event_166 : decode cX2_event 166 = .ok (.iload 5, 2) := dk_21 5 (dk_at dksX2_event_7 8 rfl rfl)
theorem dX2_event_168 : decode cX2_event 168 = .ok (.iaload, 1) := dk_46 (dk_at dksX2_event_7 10 rfl rfl)
theorem dX2_event_169 : decode cX2_event 169 = .ok (.invokevirtual 138, 3) := dk_182 0 138 (dk_at dksX2_event_7 11 rfl rfl)
theorem dX2_event_172 : decode cX2_event 172 = .ok (.iconst 2, 1) := dk_5 (dk_at dksX2_event_7 14 rfl rfl)
theorem dX2_event_173 : decode cX2_event 173 = .ok (.if_icmp .lt 7, 3) := dk_161 0 7 (dk_at dksX2_event_7 15 rfl rfl)
theorem dX2_event_176 : decode cX2_event 176 = .ok (.iconst 0, 1) := dk_3 (dk_at dksX2_event_7 18 rfl rfl)
theorem dX2_event_177 : decode cX2_event 177 = .ok (.goto 5, 3) := dk_167 0 5 (dk_at dksX2_event_7 19 rfl rfl)
theorem dX2_event_180 : decode cX2_event 180 = .ok (.iload 4, 2) := dk_21 4 (dk_at dksX2_event_7 22 rfl rfl)
theorem dX2_event_182 : decode cX2_event 182 = .ok (.istore 4, 2) := dk_54 4 (dk_at dksX2_event_8 0 rfl rfl)
theorem dX2_event_184 : decode cX2_event 184 = .ok (.iinc 5 1, 3) := dk_132 5 1 (dk_at dksX2_event_8 2 rfl rfl)
theorem dX2_event_187 : decode cX2_event 187 = .ok (.goto (-39), 3) := dk_167 255 217 (dk_at dksX2_event_8 5 rfl rfl)
theorem dX2_event_190 : decode cX2_event 190 = .ok (.iload 4, 2) := dk_21 4 (dk_at dksX2_event_8 8 rfl rfl)
theorem dX2_event_192 : decode cX2_event 192 = .ok (.ireturn, 1) := dk_172 (dk_at dksX2_event_8 10 rfl rfl)
theorem dX2_event_193 : decode cX2_event 193 = .ok (.bipush (-2), 2) := dk_16 254 (dk_at dksX2_event_8 11 rfl rfl)
theorem dX2_event_195 : decode cX2_event 195 = .ok (.ireturn, 1) := dk_172 (dk_at dksX2_event_8 13 rfl rfl)
abbrev cX2_leastTime : ByteArray := prog_13_method_36_code
def yX2_leastTime : MethodName := ⟨RX2, "leastTime", "(I)I"⟩
def dkwX2_leastTime_2 : List UInt8 := [167, 0, 4, 28, 61, 132, 3, 1, 167, 255, 220, 28, 172]
abbrev dktX2_leastTime_2 : List UInt8 := dkwX2_leastTime_2 ++ []
def dkwX2_leastTime_1 : List UInt8 := [27, 4, 96, 46, 162, 0, 30, 42, 180, 0, 82, 29, 46, 28, 162, 0, 12, 42, 180, 0, 82, 29, 46]
abbrev dktX2_leastTime_1 : List UInt8 := dkwX2_leastTime_1 ++ dktX2_leastTime_2
def dkwX2_leastTime_0 : List UInt8 := [42, 180, 0, 82, 42, 180, 0, 76, 27, 46, 46, 61, 42, 180, 0, 76, 27, 46, 62, 29, 42, 180, 0, 76]
abbrev dktX2_leastTime_0 : List UInt8 := dkwX2_leastTime_0 ++ dktX2_leastTime_1
theorem dksX2_leastTime_0 : cX2_leastTime.data.toList.drop 0 = dktX2_leastTime_0 := by decide +kernel
theorem dksX2_leastTime_1 : cX2_leastTime.data.toList.drop 24 = dktX2_leastTime_1 := dk_seg dksX2_leastTime_0 24 rfl rfl
theorem dksX2_leastTime_2 : cX2_leastTime.data.toList.drop 47 = dktX2_leastTime_2 := dk_seg dksX2_leastTime_1 23 rfl rfl
theorem dX2_leastTime_0 : decode cX2_leastTime 0 = .ok (.aload_n 0, 1) := dk_42 (dk_at dksX2_leastTime_0 0 rfl rfl)
theorem dX2_leastTime_1 : decode cX2_leastTime 1 = .ok (.getfield 82, 3) := dk_180 0 82 (dk_at dksX2_leastTime_0 1 rfl rfl)
theorem dX2_leastTime_4 : decode cX2_leastTime 4 = .ok (.aload_n 0, 1) := dk_42 (dk_at dksX2_leastTime_0 4 rfl rfl)
theorem dX2_leastTime_5 : decode cX2_leastTime 5 = .ok (.getfield 76, 3) := dk_180 0 76 (dk_at dksX2_leastTime_0 5 rfl rfl)
theorem dX2_leastTime_8 : decode cX2_leastTime 8 = .ok (.iload_n 1, 1) := dk_27 (dk_at dksX2_leastTime_0 8 rfl rfl)
theorem dX2_leastTime_9 : decode cX2_leastTime 9 = .ok (.iaload, 1) := dk_46 (dk_at dksX2_leastTime_0 9 rfl rfl)
theorem dX2_leastTime_10 : decode cX2_leastTime 10 = .ok (.iaload, 1) := dk_46 (dk_at dksX2_leastTime_0 10 rfl rfl)
theorem dX2_leastTime_11 : decode cX2_leastTime 11 = .ok (.istore_n 2, 1) := dk_61 (dk_at dksX2_leastTime_0 11 rfl rfl)
theorem dX2_leastTime_12 : decode cX2_leastTime 12 = .ok (.aload_n 0, 1) := dk_42 (dk_at dksX2_leastTime_0 12 rfl rfl)
theorem dX2_leastTime_13 : decode cX2_leastTime 13 = .ok (.getfield 76, 3) := dk_180 0 76 (dk_at dksX2_leastTime_0 13 rfl rfl)
theorem dX2_leastTime_16 : decode cX2_leastTime 16 = .ok (.iload_n 1, 1) := dk_27 (dk_at dksX2_leastTime_0 16 rfl rfl)
theorem dX2_leastTime_17 : decode cX2_leastTime 17 = .ok (.iaload, 1) := dk_46 (dk_at dksX2_leastTime_0 17 rfl rfl)
theorem dX2_leastTime_18 : decode cX2_leastTime 18 = .ok (.istore_n 3, 1) := dk_62 (dk_at dksX2_leastTime_0 18 rfl rfl)
theorem dX2_leastTime_19 : decode cX2_leastTime 19 = .ok (.iload_n 3, 1) := dk_29 (dk_at dksX2_leastTime_0 19 rfl rfl)
theorem dX2_leastTime_20 : decode cX2_leastTime 20 = .ok (.aload_n 0, 1) := dk_42 (dk_at dksX2_leastTime_0 20 rfl rfl)
theorem dX2_leastTime_21 : decode cX2_leastTime 21 = .ok (.getfield 76, 3) := dk_180 0 76 (dk_at dksX2_leastTime_0 21 rfl rfl)
theorem dX2_leastTime_24 : decode cX2_leastTime 24 = .ok (.iload_n 1, 1) := dk_27 (dk_at dksX2_leastTime_1 0 rfl rfl)
theorem dX2_leastTime_25 : decode cX2_leastTime 25 = .ok (.iconst 1, 1) := dk_4 (dk_at dksX2_leastTime_1 1 rfl rfl)
theorem dX2_leastTime_26 : decode cX2_leastTime 26 = .ok (.iadd, 1) := dk_96 (dk_at dksX2_leastTime_1 2 rfl rfl)
theorem dX2_leastTime_27 : decode cX2_leastTime 27 = .ok (.iaload, 1) := dk_46 (dk_at dksX2_leastTime_1 3 rfl rfl)
theorem dX2_leastTime_28 : decode cX2_leastTime 28 = .ok (.if_icmp .ge 30, 3) := dk_162 0 30 (dk_at dksX2_leastTime_1 4 rfl rfl)
theorem dX2_leastTime_31 : decode cX2_leastTime 31 = .ok (.aload_n 0, 1) := dk_42 (dk_at dksX2_leastTime_1 7 rfl rfl)
theorem dX2_leastTime_32 : decode cX2_leastTime 32 = .ok (.getfield 82, 3) := dk_180 0 82 (dk_at dksX2_leastTime_1 8 rfl rfl)
theorem dX2_leastTime_35 : decode cX2_leastTime 35 = .ok (.iload_n 3, 1) := dk_29 (dk_at dksX2_leastTime_1 11 rfl rfl)
theorem dX2_leastTime_36 : decode cX2_leastTime 36 = .ok (.iaload, 1) := dk_46 (dk_at dksX2_leastTime_1 12 rfl rfl)
theorem dX2_leastTime_37 : decode cX2_leastTime 37 = .ok (.iload_n 2, 1) := dk_28 (dk_at dksX2_leastTime_1 13 rfl rfl)
theorem dX2_leastTime_38 : decode cX2_leastTime 38 = .ok (.if_icmp .ge 12, 3) := dk_162 0 12 (dk_at dksX2_leastTime_1 14 rfl rfl)
theorem dX2_leastTime_41 : decode cX2_leastTime 41 = .ok (.aload_n 0, 1) := dk_42 (dk_at dksX2_leastTime_1 17 rfl rfl)
theorem dX2_leastTime_42 : decode cX2_leastTime 42 = .ok (.getfield 82, 3) := dk_180 0 82 (dk_at dksX2_leastTime_1 18 rfl rfl)
theorem dX2_leastTime_45 : decode cX2_leastTime 45 = .ok (.iload_n 3, 1) := dk_29 (dk_at dksX2_leastTime_1 21 rfl rfl)
theorem dX2_leastTime_46 : decode cX2_leastTime 46 = .ok (.iaload, 1) := dk_46 (dk_at dksX2_leastTime_1 22 rfl rfl)
theorem dX2_leastTime_47 : decode cX2_leastTime 47 = .ok (.goto 4, 3) := dk_167 0 4 (dk_at dksX2_leastTime_2 0 rfl rfl)
theorem dX2_leastTime_50 : decode cX2_leastTime 50 = .ok (.iload_n 2, 1) := dk_28 (dk_at dksX2_leastTime_2 3 rfl rfl)
theorem dX2_leastTime_51 : decode cX2_leastTime 51 = .ok (.istore_n 2, 1) := dk_61 (dk_at dksX2_leastTime_2 4 rfl rfl)
theorem dX2_leastTime_52 : decode cX2_leastTime 52 = .ok (.iinc 3 1, 3) := dk_132 3 1 (dk_at dksX2_leastTime_2 5 rfl rfl)
theorem dX2_leastTime_55 : decode cX2_leastTime 55 = .ok (.goto (-36), 3) := dk_167 255 220 (dk_at dksX2_leastTime_2 8 rfl rfl)
theorem dX2_leastTime_58 : decode cX2_leastTime 58 = .ok (.iload_n 2, 1) := dk_28 (dk_at dksX2_leastTime_2 11 rfl rfl)
theorem dX2_leastTime_59 : decode cX2_leastTime 59 = .ok (.ireturn, 1) := dk_172 (dk_at dksX2_leastTime_2 12 rfl rfl)
abbrev cX2_member : ByteArray := prog_13_method_39_code
def yX2_member : MethodName := ⟨RX2, "member", "(II)I"⟩
def dkwX2_member_1 : List UInt8 := [167, 0, 4, 2, 172]
abbrev dktX2_member_1 : List UInt8 := dkwX2_member_1 ++ []
def dkwX2_member_0 : List UInt8 := [42, 27, 28, 182, 0, 201, 153, 0, 19, 42, 180, 0, 79, 42, 180, 0, 76, 27, 46, 28, 96, 46]
abbrev dktX2_member_0 : List UInt8 := dkwX2_member_0 ++ dktX2_member_1
theorem dksX2_member_0 : cX2_member.data.toList.drop 0 = dktX2_member_0 := by decide +kernel
theorem dksX2_member_1 : cX2_member.data.toList.drop 22 = dktX2_member_1 := dk_seg dksX2_member_0 22 rfl rfl
theorem dX2_member_0 : decode cX2_member 0 = .ok (.aload_n 0, 1) := dk_42 (dk_at dksX2_member_0 0 rfl rfl)
theorem dX2_member_1 : decode cX2_member 1 = .ok (.iload_n 1, 1) := dk_27 (dk_at dksX2_member_0 1 rfl rfl)
theorem dX2_member_2 : decode cX2_member 2 = .ok (.iload_n 2, 1) := dk_28 (dk_at dksX2_member_0 2 rfl rfl)
theorem dX2_member_3 : decode cX2_member 3 = .ok (.invokevirtual 201, 3) := dk_182 0 201 (dk_at dksX2_member_0 3 rfl rfl)
theorem dX2_member_6 : decode cX2_member 6 = .ok (.ifCond .eq 19, 3) := dk_153 0 19 (dk_at dksX2_member_0 6 rfl rfl)
theorem dX2_member_9 : decode cX2_member 9 = .ok (.aload_n 0, 1) := dk_42 (dk_at dksX2_member_0 9 rfl rfl)
theorem dX2_member_10 : decode cX2_member 10 = .ok (.getfield 79, 3) := dk_180 0 79 (dk_at dksX2_member_0 10 rfl rfl)
theorem dX2_member_13 : decode cX2_member 13 = .ok (.aload_n 0, 1) := dk_42 (dk_at dksX2_member_0 13 rfl rfl)
theorem dX2_member_14 : decode cX2_member 14 = .ok (.getfield 76, 3) := dk_180 0 76 (dk_at dksX2_member_0 14 rfl rfl)
theorem dX2_member_17 : decode cX2_member 17 = .ok (.iload_n 1, 1) := dk_27 (dk_at dksX2_member_0 17 rfl rfl)
theorem dX2_member_18 : decode cX2_member 18 = .ok (.iaload, 1) := dk_46 (dk_at dksX2_member_0 18 rfl rfl)
theorem dX2_member_19 : decode cX2_member 19 = .ok (.iload_n 2, 1) := dk_28 (dk_at dksX2_member_0 19 rfl rfl)
theorem dX2_member_20 : decode cX2_member 20 = .ok (.iadd, 1) := dk_96 (dk_at dksX2_member_0 20 rfl rfl)
theorem dX2_member_21 : decode cX2_member 21 = .ok (.iaload, 1) := dk_46 (dk_at dksX2_member_0 21 rfl rfl)
theorem dX2_member_22 : decode cX2_member 22 = .ok (.goto 4, 3) := dk_167 0 4 (dk_at dksX2_member_1 0 rfl rfl)
theorem dX2_member_25 : decode cX2_member 25 = .ok (.iconst (-1), 1) := dk_2 (dk_at dksX2_member_1 3 rfl rfl)
theorem dX2_member_26 : decode cX2_member 26 = .ok (.ireturn, 1) := dk_172 (dk_at dksX2_member_1 4 rfl rfl)
abbrev cX2_isMember : ByteArray := prog_13_method_38_code
def yX2_isMember : MethodName := ⟨RX2, "isMember", "(II)Z"⟩
def dkwX2_isMember_1 : List UInt8 := [180, 0, 76, 27, 46, 100, 162, 0, 7, 4, 167, 0, 4, 3, 172]
abbrev dktX2_isMember_1 : List UInt8 := dkwX2_isMember_1 ++ []
def dkwX2_isMember_0 : List UInt8 := [42, 27, 182, 0, 195, 153, 0, 30, 28, 155, 0, 26, 28, 42, 180, 0, 76, 27, 4, 96, 46, 42]
abbrev dktX2_isMember_0 : List UInt8 := dkwX2_isMember_0 ++ dktX2_isMember_1
theorem dksX2_isMember_0 : cX2_isMember.data.toList.drop 0 = dktX2_isMember_0 := by decide +kernel
theorem dksX2_isMember_1 : cX2_isMember.data.toList.drop 22 = dktX2_isMember_1 := dk_seg dksX2_isMember_0 22 rfl rfl
theorem dX2_isMember_0 : decode cX2_isMember 0 = .ok (.aload_n 0, 1) := dk_42 (dk_at dksX2_isMember_0 0 rfl rfl)
theorem dX2_isMember_1 : decode cX2_isMember 1 = .ok (.iload_n 1, 1) := dk_27 (dk_at dksX2_isMember_0 1 rfl rfl)
theorem dX2_isMember_2 : decode cX2_isMember 2 = .ok (.invokevirtual 195, 3) := dk_182 0 195 (dk_at dksX2_isMember_0 2 rfl rfl)
theorem dX2_isMember_5 : decode cX2_isMember 5 = .ok (.ifCond .eq 30, 3) := dk_153 0 30 (dk_at dksX2_isMember_0 5 rfl rfl)
theorem dX2_isMember_8 : decode cX2_isMember 8 = .ok (.iload_n 2, 1) := dk_28 (dk_at dksX2_isMember_0 8 rfl rfl)
theorem dX2_isMember_9 : decode cX2_isMember 9 = .ok (.ifCond .lt 26, 3) := dk_155 0 26 (dk_at dksX2_isMember_0 9 rfl rfl)
theorem dX2_isMember_12 : decode cX2_isMember 12 = .ok (.iload_n 2, 1) := dk_28 (dk_at dksX2_isMember_0 12 rfl rfl)
theorem dX2_isMember_13 : decode cX2_isMember 13 = .ok (.aload_n 0, 1) := dk_42 (dk_at dksX2_isMember_0 13 rfl rfl)
theorem dX2_isMember_14 : decode cX2_isMember 14 = .ok (.getfield 76, 3) := dk_180 0 76 (dk_at dksX2_isMember_0 14 rfl rfl)
theorem dX2_isMember_17 : decode cX2_isMember 17 = .ok (.iload_n 1, 1) := dk_27 (dk_at dksX2_isMember_0 17 rfl rfl)
theorem dX2_isMember_18 : decode cX2_isMember 18 = .ok (.iconst 1, 1) := dk_4 (dk_at dksX2_isMember_0 18 rfl rfl)
theorem dX2_isMember_19 : decode cX2_isMember 19 = .ok (.iadd, 1) := dk_96 (dk_at dksX2_isMember_0 19 rfl rfl)
theorem dX2_isMember_20 : decode cX2_isMember 20 = .ok (.iaload, 1) := dk_46 (dk_at dksX2_isMember_0 20 rfl rfl)
theorem dX2_isMember_21 : decode cX2_isMember 21 = .ok (.aload_n 0, 1) := dk_42 (dk_at dksX2_isMember_0 21 rfl rfl)
theorem dX2_isMember_22 : decode cX2_isMember 22 = .ok (.getfield 76, 3) := dk_180 0 76 (dk_at dksX2_isMember_1 0 rfl rfl)
theorem dX2_isMember_25 : decode cX2_isMember 25 = .ok (.iload_n 1, 1) := dk_27 (dk_at dksX2_isMember_1 3 rfl rfl)
theorem dX2_isMember_26 : decode cX2_isMember 26 = .ok (.iaload, 1) := dk_46 (dk_at dksX2_isMember_1 4 rfl rfl)
theorem dX2_isMember_27 : decode cX2_isMember 27 = .ok (.isub, 1) := dk_100 (dk_at dksX2_isMember_1 5 rfl rfl)
theorem dX2_isMember_28 : decode cX2_isMember 28 = .ok (.if_icmp .ge 7, 3) := dk_162 0 7 (dk_at dksX2_isMember_1 6 rfl rfl)
theorem dX2_isMember_31 : decode cX2_isMember 31 = .ok (.iconst 1, 1) := dk_4 (dk_at dksX2_isMember_1 9 rfl rfl)
theorem dX2_isMember_32 : decode cX2_isMember 32 = .ok (.goto 4, 3) := dk_167 0 4 (dk_at dksX2_isMember_1 10 rfl rfl)
theorem dX2_isMember_35 : decode cX2_isMember 35 = .ok (.iconst 0, 1) := dk_3 (dk_at dksX2_isMember_1 13 rfl rfl)
theorem dX2_isMember_36 : decode cX2_isMember 36 = .ok (.ireturn, 1) := dk_172 (dk_at dksX2_isMember_1 14 rfl rfl)
abbrev cX2_front : ByteArray := prog_13_method_42_code
def yX2_front : MethodName := ⟨RX2, "front", "(II)J"⟩
def dkwX2_front_2 : List UInt8 := [42, 180, 0, 94, 28, 47, 173]
abbrev dktX2_front_2 : List UInt8 := dkwX2_front_2 ++ []
def dkwX2_front_1 : List UInt8 := [182, 0, 208, 28, 158, 0, 20, 42, 180, 0, 94, 3, 47, 9, 148, 154, 0, 9, 20, 0, 102, 167, 0, 9]
abbrev dktX2_front_1 : List UInt8 := dkwX2_front_1 ++ dktX2_front_2
def dkwX2_front_0 : List UInt8 := [42, 27, 182, 0, 195, 153, 0, 12, 28, 3, 6, 184, 0, 110, 154, 0, 7, 20, 0, 102, 173, 42, 27]
abbrev dktX2_front_0 : List UInt8 := dkwX2_front_0 ++ dktX2_front_1
theorem dksX2_front_0 : cX2_front.data.toList.drop 0 = dktX2_front_0 := by decide +kernel
theorem dksX2_front_1 : cX2_front.data.toList.drop 23 = dktX2_front_1 := dk_seg dksX2_front_0 23 rfl rfl
theorem dksX2_front_2 : cX2_front.data.toList.drop 47 = dktX2_front_2 := dk_seg dksX2_front_1 24 rfl rfl
theorem dX2_front_0 : decode cX2_front 0 = .ok (.aload_n 0, 1) := dk_42 (dk_at dksX2_front_0 0 rfl rfl)
theorem dX2_front_1 : decode cX2_front 1 = .ok (.iload_n 1, 1) := dk_27 (dk_at dksX2_front_0 1 rfl rfl)
theorem dX2_front_2 : decode cX2_front 2 = .ok (.invokevirtual 195, 3) := dk_182 0 195 (dk_at dksX2_front_0 2 rfl rfl)
theorem dX2_front_5 : decode cX2_front 5 = .ok (.ifCond .eq 12, 3) := dk_153 0 12 (dk_at dksX2_front_0 5 rfl rfl)
theorem dX2_front_8 : decode cX2_front 8 = .ok (.iload_n 2, 1) := dk_28 (dk_at dksX2_front_0 8 rfl rfl)
theorem dX2_front_9 : decode cX2_front 9 = .ok (.iconst 0, 1) := dk_3 (dk_at dksX2_front_0 9 rfl rfl)
theorem dX2_front_10 : decode cX2_front 10 = .ok (.iconst 3, 1) := dk_6 (dk_at dksX2_front_0 10 rfl rfl)
theorem dX2_front_11 : decode cX2_front 11 = .ok (.invokestatic 110, 3) := dk_184 0 110 (dk_at dksX2_front_0 11 rfl rfl)
theorem dX2_front_14 : decode cX2_front 14 = .ok (.ifCond .ne 7, 3) := dk_154 0 7 (dk_at dksX2_front_0 14 rfl rfl)
theorem dX2_front_17 : decode cX2_front 17 = .ok (.ldc2_w 102, 3) := dk_20 0 102 (dk_at dksX2_front_0 17 rfl rfl)
theorem dX2_front_20 : decode cX2_front 20 = .ok (.lreturn, 1) := dk_173 (dk_at dksX2_front_0 20 rfl rfl)
theorem dX2_front_21 : decode cX2_front 21 = .ok (.aload_n 0, 1) := dk_42 (dk_at dksX2_front_0 21 rfl rfl)
theorem dX2_front_22 : decode cX2_front 22 = .ok (.iload_n 1, 1) := dk_27 (dk_at dksX2_front_0 22 rfl rfl)
theorem dX2_front_23 : decode cX2_front 23 = .ok (.invokevirtual 208, 3) := dk_182 0 208 (dk_at dksX2_front_1 0 rfl rfl)
theorem dX2_front_26 : decode cX2_front 26 = .ok (.iload_n 2, 1) := dk_28 (dk_at dksX2_front_1 3 rfl rfl)
theorem dX2_front_27 : decode cX2_front 27 = .ok (.ifCond .le 20, 3) := dk_158 0 20 (dk_at dksX2_front_1 4 rfl rfl)
theorem dX2_front_30 : decode cX2_front 30 = .ok (.aload_n 0, 1) := dk_42 (dk_at dksX2_front_1 7 rfl rfl)
theorem dX2_front_31 : decode cX2_front 31 = .ok (.getfield 94, 3) := dk_180 0 94 (dk_at dksX2_front_1 8 rfl rfl)
theorem dX2_front_34 : decode cX2_front 34 = .ok (.iconst 0, 1) := dk_3 (dk_at dksX2_front_1 11 rfl rfl)
theorem dX2_front_35 : decode cX2_front 35 = .ok (.laload, 1) := dk_47 (dk_at dksX2_front_1 12 rfl rfl)
theorem dX2_front_36 : decode cX2_front 36 = .ok (.lconst 0, 1) := dk_9 (dk_at dksX2_front_1 13 rfl rfl)
theorem dX2_front_37 : decode cX2_front 37 = .ok (.lcmp, 1) := dk_148 (dk_at dksX2_front_1 14 rfl rfl)
theorem dX2_front_38 : decode cX2_front 38 = .ok (.ifCond .ne 9, 3) := dk_154 0 9 (dk_at dksX2_front_1 15 rfl rfl)
theorem dX2_front_41 : decode cX2_front 41 = .ok (.ldc2_w 102, 3) := dk_20 0 102 (dk_at dksX2_front_1 18 rfl rfl)
theorem dX2_front_44 : decode cX2_front 44 = .ok (.goto 9, 3) := dk_167 0 9 (dk_at dksX2_front_1 21 rfl rfl)
theorem dX2_front_47 : decode cX2_front 47 = .ok (.aload_n 0, 1) := dk_42 (dk_at dksX2_front_2 0 rfl rfl)
theorem dX2_front_48 : decode cX2_front 48 = .ok (.getfield 94, 3) := dk_180 0 94 (dk_at dksX2_front_2 1 rfl rfl)
theorem dX2_front_51 : decode cX2_front 51 = .ok (.iload_n 2, 1) := dk_28 (dk_at dksX2_front_2 4 rfl rfl)
theorem dX2_front_52 : decode cX2_front 52 = .ok (.laload, 1) := dk_47 (dk_at dksX2_front_2 5 rfl rfl)
theorem dX2_front_53 : decode cX2_front 53 = .ok (.lreturn, 1) := dk_173 (dk_at dksX2_front_2 6 rfl rfl)
abbrev cX2_makeFront : ByteArray := prog_13_method_41_code
def yX2_makeFront : MethodName := ⟨RX2, "makeFront", "(I)V"⟩
def dkwX2_makeFront_12 : List UInt8 := [22, 10, 22, 18, 184, 0, 204, 80, 177]
abbrev dktX2_makeFront_12 : List UInt8 := dkwX2_makeFront_12 ++ []
def dkwX2_makeFront_11 : List UInt8 := [22, 12, 184, 0, 204, 80, 42, 180, 0, 94, 6, 32, 22, 4, 22, 14, 22, 4, 22, 8, 22, 16, 22, 6]
abbrev dktX2_makeFront_11 : List UInt8 := dkwX2_makeFront_11 ++ dktX2_makeFront_12
def dkwX2_makeFront_10 : List UInt8 := [184, 0, 204, 80, 42, 180, 0, 94, 5, 32, 22, 14, 22, 6, 22, 4, 22, 16, 22, 10, 22, 6, 22, 18]
abbrev dktX2_makeFront_10 : List UInt8 := dkwX2_makeFront_10 ++ dktX2_makeFront_11
def dkwX2_makeFront_9 : List UInt8 := [80, 42, 180, 0, 94, 4, 22, 14, 22, 4, 22, 6, 22, 16, 22, 8, 22, 10, 22, 18, 22, 10, 22, 12]
abbrev dktX2_makeFront_9 : List UInt8 := dkwX2_makeFront_9 ++ dktX2_makeFront_10
def dkwX2_makeFront_8 : List UInt8 := [180, 0, 94, 3, 32, 22, 4, 22, 6, 22, 4, 22, 8, 22, 10, 22, 6, 22, 10, 22, 12, 184, 0, 204]
abbrev dktX2_makeFront_8 : List UInt8 := dkwX2_makeFront_8 ++ dktX2_makeFront_9
def dkwX2_makeFront_7 : List UInt8 := [22, 22, 105, 97, 55, 16, 22, 18, 22, 26, 22, 24, 105, 97, 55, 18, 132, 21, 1, 167, 255, 112, 42]
abbrev dktX2_makeFront_7 : List UInt8 := dkwX2_makeFront_7 ++ dktX2_makeFront_8
def dkwX2_makeFront_6 : List UInt8 := [97, 55, 10, 22, 12, 22, 24, 22, 24, 105, 97, 55, 12, 22, 14, 22, 26, 97, 55, 14, 22, 16, 22, 26]
abbrev dktX2_makeFront_6 : List UInt8 := dkwX2_makeFront_6 ++ dktX2_makeFront_7
def dkwX2_makeFront_5 : List UInt8 := [22, 6, 22, 24, 97, 55, 6, 22, 8, 22, 22, 22, 22, 105, 97, 55, 8, 22, 10, 22, 22, 22, 24, 105]
abbrev dktX2_makeFront_5 : List UInt8 := dkwX2_makeFront_5 ++ dktX2_makeFront_6
def dkwX2_makeFront_4 : List UInt8 := [180, 0, 82, 21, 21, 46, 21, 20, 100, 133, 55, 26, 32, 10, 97, 65, 22, 4, 22, 22, 97, 55, 4]
abbrev dktX2_makeFront_4 : List UInt8 := dkwX2_makeFront_4 ++ dktX2_makeFront_5
def dkwX2_makeFront_3 : List UInt8 := [55, 22, 42, 180, 0, 13, 42, 180, 0, 16, 42, 180, 0, 79, 21, 21, 46, 46, 46, 133, 55, 24, 42]
abbrev dktX2_makeFront_3 : List UInt8 := dkwX2_makeFront_3 ++ dktX2_makeFront_4
def dkwX2_makeFront_2 : List UInt8 := [4, 96, 46, 162, 0, 137, 42, 180, 0, 7, 42, 180, 0, 16, 42, 180, 0, 79, 21, 21, 46, 46, 46, 133]
abbrev dktX2_makeFront_2 : List UInt8 := dkwX2_makeFront_2 ++ dktX2_makeFront_3
def dkwX2_makeFront_1 : List UInt8 := [55, 18, 42, 27, 182, 0, 198, 54, 20, 42, 180, 0, 76, 27, 46, 54, 21, 21, 21, 42, 180, 0, 76, 27]
abbrev dktX2_makeFront_1 : List UInt8 := dkwX2_makeFront_1 ++ dktX2_makeFront_2
def dkwX2_makeFront_0 : List UInt8 := [9, 65, 9, 55, 4, 9, 55, 6, 9, 55, 8, 9, 55, 10, 9, 55, 12, 9, 55, 14, 9, 55, 16, 9]
abbrev dktX2_makeFront_0 : List UInt8 := dkwX2_makeFront_0 ++ dktX2_makeFront_1
theorem dksX2_makeFront_0 : cX2_makeFront.data.toList.drop 0 = dktX2_makeFront_0 := by decide +kernel
theorem dksX2_makeFront_1 : cX2_makeFront.data.toList.drop 24 = dktX2_makeFront_1 := dk_seg dksX2_makeFront_0 24 rfl rfl
theorem dksX2_makeFront_2 : cX2_makeFront.data.toList.drop 48 = dktX2_makeFront_2 := dk_seg dksX2_makeFront_1 24 rfl rfl
theorem dksX2_makeFront_3 : cX2_makeFront.data.toList.drop 72 = dktX2_makeFront_3 := dk_seg dksX2_makeFront_2 24 rfl rfl
theorem dksX2_makeFront_4 : cX2_makeFront.data.toList.drop 95 = dktX2_makeFront_4 := dk_seg dksX2_makeFront_3 23 rfl rfl
theorem dksX2_makeFront_5 : cX2_makeFront.data.toList.drop 118 = dktX2_makeFront_5 := dk_seg dksX2_makeFront_4 23 rfl rfl
theorem dksX2_makeFront_6 : cX2_makeFront.data.toList.drop 142 = dktX2_makeFront_6 := dk_seg dksX2_makeFront_5 24 rfl rfl
theorem dksX2_makeFront_7 : cX2_makeFront.data.toList.drop 166 = dktX2_makeFront_7 := dk_seg dksX2_makeFront_6 24 rfl rfl
theorem dksX2_makeFront_8 : cX2_makeFront.data.toList.drop 189 = dktX2_makeFront_8 := dk_seg dksX2_makeFront_7 23 rfl rfl
theorem dksX2_makeFront_9 : cX2_makeFront.data.toList.drop 213 = dktX2_makeFront_9 := dk_seg dksX2_makeFront_8 24 rfl rfl
theorem dksX2_makeFront_10 : cX2_makeFront.data.toList.drop 237 = dktX2_makeFront_10 := dk_seg dksX2_makeFront_9 24 rfl rfl
theorem dksX2_makeFront_11 : cX2_makeFront.data.toList.drop 261 = dktX2_makeFront_11 := dk_seg dksX2_makeFront_10 24 rfl rfl
theorem dksX2_makeFront_12 : cX2_makeFront.data.toList.drop 285 = dktX2_makeFront_12 := dk_seg dksX2_makeFront_11 24 rfl rfl
theorem dX2_makeFront_0 : decode cX2_makeFront 0 = .ok (.lconst 0, 1) := dk_9 (dk_at dksX2_makeFront_0 0 rfl rfl)
theorem dX2_makeFront_1 : decode cX2_makeFront 1 = .ok (.lstore_n 2, 1) := dk_65 (dk_at dksX2_makeFront_0 1 rfl rfl)
theorem dX2_makeFront_2 : decode cX2_makeFront 2 = .ok (.lconst 0, 1) := dk_9 (dk_at dksX2_makeFront_0 2 rfl rfl)
theorem dX2_makeFront_3 : decode cX2_makeFront 3 = .ok (.lstore 4, 2) := dk_55 4 (dk_at dksX2_makeFront_0 3 rfl rfl)
theorem dX2_makeFront_5 : decode cX2_makeFront 5 = .ok (.lconst 0, 1) := dk_9 (dk_at dksX2_makeFront_0 5 rfl rfl)
theorem dX2_makeFront_6 : decode cX2_makeFront 6 = .ok (.lstore 6, 2) := dk_55 6 (dk_at dksX2_makeFront_0 6 rfl rfl)
theorem dX2_makeFront_8 : decode cX2_makeFront 8 = .ok (.lconst 0, 1) := dk_9 (dk_at dksX2_makeFront_0 8 rfl rfl)
theorem dX2_makeFront_9 : decode cX2_makeFront 9 = .ok (.lstore 8, 2) := dk_55 8 (dk_at dksX2_makeFront_0 9 rfl rfl)
theorem dX2_makeFront_11 : decode cX2_makeFront 11 = .ok (.lconst 0, 1) := dk_9 (dk_at dksX2_makeFront_0 11 rfl rfl)
theorem dX2_makeFront_12 : decode cX2_makeFront 12 = .ok (.lstore 10, 2) := dk_55 10 (dk_at dksX2_makeFront_0 12 rfl rfl)
theorem dX2_makeFront_14 : decode cX2_makeFront 14 = .ok (.lconst 0, 1) := dk_9 (dk_at dksX2_makeFront_0 14 rfl rfl)
theorem dX2_makeFront_15 : decode cX2_makeFront 15 = .ok (.lstore 12, 2) := dk_55 12 (dk_at dksX2_makeFront_0 15 rfl rfl)
theorem dX2_makeFront_17 : decode cX2_makeFront 17 = .ok (.lconst 0, 1) := dk_9 (dk_at dksX2_makeFront_0 17 rfl rfl)
theorem dX2_makeFront_18 : decode cX2_makeFront 18 = .ok (.lstore 14, 2) := dk_55 14 (dk_at dksX2_makeFront_0 18 rfl rfl)
theorem dX2_makeFront_20 : decode cX2_makeFront 20 = .ok (.lconst 0, 1) := dk_9 (dk_at dksX2_makeFront_0 20 rfl rfl)
theorem dX2_makeFront_21 : decode cX2_makeFront 21 = .ok (.lstore 16, 2) := dk_55 16 (dk_at dksX2_makeFront_0 21 rfl rfl)
theorem dX2_makeFront_23 : decode cX2_makeFront 23 = .ok (.lconst 0, 1) := dk_9 (dk_at dksX2_makeFront_0 23 rfl rfl)
theorem dX2_makeFront_24 : decode cX2_makeFront 24 = .ok (.lstore 18, 2) := dk_55 18 (dk_at dksX2_makeFront_1 0 rfl rfl)
theorem dX2_makeFront_26 : decode cX2_makeFront 26 = .ok (.aload_n 0, 1) := dk_42 (dk_at dksX2_makeFront_1 2 rfl rfl)
theorem dX2_makeFront_27 : decode cX2_makeFront 27 = .ok (.iload_n 1, 1) := dk_27 (dk_at dksX2_makeFront_1 3 rfl rfl)
theorem dX2_makeFront_28 : decode cX2_makeFront 28 = .ok (.invokevirtual 198, 3) := dk_182 0 198 (dk_at dksX2_makeFront_1 4 rfl rfl)
theorem dX2_makeFront_31 : decode cX2_makeFront 31 = .ok (.istore 20, 2) := dk_54 20 (dk_at dksX2_makeFront_1 7 rfl rfl)
theorem dX2_makeFront_33 : decode cX2_makeFront 33 = .ok (.aload_n 0, 1) := dk_42 (dk_at dksX2_makeFront_1 9 rfl rfl)
theorem dX2_makeFront_34 : decode cX2_makeFront 34 = .ok (.getfield 76, 3) := dk_180 0 76 (dk_at dksX2_makeFront_1 10 rfl rfl)
theorem dX2_makeFront_37 : decode cX2_makeFront 37 = .ok (.iload_n 1, 1) := dk_27 (dk_at dksX2_makeFront_1 13 rfl rfl)
theorem dX2_makeFront_38 : decode cX2_makeFront 38 = .ok (.iaload, 1) := dk_46 (dk_at dksX2_makeFront_1 14 rfl rfl)
theorem dX2_makeFront_39 : decode cX2_makeFront 39 = .ok (.istore 21, 2) := dk_54 21 (dk_at dksX2_makeFront_1 15 rfl rfl)
theorem dX2_makeFront_41 : decode cX2_makeFront 41 = .ok (.iload 21, 2) := dk_21 21 (dk_at dksX2_makeFront_1 17 rfl rfl)
theorem dX2_makeFront_43 : decode cX2_makeFront 43 = .ok (.aload_n 0, 1) := dk_42 (dk_at dksX2_makeFront_1 19 rfl rfl)
theorem dX2_makeFront_44 : decode cX2_makeFront 44 = .ok (.getfield 76, 3) := dk_180 0 76 (dk_at dksX2_makeFront_1 20 rfl rfl)
theorem dX2_makeFront_47 : decode cX2_makeFront 47 = .ok (.iload_n 1, 1) := dk_27 (dk_at dksX2_makeFront_1 23 rfl rfl)
theorem dX2_makeFront_48 : decode cX2_makeFront 48 = .ok (.iconst 1, 1) := dk_4 (dk_at dksX2_makeFront_2 0 rfl rfl)
theorem dX2_makeFront_49 : decode cX2_makeFront 49 = .ok (.iadd, 1) := dk_96 (dk_at dksX2_makeFront_2 1 rfl rfl)
theorem dX2_makeFront_50 : decode cX2_makeFront 50 = .ok (.iaload, 1) := dk_46 (dk_at dksX2_makeFront_2 2 rfl rfl)
theorem dX2_makeFront_51 : decode cX2_makeFront 51 = .ok (.if_icmp .ge 137, 3) := dk_162 0 137 (dk_at dksX2_makeFront_2 3 rfl rfl)
theorem dX2_makeFront_54 : decode cX2_makeFront 54 = .ok (.aload_n 0, 1) := dk_42 (dk_at dksX2_makeFront_2 6 rfl rfl)
theorem dX2_makeFront_55 : decode cX2_makeFront 55 = .ok (.getfield 7, 3) := dk_180 0 7 (dk_at dksX2_makeFront_2 7 rfl rfl)
theorem dX2_makeFront_58 : decode cX2_makeFront 58 = .ok (.aload_n 0, 1) := dk_42 (dk_at dksX2_makeFront_2 10 rfl rfl)
theorem dX2_makeFront_59 : decode cX2_makeFront 59 = .ok (.getfield 16, 3) := dk_180 0 16 (dk_at dksX2_makeFront_2 11 rfl rfl)
theorem dX2_makeFront_62 : decode cX2_makeFront 62 = .ok (.aload_n 0, 1) := dk_42 (dk_at dksX2_makeFront_2 14 rfl rfl)
theorem dX2_makeFront_63 : decode cX2_makeFront 63 = .ok (.getfield 79, 3) := dk_180 0 79 (dk_at dksX2_makeFront_2 15 rfl rfl)
theorem dX2_makeFront_66 : decode cX2_makeFront 66 = .ok (.iload 21, 2) := dk_21 21 (dk_at dksX2_makeFront_2 18 rfl rfl)
theorem dX2_makeFront_68 : decode cX2_makeFront 68 = .ok (.iaload, 1) := dk_46 (dk_at dksX2_makeFront_2 20 rfl rfl)
theorem dX2_makeFront_69 : decode cX2_makeFront 69 = .ok (.iaload, 1) := dk_46 (dk_at dksX2_makeFront_2 21 rfl rfl)
theorem dX2_makeFront_70 : decode cX2_makeFront 70 = .ok (.iaload, 1) := dk_46 (dk_at dksX2_makeFront_2 22 rfl rfl)
theorem dX2_makeFront_71 : decode cX2_makeFront 71 = .ok (.i2l, 1) := dk_133 (dk_at dksX2_makeFront_2 23 rfl rfl)
theorem dX2_makeFront_72 : decode cX2_makeFront 72 = .ok (.lstore 22, 2) := dk_55 22 (dk_at dksX2_makeFront_3 0 rfl rfl)
theorem dX2_makeFront_74 : decode cX2_makeFront 74 = .ok (.aload_n 0, 1) := dk_42 (dk_at dksX2_makeFront_3 2 rfl rfl)
theorem dX2_makeFront_75 : decode cX2_makeFront 75 = .ok (.getfield 13, 3) := dk_180 0 13 (dk_at dksX2_makeFront_3 3 rfl rfl)
theorem dX2_makeFront_78 : decode cX2_makeFront 78 = .ok (.aload_n 0, 1) := dk_42 (dk_at dksX2_makeFront_3 6 rfl rfl)
theorem dX2_makeFront_79 : decode cX2_makeFront 79 = .ok (.getfield 16, 3) := dk_180 0 16 (dk_at dksX2_makeFront_3 7 rfl rfl)
theorem dX2_makeFront_82 : decode cX2_makeFront 82 = .ok (.aload_n 0, 1) := dk_42 (dk_at dksX2_makeFront_3 10 rfl rfl)
theorem dX2_makeFront_83 : decode cX2_makeFront 83 = .ok (.getfield 79, 3) := dk_180 0 79 (dk_at dksX2_makeFront_3 11 rfl rfl)
theorem dX2_makeFront_86 : decode cX2_makeFront 86 = .ok (.iload 21, 2) := dk_21 21 (dk_at dksX2_makeFront_3 14 rfl rfl)
theorem dX2_makeFront_88 : decode cX2_makeFront 88 = .ok (.iaload, 1) := dk_46 (dk_at dksX2_makeFront_3 16 rfl rfl)
theorem dX2_makeFront_89 : decode cX2_makeFront 89 = .ok (.iaload, 1) := dk_46 (dk_at dksX2_makeFront_3 17 rfl rfl)
theorem dX2_makeFront_90 : decode cX2_makeFront 90 = .ok (.iaload, 1) := dk_46 (dk_at dksX2_makeFront_3 18 rfl rfl)
theorem dX2_makeFront_91 : decode cX2_makeFront 91 = .ok (.i2l, 1) := dk_133 (dk_at dksX2_makeFront_3 19 rfl rfl)
theorem dX2_makeFront_92 : decode cX2_makeFront 92 = .ok (.lstore 24, 2) := dk_55 24 (dk_at dksX2_makeFront_3 20 rfl rfl)
theorem dX2_makeFront_94 : decode cX2_makeFront 94 = .ok (.aload_n 0, 1) := dk_42 (dk_at dksX2_makeFront_3 22 rfl rfl)
theorem dX2_makeFront_95 : decode cX2_makeFront 95 = .ok (.getfield 82, 3) := dk_180 0 82 (dk_at dksX2_makeFront_4 0 rfl rfl)
theorem dX2_makeFront_98 : decode cX2_makeFront 98 = .ok (.iload 21, 2) := dk_21 21 (dk_at dksX2_makeFront_4 3 rfl rfl)
theorem dX2_makeFront_100 : decode cX2_makeFront 100 = .ok (.iaload, 1) := dk_46 (dk_at dksX2_makeFront_4 5 rfl rfl)
theorem dX2_makeFront_101 : decode cX2_makeFront 101 = .ok (.iload 20, 2) := dk_21 20 (dk_at dksX2_makeFront_4 6 rfl rfl)
theorem dX2_makeFront_103 : decode cX2_makeFront 103 = .ok (.isub, 1) := dk_100 (dk_at dksX2_makeFront_4 8 rfl rfl)
theorem dX2_makeFront_104 : decode cX2_makeFront 104 = .ok (.i2l, 1) := dk_133 (dk_at dksX2_makeFront_4 9 rfl rfl)
theorem dX2_makeFront_105 : decode cX2_makeFront 105 = .ok (.lstore 26, 2) := dk_55 26 (dk_at dksX2_makeFront_4 10 rfl rfl)
theorem dX2_makeFront_107 : decode cX2_makeFront 107 = .ok (.lload_n 2, 1) := dk_32 (dk_at dksX2_makeFront_4 12 rfl rfl)
theorem dX2_makeFront_108 : decode cX2_makeFront 108 = .ok (.lconst 1, 1) := dk_10 (dk_at dksX2_makeFront_4 13 rfl rfl)
theorem dX2_makeFront_109 : decode cX2_makeFront 109 = .ok (.ladd, 1) := dk_97 (dk_at dksX2_makeFront_4 14 rfl rfl)
theorem dX2_makeFront_110 : decode cX2_makeFront 110 = .ok (.lstore_n 2, 1) := dk_65 (dk_at dksX2_makeFront_4 15 rfl rfl)
theorem dX2_makeFront_111 : decode cX2_makeFront 111 = .ok (.lload 4, 2) := dk_22 4 (dk_at dksX2_makeFront_4 16 rfl rfl)
theorem dX2_makeFront_113 : decode cX2_makeFront 113 = .ok (.lload 22, 2) := dk_22 22 (dk_at dksX2_makeFront_4 18 rfl rfl)
theorem dX2_makeFront_115 : decode cX2_makeFront 115 = .ok (.ladd, 1) := dk_97 (dk_at dksX2_makeFront_4 20 rfl rfl)
theorem dX2_makeFront_116 : decode cX2_makeFront 116 = .ok (.lstore 4, 2) := dk_55 4 (dk_at dksX2_makeFront_4 21 rfl rfl)
theorem dX2_makeFront_118 : decode cX2_makeFront 118 = .ok (.lload 6, 2) := dk_22 6 (dk_at dksX2_makeFront_5 0 rfl rfl)
theorem dX2_makeFront_120 : decode cX2_makeFront 120 = .ok (.lload 24, 2) := dk_22 24 (dk_at dksX2_makeFront_5 2 rfl rfl)
theorem dX2_makeFront_122 : decode cX2_makeFront 122 = .ok (.ladd, 1) := dk_97 (dk_at dksX2_makeFront_5 4 rfl rfl)
theorem dX2_makeFront_123 : decode cX2_makeFront 123 = .ok (.lstore 6, 2) := dk_55 6 (dk_at dksX2_makeFront_5 5 rfl rfl)
theorem dX2_makeFront_125 : decode cX2_makeFront 125 = .ok (.lload 8, 2) := dk_22 8 (dk_at dksX2_makeFront_5 7 rfl rfl)
theorem dX2_makeFront_127 : decode cX2_makeFront 127 = .ok (.lload 22, 2) := dk_22 22 (dk_at dksX2_makeFront_5 9 rfl rfl)
theorem dX2_makeFront_129 : decode cX2_makeFront 129 = .ok (.lload 22, 2) := dk_22 22 (dk_at dksX2_makeFront_5 11 rfl rfl)
theorem dX2_makeFront_131 : decode cX2_makeFront 131 = .ok (.lmul, 1) := dk_105 (dk_at dksX2_makeFront_5 13 rfl rfl)
theorem dX2_makeFront_132 : decode cX2_makeFront 132 = .ok (.ladd, 1) := dk_97 (dk_at dksX2_makeFront_5 14 rfl rfl)
theorem dX2_makeFront_133 : decode cX2_makeFront 133 = .ok (.lstore 8, 2) := dk_55 8 (dk_at dksX2_makeFront_5 15 rfl rfl)
theorem dX2_makeFront_135 : decode cX2_makeFront 135 = .ok (.lload 10, 2) := dk_22 10 (dk_at dksX2_makeFront_5 17 rfl rfl)
theorem dX2_makeFront_137 : decode cX2_makeFront 137 = .ok (.lload 22, 2) := dk_22 22 (dk_at dksX2_makeFront_5 19 rfl rfl)
theorem dX2_makeFront_139 : decode cX2_makeFront 139 = .ok (.lload 24, 2) := dk_22 24 (dk_at dksX2_makeFront_5 21 rfl rfl)
theorem dX2_makeFront_141 : decode cX2_makeFront 141 = .ok (.lmul, 1) := dk_105 (dk_at dksX2_makeFront_5 23 rfl rfl)
theorem dX2_makeFront_142 : decode cX2_makeFront 142 = .ok (.ladd, 1) := dk_97 (dk_at dksX2_makeFront_6 0 rfl rfl)
theorem dX2_makeFront_143 : decode cX2_makeFront 143 = .ok (.lstore 10, 2) := dk_55 10 (dk_at dksX2_makeFront_6 1 rfl rfl)
theorem dX2_makeFront_145 : decode cX2_makeFront 145 = .ok (.lload 12, 2) := dk_22 12 (dk_at dksX2_makeFront_6 3 rfl rfl)
theorem dX2_makeFront_147 : decode cX2_makeFront 147 = .ok (.lload 24, 2) := dk_22 24 (dk_at dksX2_makeFront_6 5 rfl rfl)
theorem dX2_makeFront_149 : decode cX2_makeFront 149 = .ok (.lload 24, 2) := dk_22 24 (dk_at dksX2_makeFront_6 7 rfl rfl)
theorem dX2_makeFront_151 : decode cX2_makeFront 151 = .ok (.lmul, 1) := dk_105 (dk_at dksX2_makeFront_6 9 rfl rfl)
theorem dX2_makeFront_152 : decode cX2_makeFront 152 = .ok (.ladd, 1) := dk_97 (dk_at dksX2_makeFront_6 10 rfl rfl)
theorem dX2_makeFront_153 : decode cX2_makeFront 153 = .ok (.lstore 12, 2) := dk_55 12 (dk_at dksX2_makeFront_6 11 rfl rfl)
theorem dX2_makeFront_155 : decode cX2_makeFront 155 = .ok (.lload 14, 2) := dk_22 14 (dk_at dksX2_makeFront_6 13 rfl rfl)
theorem dX2_makeFront_157 : decode cX2_makeFront 157 = .ok (.lload 26, 2) := dk_22 26 (dk_at dksX2_makeFront_6 15 rfl rfl)
theorem dX2_makeFront_159 : decode cX2_makeFront 159 = .ok (.ladd, 1) := dk_97 (dk_at dksX2_makeFront_6 17 rfl rfl)
theorem dX2_makeFront_160 : decode cX2_makeFront 160 = .ok (.lstore 14, 2) := dk_55 14 (dk_at dksX2_makeFront_6 18 rfl rfl)
theorem dX2_makeFront_162 : decode cX2_makeFront 162 = .ok (.lload 16, 2) := dk_22 16 (dk_at dksX2_makeFront_6 20 rfl rfl)
theorem dX2_makeFront_164 : decode cX2_makeFront 164 = .ok (.lload 26, 2) := dk_22 26 (dk_at dksX2_makeFront_6 22 rfl rfl)
theorem dX2_makeFront_166 : decode cX2_makeFront 166 = .ok (.lload 22, 2) := dk_22 22 (dk_at dksX2_makeFront_7 0 rfl rfl)
theorem dX2_makeFront_168 : decode cX2_makeFront 168 = .ok (.lmul, 1) := dk_105 (dk_at dksX2_makeFront_7 2 rfl rfl)
theorem dX2_makeFront_169 : decode cX2_makeFront 169 = .ok (.ladd, 1) := dk_97 (dk_at dksX2_makeFront_7 3 rfl rfl)
theorem dX2_makeFront_170 : decode cX2_makeFront 170 = .ok (.lstore 16, 2) := dk_55 16 (dk_at dksX2_makeFront_7 4 rfl rfl)
theorem dX2_makeFront_172 : decode cX2_makeFront 172 = .ok (.lload 18, 2) := dk_22 18 (dk_at dksX2_makeFront_7 6 rfl rfl)
theorem dX2_makeFront_174 : decode cX2_makeFront 174 = .ok (.lload 26, 2) := dk_22 26 (dk_at dksX2_makeFront_7 8 rfl rfl)
theorem dX2_makeFront_176 : decode cX2_makeFront 176 = .ok (.lload 24, 2) := dk_22 24 (dk_at dksX2_makeFront_7 10 rfl rfl)
theorem dX2_makeFront_178 : decode cX2_makeFront 178 = .ok (.lmul, 1) := dk_105 (dk_at dksX2_makeFront_7 12 rfl rfl)
theorem dX2_makeFront_179 : decode cX2_makeFront 179 = .ok (.ladd, 1) := dk_97 (dk_at dksX2_makeFront_7 13 rfl rfl)
theorem dX2_makeFront_180 : decode cX2_makeFront 180 = .ok (.lstore 18, 2) := dk_55 18 (dk_at dksX2_makeFront_7 14 rfl rfl)
theorem dX2_makeFront_182 : decode cX2_makeFront 182 = .ok (.iinc 21 1, 3) := dk_132 21 1 (dk_at dksX2_makeFront_7 16 rfl rfl)
theorem dX2_makeFront_185 : decode cX2_makeFront 185 = .ok (.goto (-144), 3) := dk_167 255 112 (dk_at dksX2_makeFront_7 19 rfl rfl)
theorem dX2_makeFront_188 : decode cX2_makeFront 188 = .ok (.aload_n 0, 1) := dk_42 (dk_at dksX2_makeFront_7 22 rfl rfl)
theorem dX2_makeFront_189 : decode cX2_makeFront 189 = .ok (.getfield 94, 3) := dk_180 0 94 (dk_at dksX2_makeFront_8 0 rfl rfl)
theorem dX2_makeFront_192 : decode cX2_makeFront 192 = .ok (.iconst 0, 1) := dk_3 (dk_at dksX2_makeFront_8 3 rfl rfl)
theorem dX2_makeFront_193 : decode cX2_makeFront 193 = .ok (.lload_n 2, 1) := dk_32 (dk_at dksX2_makeFront_8 4 rfl rfl)
theorem dX2_makeFront_194 : decode cX2_makeFront 194 = .ok (.lload 4, 2) := dk_22 4 (dk_at dksX2_makeFront_8 5 rfl rfl)
theorem dX2_makeFront_196 : decode cX2_makeFront 196 = .ok (.lload 6, 2) := dk_22 6 (dk_at dksX2_makeFront_8 7 rfl rfl)
theorem dX2_makeFront_198 : decode cX2_makeFront 198 = .ok (.lload 4, 2) := dk_22 4 (dk_at dksX2_makeFront_8 9 rfl rfl)
theorem dX2_makeFront_200 : decode cX2_makeFront 200 = .ok (.lload 8, 2) := dk_22 8 (dk_at dksX2_makeFront_8 11 rfl rfl)
theorem dX2_makeFront_202 : decode cX2_makeFront 202 = .ok (.lload 10, 2) := dk_22 10 (dk_at dksX2_makeFront_8 13 rfl rfl)
theorem dX2_makeFront_204 : decode cX2_makeFront 204 = .ok (.lload 6, 2) := dk_22 6 (dk_at dksX2_makeFront_8 15 rfl rfl)
theorem dX2_makeFront_206 : decode cX2_makeFront 206 = .ok (.lload 10, 2) := dk_22 10 (dk_at dksX2_makeFront_8 17 rfl rfl)
theorem dX2_makeFront_208 : decode cX2_makeFront 208 = .ok (.lload 12, 2) := dk_22 12 (dk_at dksX2_makeFront_8 19 rfl rfl)
theorem dX2_makeFront_210 : decode cX2_makeFront 210 = .ok (.invokestatic 204, 3) := dk_184 0 204 (dk_at dksX2_makeFront_8 21 rfl rfl)
theorem dX2_makeFront_213 : decode cX2_makeFront 213 = .ok (.lastore, 1) := dk_80 (dk_at dksX2_makeFront_9 0 rfl rfl)
theorem dX2_makeFront_214 : decode cX2_makeFront 214 = .ok (.aload_n 0, 1) := dk_42 (dk_at dksX2_makeFront_9 1 rfl rfl)
theorem dX2_makeFront_215 : decode cX2_makeFront 215 = .ok (.getfield 94, 3) := dk_180 0 94 (dk_at dksX2_makeFront_9 2 rfl rfl)
theorem dX2_makeFront_218 : decode cX2_makeFront 218 = .ok (.iconst 1, 1) := dk_4 (dk_at dksX2_makeFront_9 5 rfl rfl)
theorem dX2_makeFront_219 : decode cX2_makeFront 219 = .ok (.lload 14, 2) := dk_22 14 (dk_at dksX2_makeFront_9 6 rfl rfl)
theorem dX2_makeFront_221 : decode cX2_makeFront 221 = .ok (.lload 4, 2) := dk_22 4 (dk_at dksX2_makeFront_9 8 rfl rfl)
theorem dX2_makeFront_223 : decode cX2_makeFront 223 = .ok (.lload 6, 2) := dk_22 6 (dk_at dksX2_makeFront_9 10 rfl rfl)
theorem dX2_makeFront_225 : decode cX2_makeFront 225 = .ok (.lload 16, 2) := dk_22 16 (dk_at dksX2_makeFront_9 12 rfl rfl)
theorem dX2_makeFront_227 : decode cX2_makeFront 227 = .ok (.lload 8, 2) := dk_22 8 (dk_at dksX2_makeFront_9 14 rfl rfl)
theorem dX2_makeFront_229 : decode cX2_makeFront 229 = .ok (.lload 10, 2) := dk_22 10 (dk_at dksX2_makeFront_9 16 rfl rfl)
theorem dX2_makeFront_231 : decode cX2_makeFront 231 = .ok (.lload 18, 2) := dk_22 18 (dk_at dksX2_makeFront_9 18 rfl rfl)
theorem dX2_makeFront_233 : decode cX2_makeFront 233 = .ok (.lload 10, 2) := dk_22 10 (dk_at dksX2_makeFront_9 20 rfl rfl)
theorem dX2_makeFront_235 : decode cX2_makeFront 235 = .ok (.lload 12, 2) := dk_22 12 (dk_at dksX2_makeFront_9 22 rfl rfl)
theorem dX2_makeFront_237 : decode cX2_makeFront 237 = .ok (.invokestatic 204, 3) := dk_184 0 204 (dk_at dksX2_makeFront_10 0 rfl rfl)
theorem dX2_makeFront_240 : decode cX2_makeFront 240 = .ok (.lastore, 1) := dk_80 (dk_at dksX2_makeFront_10 3 rfl rfl)
theorem dX2_makeFront_241 : decode cX2_makeFront 241 = .ok (.aload_n 0, 1) := dk_42 (dk_at dksX2_makeFront_10 4 rfl rfl)
theorem dX2_makeFront_242 : decode cX2_makeFront 242 = .ok (.getfield 94, 3) := dk_180 0 94 (dk_at dksX2_makeFront_10 5 rfl rfl)
theorem dX2_makeFront_245 : decode cX2_makeFront 245 = .ok (.iconst 2, 1) := dk_5 (dk_at dksX2_makeFront_10 8 rfl rfl)
theorem dX2_makeFront_246 : decode cX2_makeFront 246 = .ok (.lload_n 2, 1) := dk_32 (dk_at dksX2_makeFront_10 9 rfl rfl)
theorem dX2_makeFront_247 : decode cX2_makeFront 247 = .ok (.lload 14, 2) := dk_22 14 (dk_at dksX2_makeFront_10 10 rfl rfl)
theorem dX2_makeFront_249 : decode cX2_makeFront 249 = .ok (.lload 6, 2) := dk_22 6 (dk_at dksX2_makeFront_10 12 rfl rfl)
theorem dX2_makeFront_251 : decode cX2_makeFront 251 = .ok (.lload 4, 2) := dk_22 4 (dk_at dksX2_makeFront_10 14 rfl rfl)
theorem dX2_makeFront_253 : decode cX2_makeFront 253 = .ok (.lload 16, 2) := dk_22 16 (dk_at dksX2_makeFront_10 16 rfl rfl)
theorem dX2_makeFront_255 : decode cX2_makeFront 255 = .ok (.lload 10, 2) := dk_22 10 (dk_at dksX2_makeFront_10 18 rfl rfl)
theorem dX2_makeFront_257 : decode cX2_makeFront 257 = .ok (.lload 6, 2) := dk_22 6 (dk_at dksX2_makeFront_10 20 rfl rfl)
theorem dX2_makeFront_259 : decode cX2_makeFront 259 = .ok (.lload 18, 2) := dk_22 18 (dk_at dksX2_makeFront_10 22 rfl rfl)
theorem dX2_makeFront_261 : decode cX2_makeFront 261 = .ok (.lload 12, 2) := dk_22 12 (dk_at dksX2_makeFront_11 0 rfl rfl)
theorem dX2_makeFront_263 : decode cX2_makeFront 263 = .ok (.invokestatic 204, 3) := dk_184 0 204 (dk_at dksX2_makeFront_11 2 rfl rfl)
theorem dX2_makeFront_266 : decode cX2_makeFront 266 = .ok (.lastore, 1) := dk_80 (dk_at dksX2_makeFront_11 5 rfl rfl)
theorem dX2_makeFront_267 : decode cX2_makeFront 267 = .ok (.aload_n 0, 1) := dk_42 (dk_at dksX2_makeFront_11 6 rfl rfl)
theorem dX2_makeFront_268 : decode cX2_makeFront 268 = .ok (.getfield 94, 3) := dk_180 0 94 (dk_at dksX2_makeFront_11 7 rfl rfl)
theorem dX2_makeFront_271 : decode cX2_makeFront 271 = .ok (.iconst 3, 1) := dk_6 (dk_at dksX2_makeFront_11 10 rfl rfl)
theorem dX2_makeFront_272 : decode cX2_makeFront 272 = .ok (.lload_n 2, 1) := dk_32 (dk_at dksX2_makeFront_11 11 rfl rfl)
theorem dX2_makeFront_273 : decode cX2_makeFront 273 = .ok (.lload 4, 2) := dk_22 4 (dk_at dksX2_makeFront_11 12 rfl rfl)
theorem dX2_makeFront_275 : decode cX2_makeFront 275 = .ok (.lload 14, 2) := dk_22 14 (dk_at dksX2_makeFront_11 14 rfl rfl)
theorem dX2_makeFront_277 : decode cX2_makeFront 277 = .ok (.lload 4, 2) := dk_22 4 (dk_at dksX2_makeFront_11 16 rfl rfl)
theorem dX2_makeFront_279 : decode cX2_makeFront 279 = .ok (.lload 8, 2) := dk_22 8 (dk_at dksX2_makeFront_11 18 rfl rfl)
theorem dX2_makeFront_281 : decode cX2_makeFront 281 = .ok (.lload 16, 2) := dk_22 16 (dk_at dksX2_makeFront_11 20 rfl rfl)
theorem dX2_makeFront_283 : decode cX2_makeFront 283 = .ok (.lload 6, 2) := dk_22 6 (dk_at dksX2_makeFront_11 22 rfl rfl)
theorem dX2_makeFront_285 : decode cX2_makeFront 285 = .ok (.lload 10, 2) := dk_22 10 (dk_at dksX2_makeFront_12 0 rfl rfl)
theorem dX2_makeFront_287 : decode cX2_makeFront 287 = .ok (.lload 18, 2) := dk_22 18 (dk_at dksX2_makeFront_12 2 rfl rfl)
theorem dX2_makeFront_289 : decode cX2_makeFront 289 = .ok (.invokestatic 204, 3) := dk_184 0 204 (dk_at dksX2_makeFront_12 4 rfl rfl)
theorem dX2_makeFront_292 : decode cX2_makeFront 292 = .ok (.lastore, 1) := dk_80 (dk_at dksX2_makeFront_12 7 rfl rfl)
theorem dX2_makeFront_293 : decode cX2_makeFront 293 = .ok (.return_, 1) := dk_177 (dk_at dksX2_makeFront_12 8 rfl rfl)
abbrev cX2_determinant : ByteArray := prog_13_method_40_code
def yX2_determinant : MethodName := ⟨RX2, "determinant", "(JJJJJJJJJ)J"⟩
def dkwX2_determinant_1 : List UInt8 := [101, 105, 101, 22, 4, 22, 6, 22, 14, 105, 22, 8, 22, 12, 105, 101, 105, 97, 173]
abbrev dktX2_determinant_1 : List UInt8 := dkwX2_determinant_1 ++ []
def dkwX2_determinant_0 : List UInt8 := [30, 22, 8, 22, 16, 105, 22, 10, 22, 14, 105, 101, 105, 32, 22, 6, 22, 16, 105, 22, 10, 22, 12, 105]
abbrev dktX2_determinant_0 : List UInt8 := dkwX2_determinant_0 ++ dktX2_determinant_1
theorem dksX2_determinant_0 : cX2_determinant.data.toList.drop 0 = dktX2_determinant_0 := by decide +kernel
theorem dksX2_determinant_1 : cX2_determinant.data.toList.drop 24 = dktX2_determinant_1 := dk_seg dksX2_determinant_0 24 rfl rfl
theorem dX2_determinant_0 : decode cX2_determinant 0 = .ok (.lload_n 0, 1) := dk_30 (dk_at dksX2_determinant_0 0 rfl rfl)
theorem dX2_determinant_1 : decode cX2_determinant 1 = .ok (.lload 8, 2) := dk_22 8 (dk_at dksX2_determinant_0 1 rfl rfl)
theorem dX2_determinant_3 : decode cX2_determinant 3 = .ok (.lload 16, 2) := dk_22 16 (dk_at dksX2_determinant_0 3 rfl rfl)
theorem dX2_determinant_5 : decode cX2_determinant 5 = .ok (.lmul, 1) := dk_105 (dk_at dksX2_determinant_0 5 rfl rfl)
theorem dX2_determinant_6 : decode cX2_determinant 6 = .ok (.lload 10, 2) := dk_22 10 (dk_at dksX2_determinant_0 6 rfl rfl)
theorem dX2_determinant_8 : decode cX2_determinant 8 = .ok (.lload 14, 2) := dk_22 14 (dk_at dksX2_determinant_0 8 rfl rfl)
theorem dX2_determinant_10 : decode cX2_determinant 10 = .ok (.lmul, 1) := dk_105 (dk_at dksX2_determinant_0 10 rfl rfl)
theorem dX2_determinant_11 : decode cX2_determinant 11 = .ok (.lsub, 1) := dk_101 (dk_at dksX2_determinant_0 11 rfl rfl)
theorem dX2_determinant_12 : decode cX2_determinant 12 = .ok (.lmul, 1) := dk_105 (dk_at dksX2_determinant_0 12 rfl rfl)
theorem dX2_determinant_13 : decode cX2_determinant 13 = .ok (.lload_n 2, 1) := dk_32 (dk_at dksX2_determinant_0 13 rfl rfl)
theorem dX2_determinant_14 : decode cX2_determinant 14 = .ok (.lload 6, 2) := dk_22 6 (dk_at dksX2_determinant_0 14 rfl rfl)
theorem dX2_determinant_16 : decode cX2_determinant 16 = .ok (.lload 16, 2) := dk_22 16 (dk_at dksX2_determinant_0 16 rfl rfl)
theorem dX2_determinant_18 : decode cX2_determinant 18 = .ok (.lmul, 1) := dk_105 (dk_at dksX2_determinant_0 18 rfl rfl)
theorem dX2_determinant_19 : decode cX2_determinant 19 = .ok (.lload 10, 2) := dk_22 10 (dk_at dksX2_determinant_0 19 rfl rfl)
theorem dX2_determinant_21 : decode cX2_determinant 21 = .ok (.lload 12, 2) := dk_22 12 (dk_at dksX2_determinant_0 21 rfl rfl)
theorem dX2_determinant_23 : decode cX2_determinant 23 = .ok (.lmul, 1) := dk_105 (dk_at dksX2_determinant_0 23 rfl rfl)
theorem dX2_determinant_24 : decode cX2_determinant 24 = .ok (.lsub, 1) := dk_101 (dk_at dksX2_determinant_1 0 rfl rfl)
theorem dX2_determinant_25 : decode cX2_determinant 25 = .ok (.lmul, 1) := dk_105 (dk_at dksX2_determinant_1 1 rfl rfl)
theorem dX2_determinant_26 : decode cX2_determinant 26 = .ok (.lsub, 1) := dk_101 (dk_at dksX2_determinant_1 2 rfl rfl)
theorem dX2_determinant_27 : decode cX2_determinant 27 = .ok (.lload 4, 2) := dk_22 4 (dk_at dksX2_determinant_1 3 rfl rfl)
theorem dX2_determinant_29 : decode cX2_determinant 29 = .ok (.lload 6, 2) := dk_22 6 (dk_at dksX2_determinant_1 5 rfl rfl)
theorem dX2_determinant_31 : decode cX2_determinant 31 = .ok (.lload 14, 2) := dk_22 14 (dk_at dksX2_determinant_1 7 rfl rfl)
theorem dX2_determinant_33 : decode cX2_determinant 33 = .ok (.lmul, 1) := dk_105 (dk_at dksX2_determinant_1 9 rfl rfl)
theorem dX2_determinant_34 : decode cX2_determinant 34 = .ok (.lload 8, 2) := dk_22 8 (dk_at dksX2_determinant_1 10 rfl rfl)
theorem dX2_determinant_36 : decode cX2_determinant 36 = .ok (.lload 12, 2) := dk_22 12 (dk_at dksX2_determinant_1 12 rfl rfl)
theorem dX2_determinant_38 : decode cX2_determinant 38 = .ok (.lmul, 1) := dk_105 (dk_at dksX2_determinant_1 14 rfl rfl)
theorem dX2_determinant_39 : decode cX2_determinant 39 = .ok (.lsub, 1) := dk_101 (dk_at dksX2_determinant_1 15 rfl rfl)
theorem dX2_determinant_40 : decode cX2_determinant 40 = .ok (.lmul, 1) := dk_105 (dk_at dksX2_determinant_1 16 rfl rfl)
theorem dX2_determinant_41 : decode cX2_determinant 41 = .ok (.ladd, 1) := dk_97 (dk_at dksX2_determinant_1 17 rfl rfl)
theorem dX2_determinant_42 : decode cX2_determinant 42 = .ok (.lreturn, 1) := dk_173 (dk_at dksX2_determinant_1 18 rfl rfl)
abbrev cX2_error : ByteArray := prog_13_method_44_code
def yX2_error : MethodName := ⟨RX2, "error", "(II)J"⟩
def dkwX2_error_1 : List UInt8 := [9, 148, 154, 0, 9, 20, 0, 102, 167, 0, 9, 42, 27, 28, 182, 0, 211, 173]
abbrev dktX2_error_1 : List UInt8 := dkwX2_error_1 ++ []
def dkwX2_error_0 : List UInt8 := [42, 27, 28, 182, 0, 201, 154, 0, 7, 20, 0, 102, 173, 42, 27, 182, 0, 208, 42, 180, 0, 94, 3, 47]
abbrev dktX2_error_0 : List UInt8 := dkwX2_error_0 ++ dktX2_error_1
theorem dksX2_error_0 : cX2_error.data.toList.drop 0 = dktX2_error_0 := by decide +kernel
theorem dksX2_error_1 : cX2_error.data.toList.drop 24 = dktX2_error_1 := dk_seg dksX2_error_0 24 rfl rfl
theorem dX2_error_0 : decode cX2_error 0 = .ok (.aload_n 0, 1) := dk_42 (dk_at dksX2_error_0 0 rfl rfl)
theorem dX2_error_1 : decode cX2_error 1 = .ok (.iload_n 1, 1) := dk_27 (dk_at dksX2_error_0 1 rfl rfl)
theorem dX2_error_2 : decode cX2_error 2 = .ok (.iload_n 2, 1) := dk_28 (dk_at dksX2_error_0 2 rfl rfl)
theorem dX2_error_3 : decode cX2_error 3 = .ok (.invokevirtual 201, 3) := dk_182 0 201 (dk_at dksX2_error_0 3 rfl rfl)
theorem dX2_error_6 : decode cX2_error 6 = .ok (.ifCond .ne 7, 3) := dk_154 0 7 (dk_at dksX2_error_0 6 rfl rfl)
theorem dX2_error_9 : decode cX2_error 9 = .ok (.ldc2_w 102, 3) := dk_20 0 102 (dk_at dksX2_error_0 9 rfl rfl)
theorem dX2_error_12 : decode cX2_error 12 = .ok (.lreturn, 1) := dk_173 (dk_at dksX2_error_0 12 rfl rfl)
theorem dX2_error_13 : decode cX2_error 13 = .ok (.aload_n 0, 1) := dk_42 (dk_at dksX2_error_0 13 rfl rfl)
theorem dX2_error_14 : decode cX2_error 14 = .ok (.iload_n 1, 1) := dk_27 (dk_at dksX2_error_0 14 rfl rfl)
theorem dX2_error_15 : decode cX2_error 15 = .ok (.invokevirtual 208, 3) := dk_182 0 208 (dk_at dksX2_error_0 15 rfl rfl)
theorem dX2_error_18 : decode cX2_error 18 = .ok (.aload_n 0, 1) := dk_42 (dk_at dksX2_error_0 18 rfl rfl)
theorem dX2_error_19 : decode cX2_error 19 = .ok (.getfield 94, 3) := dk_180 0 94 (dk_at dksX2_error_0 19 rfl rfl)
theorem dX2_error_22 : decode cX2_error 22 = .ok (.iconst 0, 1) := dk_3 (dk_at dksX2_error_0 22 rfl rfl)
theorem dX2_error_23 : decode cX2_error 23 = .ok (.laload, 1) := dk_47 (dk_at dksX2_error_0 23 rfl rfl)
theorem dX2_error_24 : decode cX2_error 24 = .ok (.lconst 0, 1) := dk_9 (dk_at dksX2_error_1 0 rfl rfl)
theorem dX2_error_25 : decode cX2_error 25 = .ok (.lcmp, 1) := dk_148 (dk_at dksX2_error_1 1 rfl rfl)
theorem dX2_error_26 : decode cX2_error 26 = .ok (.ifCond .ne 9, 3) := dk_154 0 9 (dk_at dksX2_error_1 2 rfl rfl)
theorem dX2_error_29 : decode cX2_error 29 = .ok (.ldc2_w 102, 3) := dk_20 0 102 (dk_at dksX2_error_1 5 rfl rfl)
theorem dX2_error_32 : decode cX2_error 32 = .ok (.goto 9, 3) := dk_167 0 9 (dk_at dksX2_error_1 8 rfl rfl)
theorem dX2_error_35 : decode cX2_error 35 = .ok (.aload_n 0, 1) := dk_42 (dk_at dksX2_error_1 11 rfl rfl)
theorem dX2_error_36 : decode cX2_error 36 = .ok (.iload_n 1, 1) := dk_27 (dk_at dksX2_error_1 12 rfl rfl)
theorem dX2_error_37 : decode cX2_error 37 = .ok (.iload_n 2, 1) := dk_28 (dk_at dksX2_error_1 13 rfl rfl)
theorem dX2_error_38 : decode cX2_error 38 = .ok (.invokevirtual 211, 3) := dk_182 0 211 (dk_at dksX2_error_1 14 rfl rfl)
theorem dX2_error_41 : decode cX2_error 41 = .ok (.lreturn, 1) := dk_173 (dk_at dksX2_error_1 17 rfl rfl)
abbrev cX2_errorOf : ByteArray := prog_13_method_43_code
def yX2_errorOf : MethodName := ⟨RX2, "errorOf", "(II)J"⟩
def dkwX2_errorOf_3 : List UInt8 := [180, 0, 13, 21, 4, 46, 133, 105, 97, 101, 173]
abbrev dktX2_errorOf_3 : List UInt8 := dkwX2_errorOf_3 ++ []
def dkwX2_errorOf_2 : List UInt8 := [47, 42, 180, 0, 94, 5, 47, 42, 180, 0, 7, 21, 4, 46, 133, 105, 97, 42, 180, 0, 94, 6, 47, 42]
abbrev dktX2_errorOf_2 : List UInt8 := dkwX2_errorOf_2 ++ dktX2_errorOf_3
def dkwX2_errorOf_1 : List UInt8 := [180, 0, 82, 29, 46, 42, 27, 182, 0, 198, 100, 133, 42, 180, 0, 94, 3, 47, 105, 42, 180, 0, 94, 4]
abbrev dktX2_errorOf_1 : List UInt8 := dkwX2_errorOf_1 ++ dktX2_errorOf_2
def dkwX2_errorOf_0 : List UInt8 := [42, 180, 0, 76, 27, 46, 28, 96, 62, 42, 180, 0, 16, 42, 180, 0, 79, 29, 46, 46, 54, 4, 42]
abbrev dktX2_errorOf_0 : List UInt8 := dkwX2_errorOf_0 ++ dktX2_errorOf_1
theorem dksX2_errorOf_0 : cX2_errorOf.data.toList.drop 0 = dktX2_errorOf_0 := by decide +kernel
theorem dksX2_errorOf_1 : cX2_errorOf.data.toList.drop 23 = dktX2_errorOf_1 := dk_seg dksX2_errorOf_0 23 rfl rfl
theorem dksX2_errorOf_2 : cX2_errorOf.data.toList.drop 47 = dktX2_errorOf_2 := dk_seg dksX2_errorOf_1 24 rfl rfl
theorem dksX2_errorOf_3 : cX2_errorOf.data.toList.drop 71 = dktX2_errorOf_3 := dk_seg dksX2_errorOf_2 24 rfl rfl
theorem dX2_errorOf_0 : decode cX2_errorOf 0 = .ok (.aload_n 0, 1) := dk_42 (dk_at dksX2_errorOf_0 0 rfl rfl)
theorem dX2_errorOf_1 : decode cX2_errorOf 1 = .ok (.getfield 76, 3) := dk_180 0 76 (dk_at dksX2_errorOf_0 1 rfl rfl)
theorem dX2_errorOf_4 : decode cX2_errorOf 4 = .ok (.iload_n 1, 1) := dk_27 (dk_at dksX2_errorOf_0 4 rfl rfl)
theorem dX2_errorOf_5 : decode cX2_errorOf 5 = .ok (.iaload, 1) := dk_46 (dk_at dksX2_errorOf_0 5 rfl rfl)
theorem dX2_errorOf_6 : decode cX2_errorOf 6 = .ok (.iload_n 2, 1) := dk_28 (dk_at dksX2_errorOf_0 6 rfl rfl)
theorem dX2_errorOf_7 : decode cX2_errorOf 7 = .ok (.iadd, 1) := dk_96 (dk_at dksX2_errorOf_0 7 rfl rfl)
theorem dX2_errorOf_8 : decode cX2_errorOf 8 = .ok (.istore_n 3, 1) := dk_62 (dk_at dksX2_errorOf_0 8 rfl rfl)
theorem dX2_errorOf_9 : decode cX2_errorOf 9 = .ok (.aload_n 0, 1) := dk_42 (dk_at dksX2_errorOf_0 9 rfl rfl)
theorem dX2_errorOf_10 : decode cX2_errorOf 10 = .ok (.getfield 16, 3) := dk_180 0 16 (dk_at dksX2_errorOf_0 10 rfl rfl)
theorem dX2_errorOf_13 : decode cX2_errorOf 13 = .ok (.aload_n 0, 1) := dk_42 (dk_at dksX2_errorOf_0 13 rfl rfl)
theorem dX2_errorOf_14 : decode cX2_errorOf 14 = .ok (.getfield 79, 3) := dk_180 0 79 (dk_at dksX2_errorOf_0 14 rfl rfl)
theorem dX2_errorOf_17 : decode cX2_errorOf 17 = .ok (.iload_n 3, 1) := dk_29 (dk_at dksX2_errorOf_0 17 rfl rfl)
theorem dX2_errorOf_18 : decode cX2_errorOf 18 = .ok (.iaload, 1) := dk_46 (dk_at dksX2_errorOf_0 18 rfl rfl)
theorem dX2_errorOf_19 : decode cX2_errorOf 19 = .ok (.iaload, 1) := dk_46 (dk_at dksX2_errorOf_0 19 rfl rfl)
theorem dX2_errorOf_20 : decode cX2_errorOf 20 = .ok (.istore 4, 2) := dk_54 4 (dk_at dksX2_errorOf_0 20 rfl rfl)
theorem dX2_errorOf_22 : decode cX2_errorOf 22 = .ok (.aload_n 0, 1) := dk_42 (dk_at dksX2_errorOf_0 22 rfl rfl)
theorem dX2_errorOf_23 : decode cX2_errorOf 23 = .ok (.getfield 82, 3) := dk_180 0 82 (dk_at dksX2_errorOf_1 0 rfl rfl)
theorem dX2_errorOf_26 : decode cX2_errorOf 26 = .ok (.iload_n 3, 1) := dk_29 (dk_at dksX2_errorOf_1 3 rfl rfl)
theorem dX2_errorOf_27 : decode cX2_errorOf 27 = .ok (.iaload, 1) := dk_46 (dk_at dksX2_errorOf_1 4 rfl rfl)
theorem dX2_errorOf_28 : decode cX2_errorOf 28 = .ok (.aload_n 0, 1) := dk_42 (dk_at dksX2_errorOf_1 5 rfl rfl)
theorem dX2_errorOf_29 : decode cX2_errorOf 29 = .ok (.iload_n 1, 1) := dk_27 (dk_at dksX2_errorOf_1 6 rfl rfl)
theorem dX2_errorOf_30 : decode cX2_errorOf 30 = .ok (.invokevirtual 198, 3) := dk_182 0 198 (dk_at dksX2_errorOf_1 7 rfl rfl)
theorem dX2_errorOf_33 : decode cX2_errorOf 33 = .ok (.isub, 1) := dk_100 (dk_at dksX2_errorOf_1 10 rfl rfl)
theorem dX2_errorOf_34 : decode cX2_errorOf 34 = .ok (.i2l, 1) := dk_133 (dk_at dksX2_errorOf_1 11 rfl rfl)
theorem dX2_errorOf_35 : decode cX2_errorOf 35 = .ok (.aload_n 0, 1) := dk_42 (dk_at dksX2_errorOf_1 12 rfl rfl)
theorem dX2_errorOf_36 : decode cX2_errorOf 36 = .ok (.getfield 94, 3) := dk_180 0 94 (dk_at dksX2_errorOf_1 13 rfl rfl)
theorem dX2_errorOf_39 : decode cX2_errorOf 39 = .ok (.iconst 0, 1) := dk_3 (dk_at dksX2_errorOf_1 16 rfl rfl)
theorem dX2_errorOf_40 : decode cX2_errorOf 40 = .ok (.laload, 1) := dk_47 (dk_at dksX2_errorOf_1 17 rfl rfl)
theorem dX2_errorOf_41 : decode cX2_errorOf 41 = .ok (.lmul, 1) := dk_105 (dk_at dksX2_errorOf_1 18 rfl rfl)
theorem dX2_errorOf_42 : decode cX2_errorOf 42 = .ok (.aload_n 0, 1) := dk_42 (dk_at dksX2_errorOf_1 19 rfl rfl)
theorem dX2_errorOf_43 : decode cX2_errorOf 43 = .ok (.getfield 94, 3) := dk_180 0 94 (dk_at dksX2_errorOf_1 20 rfl rfl)
theorem dX2_errorOf_46 : decode cX2_errorOf 46 = .ok (.iconst 1, 1) := dk_4 (dk_at dksX2_errorOf_1 23 rfl rfl)
theorem dX2_errorOf_47 : decode cX2_errorOf 47 = .ok (.laload, 1) := dk_47 (dk_at dksX2_errorOf_2 0 rfl rfl)
theorem dX2_errorOf_48 : decode cX2_errorOf 48 = .ok (.aload_n 0, 1) := dk_42 (dk_at dksX2_errorOf_2 1 rfl rfl)
theorem dX2_errorOf_49 : decode cX2_errorOf 49 = .ok (.getfield 94, 3) := dk_180 0 94 (dk_at dksX2_errorOf_2 2 rfl rfl)
theorem dX2_errorOf_52 : decode cX2_errorOf 52 = .ok (.iconst 2, 1) := dk_5 (dk_at dksX2_errorOf_2 5 rfl rfl)
theorem dX2_errorOf_53 : decode cX2_errorOf 53 = .ok (.laload, 1) := dk_47 (dk_at dksX2_errorOf_2 6 rfl rfl)
theorem dX2_errorOf_54 : decode cX2_errorOf 54 = .ok (.aload_n 0, 1) := dk_42 (dk_at dksX2_errorOf_2 7 rfl rfl)
theorem dX2_errorOf_55 : decode cX2_errorOf 55 = .ok (.getfield 7, 3) := dk_180 0 7 (dk_at dksX2_errorOf_2 8 rfl rfl)
theorem dX2_errorOf_58 : decode cX2_errorOf 58 = .ok (.iload 4, 2) := dk_21 4 (dk_at dksX2_errorOf_2 11 rfl rfl)
theorem dX2_errorOf_60 : decode cX2_errorOf 60 = .ok (.iaload, 1) := dk_46 (dk_at dksX2_errorOf_2 13 rfl rfl)
theorem dX2_errorOf_61 : decode cX2_errorOf 61 = .ok (.i2l, 1) := dk_133 (dk_at dksX2_errorOf_2 14 rfl rfl)
theorem dX2_errorOf_62 : decode cX2_errorOf 62 = .ok (.lmul, 1) := dk_105 (dk_at dksX2_errorOf_2 15 rfl rfl)
theorem dX2_errorOf_63 : decode cX2_errorOf 63 = .ok (.ladd, 1) := dk_97 (dk_at dksX2_errorOf_2 16 rfl rfl)
theorem dX2_errorOf_64 : decode cX2_errorOf 64 = .ok (.aload_n 0, 1) := dk_42 (dk_at dksX2_errorOf_2 17 rfl rfl)
theorem dX2_errorOf_65 : decode cX2_errorOf 65 = .ok (.getfield 94, 3) := dk_180 0 94 (dk_at dksX2_errorOf_2 18 rfl rfl)
theorem dX2_errorOf_68 : decode cX2_errorOf 68 = .ok (.iconst 3, 1) := dk_6 (dk_at dksX2_errorOf_2 21 rfl rfl)
theorem dX2_errorOf_69 : decode cX2_errorOf 69 = .ok (.laload, 1) := dk_47 (dk_at dksX2_errorOf_2 22 rfl rfl)
theorem dX2_errorOf_70 : decode cX2_errorOf 70 = .ok (.aload_n 0, 1) := dk_42 (dk_at dksX2_errorOf_2 23 rfl rfl)
theorem dX2_errorOf_71 : decode cX2_errorOf 71 = .ok (.getfield 13, 3) := dk_180 0 13 (dk_at dksX2_errorOf_3 0 rfl rfl)
theorem dX2_errorOf_74 : decode cX2_errorOf 74 = .ok (.iload 4, 2) := dk_21 4 (dk_at dksX2_errorOf_3 3 rfl rfl)
theorem dX2_errorOf_76 : decode cX2_errorOf 76 = .ok (.iaload, 1) := dk_46 (dk_at dksX2_errorOf_3 5 rfl rfl)
theorem dX2_errorOf_77 : decode cX2_errorOf 77 = .ok (.i2l, 1) := dk_133 (dk_at dksX2_errorOf_3 6 rfl rfl)
theorem dX2_errorOf_78 : decode cX2_errorOf 78 = .ok (.lmul, 1) := dk_105 (dk_at dksX2_errorOf_3 7 rfl rfl)
theorem dX2_errorOf_79 : decode cX2_errorOf 79 = .ok (.ladd, 1) := dk_97 (dk_at dksX2_errorOf_3 8 rfl rfl)
theorem dX2_errorOf_80 : decode cX2_errorOf 80 = .ok (.lsub, 1) := dk_101 (dk_at dksX2_errorOf_3 9 rfl rfl)
theorem dX2_errorOf_81 : decode cX2_errorOf 81 = .ok (.lreturn, 1) := dk_173 (dk_at dksX2_errorOf_3 10 rfl rfl)
abbrev cX2_worst : ByteArray := prog_13_method_45_code
def yX2_worst : MethodName := ⟨RX2, "worst", "(I)I"⟩
def dkwX2_worst_4 : List UInt8 := [21, 5, 61, 132, 5, 1, 167, 255, 194, 28, 172]
abbrev dktX2_worst_4 : List UInt8 := dkwX2_worst_4 ++ []
def dkwX2_worst_3 : List UInt8 := [156, 0, 9, 22, 6, 117, 167, 0, 5, 22, 6, 55, 6, 22, 6, 33, 148, 158, 0, 9, 22, 6, 66]
abbrev dktX2_worst_3 : List UInt8 := dkwX2_worst_3 ++ dktX2_worst_4
def dkwX2_worst_2 : List UInt8 := [46, 42, 180, 0, 76, 27, 46, 100, 162, 0, 48, 42, 27, 21, 5, 182, 0, 211, 55, 6, 22, 6, 9, 148]
abbrev dktX2_worst_2 : List UInt8 := dkwX2_worst_2 ++ dktX2_worst_3
def dkwX2_worst_1 : List UInt8 := [154, 0, 6, 16, 247, 172, 3, 61, 20, 0, 215, 66, 3, 54, 5, 21, 5, 42, 180, 0, 76, 27, 4, 96]
abbrev dktX2_worst_1 : List UInt8 := dkwX2_worst_1 ++ dktX2_worst_2
def dkwX2_worst_0 : List UInt8 := [42, 27, 182, 0, 195, 154, 0, 5, 2, 172, 42, 27, 182, 0, 208, 42, 180, 0, 94, 3, 47, 9, 148]
abbrev dktX2_worst_0 : List UInt8 := dkwX2_worst_0 ++ dktX2_worst_1
theorem dksX2_worst_0 : cX2_worst.data.toList.drop 0 = dktX2_worst_0 := by decide +kernel
theorem dksX2_worst_1 : cX2_worst.data.toList.drop 23 = dktX2_worst_1 := dk_seg dksX2_worst_0 23 rfl rfl
theorem dksX2_worst_2 : cX2_worst.data.toList.drop 47 = dktX2_worst_2 := dk_seg dksX2_worst_1 24 rfl rfl
theorem dksX2_worst_3 : cX2_worst.data.toList.drop 71 = dktX2_worst_3 := dk_seg dksX2_worst_2 24 rfl rfl
theorem dksX2_worst_4 : cX2_worst.data.toList.drop 94 = dktX2_worst_4 := dk_seg dksX2_worst_3 23 rfl rfl
theorem dX2_worst_0 : decode cX2_worst 0 = .ok (.aload_n 0, 1) := dk_42 (dk_at dksX2_worst_0 0 rfl rfl)
theorem dX2_worst_1 : decode cX2_worst 1 = .ok (.iload_n 1, 1) := dk_27 (dk_at dksX2_worst_0 1 rfl rfl)
theorem dX2_worst_2 : decode cX2_worst 2 = .ok (.invokevirtual 195, 3) := dk_182 0 195 (dk_at dksX2_worst_0 2 rfl rfl)
theorem dX2_worst_5 : decode cX2_worst 5 = .ok (.ifCond .ne 5, 3) := dk_154 0 5 (dk_at dksX2_worst_0 5 rfl rfl)
theorem dX2_worst_8 : decode cX2_worst 8 = .ok (.iconst (-1), 1) := dk_2 (dk_at dksX2_worst_0 8 rfl rfl)
theorem dX2_worst_9 : decode cX2_worst 9 = .ok (.ireturn, 1) := dk_172 (dk_at dksX2_worst_0 9 rfl rfl)
theorem dX2_worst_10 : decode cX2_worst 10 = .ok (.aload_n 0, 1) := dk_42 (dk_at dksX2_worst_0 10 rfl rfl)
theorem dX2_worst_11 : decode cX2_worst 11 = .ok (.iload_n 1, 1) := dk_27 (dk_at dksX2_worst_0 11 rfl rfl)
theorem dX2_worst_12 : decode cX2_worst 12 = .ok (.invokevirtual 208, 3) := dk_182 0 208 (dk_at dksX2_worst_0 12 rfl rfl)
theorem dX2_worst_15 : decode cX2_worst 15 = .ok (.aload_n 0, 1) := dk_42 (dk_at dksX2_worst_0 15 rfl rfl)
theorem dX2_worst_16 : decode cX2_worst 16 = .ok (.getfield 94, 3) := dk_180 0 94 (dk_at dksX2_worst_0 16 rfl rfl)
theorem dX2_worst_19 : decode cX2_worst 19 = .ok (.iconst 0, 1) := dk_3 (dk_at dksX2_worst_0 19 rfl rfl)
theorem dX2_worst_20 : decode cX2_worst 20 = .ok (.laload, 1) := dk_47 (dk_at dksX2_worst_0 20 rfl rfl)
theorem dX2_worst_21 : decode cX2_worst 21 = .ok (.lconst 0, 1) := dk_9 (dk_at dksX2_worst_0 21 rfl rfl)
theorem dX2_worst_22 : decode cX2_worst 22 = .ok (.lcmp, 1) := dk_148 (dk_at dksX2_worst_0 22 rfl rfl)
theorem dX2_worst_23 : decode cX2_worst 23 = .ok (.ifCond .ne 6, 3) := dk_154 0 6 (dk_at dksX2_worst_1 0 rfl rfl)
theorem dX2_worst_26 : decode cX2_worst 26 = .ok (.bipush (-9), 2) := dk_16 247 (dk_at dksX2_worst_1 3 rfl rfl)
theorem dX2_worst_28 : decode cX2_worst 28 = .ok (.ireturn, 1) := dk_172 (dk_at dksX2_worst_1 5 rfl rfl)
theorem dX2_worst_29 : decode cX2_worst 29 = .ok (.iconst 0, 1) := dk_3 (dk_at dksX2_worst_1 6 rfl rfl)
theorem dX2_worst_30 : decode cX2_worst 30 = .ok (.istore_n 2, 1) := dk_61 (dk_at dksX2_worst_1 7 rfl rfl)
theorem dX2_worst_31 : decode cX2_worst 31 = .ok (.ldc2_w 215, 3) := dk_20 0 215 (dk_at dksX2_worst_1 8 rfl rfl)
theorem dX2_worst_34 : decode cX2_worst 34 = .ok (.lstore_n 3, 1) := dk_66 (dk_at dksX2_worst_1 11 rfl rfl)
theorem dX2_worst_35 : decode cX2_worst 35 = .ok (.iconst 0, 1) := dk_3 (dk_at dksX2_worst_1 12 rfl rfl)
theorem dX2_worst_36 : decode cX2_worst 36 = .ok (.istore 5, 2) := dk_54 5 (dk_at dksX2_worst_1 13 rfl rfl)
theorem dX2_worst_38 : decode cX2_worst 38 = .ok (.iload 5, 2) := dk_21 5 (dk_at dksX2_worst_1 15 rfl rfl)
theorem dX2_worst_40 : decode cX2_worst 40 = .ok (.aload_n 0, 1) := dk_42 (dk_at dksX2_worst_1 17 rfl rfl)
theorem dX2_worst_41 : decode cX2_worst 41 = .ok (.getfield 76, 3) := dk_180 0 76 (dk_at dksX2_worst_1 18 rfl rfl)
theorem dX2_worst_44 : decode cX2_worst 44 = .ok (.iload_n 1, 1) := dk_27 (dk_at dksX2_worst_1 21 rfl rfl)
theorem dX2_worst_45 : decode cX2_worst 45 = .ok (.iconst 1, 1) := dk_4 (dk_at dksX2_worst_1 22 rfl rfl)
theorem dX2_worst_46 : decode cX2_worst 46 = .ok (.iadd, 1) := dk_96 (dk_at dksX2_worst_1 23 rfl rfl)
theorem dX2_worst_47 : decode cX2_worst 47 = .ok (.iaload, 1) := dk_46 (dk_at dksX2_worst_2 0 rfl rfl)
theorem dX2_worst_48 : decode cX2_worst 48 = .ok (.aload_n 0, 1) := dk_42 (dk_at dksX2_worst_2 1 rfl rfl)
theorem dX2_worst_49 : decode cX2_worst 49 = .ok (.getfield 76, 3) := dk_180 0 76 (dk_at dksX2_worst_2 2 rfl rfl)
theorem dX2_worst_52 : decode cX2_worst 52 = .ok (.iload_n 1, 1) := dk_27 (dk_at dksX2_worst_2 5 rfl rfl)
theorem dX2_worst_53 : decode cX2_worst 53 = .ok (.iaload, 1) := dk_46 (dk_at dksX2_worst_2 6 rfl rfl)
theorem dX2_worst_54 : decode cX2_worst 54 = .ok (.isub, 1) := dk_100 (dk_at dksX2_worst_2 7 rfl rfl)
theorem dX2_worst_55 : decode cX2_worst 55 = .ok (.if_icmp .ge 48, 3) := dk_162 0 48 (dk_at dksX2_worst_2 8 rfl rfl)
theorem dX2_worst_58 : decode cX2_worst 58 = .ok (.aload_n 0, 1) := dk_42 (dk_at dksX2_worst_2 11 rfl rfl)
theorem dX2_worst_59 : decode cX2_worst 59 = .ok (.iload_n 1, 1) := dk_27 (dk_at dksX2_worst_2 12 rfl rfl)
theorem dX2_worst_60 : decode cX2_worst 60 = .ok (.iload 5, 2) := dk_21 5 (dk_at dksX2_worst_2 13 rfl rfl)
theorem dX2_worst_62 : decode cX2_worst 62 = .ok (.invokevirtual 211, 3) := dk_182 0 211 (dk_at dksX2_worst_2 15 rfl rfl)
theorem dX2_worst_65 : decode cX2_worst 65 = .ok (.lstore 6, 2) := dk_55 6 (dk_at dksX2_worst_2 18 rfl rfl)
theorem dX2_worst_67 : decode cX2_worst 67 = .ok (.lload 6, 2) := dk_22 6 (dk_at dksX2_worst_2 20 rfl rfl)
theorem dX2_worst_69 : decode cX2_worst 69 = .ok (.lconst 0, 1) := dk_9 (dk_at dksX2_worst_2 22 rfl rfl)
theorem dX2_worst_70 : decode cX2_worst 70 = .ok (.lcmp, 1) := dk_148 (dk_at dksX2_worst_2 23 rfl rfl)
theorem dX2_worst_71 : decode cX2_worst 71 = .ok (.ifCond .ge 9, 3) := dk_156 0 9 (dk_at dksX2_worst_3 0 rfl rfl)
theorem dX2_worst_74 : decode cX2_worst 74 = .ok (.lload 6, 2) := dk_22 6 (dk_at dksX2_worst_3 3 rfl rfl)
theorem dX2_worst_76 : decode cX2_worst 76 = .ok (.lneg, 1) := dk_117 (dk_at dksX2_worst_3 5 rfl rfl)
theorem dX2_worst_77 : decode cX2_worst 77 = .ok (.goto 5, 3) := dk_167 0 5 (dk_at dksX2_worst_3 6 rfl rfl)
theorem dX2_worst_80 : decode cX2_worst 80 = .ok (.lload 6, 2) := dk_22 6 (dk_at dksX2_worst_3 9 rfl rfl)
theorem dX2_worst_82 : decode cX2_worst 82 = .ok (.lstore 6, 2) := dk_55 6 (dk_at dksX2_worst_3 11 rfl rfl)
theorem dX2_worst_84 : decode cX2_worst 84 = .ok (.lload 6, 2) := dk_22 6 (dk_at dksX2_worst_3 13 rfl rfl)
theorem dX2_worst_86 : decode cX2_worst 86 = .ok (.lload_n 3, 1) := dk_33 (dk_at dksX2_worst_3 15 rfl rfl)
theorem dX2_worst_87 : decode cX2_worst 87 = .ok (.lcmp, 1) := dk_148 (dk_at dksX2_worst_3 16 rfl rfl)
theorem dX2_worst_88 : decode cX2_worst 88 = .ok (.ifCond .le 9, 3) := dk_158 0 9 (dk_at dksX2_worst_3 17 rfl rfl)
theorem dX2_worst_91 : decode cX2_worst 91 = .ok (.lload 6, 2) := dk_22 6 (dk_at dksX2_worst_3 20 rfl rfl)
theorem dX2_worst_93 : decode cX2_worst 93 = .ok (.lstore_n 3, 1) := dk_66 (dk_at dksX2_worst_3 22 rfl rfl)
theorem dX2_worst_94 : decode cX2_worst 94 = .ok (.iload 5, 2) := dk_21 5 (dk_at dksX2_worst_4 0 rfl rfl)
theorem dX2_worst_96 : decode cX2_worst 96 = .ok (.istore_n 2, 1) := dk_61 (dk_at dksX2_worst_4 2 rfl rfl)
theorem dX2_worst_97 : decode cX2_worst 97 = .ok (.iinc 5 1, 3) := dk_132 5 1 (dk_at dksX2_worst_4 3 rfl rfl)
theorem dX2_worst_100 : decode cX2_worst 100 = .ok (.goto (-62), 3) := dk_167 255 194 (dk_at dksX2_worst_4 6 rfl rfl)
theorem dX2_worst_103 : decode cX2_worst 103 = .ok (.iload_n 2, 1) := dk_28 (dk_at dksX2_worst_4 9 rfl rfl)
theorem dX2_worst_104 : decode cX2_worst 104 = .ok (.ireturn, 1) := dk_172 (dk_at dksX2_worst_4 10 rfl rfl)
abbrev cX2_core : ByteArray := prog_13_method_46_code
def yX2_core : MethodName := ⟨RX2, "core", "(II)J"⟩
def dkwX2_core_4 : List UInt8 := [21, 6, 46, 46, 167, 0, 4, 4, 133, 105, 97, 66, 132, 5, 1, 167, 255, 179, 33, 173]
abbrev dktX2_core_4 : List UInt8 := dkwX2_core_4 ++ []
def dkwX2_core_3 : List UInt8 := [180, 0, 16, 21, 6, 46, 46, 167, 0, 24, 28, 4, 160, 0, 18, 42, 180, 0, 13, 42, 180, 0, 16]
abbrev dktX2_core_3 : List UInt8 := dkwX2_core_3 ++ dktX2_core_4
def dkwX2_core_2 : List UInt8 := [21, 5, 46, 54, 6, 33, 42, 21, 6, 182, 0, 157, 133, 28, 154, 0, 18, 42, 180, 0, 7, 42]
abbrev dktX2_core_2 : List UInt8 := dkwX2_core_2 ++ dktX2_core_3
def dkwX2_core_1 : List UInt8 := [180, 0, 76, 27, 46, 54, 5, 21, 5, 42, 180, 0, 76, 27, 4, 96, 46, 162, 0, 70, 42, 180, 0, 79]
abbrev dktX2_core_1 : List UInt8 := dkwX2_core_1 ++ dktX2_core_2
def dkwX2_core_0 : List UInt8 := [42, 27, 182, 0, 195, 153, 0, 12, 28, 3, 5, 184, 0, 110, 154, 0, 7, 20, 0, 102, 173, 9, 66, 42]
abbrev dktX2_core_0 : List UInt8 := dkwX2_core_0 ++ dktX2_core_1
theorem dksX2_core_0 : cX2_core.data.toList.drop 0 = dktX2_core_0 := by decide +kernel
theorem dksX2_core_1 : cX2_core.data.toList.drop 24 = dktX2_core_1 := dk_seg dksX2_core_0 24 rfl rfl
theorem dksX2_core_2 : cX2_core.data.toList.drop 48 = dktX2_core_2 := dk_seg dksX2_core_1 24 rfl rfl
theorem dksX2_core_3 : cX2_core.data.toList.drop 70 = dktX2_core_3 := dk_seg dksX2_core_2 22 rfl rfl
theorem dksX2_core_4 : cX2_core.data.toList.drop 93 = dktX2_core_4 := dk_seg dksX2_core_3 23 rfl rfl
theorem dX2_core_0 : decode cX2_core 0 = .ok (.aload_n 0, 1) := dk_42 (dk_at dksX2_core_0 0 rfl rfl)
theorem dX2_core_1 : decode cX2_core 1 = .ok (.iload_n 1, 1) := dk_27 (dk_at dksX2_core_0 1 rfl rfl)
theorem dX2_core_2 : decode cX2_core 2 = .ok (.invokevirtual 195, 3) := dk_182 0 195 (dk_at dksX2_core_0 2 rfl rfl)
theorem dX2_core_5 : decode cX2_core 5 = .ok (.ifCond .eq 12, 3) := dk_153 0 12 (dk_at dksX2_core_0 5 rfl rfl)
theorem dX2_core_8 : decode cX2_core 8 = .ok (.iload_n 2, 1) := dk_28 (dk_at dksX2_core_0 8 rfl rfl)
theorem dX2_core_9 : decode cX2_core 9 = .ok (.iconst 0, 1) := dk_3 (dk_at dksX2_core_0 9 rfl rfl)
theorem dX2_core_10 : decode cX2_core 10 = .ok (.iconst 2, 1) := dk_5 (dk_at dksX2_core_0 10 rfl rfl)
theorem dX2_core_11 : decode cX2_core 11 = .ok (.invokestatic 110, 3) := dk_184 0 110 (dk_at dksX2_core_0 11 rfl rfl)
theorem dX2_core_14 : decode cX2_core 14 = .ok (.ifCond .ne 7, 3) := dk_154 0 7 (dk_at dksX2_core_0 14 rfl rfl)
theorem dX2_core_17 : decode cX2_core 17 = .ok (.ldc2_w 102, 3) := dk_20 0 102 (dk_at dksX2_core_0 17 rfl rfl)
theorem dX2_core_20 : decode cX2_core 20 = .ok (.lreturn, 1) := dk_173 (dk_at dksX2_core_0 20 rfl rfl)
theorem dX2_core_21 : decode cX2_core 21 = .ok (.lconst 0, 1) := dk_9 (dk_at dksX2_core_0 21 rfl rfl)
theorem dX2_core_22 : decode cX2_core 22 = .ok (.lstore_n 3, 1) := dk_66 (dk_at dksX2_core_0 22 rfl rfl)
theorem dX2_core_23 : decode cX2_core 23 = .ok (.aload_n 0, 1) := dk_42 (dk_at dksX2_core_0 23 rfl rfl)
theorem dX2_core_24 : decode cX2_core 24 = .ok (.getfield 76, 3) := dk_180 0 76 (dk_at dksX2_core_1 0 rfl rfl)
theorem dX2_core_27 : decode cX2_core 27 = .ok (.iload_n 1, 1) := dk_27 (dk_at dksX2_core_1 3 rfl rfl)
theorem dX2_core_28 : decode cX2_core 28 = .ok (.iaload, 1) := dk_46 (dk_at dksX2_core_1 4 rfl rfl)
theorem dX2_core_29 : decode cX2_core 29 = .ok (.istore 5, 2) := dk_54 5 (dk_at dksX2_core_1 5 rfl rfl)
theorem dX2_core_31 : decode cX2_core 31 = .ok (.iload 5, 2) := dk_21 5 (dk_at dksX2_core_1 7 rfl rfl)
theorem dX2_core_33 : decode cX2_core 33 = .ok (.aload_n 0, 1) := dk_42 (dk_at dksX2_core_1 9 rfl rfl)
theorem dX2_core_34 : decode cX2_core 34 = .ok (.getfield 76, 3) := dk_180 0 76 (dk_at dksX2_core_1 10 rfl rfl)
theorem dX2_core_37 : decode cX2_core 37 = .ok (.iload_n 1, 1) := dk_27 (dk_at dksX2_core_1 13 rfl rfl)
theorem dX2_core_38 : decode cX2_core 38 = .ok (.iconst 1, 1) := dk_4 (dk_at dksX2_core_1 14 rfl rfl)
theorem dX2_core_39 : decode cX2_core 39 = .ok (.iadd, 1) := dk_96 (dk_at dksX2_core_1 15 rfl rfl)
theorem dX2_core_40 : decode cX2_core 40 = .ok (.iaload, 1) := dk_46 (dk_at dksX2_core_1 16 rfl rfl)
theorem dX2_core_41 : decode cX2_core 41 = .ok (.if_icmp .ge 70, 3) := dk_162 0 70 (dk_at dksX2_core_1 17 rfl rfl)
theorem dX2_core_44 : decode cX2_core 44 = .ok (.aload_n 0, 1) := dk_42 (dk_at dksX2_core_1 20 rfl rfl)
theorem dX2_core_45 : decode cX2_core 45 = .ok (.getfield 79, 3) := dk_180 0 79 (dk_at dksX2_core_1 21 rfl rfl)
theorem dX2_core_48 : decode cX2_core 48 = .ok (.iload 5, 2) := dk_21 5 (dk_at dksX2_core_2 0 rfl rfl)
theorem dX2_core_50 : decode cX2_core 50 = .ok (.iaload, 1) := dk_46 (dk_at dksX2_core_2 2 rfl rfl)
theorem dX2_core_51 : decode cX2_core 51 = .ok (.istore 6, 2) := dk_54 6 (dk_at dksX2_core_2 3 rfl rfl)
theorem dX2_core_53 : decode cX2_core 53 = .ok (.lload_n 3, 1) := dk_33 (dk_at dksX2_core_2 5 rfl rfl)
theorem dX2_core_54 : decode cX2_core 54 = .ok (.aload_n 0, 1) := dk_42 (dk_at dksX2_core_2 6 rfl rfl)
theorem dX2_core_55 : decode cX2_core 55 = .ok (.iload 6, 2) := dk_21 6 (dk_at dksX2_core_2 7 rfl rfl)
theorem dX2_core_57 : decode cX2_core 57 = .ok (.invokevirtual 157, 3) := dk_182 0 157 (dk_at dksX2_core_2 9 rfl rfl)
theorem dX2_core_60 : decode cX2_core 60 = .ok (.i2l, 1) := dk_133 (dk_at dksX2_core_2 12 rfl rfl)
theorem dX2_core_61 : decode cX2_core 61 = .ok (.iload_n 2, 1) := dk_28 (dk_at dksX2_core_2 13 rfl rfl)
theorem dX2_core_62 : decode cX2_core 62 = .ok (.ifCond .ne 18, 3) := dk_154 0 18 (dk_at dksX2_core_2 14 rfl rfl)
theorem dX2_core_65 : decode cX2_core 65 = .ok (.aload_n 0, 1) := dk_42 (dk_at dksX2_core_2 17 rfl rfl)
theorem dX2_core_66 : decode cX2_core 66 = .ok (.getfield 7, 3) := dk_180 0 7 (dk_at dksX2_core_2 18 rfl rfl)
theorem dX2_core_69 : decode cX2_core 69 = .ok (.aload_n 0, 1) := dk_42 (dk_at dksX2_core_2 21 rfl rfl)
theorem dX2_core_70 : decode cX2_core 70 = .ok (.getfield 16, 3) := dk_180 0 16 (dk_at dksX2_core_3 0 rfl rfl)
theorem dX2_core_73 : decode cX2_core 73 = .ok (.iload 6, 2) := dk_21 6 (dk_at dksX2_core_3 3 rfl rfl)
theorem dX2_core_75 : decode cX2_core 75 = .ok (.iaload, 1) := dk_46 (dk_at dksX2_core_3 5 rfl rfl)
theorem dX2_core_76 : decode cX2_core 76 = .ok (.iaload, 1) := dk_46 (dk_at dksX2_core_3 6 rfl rfl)
theorem dX2_core_77 : decode cX2_core 77 = .ok (.goto 24, 3) := dk_167 0 24 (dk_at dksX2_core_3 7 rfl rfl)
theorem dX2_core_80 : decode cX2_core 80 = .ok (.iload_n 2, 1) := dk_28 (dk_at dksX2_core_3 10 rfl rfl)
theorem dX2_core_81 : decode cX2_core 81 = .ok (.iconst 1, 1) := dk_4 (dk_at dksX2_core_3 11 rfl rfl)
theorem dX2_core_82 : decode cX2_core 82 = .ok (.if_icmp .ne 18, 3) := dk_160 0 18 (dk_at dksX2_core_3 12 rfl rfl)
theorem dX2_core_85 : decode cX2_core 85 = .ok (.aload_n 0, 1) := dk_42 (dk_at dksX2_core_3 15 rfl rfl)
theorem dX2_core_86 : decode cX2_core 86 = .ok (.getfield 13, 3) := dk_180 0 13 (dk_at dksX2_core_3 16 rfl rfl)
theorem dX2_core_89 : decode cX2_core 89 = .ok (.aload_n 0, 1) := dk_42 (dk_at dksX2_core_3 19 rfl rfl)
theorem dX2_core_90 : decode cX2_core 90 = .ok (.getfield 16, 3) := dk_180 0 16 (dk_at dksX2_core_3 20 rfl rfl)
theorem dX2_core_93 : decode cX2_core 93 = .ok (.iload 6, 2) := dk_21 6 (dk_at dksX2_core_4 0 rfl rfl)
theorem dX2_core_95 : decode cX2_core 95 = .ok (.iaload, 1) := dk_46 (dk_at dksX2_core_4 2 rfl rfl)
theorem dX2_core_96 : decode cX2_core 96 = .ok (.iaload, 1) := dk_46 (dk_at dksX2_core_4 3 rfl rfl)
theorem dX2_core_97 : decode cX2_core 97 = .ok (.goto 4, 3) := dk_167 0 4 (dk_at dksX2_core_4 4 rfl rfl)
theorem dX2_core_100 : decode cX2_core 100 = .ok (.iconst 1, 1) := dk_4 (dk_at dksX2_core_4 7 rfl rfl)
theorem dX2_core_101 : decode cX2_core 101 = .ok (.i2l, 1) := dk_133 (dk_at dksX2_core_4 8 rfl rfl)
theorem dX2_core_102 : decode cX2_core 102 = .ok (.lmul, 1) := dk_105 (dk_at dksX2_core_4 9 rfl rfl)
theorem dX2_core_103 : decode cX2_core 103 = .ok (.ladd, 1) := dk_97 (dk_at dksX2_core_4 10 rfl rfl)
theorem dX2_core_104 : decode cX2_core 104 = .ok (.lstore_n 3, 1) := dk_66 (dk_at dksX2_core_4 11 rfl rfl)
theorem dX2_core_105 : decode cX2_core 105 = .ok (.iinc 5 1, 3) := dk_132 5 1 (dk_at dksX2_core_4 12 rfl rfl)
theorem dX2_core_108 : decode cX2_core 108 = .ok (.goto (-77), 3) := dk_167 255 179 (dk_at dksX2_core_4 15 rfl rfl)
theorem dX2_core_111 : decode cX2_core 111 = .ok (.lload_n 3, 1) := dk_33 (dk_at dksX2_core_4 18 rfl rfl)
theorem dX2_core_112 : decode cX2_core 112 = .ok (.lreturn, 1) := dk_173 (dk_at dksX2_core_4 19 rfl rfl)
abbrev cX2_sheet : ByteArray := prog_13_method_47_code
def yX2_sheet : MethodName := ⟨RX2, "sheet", "(III)I"⟩
def dkwX2_sheet_3 : List UInt8 := [180, 0, 52, 16, 40, 27, 104, 21, 4, 96, 3, 79, 132, 4, 1, 167, 255, 233, 4, 172]
abbrev dktX2_sheet_3 : List UInt8 := dkwX2_sheet_3 ++ []
def dkwX2_sheet_2 : List UInt8 := [180, 0, 46, 27, 28, 79, 42, 180, 0, 49, 27, 29, 79, 3, 54, 4, 21, 4, 16, 40, 162, 0, 22, 42]
abbrev dktX2_sheet_2 : List UInt8 := dkwX2_sheet_2 ++ dktX2_sheet_3
def dkwX2_sheet_1 : List UInt8 := [153, 0, 9, 29, 16, 40, 164, 0, 6, 16, 254, 172, 29, 156, 0, 9, 42, 7, 182, 0, 126, 172, 42]
abbrev dktX2_sheet_1 : List UInt8 := dkwX2_sheet_1 ++ dktX2_sheet_2
def dkwX2_sheet_0 : List UInt8 := [42, 3, 181, 0, 98, 27, 3, 6, 184, 0, 110, 154, 0, 5, 2, 172, 28, 3, 5, 184, 0, 110]
abbrev dktX2_sheet_0 : List UInt8 := dkwX2_sheet_0 ++ dktX2_sheet_1
theorem dksX2_sheet_0 : cX2_sheet.data.toList.drop 0 = dktX2_sheet_0 := by decide +kernel
theorem dksX2_sheet_1 : cX2_sheet.data.toList.drop 22 = dktX2_sheet_1 := dk_seg dksX2_sheet_0 22 rfl rfl
theorem dksX2_sheet_2 : cX2_sheet.data.toList.drop 45 = dktX2_sheet_2 := dk_seg dksX2_sheet_1 23 rfl rfl
theorem dksX2_sheet_3 : cX2_sheet.data.toList.drop 69 = dktX2_sheet_3 := dk_seg dksX2_sheet_2 24 rfl rfl
theorem dX2_sheet_0 : decode cX2_sheet 0 = .ok (.aload_n 0, 1) := dk_42 (dk_at dksX2_sheet_0 0 rfl rfl)
theorem dX2_sheet_1 : decode cX2_sheet 1 = .ok (.iconst 0, 1) := dk_3 (dk_at dksX2_sheet_0 1 rfl rfl)
theorem dX2_sheet_2 : decode cX2_sheet 2 = .ok (.putfield 98, 3) := dk_181 0 98 (dk_at dksX2_sheet_0 2 rfl rfl)
theorem dX2_sheet_5 : decode cX2_sheet 5 = .ok (.iload_n 1, 1) := dk_27 (dk_at dksX2_sheet_0 5 rfl rfl)
theorem dX2_sheet_6 : decode cX2_sheet 6 = .ok (.iconst 0, 1) := dk_3 (dk_at dksX2_sheet_0 6 rfl rfl)
theorem dX2_sheet_7 : decode cX2_sheet 7 = .ok (.iconst 3, 1) := dk_6 (dk_at dksX2_sheet_0 7 rfl rfl)
theorem dX2_sheet_8 : decode cX2_sheet 8 = .ok (.invokestatic 110, 3) := dk_184 0 110 (dk_at dksX2_sheet_0 8 rfl rfl)
theorem dX2_sheet_11 : decode cX2_sheet 11 = .ok (.ifCond .ne 5, 3) := dk_154 0 5 (dk_at dksX2_sheet_0 11 rfl rfl)
theorem dX2_sheet_14 : decode cX2_sheet 14 = .ok (.iconst (-1), 1) := dk_2 (dk_at dksX2_sheet_0 14 rfl rfl)
theorem dX2_sheet_15 : decode cX2_sheet 15 = .ok (.ireturn, 1) := dk_172 (dk_at dksX2_sheet_0 15 rfl rfl)
theorem dX2_sheet_16 : decode cX2_sheet 16 = .ok (.iload_n 2, 1) := dk_28 (dk_at dksX2_sheet_0 16 rfl rfl)
theorem dX2_sheet_17 : decode cX2_sheet 17 = .ok (.iconst 0, 1) := dk_3 (dk_at dksX2_sheet_0 17 rfl rfl)
theorem dX2_sheet_18 : decode cX2_sheet 18 = .ok (.iconst 2, 1) := dk_5 (dk_at dksX2_sheet_0 18 rfl rfl)
theorem dX2_sheet_19 : decode cX2_sheet 19 = .ok (.invokestatic 110, 3) := dk_184 0 110 (dk_at dksX2_sheet_0 19 rfl rfl)
theorem dX2_sheet_22 : decode cX2_sheet 22 = .ok (.ifCond .eq 9, 3) := dk_153 0 9 (dk_at dksX2_sheet_1 0 rfl rfl)
theorem dX2_sheet_25 : decode cX2_sheet 25 = .ok (.iload_n 3, 1) := dk_29 (dk_at dksX2_sheet_1 3 rfl rfl)
theorem dX2_sheet_26 : decode cX2_sheet 26 = .ok (.bipush 40, 2) := dk_16 40 (dk_at dksX2_sheet_1 4 rfl rfl)
theorem dX2_sheet_28 : decode cX2_sheet 28 = .ok (.if_icmp .le 6, 3) := dk_164 0 6 (dk_at dksX2_sheet_1 6 rfl rfl)
theorem dX2_sheet_31 : decode cX2_sheet 31 = .ok (.bipush (-2), 2) := dk_16 254 (dk_at dksX2_sheet_1 9 rfl rfl)
theorem dX2_sheet_33 : decode cX2_sheet 33 = .ok (.ireturn, 1) := dk_172 (dk_at dksX2_sheet_1 11 rfl rfl)
theorem dX2_sheet_34 : decode cX2_sheet 34 = .ok (.iload_n 3, 1) := dk_29 (dk_at dksX2_sheet_1 12 rfl rfl)
theorem dX2_sheet_35 : decode cX2_sheet 35 = .ok (.ifCond .ge 9, 3) := dk_156 0 9 (dk_at dksX2_sheet_1 13 rfl rfl)
theorem dX2_sheet_38 : decode cX2_sheet 38 = .ok (.aload_n 0, 1) := dk_42 (dk_at dksX2_sheet_1 16 rfl rfl)
theorem dX2_sheet_39 : decode cX2_sheet 39 = .ok (.iconst 4, 1) := dk_7 (dk_at dksX2_sheet_1 17 rfl rfl)
theorem dX2_sheet_40 : decode cX2_sheet 40 = .ok (.invokevirtual 126, 3) := dk_182 0 126 (dk_at dksX2_sheet_1 18 rfl rfl)
theorem dX2_sheet_43 : decode cX2_sheet 43 = .ok (.ireturn, 1) := dk_172 (dk_at dksX2_sheet_1 21 rfl rfl)
theorem dX2_sheet_44 : decode cX2_sheet 44 = .ok (.aload_n 0, 1) := dk_42 (dk_at dksX2_sheet_1 22 rfl rfl)
theorem dX2_sheet_45 : decode cX2_sheet 45 = .ok (.getfield 46, 3) := dk_180 0 46 (dk_at dksX2_sheet_2 0 rfl rfl)
theorem dX2_sheet_48 : decode cX2_sheet 48 = .ok (.iload_n 1, 1) := dk_27 (dk_at dksX2_sheet_2 3 rfl rfl)
theorem dX2_sheet_49 : decode cX2_sheet 49 = .ok (.iload_n 2, 1) := dk_28 (dk_at dksX2_sheet_2 4 rfl rfl)
theorem dX2_sheet_50 : decode cX2_sheet 50 = .ok (.iastore, 1) := dk_79 (dk_at dksX2_sheet_2 5 rfl rfl)
theorem dX2_sheet_51 : decode cX2_sheet 51 = .ok (.aload_n 0, 1) := dk_42 (dk_at dksX2_sheet_2 6 rfl rfl)
theorem dX2_sheet_52 : decode cX2_sheet 52 = .ok (.getfield 49, 3) := dk_180 0 49 (dk_at dksX2_sheet_2 7 rfl rfl)
theorem dX2_sheet_55 : decode cX2_sheet 55 = .ok (.iload_n 1, 1) := dk_27 (dk_at dksX2_sheet_2 10 rfl rfl)
theorem dX2_sheet_56 : decode cX2_sheet 56 = .ok (.iload_n 3, 1) := dk_29 (dk_at dksX2_sheet_2 11 rfl rfl)
theorem dX2_sheet_57 : decode cX2_sheet 57 = .ok (.iastore, 1) := dk_79 (dk_at dksX2_sheet_2 12 rfl rfl)
theorem dX2_sheet_58 : decode cX2_sheet 58 = .ok (.iconst 0, 1) := dk_3 (dk_at dksX2_sheet_2 13 rfl rfl)
theorem dX2_sheet_59 : decode cX2_sheet 59 = .ok (.istore 4, 2) := dk_54 4 (dk_at dksX2_sheet_2 14 rfl rfl)
theorem dX2_sheet_61 : decode cX2_sheet 61 = .ok (.iload 4, 2) := dk_21 4 (dk_at dksX2_sheet_2 16 rfl rfl)
theorem dX2_sheet_63 : decode cX2_sheet 63 = .ok (.bipush 40, 2) := dk_16 40 (dk_at dksX2_sheet_2 18 rfl rfl)
theorem dX2_sheet_65 : decode cX2_sheet 65 = .ok (.if_icmp .ge 22, 3) := dk_162 0 22 (dk_at dksX2_sheet_2 20 rfl rfl)
theorem dX2_sheet_68 : decode cX2_sheet 68 = .ok (.aload_n 0, 1) := dk_42 (dk_at dksX2_sheet_2 23 rfl rfl)
theorem dX2_sheet_69 : decode cX2_sheet 69 = .ok (.getfield 52, 3) := dk_180 0 52 (dk_at dksX2_sheet_3 0 rfl rfl)
theorem dX2_sheet_72 : decode cX2_sheet 72 = .ok (.bipush 40, 2) := dk_16 40 (dk_at dksX2_sheet_3 3 rfl rfl)
theorem dX2_sheet_74 : decode cX2_sheet 74 = .ok (.iload_n 1, 1) := dk_27 (dk_at dksX2_sheet_3 5 rfl rfl)
theorem dX2_sheet_75 : decode cX2_sheet 75 = .ok (.imul, 1) := dk_104 (dk_at dksX2_sheet_3 6 rfl rfl)
theorem dX2_sheet_76 : decode cX2_sheet 76 = .ok (.iload 4, 2) := dk_21 4 (dk_at dksX2_sheet_3 7 rfl rfl)
theorem dX2_sheet_78 : decode cX2_sheet 78 = .ok (.iadd, 1) := dk_96 (dk_at dksX2_sheet_3 9 rfl rfl)
theorem dX2_sheet_79 : decode cX2_sheet 79 = .ok (.iconst 0, 1) := dk_3 (dk_at dksX2_sheet_3 10 rfl rfl)
theorem dX2_sheet_80 : decode cX2_sheet 80 = .ok (.iastore, 1) := dk_79 (dk_at dksX2_sheet_3 11 rfl rfl)
theorem dX2_sheet_81 : decode cX2_sheet 81 = .ok (.iinc 4 1, 3) := dk_132 4 1 (dk_at dksX2_sheet_3 12 rfl rfl)
theorem dX2_sheet_84 : decode cX2_sheet 84 = .ok (.goto (-23), 3) := dk_167 255 233 (dk_at dksX2_sheet_3 15 rfl rfl)
theorem dX2_sheet_87 : decode cX2_sheet 87 = .ok (.iconst 1, 1) := dk_4 (dk_at dksX2_sheet_3 18 rfl rfl)
theorem dX2_sheet_88 : decode cX2_sheet 88 = .ok (.ireturn, 1) := dk_172 (dk_at dksX2_sheet_3 19 rfl rfl)
abbrev cX2_drop : ByteArray := prog_13_method_48_code
def yX2_drop : MethodName := ⟨RX2, "drop", "(I)I"⟩
def dkwX2_drop_1 : List UInt8 := [167, 0, 4, 4, 61, 42, 180, 0, 46, 27, 16, 247, 79, 28, 172]
abbrev dktX2_drop_1 : List UInt8 := dkwX2_drop_1 ++ []
def dkwX2_drop_0 : List UInt8 := [27, 3, 6, 184, 0, 110, 154, 0, 5, 2, 172, 42, 180, 0, 46, 27, 46, 16, 247, 160, 0, 7, 3]
abbrev dktX2_drop_0 : List UInt8 := dkwX2_drop_0 ++ dktX2_drop_1
theorem dksX2_drop_0 : cX2_drop.data.toList.drop 0 = dktX2_drop_0 := by decide +kernel
theorem dksX2_drop_1 : cX2_drop.data.toList.drop 23 = dktX2_drop_1 := dk_seg dksX2_drop_0 23 rfl rfl
theorem dX2_drop_0 : decode cX2_drop 0 = .ok (.iload_n 1, 1) := dk_27 (dk_at dksX2_drop_0 0 rfl rfl)
theorem dX2_drop_1 : decode cX2_drop 1 = .ok (.iconst 0, 1) := dk_3 (dk_at dksX2_drop_0 1 rfl rfl)
theorem dX2_drop_2 : decode cX2_drop 2 = .ok (.iconst 3, 1) := dk_6 (dk_at dksX2_drop_0 2 rfl rfl)
theorem dX2_drop_3 : decode cX2_drop 3 = .ok (.invokestatic 110, 3) := dk_184 0 110 (dk_at dksX2_drop_0 3 rfl rfl)
theorem dX2_drop_6 : decode cX2_drop 6 = .ok (.ifCond .ne 5, 3) := dk_154 0 5 (dk_at dksX2_drop_0 6 rfl rfl)
theorem dX2_drop_9 : decode cX2_drop 9 = .ok (.iconst (-1), 1) := dk_2 (dk_at dksX2_drop_0 9 rfl rfl)
theorem dX2_drop_10 : decode cX2_drop 10 = .ok (.ireturn, 1) := dk_172 (dk_at dksX2_drop_0 10 rfl rfl)
theorem dX2_drop_11 : decode cX2_drop 11 = .ok (.aload_n 0, 1) := dk_42 (dk_at dksX2_drop_0 11 rfl rfl)
theorem dX2_drop_12 : decode cX2_drop 12 = .ok (.getfield 46, 3) := dk_180 0 46 (dk_at dksX2_drop_0 12 rfl rfl)
theorem dX2_drop_15 : decode cX2_drop 15 = .ok (.iload_n 1, 1) := dk_27 (dk_at dksX2_drop_0 15 rfl rfl)
theorem dX2_drop_16 : decode cX2_drop 16 = .ok (.iaload, 1) := dk_46 (dk_at dksX2_drop_0 16 rfl rfl)
theorem dX2_drop_17 : decode cX2_drop 17 = .ok (.bipush (-9), 2) := dk_16 247 (dk_at dksX2_drop_0 17 rfl rfl)
theorem dX2_drop_19 : decode cX2_drop 19 = .ok (.if_icmp .ne 7, 3) := dk_160 0 7 (dk_at dksX2_drop_0 19 rfl rfl)
theorem dX2_drop_22 : decode cX2_drop 22 = .ok (.iconst 0, 1) := dk_3 (dk_at dksX2_drop_0 22 rfl rfl)
theorem dX2_drop_23 : decode cX2_drop 23 = .ok (.goto 4, 3) := dk_167 0 4 (dk_at dksX2_drop_1 0 rfl rfl)
theorem dX2_drop_26 : decode cX2_drop 26 = .ok (.iconst 1, 1) := dk_4 (dk_at dksX2_drop_1 3 rfl rfl)
theorem dX2_drop_27 : decode cX2_drop 27 = .ok (.istore_n 2, 1) := dk_61 (dk_at dksX2_drop_1 4 rfl rfl)
theorem dX2_drop_28 : decode cX2_drop 28 = .ok (.aload_n 0, 1) := dk_42 (dk_at dksX2_drop_1 5 rfl rfl)
theorem dX2_drop_29 : decode cX2_drop 29 = .ok (.getfield 46, 3) := dk_180 0 46 (dk_at dksX2_drop_1 6 rfl rfl)
theorem dX2_drop_32 : decode cX2_drop 32 = .ok (.iload_n 1, 1) := dk_27 (dk_at dksX2_drop_1 9 rfl rfl)
theorem dX2_drop_33 : decode cX2_drop 33 = .ok (.bipush (-9), 2) := dk_16 247 (dk_at dksX2_drop_1 10 rfl rfl)
theorem dX2_drop_35 : decode cX2_drop 35 = .ok (.iastore, 1) := dk_79 (dk_at dksX2_drop_1 12 rfl rfl)
theorem dX2_drop_36 : decode cX2_drop 36 = .ok (.iload_n 2, 1) := dk_28 (dk_at dksX2_drop_1 13 rfl rfl)
theorem dX2_drop_37 : decode cX2_drop 37 = .ok (.ireturn, 1) := dk_172 (dk_at dksX2_drop_1 14 rfl rfl)
abbrev cX2_put : ByteArray := prog_13_method_49_code
def yX2_put : MethodName := ⟨RX2, "put", "(III)I"⟩
def dkwX2_put_4 : List UInt8 := [29, 79, 4, 172]
abbrev dktX2_put_4 : List UInt8 := dkwX2_put_4 ++ []
def dkwX2_put_3 : List UInt8 := [46, 154, 0, 8, 29, 145, 167, 0, 19, 42, 180, 0, 46, 27, 46, 4, 160, 0, 8, 29, 147, 167, 0, 4]
abbrev dktX2_put_3 : List UInt8 := dkwX2_put_3 ++ dktX2_put_4
def dkwX2_put_2 : List UInt8 := [154, 0, 9, 42, 6, 182, 0, 126, 172, 42, 180, 0, 52, 16, 40, 27, 104, 28, 96, 42, 180, 0, 46, 27]
abbrev dktX2_put_2 : List UInt8 := dkwX2_put_2 ++ dktX2_put_3
def dkwX2_put_1 : List UInt8 := [160, 0, 9, 42, 4, 182, 0, 126, 172, 28, 3, 42, 180, 0, 49, 27, 46, 4, 100, 184, 0, 110]
abbrev dktX2_put_1 : List UInt8 := dkwX2_put_1 ++ dktX2_put_2
def dkwX2_put_0 : List UInt8 := [42, 3, 181, 0, 98, 27, 3, 6, 184, 0, 110, 154, 0, 5, 2, 172, 42, 180, 0, 46, 27, 46, 16, 247]
abbrev dktX2_put_0 : List UInt8 := dkwX2_put_0 ++ dktX2_put_1
theorem dksX2_put_0 : cX2_put.data.toList.drop 0 = dktX2_put_0 := by decide +kernel
theorem dksX2_put_1 : cX2_put.data.toList.drop 24 = dktX2_put_1 := dk_seg dksX2_put_0 24 rfl rfl
theorem dksX2_put_2 : cX2_put.data.toList.drop 46 = dktX2_put_2 := dk_seg dksX2_put_1 22 rfl rfl
theorem dksX2_put_3 : cX2_put.data.toList.drop 70 = dktX2_put_3 := dk_seg dksX2_put_2 24 rfl rfl
theorem dksX2_put_4 : cX2_put.data.toList.drop 94 = dktX2_put_4 := dk_seg dksX2_put_3 24 rfl rfl
theorem dX2_put_0 : decode cX2_put 0 = .ok (.aload_n 0, 1) := dk_42 (dk_at dksX2_put_0 0 rfl rfl)
theorem dX2_put_1 : decode cX2_put 1 = .ok (.iconst 0, 1) := dk_3 (dk_at dksX2_put_0 1 rfl rfl)
theorem dX2_put_2 : decode cX2_put 2 = .ok (.putfield 98, 3) := dk_181 0 98 (dk_at dksX2_put_0 2 rfl rfl)
theorem dX2_put_5 : decode cX2_put 5 = .ok (.iload_n 1, 1) := dk_27 (dk_at dksX2_put_0 5 rfl rfl)
theorem dX2_put_6 : decode cX2_put 6 = .ok (.iconst 0, 1) := dk_3 (dk_at dksX2_put_0 6 rfl rfl)
theorem dX2_put_7 : decode cX2_put 7 = .ok (.iconst 3, 1) := dk_6 (dk_at dksX2_put_0 7 rfl rfl)
theorem dX2_put_8 : decode cX2_put 8 = .ok (.invokestatic 110, 3) := dk_184 0 110 (dk_at dksX2_put_0 8 rfl rfl)
theorem dX2_put_11 : decode cX2_put 11 = .ok (.ifCond .ne 5, 3) := dk_154 0 5 (dk_at dksX2_put_0 11 rfl rfl)
theorem dX2_put_14 : decode cX2_put 14 = .ok (.iconst (-1), 1) := dk_2 (dk_at dksX2_put_0 14 rfl rfl)
theorem dX2_put_15 : decode cX2_put 15 = .ok (.ireturn, 1) := dk_172 (dk_at dksX2_put_0 15 rfl rfl)
theorem dX2_put_16 : decode cX2_put 16 = .ok (.aload_n 0, 1) := dk_42 (dk_at dksX2_put_0 16 rfl rfl)
theorem dX2_put_17 : decode cX2_put 17 = .ok (.getfield 46, 3) := dk_180 0 46 (dk_at dksX2_put_0 17 rfl rfl)
theorem dX2_put_20 : decode cX2_put 20 = .ok (.iload_n 1, 1) := dk_27 (dk_at dksX2_put_0 20 rfl rfl)
theorem dX2_put_21 : decode cX2_put 21 = .ok (.iaload, 1) := dk_46 (dk_at dksX2_put_0 21 rfl rfl)
theorem dX2_put_22 : decode cX2_put 22 = .ok (.bipush (-9), 2) := dk_16 247 (dk_at dksX2_put_0 22 rfl rfl)
theorem dX2_put_24 : decode cX2_put 24 = .ok (.if_icmp .ne 9, 3) := dk_160 0 9 (dk_at dksX2_put_1 0 rfl rfl)
theorem dX2_put_27 : decode cX2_put 27 = .ok (.aload_n 0, 1) := dk_42 (dk_at dksX2_put_1 3 rfl rfl)
theorem dX2_put_28 : decode cX2_put 28 = .ok (.iconst 1, 1) := dk_4 (dk_at dksX2_put_1 4 rfl rfl)
theorem dX2_put_29 : decode cX2_put 29 = .ok (.invokevirtual 126, 3) := dk_182 0 126 (dk_at dksX2_put_1 5 rfl rfl)
theorem dX2_put_32 : decode cX2_put 32 = .ok (.ireturn, 1) := dk_172 (dk_at dksX2_put_1 8 rfl rfl)
theorem dX2_put_33 : decode cX2_put 33 = .ok (.iload_n 2, 1) := dk_28 (dk_at dksX2_put_1 9 rfl rfl)
theorem dX2_put_34 : decode cX2_put 34 = .ok (.iconst 0, 1) := dk_3 (dk_at dksX2_put_1 10 rfl rfl)
theorem dX2_put_35 : decode cX2_put 35 = .ok (.aload_n 0, 1) := dk_42 (dk_at dksX2_put_1 11 rfl rfl)
theorem dX2_put_36 : decode cX2_put 36 = .ok (.getfield 49, 3) := dk_180 0 49 (dk_at dksX2_put_1 12 rfl rfl)
theorem dX2_put_39 : decode cX2_put 39 = .ok (.iload_n 1, 1) := dk_27 (dk_at dksX2_put_1 15 rfl rfl)
theorem dX2_put_40 : decode cX2_put 40 = .ok (.iaload, 1) := dk_46 (dk_at dksX2_put_1 16 rfl rfl)
theorem dX2_put_41 : decode cX2_put 41 = .ok (.iconst 1, 1) := dk_4 (dk_at dksX2_put_1 17 rfl rfl)
theorem dX2_put_42 : decode cX2_put 42 = .ok (.isub, 1) := dk_100 (dk_at dksX2_put_1 18 rfl rfl)
theorem dX2_put_43 : decode cX2_put 43 = .ok (.invokestatic 110, 3) := dk_184 0 110 (dk_at dksX2_put_1 19 rfl rfl)
theorem dX2_put_46 : decode cX2_put 46 = .ok (.ifCond .ne 9, 3) := dk_154 0 9 (dk_at dksX2_put_2 0 rfl rfl)
theorem dX2_put_49 : decode cX2_put 49 = .ok (.aload_n 0, 1) := dk_42 (dk_at dksX2_put_2 3 rfl rfl)
theorem dX2_put_50 : decode cX2_put 50 = .ok (.iconst 3, 1) := dk_6 (dk_at dksX2_put_2 4 rfl rfl)
theorem dX2_put_51 : decode cX2_put 51 = .ok (.invokevirtual 126, 3) := dk_182 0 126 (dk_at dksX2_put_2 5 rfl rfl)
theorem dX2_put_54 : decode cX2_put 54 = .ok (.ireturn, 1) := dk_172 (dk_at dksX2_put_2 8 rfl rfl)
theorem dX2_put_55 : decode cX2_put 55 = .ok (.aload_n 0, 1) := dk_42 (dk_at dksX2_put_2 9 rfl rfl)
theorem dX2_put_56 : decode cX2_put 56 = .ok (.getfield 52, 3) := dk_180 0 52 (dk_at dksX2_put_2 10 rfl rfl)
theorem dX2_put_59 : decode cX2_put 59 = .ok (.bipush 40, 2) := dk_16 40 (dk_at dksX2_put_2 13 rfl rfl)
theorem dX2_put_61 : decode cX2_put 61 = .ok (.iload_n 1, 1) := dk_27 (dk_at dksX2_put_2 15 rfl rfl)
theorem dX2_put_62 : decode cX2_put 62 = .ok (.imul, 1) := dk_104 (dk_at dksX2_put_2 16 rfl rfl)
theorem dX2_put_63 : decode cX2_put 63 = .ok (.iload_n 2, 1) := dk_28 (dk_at dksX2_put_2 17 rfl rfl)
theorem dX2_put_64 : decode cX2_put 64 = .ok (.iadd, 1) := dk_96 (dk_at dksX2_put_2 18 rfl rfl)
theorem dX2_put_65 : decode cX2_put 65 = .ok (.aload_n 0, 1) := dk_42 (dk_at dksX2_put_2 19 rfl rfl)
theorem dX2_put_66 : decode cX2_put 66 = .ok (.getfield 46, 3) := dk_180 0 46 (dk_at dksX2_put_2 20 rfl rfl)
theorem dX2_put_69 : decode cX2_put 69 = .ok (.iload_n 1, 1) := dk_27 (dk_at dksX2_put_2 23 rfl rfl)
theorem dX2_put_70 : decode cX2_put 70 = .ok (.iaload, 1) := dk_46 (dk_at dksX2_put_3 0 rfl rfl)
theorem dX2_put_71 : decode cX2_put 71 = .ok (.ifCond .ne 8, 3) := dk_154 0 8 (dk_at dksX2_put_3 1 rfl rfl)
theorem dX2_put_74 : decode cX2_put 74 = .ok (.iload_n 3, 1) := dk_29 (dk_at dksX2_put_3 4 rfl rfl)
theorem dX2_put_75 : decode cX2_put 75 = .ok (.i2b, 1) := dk_145 (dk_at dksX2_put_3 5 rfl rfl)
theorem dX2_put_76 : decode cX2_put 76 = .ok (.goto 19, 3) := dk_167 0 19 (dk_at dksX2_put_3 6 rfl rfl)
theorem dX2_put_79 : decode cX2_put 79 = .ok (.aload_n 0, 1) := dk_42 (dk_at dksX2_put_3 9 rfl rfl)
theorem dX2_put_80 : decode cX2_put 80 = .ok (.getfield 46, 3) := dk_180 0 46 (dk_at dksX2_put_3 10 rfl rfl)
theorem dX2_put_83 : decode cX2_put 83 = .ok (.iload_n 1, 1) := dk_27 (dk_at dksX2_put_3 13 rfl rfl)
theorem dX2_put_84 : decode cX2_put 84 = .ok (.iaload, 1) := dk_46 (dk_at dksX2_put_3 14 rfl rfl)
theorem dX2_put_85 : decode cX2_put 85 = .ok (.iconst 1, 1) := dk_4 (dk_at dksX2_put_3 15 rfl rfl)
theorem dX2_put_86 : decode cX2_put 86 = .ok (.if_icmp .ne 8, 3) := dk_160 0 8 (dk_at dksX2_put_3 16 rfl rfl)
theorem dX2_put_89 : decode cX2_put 89 = .ok (.iload_n 3, 1) := dk_29 (dk_at dksX2_put_3 19 rfl rfl)
theorem dX2_put_90 : decode cX2_put 90 = .ok (.i2s, 1) := dk_147 (dk_at dksX2_put_3 20 rfl rfl)
theorem dX2_put_91 : decode cX2_put 91 = .ok (.goto 4, 3) := dk_167 0 4 (dk_at dksX2_put_3 21 rfl rfl)
theorem dX2_put_94 : decode cX2_put 94 = .ok (.iload_n 3, 1) := dk_29 (dk_at dksX2_put_4 0 rfl rfl)
theorem dX2_put_95 : decode cX2_put 95 = .ok (.iastore, 1) := dk_79 (dk_at dksX2_put_4 1 rfl rfl)
theorem dX2_put_96 : decode cX2_put 96 = .ok (.iconst 1, 1) := dk_4 (dk_at dksX2_put_4 2 rfl rfl)
theorem dX2_put_97 : decode cX2_put 97 = .ok (.ireturn, 1) := dk_172 (dk_at dksX2_put_4 3 rfl rfl)
abbrev cX2_at : ByteArray := prog_13_method_50_code
def yX2_at : MethodName := ⟨RX2, "at", "(III)J"⟩
def dkwX2_at_4 : List UInt8 := [182, 0, 217, 173, 42, 180, 0, 52, 16, 40, 27, 104, 28, 96, 46, 133, 173]
abbrev dktX2_at_4 : List UInt8 := dkwX2_at_4 ++ []
def dkwX2_at_3 : List UInt8 := [182, 0, 217, 173, 28, 3, 42, 180, 0, 49, 27, 46, 4, 100, 184, 0, 110, 154, 0, 9, 42, 6]
abbrev dktX2_at_3 : List UInt8 := dkwX2_at_3 ++ dktX2_at_4
def dkwX2_at_2 : List UInt8 := [159, 0, 9, 42, 5, 182, 0, 217, 173, 42, 180, 0, 46, 27, 46, 16, 247, 160, 0, 9, 42, 4]
abbrev dktX2_at_2 : List UInt8 := dkwX2_at_2 ++ dktX2_at_3
def dkwX2_at_1 : List UInt8 := [20, 0, 102, 173, 42, 180, 0, 46, 27, 46, 16, 247, 159, 0, 19, 42, 180, 0, 46, 27, 46, 29]
abbrev dktX2_at_1 : List UInt8 := dkwX2_at_1 ++ dktX2_at_2
def dkwX2_at_0 : List UInt8 := [42, 3, 181, 0, 98, 27, 3, 6, 184, 0, 110, 153, 0, 12, 29, 3, 5, 184, 0, 110, 154, 0, 7]
abbrev dktX2_at_0 : List UInt8 := dkwX2_at_0 ++ dktX2_at_1
theorem dksX2_at_0 : cX2_at.data.toList.drop 0 = dktX2_at_0 := by decide +kernel
theorem dksX2_at_1 : cX2_at.data.toList.drop 23 = dktX2_at_1 := dk_seg dksX2_at_0 23 rfl rfl
theorem dksX2_at_2 : cX2_at.data.toList.drop 45 = dktX2_at_2 := dk_seg dksX2_at_1 22 rfl rfl
theorem dksX2_at_3 : cX2_at.data.toList.drop 67 = dktX2_at_3 := dk_seg dksX2_at_2 22 rfl rfl
theorem dksX2_at_4 : cX2_at.data.toList.drop 89 = dktX2_at_4 := dk_seg dksX2_at_3 22 rfl rfl
theorem dX2_at_0 : decode cX2_at 0 = .ok (.aload_n 0, 1) := dk_42 (dk_at dksX2_at_0 0 rfl rfl)
theorem dX2_at_1 : decode cX2_at 1 = .ok (.iconst 0, 1) := dk_3 (dk_at dksX2_at_0 1 rfl rfl)
theorem dX2_at_2 : decode cX2_at 2 = .ok (.putfield 98, 3) := dk_181 0 98 (dk_at dksX2_at_0 2 rfl rfl)
theorem dX2_at_5 : decode cX2_at 5 = .ok (.iload_n 1, 1) := dk_27 (dk_at dksX2_at_0 5 rfl rfl)
theorem dX2_at_6 : decode cX2_at 6 = .ok (.iconst 0, 1) := dk_3 (dk_at dksX2_at_0 6 rfl rfl)
theorem dX2_at_7 : decode cX2_at 7 = .ok (.iconst 3, 1) := dk_6 (dk_at dksX2_at_0 7 rfl rfl)
theorem dX2_at_8 : decode cX2_at 8 = .ok (.invokestatic 110, 3) := dk_184 0 110 (dk_at dksX2_at_0 8 rfl rfl)
theorem dX2_at_11 : decode cX2_at 11 = .ok (.ifCond .eq 12, 3) := dk_153 0 12 (dk_at dksX2_at_0 11 rfl rfl)
theorem dX2_at_14 : decode cX2_at 14 = .ok (.iload_n 3, 1) := dk_29 (dk_at dksX2_at_0 14 rfl rfl)
theorem dX2_at_15 : decode cX2_at 15 = .ok (.iconst 0, 1) := dk_3 (dk_at dksX2_at_0 15 rfl rfl)
theorem dX2_at_16 : decode cX2_at 16 = .ok (.iconst 2, 1) := dk_5 (dk_at dksX2_at_0 16 rfl rfl)
theorem dX2_at_17 : decode cX2_at 17 = .ok (.invokestatic 110, 3) := dk_184 0 110 (dk_at dksX2_at_0 17 rfl rfl)
theorem dX2_at_20 : decode cX2_at 20 = .ok (.ifCond .ne 7, 3) := dk_154 0 7 (dk_at dksX2_at_0 20 rfl rfl)
theorem dX2_at_23 : decode cX2_at 23 = .ok (.ldc2_w 102, 3) := dk_20 0 102 (dk_at dksX2_at_1 0 rfl rfl)
theorem dX2_at_26 : decode cX2_at 26 = .ok (.lreturn, 1) := dk_173 (dk_at dksX2_at_1 3 rfl rfl)
theorem dX2_at_27 : decode cX2_at 27 = .ok (.aload_n 0, 1) := dk_42 (dk_at dksX2_at_1 4 rfl rfl)
theorem dX2_at_28 : decode cX2_at 28 = .ok (.getfield 46, 3) := dk_180 0 46 (dk_at dksX2_at_1 5 rfl rfl)
theorem dX2_at_31 : decode cX2_at 31 = .ok (.iload_n 1, 1) := dk_27 (dk_at dksX2_at_1 8 rfl rfl)
theorem dX2_at_32 : decode cX2_at 32 = .ok (.iaload, 1) := dk_46 (dk_at dksX2_at_1 9 rfl rfl)
theorem dX2_at_33 : decode cX2_at 33 = .ok (.bipush (-9), 2) := dk_16 247 (dk_at dksX2_at_1 10 rfl rfl)
theorem dX2_at_35 : decode cX2_at 35 = .ok (.if_icmp .eq 19, 3) := dk_159 0 19 (dk_at dksX2_at_1 12 rfl rfl)
theorem dX2_at_38 : decode cX2_at 38 = .ok (.aload_n 0, 1) := dk_42 (dk_at dksX2_at_1 15 rfl rfl)
theorem dX2_at_39 : decode cX2_at 39 = .ok (.getfield 46, 3) := dk_180 0 46 (dk_at dksX2_at_1 16 rfl rfl)
theorem dX2_at_42 : decode cX2_at 42 = .ok (.iload_n 1, 1) := dk_27 (dk_at dksX2_at_1 19 rfl rfl)
theorem dX2_at_43 : decode cX2_at 43 = .ok (.iaload, 1) := dk_46 (dk_at dksX2_at_1 20 rfl rfl)
theorem dX2_at_44 : decode cX2_at 44 = .ok (.iload_n 3, 1) := dk_29 (dk_at dksX2_at_1 21 rfl rfl)
theorem dX2_at_45 : decode cX2_at 45 = .ok (.if_icmp .eq 9, 3) := dk_159 0 9 (dk_at dksX2_at_2 0 rfl rfl)
theorem dX2_at_48 : decode cX2_at 48 = .ok (.aload_n 0, 1) := dk_42 (dk_at dksX2_at_2 3 rfl rfl)
theorem dX2_at_49 : decode cX2_at 49 = .ok (.iconst 2, 1) := dk_5 (dk_at dksX2_at_2 4 rfl rfl)
theorem dX2_at_50 : decode cX2_at 50 = .ok (.invokevirtual 217, 3) := dk_182 0 217 (dk_at dksX2_at_2 5 rfl rfl)
theorem dX2_at_53 : decode cX2_at 53 = .ok (.lreturn, 1) := dk_173 (dk_at dksX2_at_2 8 rfl rfl)
theorem dX2_at_54 : decode cX2_at 54 = .ok (.aload_n 0, 1) := dk_42 (dk_at dksX2_at_2 9 rfl rfl)
theorem dX2_at_55 : decode cX2_at 55 = .ok (.getfield 46, 3) := dk_180 0 46 (dk_at dksX2_at_2 10 rfl rfl)
theorem dX2_at_58 : decode cX2_at 58 = .ok (.iload_n 1, 1) := dk_27 (dk_at dksX2_at_2 13 rfl rfl)
theorem dX2_at_59 : decode cX2_at 59 = .ok (.iaload, 1) := dk_46 (dk_at dksX2_at_2 14 rfl rfl)
theorem dX2_at_60 : decode cX2_at 60 = .ok (.bipush (-9), 2) := dk_16 247 (dk_at dksX2_at_2 15 rfl rfl)
theorem dX2_at_62 : decode cX2_at 62 = .ok (.if_icmp .ne 9, 3) := dk_160 0 9 (dk_at dksX2_at_2 17 rfl rfl)
theorem dX2_at_65 : decode cX2_at 65 = .ok (.aload_n 0, 1) := dk_42 (dk_at dksX2_at_2 20 rfl rfl)
theorem dX2_at_66 : decode cX2_at 66 = .ok (.iconst 1, 1) := dk_4 (dk_at dksX2_at_2 21 rfl rfl)
theorem dX2_at_67 : decode cX2_at 67 = .ok (.invokevirtual 217, 3) := dk_182 0 217 (dk_at dksX2_at_3 0 rfl rfl)
theorem dX2_at_70 : decode cX2_at 70 = .ok (.lreturn, 1) := dk_173 (dk_at dksX2_at_3 3 rfl rfl)
theorem dX2_at_71 : decode cX2_at 71 = .ok (.iload_n 2, 1) := dk_28 (dk_at dksX2_at_3 4 rfl rfl)
theorem dX2_at_72 : decode cX2_at 72 = .ok (.iconst 0, 1) := dk_3 (dk_at dksX2_at_3 5 rfl rfl)
theorem dX2_at_73 : decode cX2_at 73 = .ok (.aload_n 0, 1) := dk_42 (dk_at dksX2_at_3 6 rfl rfl)
theorem dX2_at_74 : decode cX2_at 74 = .ok (.getfield 49, 3) := dk_180 0 49 (dk_at dksX2_at_3 7 rfl rfl)
theorem dX2_at_77 : decode cX2_at 77 = .ok (.iload_n 1, 1) := dk_27 (dk_at dksX2_at_3 10 rfl rfl)
theorem dX2_at_78 : decode cX2_at 78 = .ok (.iaload, 1) := dk_46 (dk_at dksX2_at_3 11 rfl rfl)
theorem dX2_at_79 : decode cX2_at 79 = .ok (.iconst 1, 1) := dk_4 (dk_at dksX2_at_3 12 rfl rfl)
theorem dX2_at_80 : decode cX2_at 80 = .ok (.isub, 1) := dk_100 (dk_at dksX2_at_3 13 rfl rfl)
theorem dX2_at_81 : decode cX2_at 81 = .ok (.invokestatic 110, 3) := dk_184 0 110 (dk_at dksX2_at_3 14 rfl rfl)
theorem dX2_at_84 : decode cX2_at 84 = .ok (.ifCond .ne 9, 3) := dk_154 0 9 (dk_at dksX2_at_3 17 rfl rfl)
theorem dX2_at_87 : decode cX2_at 87 = .ok (.aload_n 0, 1) := dk_42 (dk_at dksX2_at_3 20 rfl rfl)
theorem dX2_at_88 : decode cX2_at 88 = .ok (.iconst 3, 1) := dk_6 (dk_at dksX2_at_3 21 rfl rfl)
theorem dX2_at_89 : decode cX2_at 89 = .ok (.invokevirtual 217, 3) := dk_182 0 217 (dk_at dksX2_at_4 0 rfl rfl)
theorem dX2_at_92 : decode cX2_at 92 = .ok (.lreturn, 1) := dk_173 (dk_at dksX2_at_4 3 rfl rfl)
theorem dX2_at_93 : decode cX2_at 93 = .ok (.aload_n 0, 1) := dk_42 (dk_at dksX2_at_4 4 rfl rfl)
theorem dX2_at_94 : decode cX2_at 94 = .ok (.getfield 52, 3) := dk_180 0 52 (dk_at dksX2_at_4 5 rfl rfl)
theorem dX2_at_97 : decode cX2_at 97 = .ok (.bipush 40, 2) := dk_16 40 (dk_at dksX2_at_4 8 rfl rfl)
theorem dX2_at_99 : decode cX2_at 99 = .ok (.iload_n 1, 1) := dk_27 (dk_at dksX2_at_4 10 rfl rfl)
theorem dX2_at_100 : decode cX2_at 100 = .ok (.imul, 1) := dk_104 (dk_at dksX2_at_4 11 rfl rfl)
theorem dX2_at_101 : decode cX2_at 101 = .ok (.iload_n 2, 1) := dk_28 (dk_at dksX2_at_4 12 rfl rfl)
theorem dX2_at_102 : decode cX2_at 102 = .ok (.iadd, 1) := dk_96 (dk_at dksX2_at_4 13 rfl rfl)
theorem dX2_at_103 : decode cX2_at 103 = .ok (.iaload, 1) := dk_46 (dk_at dksX2_at_4 14 rfl rfl)
theorem dX2_at_104 : decode cX2_at 104 = .ok (.i2l, 1) := dk_133 (dk_at dksX2_at_4 15 rfl rfl)
theorem dX2_at_105 : decode cX2_at 105 = .ok (.lreturn, 1) := dk_173 (dk_at dksX2_at_4 16 rfl rfl)
abbrev cX2_lost : ByteArray := prog_13_method_4_code
def yX2_lost : MethodName := ⟨RX2, "lost", "(I)J"⟩
def dkwX2_lost_0 : List UInt8 := [42, 27, 181, 0, 98, 20, 0, 102, 173]
abbrev dktX2_lost_0 : List UInt8 := dkwX2_lost_0 ++ []
theorem dksX2_lost_0 : cX2_lost.data.toList.drop 0 = dktX2_lost_0 := by decide +kernel
theorem dX2_lost_0 : decode cX2_lost 0 = .ok (.aload_n 0, 1) := dk_42 (dk_at dksX2_lost_0 0 rfl rfl)
theorem dX2_lost_1 : decode cX2_lost 1 = .ok (.iload_n 1, 1) := dk_27 (dk_at dksX2_lost_0 1 rfl rfl)
theorem dX2_lost_2 : decode cX2_lost 2 = .ok (.putfield 98, 3) := dk_181 0 98 (dk_at dksX2_lost_0 2 rfl rfl)
theorem dX2_lost_5 : decode cX2_lost 5 = .ok (.ldc2_w 102, 3) := dk_20 0 102 (dk_at dksX2_lost_0 5 rfl rfl)
theorem dX2_lost_8 : decode cX2_lost 8 = .ok (.lreturn, 1) := dk_173 (dk_at dksX2_lost_0 8 rfl rfl)
abbrev cX2_tell : ByteArray := prog_13_method_52_code
def yX2_tell : MethodName := ⟨RX2, "tell", "(I)I"⟩
def dkwX2_tell_4 : List UInt8 := [4, 182, 0, 224, 42, 180, 0, 22, 27, 46, 172]
abbrev dktX2_tell_4 : List UInt8 := dkwX2_tell_4 ++ []
def dkwX2_tell_3 : List UInt8 := [46, 96, 172, 42, 6, 182, 0, 224, 42, 4, 182, 0, 224, 42, 180, 0, 22, 27, 46, 16, 9, 100, 172, 42]
abbrev dktX2_tell_3 : List UInt8 := dkwX2_tell_3 ++ dktX2_tell_4
def dkwX2_tell_2 : List UInt8 := [42, 5, 182, 0, 224, 42, 4, 182, 0, 224, 16, 16, 42, 180, 0, 25, 27, 46, 104, 42, 180, 0, 22, 27]
abbrev dktX2_tell_2 : List UInt8 := dkwX2_tell_2 ++ dktX2_tell_3
def dkwX2_tell_1 : List UInt8 := [171, 0, 0, 0, 72, 0, 0, 0, 2, 0, 0, 0, 1, 0, 0, 0, 25, 0, 0, 0, 3, 0, 0, 0, 52]
abbrev dktX2_tell_1 : List UInt8 := dkwX2_tell_1 ++ dktX2_tell_2
def dkwX2_tell_0 : List UInt8 := [42, 27, 182, 0, 151, 154, 0, 5, 2, 172, 42, 27, 182, 0, 138]
abbrev dktX2_tell_0 : List UInt8 := dkwX2_tell_0 ++ dktX2_tell_1
theorem dksX2_tell_0 : cX2_tell.data.toList.drop 0 = dktX2_tell_0 := by decide +kernel
theorem dksX2_tell_1 : cX2_tell.data.toList.drop 15 = dktX2_tell_1 := dk_seg dksX2_tell_0 15 rfl rfl
theorem dksX2_tell_2 : cX2_tell.data.toList.drop 40 = dktX2_tell_2 := dk_seg dksX2_tell_1 25 rfl rfl
theorem dksX2_tell_3 : cX2_tell.data.toList.drop 64 = dktX2_tell_3 := dk_seg dksX2_tell_2 24 rfl rfl
theorem dksX2_tell_4 : cX2_tell.data.toList.drop 88 = dktX2_tell_4 := dk_seg dksX2_tell_3 24 rfl rfl
theorem dX2_tell_0 : decode cX2_tell 0 = .ok (.aload_n 0, 1) := dk_42 (dk_at dksX2_tell_0 0 rfl rfl)
theorem dX2_tell_1 : decode cX2_tell 1 = .ok (.iload_n 1, 1) := dk_27 (dk_at dksX2_tell_0 1 rfl rfl)
theorem dX2_tell_2 : decode cX2_tell 2 = .ok (.invokevirtual 151, 3) := dk_182 0 151 (dk_at dksX2_tell_0 2 rfl rfl)
theorem dX2_tell_5 : decode cX2_tell 5 = .ok (.ifCond .ne 5, 3) := dk_154 0 5 (dk_at dksX2_tell_0 5 rfl rfl)
theorem dX2_tell_8 : decode cX2_tell 8 = .ok (.iconst (-1), 1) := dk_2 (dk_at dksX2_tell_0 8 rfl rfl)
theorem dX2_tell_9 : decode cX2_tell 9 = .ok (.ireturn, 1) := dk_172 (dk_at dksX2_tell_0 9 rfl rfl)
theorem dX2_tell_10 : decode cX2_tell 10 = .ok (.aload_n 0, 1) := dk_42 (dk_at dksX2_tell_0 10 rfl rfl)
theorem dX2_tell_11 : decode cX2_tell 11 = .ok (.iload_n 1, 1) := dk_27 (dk_at dksX2_tell_0 11 rfl rfl)
theorem dX2_tell_12 : decode cX2_tell 12 = .ok (.invokevirtual 138, 3) := dk_182 0 138 (dk_at dksX2_tell_0 12 rfl rfl)
theorem dX2_tell_15 : decode cX2_tell 15 = .ok (.lookupswitch 72 #[(1, 25), (3, 52)], 25) := by decide +kernel
theorem dX2_tell_40 : decode cX2_tell 40 = .ok (.aload_n 0, 1) := dk_42 (dk_at dksX2_tell_2 0 rfl rfl)
theorem dX2_tell_41 : decode cX2_tell 41 = .ok (.iconst 2, 1) := dk_5 (dk_at dksX2_tell_2 1 rfl rfl)
theorem dX2_tell_42 : decode cX2_tell 42 = .ok (.invokevirtual 224, 3) := dk_182 0 224 (dk_at dksX2_tell_2 2 rfl rfl)
theorem dX2_tell_45 : decode cX2_tell 45 = .ok (.aload_n 0, 1) := dk_42 (dk_at dksX2_tell_2 5 rfl rfl)
theorem dX2_tell_46 : decode cX2_tell 46 = .ok (.iconst 1, 1) := dk_4 (dk_at dksX2_tell_2 6 rfl rfl)
theorem dX2_tell_47 : decode cX2_tell 47 = .ok (.invokevirtual 224, 3) := dk_182 0 224 (dk_at dksX2_tell_2 7 rfl rfl)
theorem dX2_tell_50 : decode cX2_tell 50 = .ok (.bipush 16, 2) := dk_16 16 (dk_at dksX2_tell_2 10 rfl rfl)
theorem dX2_tell_52 : decode cX2_tell 52 = .ok (.aload_n 0, 1) := dk_42 (dk_at dksX2_tell_2 12 rfl rfl)
theorem dX2_tell_53 : decode cX2_tell 53 = .ok (.getfield 25, 3) := dk_180 0 25 (dk_at dksX2_tell_2 13 rfl rfl)
theorem dX2_tell_56 : decode cX2_tell 56 = .ok (.iload_n 1, 1) := dk_27 (dk_at dksX2_tell_2 16 rfl rfl)
theorem dX2_tell_57 : decode cX2_tell 57 = .ok (.iaload, 1) := dk_46 (dk_at dksX2_tell_2 17 rfl rfl)
theorem dX2_tell_58 : decode cX2_tell 58 = .ok (.imul, 1) := dk_104 (dk_at dksX2_tell_2 18 rfl rfl)
theorem dX2_tell_59 : decode cX2_tell 59 = .ok (.aload_n 0, 1) := dk_42 (dk_at dksX2_tell_2 19 rfl rfl)
theorem dX2_tell_60 : decode cX2_tell 60 = .ok (.getfield 22, 3) := dk_180 0 22 (dk_at dksX2_tell_2 20 rfl rfl)
theorem dX2_tell_63 : decode cX2_tell 63 = .ok (.iload_n 1, 1) := dk_27 (dk_at dksX2_tell_2 23 rfl rfl)
theorem dX2_tell_64 : decode cX2_tell 64 = .ok (.iaload, 1) := dk_46 (dk_at dksX2_tell_3 0 rfl rfl)
theorem dX2_tell_65 : decode cX2_tell 65 = .ok (.iadd, 1) := dk_96 (dk_at dksX2_tell_3 1 rfl rfl)
theorem dX2_tell_66 : decode cX2_tell 66 = .ok (.ireturn, 1) := dk_172 (dk_at dksX2_tell_3 2 rfl rfl)
theorem dX2_tell_67 : decode cX2_tell 67 = .ok (.aload_n 0, 1) := dk_42 (dk_at dksX2_tell_3 3 rfl rfl)
theorem dX2_tell_68 : decode cX2_tell 68 = .ok (.iconst 3, 1) := dk_6 (dk_at dksX2_tell_3 4 rfl rfl)
theorem dX2_tell_69 : decode cX2_tell 69 = .ok (.invokevirtual 224, 3) := dk_182 0 224 (dk_at dksX2_tell_3 5 rfl rfl)
theorem dX2_tell_72 : decode cX2_tell 72 = .ok (.aload_n 0, 1) := dk_42 (dk_at dksX2_tell_3 8 rfl rfl)
theorem dX2_tell_73 : decode cX2_tell 73 = .ok (.iconst 1, 1) := dk_4 (dk_at dksX2_tell_3 9 rfl rfl)
theorem dX2_tell_74 : decode cX2_tell 74 = .ok (.invokevirtual 224, 3) := dk_182 0 224 (dk_at dksX2_tell_3 10 rfl rfl)
theorem dX2_tell_77 : decode cX2_tell 77 = .ok (.aload_n 0, 1) := dk_42 (dk_at dksX2_tell_3 13 rfl rfl)
theorem dX2_tell_78 : decode cX2_tell 78 = .ok (.getfield 22, 3) := dk_180 0 22 (dk_at dksX2_tell_3 14 rfl rfl)
theorem dX2_tell_81 : decode cX2_tell 81 = .ok (.iload_n 1, 1) := dk_27 (dk_at dksX2_tell_3 17 rfl rfl)
theorem dX2_tell_82 : decode cX2_tell 82 = .ok (.iaload, 1) := dk_46 (dk_at dksX2_tell_3 18 rfl rfl)
theorem dX2_tell_83 : decode cX2_tell 83 = .ok (.bipush 9, 2) := dk_16 9 (dk_at dksX2_tell_3 19 rfl rfl)
theorem dX2_tell_85 : decode cX2_tell 85 = .ok (.isub, 1) := dk_100 (dk_at dksX2_tell_3 21 rfl rfl)
theorem dX2_tell_86 : decode cX2_tell 86 = .ok (.ireturn, 1) := dk_172 (dk_at dksX2_tell_3 22 rfl rfl)
theorem dX2_tell_87 : decode cX2_tell 87 = .ok (.aload_n 0, 1) := dk_42 (dk_at dksX2_tell_3 23 rfl rfl)
theorem dX2_tell_88 : decode cX2_tell 88 = .ok (.iconst 1, 1) := dk_4 (dk_at dksX2_tell_4 0 rfl rfl)
theorem dX2_tell_89 : decode cX2_tell 89 = .ok (.invokevirtual 224, 3) := dk_182 0 224 (dk_at dksX2_tell_4 1 rfl rfl)
theorem dX2_tell_92 : decode cX2_tell 92 = .ok (.aload_n 0, 1) := dk_42 (dk_at dksX2_tell_4 4 rfl rfl)
theorem dX2_tell_93 : decode cX2_tell 93 = .ok (.getfield 22, 3) := dk_180 0 22 (dk_at dksX2_tell_4 5 rfl rfl)
theorem dX2_tell_96 : decode cX2_tell 96 = .ok (.iload_n 1, 1) := dk_27 (dk_at dksX2_tell_4 8 rfl rfl)
theorem dX2_tell_97 : decode cX2_tell 97 = .ok (.iaload, 1) := dk_46 (dk_at dksX2_tell_4 9 rfl rfl)
theorem dX2_tell_98 : decode cX2_tell 98 = .ok (.ireturn, 1) := dk_172 (dk_at dksX2_tell_4 10 rfl rfl)
abbrev cX2_begins : ByteArray := prog_13_method_51_code
def yX2_begins : MethodName := ⟨RX2, "begins", "(I)V"⟩
def dkwX2_begins_0 : List UInt8 := [42, 16, 31, 42, 180, 0, 221, 104, 27, 96, 181, 0, 221, 177]
abbrev dktX2_begins_0 : List UInt8 := dkwX2_begins_0 ++ []
theorem dksX2_begins_0 : cX2_begins.data.toList.drop 0 = dktX2_begins_0 := by decide +kernel
theorem dX2_begins_0 : decode cX2_begins 0 = .ok (.aload_n 0, 1) := dk_42 (dk_at dksX2_begins_0 0 rfl rfl)
theorem dX2_begins_1 : decode cX2_begins 1 = .ok (.bipush 31, 2) := dk_16 31 (dk_at dksX2_begins_0 1 rfl rfl)
theorem dX2_begins_3 : decode cX2_begins 3 = .ok (.aload_n 0, 1) := dk_42 (dk_at dksX2_begins_0 3 rfl rfl)
theorem dX2_begins_4 : decode cX2_begins 4 = .ok (.getfield 221, 3) := dk_180 0 221 (dk_at dksX2_begins_0 4 rfl rfl)
theorem dX2_begins_7 : decode cX2_begins 7 = .ok (.imul, 1) := dk_104 (dk_at dksX2_begins_0 7 rfl rfl)
theorem dX2_begins_8 : decode cX2_begins 8 = .ok (.iload_n 1, 1) := dk_27 (dk_at dksX2_begins_0 8 rfl rfl)
theorem dX2_begins_9 : decode cX2_begins 9 = .ok (.iadd, 1) := dk_96 (dk_at dksX2_begins_0 9 rfl rfl)
theorem dX2_begins_10 : decode cX2_begins 10 = .ok (.putfield 221, 3) := dk_181 0 221 (dk_at dksX2_begins_0 10 rfl rfl)
theorem dX2_begins_13 : decode cX2_begins 13 = .ok (.return_, 1) := dk_177 (dk_at dksX2_begins_0 13 rfl rfl)
abbrev cX2_weigh : ByteArray := prog_13_method_53_code
def yX2_weigh : MethodName := ⟨RX2, "weigh", "(I)I"⟩
def dkwX2_weigh_2 : List UInt8 := [182, 0, 157, 42, 27, 182, 0, 138, 96, 172]
abbrev dktX2_weigh_2 : List UInt8 := dkwX2_weigh_2 ++ []
def dkwX2_weigh_1 : List UInt8 := [61, 42, 28, 153, 0, 7, 8, 167, 0, 4, 7, 182, 0, 224, 28, 153, 0, 7, 3, 167, 0, 14, 42, 27]
abbrev dktX2_weigh_1 : List UInt8 := dkwX2_weigh_1 ++ dktX2_weigh_2
def dkwX2_weigh_0 : List UInt8 := [42, 27, 182, 0, 151, 154, 0, 5, 2, 172, 42, 27, 182, 0, 138, 5, 161, 0, 7, 4, 167, 0, 4, 3]
abbrev dktX2_weigh_0 : List UInt8 := dkwX2_weigh_0 ++ dktX2_weigh_1
theorem dksX2_weigh_0 : cX2_weigh.data.toList.drop 0 = dktX2_weigh_0 := by decide +kernel
theorem dksX2_weigh_1 : cX2_weigh.data.toList.drop 24 = dktX2_weigh_1 := dk_seg dksX2_weigh_0 24 rfl rfl
theorem dksX2_weigh_2 : cX2_weigh.data.toList.drop 48 = dktX2_weigh_2 := dk_seg dksX2_weigh_1 24 rfl rfl
theorem dX2_weigh_0 : decode cX2_weigh 0 = .ok (.aload_n 0, 1) := dk_42 (dk_at dksX2_weigh_0 0 rfl rfl)
theorem dX2_weigh_1 : decode cX2_weigh 1 = .ok (.iload_n 1, 1) := dk_27 (dk_at dksX2_weigh_0 1 rfl rfl)
theorem dX2_weigh_2 : decode cX2_weigh 2 = .ok (.invokevirtual 151, 3) := dk_182 0 151 (dk_at dksX2_weigh_0 2 rfl rfl)
theorem dX2_weigh_5 : decode cX2_weigh 5 = .ok (.ifCond .ne 5, 3) := dk_154 0 5 (dk_at dksX2_weigh_0 5 rfl rfl)
theorem dX2_weigh_8 : decode cX2_weigh 8 = .ok (.iconst (-1), 1) := dk_2 (dk_at dksX2_weigh_0 8 rfl rfl)
theorem dX2_weigh_9 : decode cX2_weigh 9 = .ok (.ireturn, 1) := dk_172 (dk_at dksX2_weigh_0 9 rfl rfl)
theorem dX2_weigh_10 : decode cX2_weigh 10 = .ok (.aload_n 0, 1) := dk_42 (dk_at dksX2_weigh_0 10 rfl rfl)
theorem dX2_weigh_11 : decode cX2_weigh 11 = .ok (.iload_n 1, 1) := dk_27 (dk_at dksX2_weigh_0 11 rfl rfl)
theorem dX2_weigh_12 : decode cX2_weigh 12 = .ok (.invokevirtual 138, 3) := dk_182 0 138 (dk_at dksX2_weigh_0 12 rfl rfl)
theorem dX2_weigh_15 : decode cX2_weigh 15 = .ok (.iconst 2, 1) := dk_5 (dk_at dksX2_weigh_0 15 rfl rfl)
theorem dX2_weigh_16 : decode cX2_weigh 16 = .ok (.if_icmp .lt 7, 3) := dk_161 0 7 (dk_at dksX2_weigh_0 16 rfl rfl)
theorem dX2_weigh_19 : decode cX2_weigh 19 = .ok (.iconst 1, 1) := dk_4 (dk_at dksX2_weigh_0 19 rfl rfl)
theorem dX2_weigh_20 : decode cX2_weigh 20 = .ok (.goto 4, 3) := dk_167 0 4 (dk_at dksX2_weigh_0 20 rfl rfl)
theorem dX2_weigh_23 : decode cX2_weigh 23 = .ok (.iconst 0, 1) := dk_3 (dk_at dksX2_weigh_0 23 rfl rfl)
theorem dX2_weigh_24 : decode cX2_weigh 24 = .ok (.istore_n 2, 1) := dk_61 (dk_at dksX2_weigh_1 0 rfl rfl)
theorem dX2_weigh_25 : decode cX2_weigh 25 = .ok (.aload_n 0, 1) := dk_42 (dk_at dksX2_weigh_1 1 rfl rfl)
theorem dX2_weigh_26 : decode cX2_weigh 26 = .ok (.iload_n 2, 1) := dk_28 (dk_at dksX2_weigh_1 2 rfl rfl)
theorem dX2_weigh_27 : decode cX2_weigh 27 = .ok (.ifCond .eq 7, 3) := dk_153 0 7 (dk_at dksX2_weigh_1 3 rfl rfl)
theorem dX2_weigh_30 : decode cX2_weigh 30 = .ok (.iconst 5, 1) := dk_8 (dk_at dksX2_weigh_1 6 rfl rfl)
theorem dX2_weigh_31 : decode cX2_weigh 31 = .ok (.goto 4, 3) := dk_167 0 4 (dk_at dksX2_weigh_1 7 rfl rfl)
theorem dX2_weigh_34 : decode cX2_weigh 34 = .ok (.iconst 4, 1) := dk_7 (dk_at dksX2_weigh_1 10 rfl rfl)
theorem dX2_weigh_35 : decode cX2_weigh 35 = .ok (.invokevirtual 224, 3) := dk_182 0 224 (dk_at dksX2_weigh_1 11 rfl rfl)
theorem dX2_weigh_38 : decode cX2_weigh 38 = .ok (.iload_n 2, 1) := dk_28 (dk_at dksX2_weigh_1 14 rfl rfl)
theorem dX2_weigh_39 : decode cX2_weigh 39 = .ok (.ifCond .eq 7, 3) := dk_153 0 7 (dk_at dksX2_weigh_1 15 rfl rfl)
theorem dX2_weigh_42 : decode cX2_weigh 42 = .ok (.iconst 0, 1) := dk_3 (dk_at dksX2_weigh_1 18 rfl rfl)
theorem dX2_weigh_43 : decode cX2_weigh 43 = .ok (.goto 14, 3) := dk_167 0 14 (dk_at dksX2_weigh_1 19 rfl rfl)
theorem dX2_weigh_46 : decode cX2_weigh 46 = .ok (.aload_n 0, 1) := dk_42 (dk_at dksX2_weigh_1 22 rfl rfl)
theorem dX2_weigh_47 : decode cX2_weigh 47 = .ok (.iload_n 1, 1) := dk_27 (dk_at dksX2_weigh_1 23 rfl rfl)
theorem dX2_weigh_48 : decode cX2_weigh 48 = .ok (.invokevirtual 157, 3) := dk_182 0 157 (dk_at dksX2_weigh_2 0 rfl rfl)
theorem dX2_weigh_51 : decode cX2_weigh 51 = .ok (.aload_n 0, 1) := dk_42 (dk_at dksX2_weigh_2 3 rfl rfl)
theorem dX2_weigh_52 : decode cX2_weigh 52 = .ok (.iload_n 1, 1) := dk_27 (dk_at dksX2_weigh_2 4 rfl rfl)
theorem dX2_weigh_53 : decode cX2_weigh 53 = .ok (.invokevirtual 138, 3) := dk_182 0 138 (dk_at dksX2_weigh_2 5 rfl rfl)
theorem dX2_weigh_56 : decode cX2_weigh 56 = .ok (.iadd, 1) := dk_96 (dk_at dksX2_weigh_2 8 rfl rfl)
theorem dX2_weigh_57 : decode cX2_weigh 57 = .ok (.ireturn, 1) := dk_172 (dk_at dksX2_weigh_2 9 rfl rfl)
abbrev cX2_as : ByteArray := prog_13_method_54_code
def yX2_as : MethodName := ⟨RX2, "as", "(II)I"⟩
def dkwX2_as_3 : List UInt8 := [182, 0, 126, 172]
abbrev dktX2_as_3 : List UInt8 := dkwX2_as_3 ++ []
def dkwX2_as_2 : List UInt8 := [6, 160, 0, 7, 4, 167, 0, 4, 3, 54, 4, 21, 4, 153, 0, 7, 4, 167, 0, 8, 42, 5]
abbrev dktX2_as_2 : List UInt8 := dkwX2_as_2 ++ dktX2_as_3
def dkwX2_as_1 : List UInt8 := [16, 254, 172, 42, 27, 182, 0, 138, 62, 28, 153, 0, 18, 28, 29, 159, 0, 13, 28, 5, 160, 0, 12, 29]
abbrev dktX2_as_1 : List UInt8 := dkwX2_as_1 ++ dktX2_as_2
def dkwX2_as_0 : List UInt8 := [42, 3, 181, 0, 98, 42, 27, 182, 0, 151, 154, 0, 5, 2, 172, 28, 3, 6, 184, 0, 110, 154, 0, 6]
abbrev dktX2_as_0 : List UInt8 := dkwX2_as_0 ++ dktX2_as_1
theorem dksX2_as_0 : cX2_as.data.toList.drop 0 = dktX2_as_0 := by decide +kernel
theorem dksX2_as_1 : cX2_as.data.toList.drop 24 = dktX2_as_1 := dk_seg dksX2_as_0 24 rfl rfl
theorem dksX2_as_2 : cX2_as.data.toList.drop 48 = dktX2_as_2 := dk_seg dksX2_as_1 24 rfl rfl
theorem dksX2_as_3 : cX2_as.data.toList.drop 70 = dktX2_as_3 := dk_seg dksX2_as_2 22 rfl rfl
theorem dX2_as_0 : decode cX2_as 0 = .ok (.aload_n 0, 1) := dk_42 (dk_at dksX2_as_0 0 rfl rfl)
theorem dX2_as_1 : decode cX2_as 1 = .ok (.iconst 0, 1) := dk_3 (dk_at dksX2_as_0 1 rfl rfl)
theorem dX2_as_2 : decode cX2_as 2 = .ok (.putfield 98, 3) := dk_181 0 98 (dk_at dksX2_as_0 2 rfl rfl)
theorem dX2_as_5 : decode cX2_as 5 = .ok (.aload_n 0, 1) := dk_42 (dk_at dksX2_as_0 5 rfl rfl)
theorem dX2_as_6 : decode cX2_as 6 = .ok (.iload_n 1, 1) := dk_27 (dk_at dksX2_as_0 6 rfl rfl)
theorem dX2_as_7 : decode cX2_as 7 = .ok (.invokevirtual 151, 3) := dk_182 0 151 (dk_at dksX2_as_0 7 rfl rfl)
theorem dX2_as_10 : decode cX2_as 10 = .ok (.ifCond .ne 5, 3) := dk_154 0 5 (dk_at dksX2_as_0 10 rfl rfl)
theorem dX2_as_13 : decode cX2_as 13 = .ok (.iconst (-1), 1) := dk_2 (dk_at dksX2_as_0 13 rfl rfl)
theorem dX2_as_14 : decode cX2_as 14 = .ok (.ireturn, 1) := dk_172 (dk_at dksX2_as_0 14 rfl rfl)
theorem dX2_as_15 : decode cX2_as 15 = .ok (.iload_n 2, 1) := dk_28 (dk_at dksX2_as_0 15 rfl rfl)
theorem dX2_as_16 : decode cX2_as 16 = .ok (.iconst 0, 1) := dk_3 (dk_at dksX2_as_0 16 rfl rfl)
theorem dX2_as_17 : decode cX2_as 17 = .ok (.iconst 3, 1) := dk_6 (dk_at dksX2_as_0 17 rfl rfl)
theorem dX2_as_18 : decode cX2_as 18 = .ok (.invokestatic 110, 3) := dk_184 0 110 (dk_at dksX2_as_0 18 rfl rfl)
theorem dX2_as_21 : decode cX2_as 21 = .ok (.ifCond .ne 6, 3) := dk_154 0 6 (dk_at dksX2_as_0 21 rfl rfl)
theorem dX2_as_24 : decode cX2_as 24 = .ok (.bipush (-2), 2) := dk_16 254 (dk_at dksX2_as_1 0 rfl rfl)
theorem dX2_as_26 : decode cX2_as 26 = .ok (.ireturn, 1) := dk_172 (dk_at dksX2_as_1 2 rfl rfl)
theorem dX2_as_27 : decode cX2_as 27 = .ok (.aload_n 0, 1) := dk_42 (dk_at dksX2_as_1 3 rfl rfl)
theorem dX2_as_28 : decode cX2_as 28 = .ok (.iload_n 1, 1) := dk_27 (dk_at dksX2_as_1 4 rfl rfl)
theorem dX2_as_29 : decode cX2_as 29 = .ok (.invokevirtual 138, 3) := dk_182 0 138 (dk_at dksX2_as_1 5 rfl rfl)
theorem dX2_as_32 : decode cX2_as 32 = .ok (.istore_n 3, 1) := dk_62 (dk_at dksX2_as_1 8 rfl rfl)
theorem dX2_as_33 : decode cX2_as 33 = .ok (.iload_n 2, 1) := dk_28 (dk_at dksX2_as_1 9 rfl rfl)
theorem dX2_as_34 : decode cX2_as 34 = .ok (.ifCond .eq 18, 3) := dk_153 0 18 (dk_at dksX2_as_1 10 rfl rfl)
theorem dX2_as_37 : decode cX2_as 37 = .ok (.iload_n 2, 1) := dk_28 (dk_at dksX2_as_1 13 rfl rfl)
theorem dX2_as_38 : decode cX2_as 38 = .ok (.iload_n 3, 1) := dk_29 (dk_at dksX2_as_1 14 rfl rfl)
theorem dX2_as_39 : decode cX2_as 39 = .ok (.if_icmp .eq 13, 3) := dk_159 0 13 (dk_at dksX2_as_1 15 rfl rfl)
theorem dX2_as_42 : decode cX2_as 42 = .ok (.iload_n 2, 1) := dk_28 (dk_at dksX2_as_1 18 rfl rfl)
theorem dX2_as_43 : decode cX2_as 43 = .ok (.iconst 2, 1) := dk_5 (dk_at dksX2_as_1 19 rfl rfl)
theorem dX2_as_44 : decode cX2_as 44 = .ok (.if_icmp .ne 12, 3) := dk_160 0 12 (dk_at dksX2_as_1 20 rfl rfl)
theorem dX2_as_47 : decode cX2_as 47 = .ok (.iload_n 3, 1) := dk_29 (dk_at dksX2_as_1 23 rfl rfl)
theorem dX2_as_48 : decode cX2_as 48 = .ok (.iconst 3, 1) := dk_6 (dk_at dksX2_as_2 0 rfl rfl)
theorem dX2_as_49 : decode cX2_as 49 = .ok (.if_icmp .ne 7, 3) := dk_160 0 7 (dk_at dksX2_as_2 1 rfl rfl)
theorem dX2_as_52 : decode cX2_as 52 = .ok (.iconst 1, 1) := dk_4 (dk_at dksX2_as_2 4 rfl rfl)
theorem dX2_as_53 : decode cX2_as 53 = .ok (.goto 4, 3) := dk_167 0 4 (dk_at dksX2_as_2 5 rfl rfl)
theorem dX2_as_56 : decode cX2_as 56 = .ok (.iconst 0, 1) := dk_3 (dk_at dksX2_as_2 8 rfl rfl)
theorem dX2_as_57 : decode cX2_as 57 = .ok (.istore 4, 2) := dk_54 4 (dk_at dksX2_as_2 9 rfl rfl)
theorem dX2_as_59 : decode cX2_as 59 = .ok (.iload 4, 2) := dk_21 4 (dk_at dksX2_as_2 11 rfl rfl)
theorem dX2_as_61 : decode cX2_as 61 = .ok (.ifCond .eq 7, 3) := dk_153 0 7 (dk_at dksX2_as_2 13 rfl rfl)
theorem dX2_as_64 : decode cX2_as 64 = .ok (.iconst 1, 1) := dk_4 (dk_at dksX2_as_2 16 rfl rfl)
theorem dX2_as_65 : decode cX2_as 65 = .ok (.goto 8, 3) := dk_167 0 8 (dk_at dksX2_as_2 17 rfl rfl)
theorem dX2_as_68 : decode cX2_as 68 = .ok (.aload_n 0, 1) := dk_42 (dk_at dksX2_as_2 20 rfl rfl)
theorem dX2_as_69 : decode cX2_as 69 = .ok (.iconst 2, 1) := dk_5 (dk_at dksX2_as_2 21 rfl rfl)
theorem dX2_as_70 : decode cX2_as 70 = .ok (.invokevirtual 126, 3) := dk_182 0 126 (dk_at dksX2_as_3 0 rfl rfl)
theorem dX2_as_73 : decode cX2_as 73 = .ok (.ireturn, 1) := dk_172 (dk_at dksX2_as_3 3 rfl rfl)
abbrev cX2_trace : ByteArray := prog_13_method_55_code
def yX2_trace : MethodName := ⟨RX2, "trace", "()I"⟩
theorem dX2_trace_0 : decode cX2_trace 0 = .ok (.aload_n 0, 1) := by decide +kernel
theorem dX2_trace_1 : decode cX2_trace 1 = .ok (.getfield 221, 3) := by decide +kernel
theorem dX2_trace_4 : decode cX2_trace 4 = .ok (.ireturn, 1) := by decide +kernel
abbrev cX2_fault : ByteArray := prog_13_method_56_code
def yX2_fault : MethodName := ⟨RX2, "fault", "()I"⟩
theorem dX2_fault_0 : decode cX2_fault 0 = .ok (.aload_n 0, 1) := by decide +kernel
theorem dX2_fault_1 : decode cX2_fault 1 = .ok (.getfield 98, 3) := by decide +kernel
theorem dX2_fault_4 : decode cX2_fault 4 = .ok (.ireturn, 1) := by decide +kernel
abbrev cX2_told : ByteArray := prog_13_method_57_code
def yX2_told : MethodName := ⟨RX2, "told", "(I)I"⟩
def dkwX2_told_3 : List UInt8 := [172, 42, 180, 0, 189, 172, 42, 180, 0, 55, 27, 16, 6, 100, 46, 172, 16, 254, 172]
abbrev dktX2_told_3 : List UInt8 := dkwX2_told_3 ++ []
def dkwX2_told_2 : List UInt8 := [42, 180, 0, 104, 172, 42, 180, 0, 107, 172, 42, 180, 0, 160, 172, 42, 180, 0, 132, 172, 42, 180, 0, 135]
abbrev dktX2_told_2 : List UInt8 := dkwX2_told_2 ++ dktX2_told_3
def dkwX2_told_1 : List UInt8 := [170, 0, 0, 0, 0, 0, 95, 0, 0, 0, 0, 0, 0, 0, 9, 0, 0, 0, 55, 0, 0, 0, 60, 0, 0, 0, 65, 0, 0, 0, 70, 0, 0, 0, 75, 0, 0, 0, 80, 0, 0, 0, 85, 0, 0, 0, 85, 0, 0, 0, 85, 0, 0, 0, 85]
abbrev dktX2_told_1 : List UInt8 := dkwX2_told_1 ++ dktX2_told_2
def dkwX2_told_0 : List UInt8 := [27]
abbrev dktX2_told_0 : List UInt8 := dkwX2_told_0 ++ dktX2_told_1
theorem dksX2_told_0 : cX2_told.data.toList.drop 0 = dktX2_told_0 := by decide +kernel
theorem dksX2_told_1 : cX2_told.data.toList.drop 1 = dktX2_told_1 := dk_seg dksX2_told_0 1 rfl rfl
theorem dksX2_told_2 : cX2_told.data.toList.drop 56 = dktX2_told_2 := dk_seg dksX2_told_1 55 rfl rfl
theorem dksX2_told_3 : cX2_told.data.toList.drop 80 = dktX2_told_3 := dk_seg dksX2_told_2 24 rfl rfl
theorem dX2_told_0 : decode cX2_told 0 = .ok (.iload_n 1, 1) := dk_27 (dk_at dksX2_told_0 0 rfl rfl)
theorem dX2_told_1 : decode cX2_told 1 = .ok (.tableswitch 95 0 9 #[55, 60, 65, 70, 75, 80, 85, 85, 85, 85], 55) := by decide +kernel
theorem dX2_told_56 : decode cX2_told 56 = .ok (.aload_n 0, 1) := dk_42 (dk_at dksX2_told_2 0 rfl rfl)
theorem dX2_told_57 : decode cX2_told 57 = .ok (.getfield 104, 3) := dk_180 0 104 (dk_at dksX2_told_2 1 rfl rfl)
theorem dX2_told_60 : decode cX2_told 60 = .ok (.ireturn, 1) := dk_172 (dk_at dksX2_told_2 4 rfl rfl)
theorem dX2_told_61 : decode cX2_told 61 = .ok (.aload_n 0, 1) := dk_42 (dk_at dksX2_told_2 5 rfl rfl)
theorem dX2_told_62 : decode cX2_told 62 = .ok (.getfield 107, 3) := dk_180 0 107 (dk_at dksX2_told_2 6 rfl rfl)
theorem dX2_told_65 : decode cX2_told 65 = .ok (.ireturn, 1) := dk_172 (dk_at dksX2_told_2 9 rfl rfl)
theorem dX2_told_66 : decode cX2_told 66 = .ok (.aload_n 0, 1) := dk_42 (dk_at dksX2_told_2 10 rfl rfl)
theorem dX2_told_67 : decode cX2_told 67 = .ok (.getfield 160, 3) := dk_180 0 160 (dk_at dksX2_told_2 11 rfl rfl)
theorem dX2_told_70 : decode cX2_told 70 = .ok (.ireturn, 1) := dk_172 (dk_at dksX2_told_2 14 rfl rfl)
theorem dX2_told_71 : decode cX2_told 71 = .ok (.aload_n 0, 1) := dk_42 (dk_at dksX2_told_2 15 rfl rfl)
theorem dX2_told_72 : decode cX2_told 72 = .ok (.getfield 132, 3) := dk_180 0 132 (dk_at dksX2_told_2 16 rfl rfl)
theorem dX2_told_75 : decode cX2_told 75 = .ok (.ireturn, 1) := dk_172 (dk_at dksX2_told_2 19 rfl rfl)
theorem dX2_told_76 : decode cX2_told 76 = .ok (.aload_n 0, 1) := dk_42 (dk_at dksX2_told_2 20 rfl rfl)
theorem dX2_told_77 : decode cX2_told 77 = .ok (.getfield 135, 3) := dk_180 0 135 (dk_at dksX2_told_2 21 rfl rfl)
theorem dX2_told_80 : decode cX2_told 80 = .ok (.ireturn, 1) := dk_172 (dk_at dksX2_told_3 0 rfl rfl)
theorem dX2_told_81 : decode cX2_told 81 = .ok (.aload_n 0, 1) := dk_42 (dk_at dksX2_told_3 1 rfl rfl)
theorem dX2_told_82 : decode cX2_told 82 = .ok (.getfield 189, 3) := dk_180 0 189 (dk_at dksX2_told_3 2 rfl rfl)
theorem dX2_told_85 : decode cX2_told 85 = .ok (.ireturn, 1) := dk_172 (dk_at dksX2_told_3 5 rfl rfl)
theorem dX2_told_86 : decode cX2_told 86 = .ok (.aload_n 0, 1) := dk_42 (dk_at dksX2_told_3 6 rfl rfl)
theorem dX2_told_87 : decode cX2_told 87 = .ok (.getfield 55, 3) := dk_180 0 55 (dk_at dksX2_told_3 7 rfl rfl)
theorem dX2_told_90 : decode cX2_told 90 = .ok (.iload_n 1, 1) := dk_27 (dk_at dksX2_told_3 10 rfl rfl)
theorem dX2_told_91 : decode cX2_told 91 = .ok (.bipush 6, 2) := dk_16 6 (dk_at dksX2_told_3 11 rfl rfl)
theorem dX2_told_93 : decode cX2_told 93 = .ok (.isub, 1) := dk_100 (dk_at dksX2_told_3 13 rfl rfl)
theorem dX2_told_94 : decode cX2_told 94 = .ok (.iaload, 1) := dk_46 (dk_at dksX2_told_3 14 rfl rfl)
theorem dX2_told_95 : decode cX2_told 95 = .ok (.ireturn, 1) := dk_172 (dk_at dksX2_told_3 15 rfl rfl)
theorem dX2_told_96 : decode cX2_told 96 = .ok (.bipush (-2), 2) := dk_16 254 (dk_at dksX2_told_3 16 rfl rfl)
theorem dX2_told_98 : decode cX2_told 98 = .ok (.ireturn, 1) := dk_172 (dk_at dksX2_told_3 18 rfl rfl)
theorem q45 : (Jvm.Cond.initialized "TankFieldModel") ∈ lw_all := lw_g (lw_at lw_m1 3 rfl) rfl
theorem q922 : (Jvm.Cond.instantiable "TankFieldModel" (40 : Nat)) ∈ lw_all := lw_g (lw_at lw_m4 160 rfl) rfl
theorem q924 : (Jvm.Cond.instanceMethod ({ cls := "TankFieldModel", name := "<init>", desc := "()V" } : Jvm.MethodName)) ∈ lw_all := lw_g (lw_at lw_m4 162 rfl) rfl
theorem q925 : (Jvm.Cond.code ({ cls := "TankFieldModel", name := "<init>", desc := "()V" } : Jvm.MethodName) prog_13_method_1_code (1 : Nat) (Option.none : Option Jvm.ClassFile.FieldType)) ∈ lw_all := lw_g (lw_at lw_m4 163 rfl) rfl
theorem q926 : (Jvm.Cond.methodLink "TankFieldModel" (1 : Nat) ({ cls := "java/lang/Object", name := "<init>", desc := "()V" } : Jvm.MethodName)) ∈ lw_all := lw_g (lw_at lw_m4 164 rfl) rfl
theorem q927 : (Jvm.Cond.fieldLink "TankFieldModel" (98 : Nat) "TankFieldModel" "fault" "I") ∈ lw_all := lw_g (lw_at lw_m4 165 rfl) rfl
theorem q928 : (Jvm.Cond.fieldLink "TankFieldModel" (221 : Nat) "TankFieldModel" "trace" "I") ∈ lw_all := lw_g (lw_at lw_m4 166 rfl) rfl
theorem q929 : (Jvm.Cond.fieldLink "TankFieldModel" (104 : Nat) "TankFieldModel" "tanks" "I") ∈ lw_all := lw_g (lw_at lw_m4 167 rfl) rfl
theorem q930 : (Jvm.Cond.fieldLink "TankFieldModel" (7 : Nat) "TankFieldModel" "tankX" "[I") ∈ lw_all := lw_g (lw_at lw_m4 168 rfl) rfl
theorem q931 : (Jvm.Cond.fieldLink "TankFieldModel" (13 : Nat) "TankFieldModel" "tankY" "[I") ∈ lw_all := lw_g (lw_at lw_m4 169 rfl) rfl
theorem q932 : (Jvm.Cond.fieldLink "TankFieldModel" (107 : Nat) "TankFieldModel" "hits" "I") ∈ lw_all := lw_g (lw_at lw_m4 170 rfl) rfl
theorem q933 : (Jvm.Cond.fieldLink "TankFieldModel" (16 : Nat) "TankFieldModel" "hitTank" "[I") ∈ lw_all := lw_g (lw_at lw_m4 171 rfl) rfl
theorem q934 : (Jvm.Cond.fieldLink "TankFieldModel" (19 : Nat) "TankFieldModel" "hitTime" "[I") ∈ lw_all := lw_g (lw_at lw_m4 172 rfl) rfl
theorem q935 : (Jvm.Cond.fieldLink "TankFieldModel" (22 : Nat) "TankFieldModel" "hitLow" "[I") ∈ lw_all := lw_g (lw_at lw_m4 173 rfl) rfl
theorem q936 : (Jvm.Cond.fieldLink "TankFieldModel" (25 : Nat) "TankFieldModel" "hitHigh" "[I") ∈ lw_all := lw_g (lw_at lw_m4 174 rfl) rfl
theorem q937 : (Jvm.Cond.fieldLink "TankFieldModel" (132 : Nat) "TankFieldModel" "clocks" "I") ∈ lw_all := lw_g (lw_at lw_m4 175 rfl) rfl
theorem q938 : (Jvm.Cond.fieldLink "TankFieldModel" (28 : Nat) "TankFieldModel" "clockTank" "[I") ∈ lw_all := lw_g (lw_at lw_m4 176 rfl) rfl
theorem q939 : (Jvm.Cond.fieldLink "TankFieldModel" (31 : Nat) "TankFieldModel" "clockFrom" "[I") ∈ lw_all := lw_g (lw_at lw_m4 177 rfl) rfl
theorem q940 : (Jvm.Cond.fieldLink "TankFieldModel" (34 : Nat) "TankFieldModel" "clockBy" "[I") ∈ lw_all := lw_g (lw_at lw_m4 178 rfl) rfl
theorem q941 : (Jvm.Cond.fieldLink "TankFieldModel" (135 : Nat) "TankFieldModel" "downs" "I") ∈ lw_all := lw_g (lw_at lw_m4 179 rfl) rfl
theorem q942 : (Jvm.Cond.fieldLink "TankFieldModel" (37 : Nat) "TankFieldModel" "downTank" "[I") ∈ lw_all := lw_g (lw_at lw_m4 180 rfl) rfl
theorem q943 : (Jvm.Cond.fieldLink "TankFieldModel" (40 : Nat) "TankFieldModel" "downFrom" "[I") ∈ lw_all := lw_g (lw_at lw_m4 181 rfl) rfl
theorem q944 : (Jvm.Cond.fieldLink "TankFieldModel" (43 : Nat) "TankFieldModel" "downTo" "[I") ∈ lw_all := lw_g (lw_at lw_m4 182 rfl) rfl
theorem q945 : (Jvm.Cond.fieldLink "TankFieldModel" (46 : Nat) "TankFieldModel" "lanes" "[I") ∈ lw_all := lw_g (lw_at lw_m4 183 rfl) rfl
theorem q946 : (Jvm.Cond.fieldLink "TankFieldModel" (49 : Nat) "TankFieldModel" "sheetLong" "[I") ∈ lw_all := lw_g (lw_at lw_m4 184 rfl) rfl
theorem q947 : (Jvm.Cond.fieldLink "TankFieldModel" (52 : Nat) "TankFieldModel" "cells" "[I") ∈ lw_all := lw_g (lw_at lw_m4 185 rfl) rfl
theorem q948 : (Jvm.Cond.fieldLink "TankFieldModel" (55 : Nat) "TankFieldModel" "rules" "[I") ∈ lw_all := lw_g (lw_at lw_m4 186 rfl) rfl
theorem q949 : (Jvm.Cond.fieldLink "TankFieldModel" (189 : Nat) "TankFieldModel" "buildings" "I") ∈ lw_all := lw_g (lw_at lw_m4 187 rfl) rfl
theorem q950 : (Jvm.Cond.fieldLink "TankFieldModel" (58 : Nat) "TankFieldModel" "groupOf" "[I") ∈ lw_all := lw_g (lw_at lw_m4 188 rfl) rfl
theorem q951 : (Jvm.Cond.fieldLink "TankFieldModel" (61 : Nat) "TankFieldModel" "right" "[I") ∈ lw_all := lw_g (lw_at lw_m4 189 rfl) rfl
theorem q952 : (Jvm.Cond.fieldLink "TankFieldModel" (64 : Nat) "TankFieldModel" "queue" "[I") ∈ lw_all := lw_g (lw_at lw_m4 190 rfl) rfl
theorem q953 : (Jvm.Cond.fieldLink "TankFieldModel" (174 : Nat) "TankFieldModel" "made" "I") ∈ lw_all := lw_g (lw_at lw_m4 191 rfl) rfl
theorem q954 : (Jvm.Cond.fieldLink "TankFieldModel" (67 : Nat) "TankFieldModel" "madeGroup" "[I") ∈ lw_all := lw_g (lw_at lw_m4 192 rfl) rfl
theorem q955 : (Jvm.Cond.fieldLink "TankFieldModel" (70 : Nat) "TankFieldModel" "madeFirst" "[I") ∈ lw_all := lw_g (lw_at lw_m4 193 rfl) rfl
theorem q956 : (Jvm.Cond.fieldLink "TankFieldModel" (73 : Nat) "TankFieldModel" "best" "[I") ∈ lw_all := lw_g (lw_at lw_m4 194 rfl) rfl
theorem q957 : (Jvm.Cond.fieldLink "TankFieldModel" (160 : Nat) "TankFieldModel" "keptEvents" "I") ∈ lw_all := lw_g (lw_at lw_m4 195 rfl) rfl
theorem q958 : (Jvm.Cond.fieldLink "TankFieldModel" (148 : Nat) "TankFieldModel" "keptMembers" "I") ∈ lw_all := lw_g (lw_at lw_m4 196 rfl) rfl
theorem q959 : (Jvm.Cond.fieldLink "TankFieldModel" (76 : Nat) "TankFieldModel" "keptFrom" "[I") ∈ lw_all := lw_g (lw_at lw_m4 197 rfl) rfl
theorem q960 : (Jvm.Cond.fieldLink "TankFieldModel" (79 : Nat) "TankFieldModel" "keptHit" "[I") ∈ lw_all := lw_g (lw_at lw_m4 198 rfl) rfl
theorem q961 : (Jvm.Cond.fieldLink "TankFieldModel" (82 : Nat) "TankFieldModel" "keptTime" "[I") ∈ lw_all := lw_g (lw_at lw_m4 199 rfl) rfl
theorem q962 : (Jvm.Cond.fieldLink "TankFieldModel" (85 : Nat) "TankFieldModel" "keptSize" "[I") ∈ lw_all := lw_g (lw_at lw_m4 200 rfl) rfl
theorem q963 : (Jvm.Cond.fieldLink "TankFieldModel" (183 : Nat) "TankFieldModel" "oldEvents" "I") ∈ lw_all := lw_g (lw_at lw_m4 201 rfl) rfl
theorem q964 : (Jvm.Cond.fieldLink "TankFieldModel" (88 : Nat) "TankFieldModel" "oldFrom" "[I") ∈ lw_all := lw_g (lw_at lw_m4 202 rfl) rfl
theorem q965 : (Jvm.Cond.fieldLink "TankFieldModel" (91 : Nat) "TankFieldModel" "oldHit" "[I") ∈ lw_all := lw_g (lw_at lw_m4 203 rfl) rfl
theorem q966 : (Jvm.Cond.fieldLink "TankFieldModel" (94 : Nat) "TankFieldModel" "front" "[J") ∈ lw_all := lw_g (lw_at lw_m4 204 rfl) rfl
theorem q967 : (Jvm.Cond.lays "TankFieldModel" "TankFieldModel" "fault" "I") ∈ lw_all := lw_g (lw_at lw_m4 205 rfl) rfl
theorem q968 : (Jvm.Cond.soleField "TankFieldModel" "fault") ∈ lw_all := lw_g (lw_at lw_m4 206 rfl) rfl
theorem q969 : (Jvm.Cond.lays "TankFieldModel" "TankFieldModel" "trace" "I") ∈ lw_all := lw_g (lw_at lw_m4 207 rfl) rfl
theorem q970 : (Jvm.Cond.soleField "TankFieldModel" "trace") ∈ lw_all := lw_g (lw_at lw_m4 208 rfl) rfl
theorem q971 : (Jvm.Cond.lays "TankFieldModel" "TankFieldModel" "tanks" "I") ∈ lw_all := lw_g (lw_at lw_m4 209 rfl) rfl
theorem q972 : (Jvm.Cond.soleField "TankFieldModel" "tanks") ∈ lw_all := lw_g (lw_at lw_m4 210 rfl) rfl
theorem q973 : (Jvm.Cond.laysFinal "TankFieldModel" "TankFieldModel" "tankX" "[I") ∈ lw_all := lw_g (lw_at lw_m4 211 rfl) rfl
theorem q974 : (Jvm.Cond.soleField "TankFieldModel" "tankX") ∈ lw_all := lw_g (lw_at lw_m4 212 rfl) rfl
theorem q975 : (Jvm.Cond.laysFinal "TankFieldModel" "TankFieldModel" "tankY" "[I") ∈ lw_all := lw_g (lw_at lw_m4 213 rfl) rfl
theorem q976 : (Jvm.Cond.soleField "TankFieldModel" "tankY") ∈ lw_all := lw_g (lw_at lw_m4 214 rfl) rfl
theorem q977 : (Jvm.Cond.lays "TankFieldModel" "TankFieldModel" "hits" "I") ∈ lw_all := lw_g (lw_at lw_m4 215 rfl) rfl
theorem q978 : (Jvm.Cond.soleField "TankFieldModel" "hits") ∈ lw_all := lw_g (lw_at lw_m4 216 rfl) rfl
theorem q979 : (Jvm.Cond.laysFinal "TankFieldModel" "TankFieldModel" "hitTank" "[I") ∈ lw_all := lw_g (lw_at lw_m4 217 rfl) rfl
theorem q980 : (Jvm.Cond.soleField "TankFieldModel" "hitTank") ∈ lw_all := lw_g (lw_at lw_m4 218 rfl) rfl
theorem q981 : (Jvm.Cond.laysFinal "TankFieldModel" "TankFieldModel" "hitTime" "[I") ∈ lw_all := lw_g (lw_at lw_m4 219 rfl) rfl
theorem q982 : (Jvm.Cond.soleField "TankFieldModel" "hitTime") ∈ lw_all := lw_g (lw_at lw_m4 220 rfl) rfl
theorem q983 : (Jvm.Cond.laysFinal "TankFieldModel" "TankFieldModel" "hitLow" "[I") ∈ lw_all := lw_g (lw_at lw_m4 221 rfl) rfl
theorem q984 : (Jvm.Cond.soleField "TankFieldModel" "hitLow") ∈ lw_all := lw_g (lw_at lw_m4 222 rfl) rfl
theorem q985 : (Jvm.Cond.laysFinal "TankFieldModel" "TankFieldModel" "hitHigh" "[I") ∈ lw_all := lw_g (lw_at lw_m4 223 rfl) rfl
theorem q986 : (Jvm.Cond.soleField "TankFieldModel" "hitHigh") ∈ lw_all := lw_g (lw_at lw_m4 224 rfl) rfl
theorem q987 : (Jvm.Cond.lays "TankFieldModel" "TankFieldModel" "clocks" "I") ∈ lw_all := lw_g (lw_at lw_m4 225 rfl) rfl
theorem q988 : (Jvm.Cond.soleField "TankFieldModel" "clocks") ∈ lw_all := lw_g (lw_at lw_m4 226 rfl) rfl
theorem q989 : (Jvm.Cond.laysFinal "TankFieldModel" "TankFieldModel" "clockTank" "[I") ∈ lw_all := lw_g (lw_at lw_m4 227 rfl) rfl
theorem q990 : (Jvm.Cond.soleField "TankFieldModel" "clockTank") ∈ lw_all := lw_g (lw_at lw_m4 228 rfl) rfl
theorem q991 : (Jvm.Cond.laysFinal "TankFieldModel" "TankFieldModel" "clockFrom" "[I") ∈ lw_all := lw_g (lw_at lw_m4 229 rfl) rfl
theorem q992 : (Jvm.Cond.soleField "TankFieldModel" "clockFrom") ∈ lw_all := lw_g (lw_at lw_m4 230 rfl) rfl
theorem q993 : (Jvm.Cond.laysFinal "TankFieldModel" "TankFieldModel" "clockBy" "[I") ∈ lw_all := lw_g (lw_at lw_m4 231 rfl) rfl
theorem q994 : (Jvm.Cond.soleField "TankFieldModel" "clockBy") ∈ lw_all := lw_g (lw_at lw_m4 232 rfl) rfl
theorem q995 : (Jvm.Cond.lays "TankFieldModel" "TankFieldModel" "downs" "I") ∈ lw_all := lw_g (lw_at lw_m4 233 rfl) rfl
theorem q996 : (Jvm.Cond.soleField "TankFieldModel" "downs") ∈ lw_all := lw_g (lw_at lw_m4 234 rfl) rfl
theorem q997 : (Jvm.Cond.laysFinal "TankFieldModel" "TankFieldModel" "downTank" "[I") ∈ lw_all := lw_g (lw_at lw_m4 235 rfl) rfl
theorem q998 : (Jvm.Cond.soleField "TankFieldModel" "downTank") ∈ lw_all := lw_g (lw_at lw_m4 236 rfl) rfl
theorem q999 : (Jvm.Cond.laysFinal "TankFieldModel" "TankFieldModel" "downFrom" "[I") ∈ lw_all := lw_g (lw_at lw_m4 237 rfl) rfl
theorem q1000 : (Jvm.Cond.soleField "TankFieldModel" "downFrom") ∈ lw_all := lw_g (lw_at lw_m4 238 rfl) rfl
theorem q1001 : (Jvm.Cond.laysFinal "TankFieldModel" "TankFieldModel" "downTo" "[I") ∈ lw_all := lw_g (lw_at lw_m4 239 rfl) rfl
theorem q1002 : (Jvm.Cond.soleField "TankFieldModel" "downTo") ∈ lw_all := lw_g (lw_at lw_m5 0 rfl) rfl
theorem q1003 : (Jvm.Cond.laysFinal "TankFieldModel" "TankFieldModel" "lanes" "[I") ∈ lw_all := lw_g (lw_at lw_m5 1 rfl) rfl
theorem q1004 : (Jvm.Cond.soleField "TankFieldModel" "lanes") ∈ lw_all := lw_g (lw_at lw_m5 2 rfl) rfl
theorem q1005 : (Jvm.Cond.laysFinal "TankFieldModel" "TankFieldModel" "sheetLong" "[I") ∈ lw_all := lw_g (lw_at lw_m5 3 rfl) rfl
theorem q1006 : (Jvm.Cond.soleField "TankFieldModel" "sheetLong") ∈ lw_all := lw_g (lw_at lw_m5 4 rfl) rfl
theorem q1007 : (Jvm.Cond.laysFinal "TankFieldModel" "TankFieldModel" "cells" "[I") ∈ lw_all := lw_g (lw_at lw_m5 5 rfl) rfl
theorem q1008 : (Jvm.Cond.soleField "TankFieldModel" "cells") ∈ lw_all := lw_g (lw_at lw_m5 6 rfl) rfl
theorem q1009 : (Jvm.Cond.laysFinal "TankFieldModel" "TankFieldModel" "rules" "[I") ∈ lw_all := lw_g (lw_at lw_m5 7 rfl) rfl
theorem q1010 : (Jvm.Cond.soleField "TankFieldModel" "rules") ∈ lw_all := lw_g (lw_at lw_m5 8 rfl) rfl
theorem q1011 : (Jvm.Cond.lays "TankFieldModel" "TankFieldModel" "buildings" "I") ∈ lw_all := lw_g (lw_at lw_m5 9 rfl) rfl
theorem q1012 : (Jvm.Cond.soleField "TankFieldModel" "buildings") ∈ lw_all := lw_g (lw_at lw_m5 10 rfl) rfl
theorem q1013 : (Jvm.Cond.laysFinal "TankFieldModel" "TankFieldModel" "groupOf" "[I") ∈ lw_all := lw_g (lw_at lw_m5 11 rfl) rfl
theorem q1014 : (Jvm.Cond.soleField "TankFieldModel" "groupOf") ∈ lw_all := lw_g (lw_at lw_m5 12 rfl) rfl
theorem q1015 : (Jvm.Cond.laysFinal "TankFieldModel" "TankFieldModel" "right" "[I") ∈ lw_all := lw_g (lw_at lw_m5 13 rfl) rfl
theorem q1016 : (Jvm.Cond.soleField "TankFieldModel" "right") ∈ lw_all := lw_g (lw_at lw_m5 14 rfl) rfl
theorem q1017 : (Jvm.Cond.laysFinal "TankFieldModel" "TankFieldModel" "queue" "[I") ∈ lw_all := lw_g (lw_at lw_m5 15 rfl) rfl
theorem q1018 : (Jvm.Cond.soleField "TankFieldModel" "queue") ∈ lw_all := lw_g (lw_at lw_m5 16 rfl) rfl
theorem q1019 : (Jvm.Cond.lays "TankFieldModel" "TankFieldModel" "made" "I") ∈ lw_all := lw_g (lw_at lw_m5 17 rfl) rfl
theorem q1020 : (Jvm.Cond.soleField "TankFieldModel" "made") ∈ lw_all := lw_g (lw_at lw_m5 18 rfl) rfl
theorem q1021 : (Jvm.Cond.laysFinal "TankFieldModel" "TankFieldModel" "madeGroup" "[I") ∈ lw_all := lw_g (lw_at lw_m5 19 rfl) rfl
theorem q1022 : (Jvm.Cond.soleField "TankFieldModel" "madeGroup") ∈ lw_all := lw_g (lw_at lw_m5 20 rfl) rfl
theorem q1023 : (Jvm.Cond.laysFinal "TankFieldModel" "TankFieldModel" "madeFirst" "[I") ∈ lw_all := lw_g (lw_at lw_m5 21 rfl) rfl
theorem q1024 : (Jvm.Cond.soleField "TankFieldModel" "madeFirst") ∈ lw_all := lw_g (lw_at lw_m5 22 rfl) rfl
theorem q1025 : (Jvm.Cond.laysFinal "TankFieldModel" "TankFieldModel" "best" "[I") ∈ lw_all := lw_g (lw_at lw_m5 23 rfl) rfl
theorem q1026 : (Jvm.Cond.soleField "TankFieldModel" "best") ∈ lw_all := lw_g (lw_at lw_m5 24 rfl) rfl
theorem q1027 : (Jvm.Cond.lays "TankFieldModel" "TankFieldModel" "keptEvents" "I") ∈ lw_all := lw_g (lw_at lw_m5 25 rfl) rfl
theorem q1028 : (Jvm.Cond.soleField "TankFieldModel" "keptEvents") ∈ lw_all := lw_g (lw_at lw_m5 26 rfl) rfl
theorem q1029 : (Jvm.Cond.lays "TankFieldModel" "TankFieldModel" "keptMembers" "I") ∈ lw_all := lw_g (lw_at lw_m5 27 rfl) rfl
theorem q1030 : (Jvm.Cond.soleField "TankFieldModel" "keptMembers") ∈ lw_all := lw_g (lw_at lw_m5 28 rfl) rfl
theorem q1031 : (Jvm.Cond.laysFinal "TankFieldModel" "TankFieldModel" "keptFrom" "[I") ∈ lw_all := lw_g (lw_at lw_m5 29 rfl) rfl
theorem q1032 : (Jvm.Cond.soleField "TankFieldModel" "keptFrom") ∈ lw_all := lw_g (lw_at lw_m5 30 rfl) rfl
theorem q1033 : (Jvm.Cond.laysFinal "TankFieldModel" "TankFieldModel" "keptHit" "[I") ∈ lw_all := lw_g (lw_at lw_m5 31 rfl) rfl
theorem q1034 : (Jvm.Cond.soleField "TankFieldModel" "keptHit") ∈ lw_all := lw_g (lw_at lw_m5 32 rfl) rfl
theorem q1035 : (Jvm.Cond.laysFinal "TankFieldModel" "TankFieldModel" "keptTime" "[I") ∈ lw_all := lw_g (lw_at lw_m5 33 rfl) rfl
theorem q1036 : (Jvm.Cond.soleField "TankFieldModel" "keptTime") ∈ lw_all := lw_g (lw_at lw_m5 34 rfl) rfl
theorem q1037 : (Jvm.Cond.laysFinal "TankFieldModel" "TankFieldModel" "keptSize" "[I") ∈ lw_all := lw_g (lw_at lw_m5 35 rfl) rfl
theorem q1038 : (Jvm.Cond.soleField "TankFieldModel" "keptSize") ∈ lw_all := lw_g (lw_at lw_m5 36 rfl) rfl
theorem q1039 : (Jvm.Cond.lays "TankFieldModel" "TankFieldModel" "oldEvents" "I") ∈ lw_all := lw_g (lw_at lw_m5 37 rfl) rfl
theorem q1040 : (Jvm.Cond.soleField "TankFieldModel" "oldEvents") ∈ lw_all := lw_g (lw_at lw_m5 38 rfl) rfl
theorem q1041 : (Jvm.Cond.laysFinal "TankFieldModel" "TankFieldModel" "oldFrom" "[I") ∈ lw_all := lw_g (lw_at lw_m5 39 rfl) rfl
theorem q1042 : (Jvm.Cond.soleField "TankFieldModel" "oldFrom") ∈ lw_all := lw_g (lw_at lw_m5 40 rfl) rfl
theorem q1043 : (Jvm.Cond.laysFinal "TankFieldModel" "TankFieldModel" "oldHit" "[I") ∈ lw_all := lw_g (lw_at lw_m5 41 rfl) rfl
theorem q1044 : (Jvm.Cond.soleField "TankFieldModel" "oldHit") ∈ lw_all := lw_g (lw_at lw_m5 42 rfl) rfl
theorem q1045 : (Jvm.Cond.laysFinal "TankFieldModel" "TankFieldModel" "front" "[J") ∈ lw_all := lw_g (lw_at lw_m5 43 rfl) rfl
theorem q1046 : (Jvm.Cond.soleField "TankFieldModel" "front") ∈ lw_all := lw_g (lw_at lw_m5 44 rfl) rfl
theorem q1047 : (Jvm.Cond.superclass "TankFieldModel" "java/lang/Object") ∈ lw_all := lw_g (lw_at lw_m5 45 rfl) rfl
theorem q1049 : (Jvm.Cond.instanceMethod ({ cls := "TankFieldModel", name := "tank", desc := "(II)I" } : Jvm.MethodName)) ∈ lw_all := lw_g (lw_at lw_m5 47 rfl) rfl
theorem q1050 : (Jvm.Cond.selects "TankFieldModel" ({ cls := "TankFieldModel", name := "tank", desc := "(II)I" } : Jvm.MethodName) ({ cls := "TankFieldModel", name := "tank", desc := "(II)I" } : Jvm.MethodName)) ∈ lw_all := lw_g (lw_at lw_m5 48 rfl) rfl
theorem q1051 : (Jvm.Cond.code ({ cls := "TankFieldModel", name := "tank", desc := "(II)I" } : Jvm.MethodName) prog_13_method_8_code (3 : Nat) (Option.some Jvm.ClassFile.FieldType.int)) ∈ lw_all := lw_g (lw_at lw_m5 49 rfl) rfl
theorem q1052 : (Jvm.Cond.methodLink "TankFieldModel" (110 : Nat) ({ cls := "TankFieldModel", name := "within", desc := "(III)Z" } : Jvm.MethodName)) ∈ lw_all := lw_g (lw_at lw_m5 50 rfl) rfl
theorem q1053 : (Jvm.Cond.static ({ cls := "TankFieldModel", name := "within", desc := "(III)Z" } : Jvm.MethodName)) ∈ lw_all := lw_g (lw_at lw_m5 51 rfl) rfl
theorem q1054 : (Jvm.Cond.code ({ cls := "TankFieldModel", name := "within", desc := "(III)Z" } : Jvm.MethodName) prog_13_method_5_code (3 : Nat) (Option.some Jvm.ClassFile.FieldType.boolean)) ∈ lw_all := lw_g (lw_at lw_m5 52 rfl) rfl
theorem q1056 : (Jvm.Cond.instanceMethod ({ cls := "TankFieldModel", name := "hit", desc := "(IIII)I" } : Jvm.MethodName)) ∈ lw_all := lw_g (lw_at lw_m5 54 rfl) rfl
theorem q1057 : (Jvm.Cond.selects "TankFieldModel" ({ cls := "TankFieldModel", name := "hit", desc := "(IIII)I" } : Jvm.MethodName) ({ cls := "TankFieldModel", name := "hit", desc := "(IIII)I" } : Jvm.MethodName)) ∈ lw_all := lw_g (lw_at lw_m5 55 rfl) rfl
theorem q1058 : (Jvm.Cond.code ({ cls := "TankFieldModel", name := "hit", desc := "(IIII)I" } : Jvm.MethodName) prog_13_method_11_code (6 : Nat) (Option.some Jvm.ClassFile.FieldType.int)) ∈ lw_all := lw_g (lw_at lw_m5 56 rfl) rfl
theorem q1059 : (Jvm.Cond.methodLink "TankFieldModel" (118 : Nat) ({ cls := "TankFieldModel", name := "against", desc := "(IIII)I" } : Jvm.MethodName)) ∈ lw_all := lw_g (lw_at lw_m5 57 rfl) rfl
theorem q1060 : (Jvm.Cond.privateMethod ({ cls := "TankFieldModel", name := "against", desc := "(IIII)I" } : Jvm.MethodName)) ∈ lw_tbl := lw_at lw_m5 58 rfl
theorem q1061 : (Jvm.Cond.instanceMethod ({ cls := "TankFieldModel", name := "against", desc := "(IIII)I" } : Jvm.MethodName)) ∈ lw_all := lw_g (lw_at lw_m5 59 rfl) rfl
theorem q1062 : (Jvm.Cond.code ({ cls := "TankFieldModel", name := "against", desc := "(IIII)I" } : Jvm.MethodName) prog_13_method_9_code (6 : Nat) (Option.some Jvm.ClassFile.FieldType.int)) ∈ lw_all := lw_g (lw_at lw_m5 60 rfl) rfl
theorem q1063 : (Jvm.Cond.methodLink "TankFieldModel" (114 : Nat) ({ cls := "TankFieldModel", name := "isTank", desc := "(I)Z" } : Jvm.MethodName)) ∈ lw_all := lw_g (lw_at lw_m5 61 rfl) rfl
theorem q1064 : (Jvm.Cond.privateMethod ({ cls := "TankFieldModel", name := "isTank", desc := "(I)Z" } : Jvm.MethodName)) ∈ lw_tbl := lw_at lw_m5 62 rfl
theorem q1065 : (Jvm.Cond.instanceMethod ({ cls := "TankFieldModel", name := "isTank", desc := "(I)Z" } : Jvm.MethodName)) ∈ lw_all := lw_g (lw_at lw_m5 63 rfl) rfl
theorem q1066 : (Jvm.Cond.code ({ cls := "TankFieldModel", name := "isTank", desc := "(I)Z" } : Jvm.MethodName) prog_13_method_6_code (2 : Nat) (Option.some Jvm.ClassFile.FieldType.boolean)) ∈ lw_all := lw_g (lw_at lw_m5 64 rfl) rfl
theorem q1067 : (Jvm.Cond.methodLink "TankFieldModel" (122 : Nat) ({ cls := "TankFieldModel", name := "addHit", desc := "(IIII)V" } : Jvm.MethodName)) ∈ lw_all := lw_g (lw_at lw_m5 65 rfl) rfl
theorem q1068 : (Jvm.Cond.privateMethod ({ cls := "TankFieldModel", name := "addHit", desc := "(IIII)V" } : Jvm.MethodName)) ∈ lw_tbl := lw_at lw_m5 66 rfl
theorem q1069 : (Jvm.Cond.instanceMethod ({ cls := "TankFieldModel", name := "addHit", desc := "(IIII)V" } : Jvm.MethodName)) ∈ lw_all := lw_g (lw_at lw_m5 67 rfl) rfl
theorem q1070 : (Jvm.Cond.code ({ cls := "TankFieldModel", name := "addHit", desc := "(IIII)V" } : Jvm.MethodName) prog_13_method_10_code (5 : Nat) (Option.none : Option Jvm.ClassFile.FieldType)) ∈ lw_all := lw_g (lw_at lw_m5 68 rfl) rfl
theorem q1072 : (Jvm.Cond.instanceMethod ({ cls := "TankFieldModel", name := "load", desc := "(IIII)I" } : Jvm.MethodName)) ∈ lw_all := lw_g (lw_at lw_m5 70 rfl) rfl
theorem q1073 : (Jvm.Cond.selects "TankFieldModel" ({ cls := "TankFieldModel", name := "load", desc := "(IIII)I" } : Jvm.MethodName) ({ cls := "TankFieldModel", name := "load", desc := "(IIII)I" } : Jvm.MethodName)) ∈ lw_all := lw_g (lw_at lw_m5 71 rfl) rfl
theorem q1074 : (Jvm.Cond.code ({ cls := "TankFieldModel", name := "load", desc := "(IIII)I" } : Jvm.MethodName) prog_13_method_12_code (8 : Nat) (Option.some Jvm.ClassFile.FieldType.int)) ∈ lw_all := lw_g (lw_at lw_m5 72 rfl) rfl
theorem q1075 : (Jvm.Cond.methodLink "TankFieldModel" (126 : Nat) ({ cls := "TankFieldModel", name := "fails", desc := "(I)I" } : Jvm.MethodName)) ∈ lw_all := lw_g (lw_at lw_m5 73 rfl) rfl
theorem q1076 : (Jvm.Cond.privateMethod ({ cls := "TankFieldModel", name := "fails", desc := "(I)I" } : Jvm.MethodName)) ∈ lw_tbl := lw_at lw_m5 74 rfl
theorem q1077 : (Jvm.Cond.instanceMethod ({ cls := "TankFieldModel", name := "fails", desc := "(I)I" } : Jvm.MethodName)) ∈ lw_all := lw_g (lw_at lw_m5 75 rfl) rfl
theorem q1078 : (Jvm.Cond.code ({ cls := "TankFieldModel", name := "fails", desc := "(I)I" } : Jvm.MethodName) prog_13_method_3_code (2 : Nat) (Option.some Jvm.ClassFile.FieldType.int)) ∈ lw_all := lw_g (lw_at lw_m5 76 rfl) rfl
theorem q1079 : (Jvm.Cond.constantLong "TankFieldModel" (130 : Nat) (4 : Int64)) ∈ lw_all := lw_g (lw_at lw_m5 77 rfl) rfl
theorem q1081 : (Jvm.Cond.instanceMethod ({ cls := "TankFieldModel", name := "clock", desc := "(III)I" } : Jvm.MethodName)) ∈ lw_all := lw_g (lw_at lw_m5 79 rfl) rfl
theorem q1082 : (Jvm.Cond.selects "TankFieldModel" ({ cls := "TankFieldModel", name := "clock", desc := "(III)I" } : Jvm.MethodName) ({ cls := "TankFieldModel", name := "clock", desc := "(III)I" } : Jvm.MethodName)) ∈ lw_all := lw_g (lw_at lw_m5 80 rfl) rfl
theorem q1083 : (Jvm.Cond.code ({ cls := "TankFieldModel", name := "clock", desc := "(III)I" } : Jvm.MethodName) prog_13_method_13_code (4 : Nat) (Option.some Jvm.ClassFile.FieldType.int)) ∈ lw_all := lw_g (lw_at lw_m5 81 rfl) rfl
theorem q1085 : (Jvm.Cond.instanceMethod ({ cls := "TankFieldModel", name := "down", desc := "(III)I" } : Jvm.MethodName)) ∈ lw_all := lw_g (lw_at lw_m5 83 rfl) rfl
theorem q1086 : (Jvm.Cond.selects "TankFieldModel" ({ cls := "TankFieldModel", name := "down", desc := "(III)I" } : Jvm.MethodName) ({ cls := "TankFieldModel", name := "down", desc := "(III)I" } : Jvm.MethodName)) ∈ lw_all := lw_g (lw_at lw_m5 84 rfl) rfl
theorem q1087 : (Jvm.Cond.code ({ cls := "TankFieldModel", name := "down", desc := "(III)I" } : Jvm.MethodName) prog_13_method_14_code (4 : Nat) (Option.some Jvm.ClassFile.FieldType.int)) ∈ lw_all := lw_g (lw_at lw_m5 85 rfl) rfl
theorem q1089 : (Jvm.Cond.instanceMethod ({ cls := "TankFieldModel", name := "about", desc := "(II)I" } : Jvm.MethodName)) ∈ lw_all := lw_g (lw_at lw_m5 87 rfl) rfl
theorem q1090 : (Jvm.Cond.selects "TankFieldModel" ({ cls := "TankFieldModel", name := "about", desc := "(II)I" } : Jvm.MethodName) ({ cls := "TankFieldModel", name := "about", desc := "(II)I" } : Jvm.MethodName)) ∈ lw_all := lw_g (lw_at lw_m5 88 rfl) rfl
theorem q1091 : (Jvm.Cond.code ({ cls := "TankFieldModel", name := "about", desc := "(II)I" } : Jvm.MethodName) prog_13_method_20_code (5 : Nat) (Option.some Jvm.ClassFile.FieldType.int)) ∈ lw_all := lw_g (lw_at lw_m5 89 rfl) rfl
theorem q1092 : (Jvm.Cond.methodLink "TankFieldModel" (145 : Nat) ({ cls := "TankFieldModel", name := "isLooked", desc := "(I)Z" } : Jvm.MethodName)) ∈ lw_all := lw_g (lw_at lw_m5 90 rfl) rfl
theorem q1093 : (Jvm.Cond.privateMethod ({ cls := "TankFieldModel", name := "isLooked", desc := "(I)Z" } : Jvm.MethodName)) ∈ lw_tbl := lw_at lw_m5 91 rfl
theorem q1094 : (Jvm.Cond.instanceMethod ({ cls := "TankFieldModel", name := "isLooked", desc := "(I)Z" } : Jvm.MethodName)) ∈ lw_all := lw_g (lw_at lw_m5 92 rfl) rfl
theorem q1095 : (Jvm.Cond.code ({ cls := "TankFieldModel", name := "isLooked", desc := "(I)Z" } : Jvm.MethodName) prog_13_method_19_code (2 : Nat) (Option.some Jvm.ClassFile.FieldType.boolean)) ∈ lw_all := lw_g (lw_at lw_m5 93 rfl) rfl
theorem q1096 : (Jvm.Cond.methodLink "TankFieldModel" (141 : Nat) ({ cls := "TankFieldModel", name := "downUpTo", desc := "(II)I" } : Jvm.MethodName)) ∈ lw_all := lw_g (lw_at lw_m5 94 rfl) rfl
theorem q1097 : (Jvm.Cond.privateMethod ({ cls := "TankFieldModel", name := "downUpTo", desc := "(II)I" } : Jvm.MethodName)) ∈ lw_tbl := lw_at lw_m5 95 rfl
theorem q1098 : (Jvm.Cond.instanceMethod ({ cls := "TankFieldModel", name := "downUpTo", desc := "(II)I" } : Jvm.MethodName)) ∈ lw_all := lw_g (lw_at lw_m5 96 rfl) rfl
theorem q1099 : (Jvm.Cond.code ({ cls := "TankFieldModel", name := "downUpTo", desc := "(II)I" } : Jvm.MethodName) prog_13_method_18_code (5 : Nat) (Option.some Jvm.ClassFile.FieldType.int)) ∈ lw_all := lw_g (lw_at lw_m5 97 rfl) rfl
theorem q1101 : (Jvm.Cond.instanceMethod ({ cls := "TankFieldModel", name := "struck", desc := "(II)I" } : Jvm.MethodName)) ∈ lw_all := lw_g (lw_at lw_m5 99 rfl) rfl
theorem q1102 : (Jvm.Cond.selects "TankFieldModel" ({ cls := "TankFieldModel", name := "struck", desc := "(II)I" } : Jvm.MethodName) ({ cls := "TankFieldModel", name := "struck", desc := "(II)I" } : Jvm.MethodName)) ∈ lw_all := lw_g (lw_at lw_m5 100 rfl) rfl
theorem q1103 : (Jvm.Cond.code ({ cls := "TankFieldModel", name := "struck", desc := "(II)I" } : Jvm.MethodName) prog_13_method_21_code (5 : Nat) (Option.some Jvm.ClassFile.FieldType.int)) ∈ lw_all := lw_g (lw_at lw_m5 101 rfl) rfl
theorem q1104 : (Jvm.Cond.methodLink "TankFieldModel" (151 : Nat) ({ cls := "TankFieldModel", name := "isHit", desc := "(I)Z" } : Jvm.MethodName)) ∈ lw_all := lw_g (lw_at lw_m5 102 rfl) rfl
theorem q1105 : (Jvm.Cond.privateMethod ({ cls := "TankFieldModel", name := "isHit", desc := "(I)Z" } : Jvm.MethodName)) ∈ lw_tbl := lw_at lw_m5 103 rfl
theorem q1106 : (Jvm.Cond.instanceMethod ({ cls := "TankFieldModel", name := "isHit", desc := "(I)Z" } : Jvm.MethodName)) ∈ lw_all := lw_g (lw_at lw_m5 104 rfl) rfl
theorem q1107 : (Jvm.Cond.code ({ cls := "TankFieldModel", name := "isHit", desc := "(I)Z" } : Jvm.MethodName) prog_13_method_7_code (2 : Nat) (Option.some Jvm.ClassFile.FieldType.boolean)) ∈ lw_all := lw_g (lw_at lw_m5 105 rfl) rfl
theorem q1108 : (Jvm.Cond.methodLink "TankFieldModel" (154 : Nat) ({ cls := "TankFieldModel", name := "rightTime", desc := "(I)I" } : Jvm.MethodName)) ∈ lw_all := lw_g (lw_at lw_m5 106 rfl) rfl
theorem q1109 : (Jvm.Cond.privateMethod ({ cls := "TankFieldModel", name := "rightTime", desc := "(I)I" } : Jvm.MethodName)) ∈ lw_tbl := lw_at lw_m5 107 rfl
theorem q1110 : (Jvm.Cond.instanceMethod ({ cls := "TankFieldModel", name := "rightTime", desc := "(I)I" } : Jvm.MethodName)) ∈ lw_all := lw_g (lw_at lw_m5 108 rfl) rfl
theorem q1111 : (Jvm.Cond.code ({ cls := "TankFieldModel", name := "rightTime", desc := "(I)I" } : Jvm.MethodName) prog_13_method_17_code (3 : Nat) (Option.some Jvm.ClassFile.FieldType.int)) ∈ lw_all := lw_g (lw_at lw_m5 109 rfl) rfl
theorem q1112 : (Jvm.Cond.methodLink "TankFieldModel" (138 : Nat) ({ cls := "TankFieldModel", name := "kindOf", desc := "(I)I" } : Jvm.MethodName)) ∈ lw_all := lw_g (lw_at lw_m5 110 rfl) rfl
theorem q1113 : (Jvm.Cond.privateMethod ({ cls := "TankFieldModel", name := "kindOf", desc := "(I)I" } : Jvm.MethodName)) ∈ lw_tbl := lw_at lw_m5 111 rfl
theorem q1114 : (Jvm.Cond.instanceMethod ({ cls := "TankFieldModel", name := "kindOf", desc := "(I)I" } : Jvm.MethodName)) ∈ lw_all := lw_g (lw_at lw_m5 112 rfl) rfl
theorem q1115 : (Jvm.Cond.code ({ cls := "TankFieldModel", name := "kindOf", desc := "(I)I" } : Jvm.MethodName) prog_13_method_15_code (2 : Nat) (Option.some Jvm.ClassFile.FieldType.int)) ∈ lw_all := lw_g (lw_at lw_m5 113 rfl) rfl
theorem q1116 : (Jvm.Cond.methodLink "TankFieldModel" (157 : Nat) ({ cls := "TankFieldModel", name := "amountOf", desc := "(I)I" } : Jvm.MethodName)) ∈ lw_all := lw_g (lw_at lw_m5 114 rfl) rfl
theorem q1117 : (Jvm.Cond.privateMethod ({ cls := "TankFieldModel", name := "amountOf", desc := "(I)I" } : Jvm.MethodName)) ∈ lw_tbl := lw_at lw_m5 115 rfl
theorem q1118 : (Jvm.Cond.instanceMethod ({ cls := "TankFieldModel", name := "amountOf", desc := "(I)I" } : Jvm.MethodName)) ∈ lw_all := lw_g (lw_at lw_m5 116 rfl) rfl
theorem q1119 : (Jvm.Cond.code ({ cls := "TankFieldModel", name := "amountOf", desc := "(I)I" } : Jvm.MethodName) prog_13_method_16_code (2 : Nat) (Option.some Jvm.ClassFile.FieldType.int)) ∈ lw_all := lw_g (lw_at lw_m5 117 rfl) rfl
theorem q1121 : (Jvm.Cond.instanceMethod ({ cls := "TankFieldModel", name := "exposure", desc := "(II)J" } : Jvm.MethodName)) ∈ lw_all := lw_g (lw_at lw_m5 119 rfl) rfl
theorem q1122 : (Jvm.Cond.selects "TankFieldModel" ({ cls := "TankFieldModel", name := "exposure", desc := "(II)J" } : Jvm.MethodName) ({ cls := "TankFieldModel", name := "exposure", desc := "(II)J" } : Jvm.MethodName)) ∈ lw_all := lw_g (lw_at lw_m5 120 rfl) rfl
theorem q1123 : (Jvm.Cond.code ({ cls := "TankFieldModel", name := "exposure", desc := "(II)J" } : Jvm.MethodName) prog_13_method_22_code (10 : Nat) (Option.some Jvm.ClassFile.FieldType.long)) ∈ lw_all := lw_g (lw_at lw_m5 121 rfl) rfl
theorem q1124 : (Jvm.Cond.constantLong "TankFieldModel" (102 : Nat) (-9223372036854775808 : Int64)) ∈ lw_all := lw_g (lw_at lw_m5 122 rfl) rfl
theorem q1126 : (Jvm.Cond.instanceMethod ({ cls := "TankFieldModel", name := "rule", desc := "(II)I" } : Jvm.MethodName)) ∈ lw_all := lw_g (lw_at lw_m5 124 rfl) rfl
theorem q1127 : (Jvm.Cond.selects "TankFieldModel" ({ cls := "TankFieldModel", name := "rule", desc := "(II)I" } : Jvm.MethodName) ({ cls := "TankFieldModel", name := "rule", desc := "(II)I" } : Jvm.MethodName)) ∈ lw_all := lw_g (lw_at lw_m5 125 rfl) rfl
theorem q1128 : (Jvm.Cond.code ({ cls := "TankFieldModel", name := "rule", desc := "(II)I" } : Jvm.MethodName) prog_13_method_24_code (4 : Nat) (Option.some Jvm.ClassFile.FieldType.int)) ∈ lw_all := lw_g (lw_at lw_m5 126 rfl) rfl
theorem q1129 : (Jvm.Cond.methodLink "TankFieldModel" (163 : Nat) ({ cls := "TankFieldModel", name := "mostOf", desc := "(I)I" } : Jvm.MethodName)) ∈ lw_all := lw_g (lw_at lw_m5 127 rfl) rfl
theorem q1130 : (Jvm.Cond.static ({ cls := "TankFieldModel", name := "mostOf", desc := "(I)I" } : Jvm.MethodName)) ∈ lw_all := lw_g (lw_at lw_m5 128 rfl) rfl
theorem q1131 : (Jvm.Cond.code ({ cls := "TankFieldModel", name := "mostOf", desc := "(I)I" } : Jvm.MethodName) prog_13_method_23_code (1 : Nat) (Option.some Jvm.ClassFile.FieldType.int)) ∈ lw_all := lw_g (lw_at lw_m5 129 rfl) rfl
theorem q1133 : (Jvm.Cond.instanceMethod ({ cls := "TankFieldModel", name := "build", desc := "()I" } : Jvm.MethodName)) ∈ lw_all := lw_g (lw_at lw_m5 131 rfl) rfl
theorem q1134 : (Jvm.Cond.selects "TankFieldModel" ({ cls := "TankFieldModel", name := "build", desc := "()I" } : Jvm.MethodName) ({ cls := "TankFieldModel", name := "build", desc := "()I" } : Jvm.MethodName)) ∈ lw_all := lw_g (lw_at lw_m5 132 rfl) rfl
theorem q1135 : (Jvm.Cond.code ({ cls := "TankFieldModel", name := "build", desc := "()I" } : Jvm.MethodName) prog_13_method_30_code (4 : Nat) (Option.some Jvm.ClassFile.FieldType.int)) ∈ lw_all := lw_g (lw_at lw_m5 133 rfl) rfl
theorem q1136 : (Jvm.Cond.methodLink "TankFieldModel" (186 : Nat) ({ cls := "TankFieldModel", name := "make", desc := "(I)V" } : Jvm.MethodName)) ∈ lw_all := lw_g (lw_at lw_m5 134 rfl) rfl
theorem q1137 : (Jvm.Cond.privateMethod ({ cls := "TankFieldModel", name := "make", desc := "(I)V" } : Jvm.MethodName)) ∈ lw_tbl := lw_at lw_m5 135 rfl
theorem q1138 : (Jvm.Cond.instanceMethod ({ cls := "TankFieldModel", name := "make", desc := "(I)V" } : Jvm.MethodName)) ∈ lw_all := lw_g (lw_at lw_m5 136 rfl) rfl
theorem q1139 : (Jvm.Cond.code ({ cls := "TankFieldModel", name := "make", desc := "(I)V" } : Jvm.MethodName) prog_13_method_29_code (5 : Nat) (Option.none : Option Jvm.ClassFile.FieldType)) ∈ lw_all := lw_g (lw_at lw_m5 137 rfl) rfl
theorem q1140 : (Jvm.Cond.methodLink "TankFieldModel" (170 : Nat) ({ cls := "TankFieldModel", name := "join", desc := "(I)V" } : Jvm.MethodName)) ∈ lw_all := lw_g (lw_at lw_m5 138 rfl) rfl
theorem q1141 : (Jvm.Cond.privateMethod ({ cls := "TankFieldModel", name := "join", desc := "(I)V" } : Jvm.MethodName)) ∈ lw_tbl := lw_at lw_m5 139 rfl
theorem q1142 : (Jvm.Cond.instanceMethod ({ cls := "TankFieldModel", name := "join", desc := "(I)V" } : Jvm.MethodName)) ∈ lw_all := lw_g (lw_at lw_m5 140 rfl) rfl
theorem q1143 : (Jvm.Cond.code ({ cls := "TankFieldModel", name := "join", desc := "(I)V" } : Jvm.MethodName) prog_13_method_26_code (6 : Nat) (Option.none : Option Jvm.ClassFile.FieldType)) ∈ lw_all := lw_g (lw_at lw_m5 141 rfl) rfl
theorem q1144 : (Jvm.Cond.methodLink "TankFieldModel" (166 : Nat) ({ cls := "TankFieldModel", name := "isNear", desc := "(II)Z" } : Jvm.MethodName)) ∈ lw_all := lw_g (lw_at lw_m5 142 rfl) rfl
theorem q1145 : (Jvm.Cond.privateMethod ({ cls := "TankFieldModel", name := "isNear", desc := "(II)Z" } : Jvm.MethodName)) ∈ lw_tbl := lw_at lw_m5 143 rfl
theorem q1146 : (Jvm.Cond.instanceMethod ({ cls := "TankFieldModel", name := "isNear", desc := "(II)Z" } : Jvm.MethodName)) ∈ lw_all := lw_g (lw_at lw_m5 144 rfl) rfl
theorem q1147 : (Jvm.Cond.code ({ cls := "TankFieldModel", name := "isNear", desc := "(II)Z" } : Jvm.MethodName) prog_13_method_25_code (8 : Nat) (Option.some Jvm.ClassFile.FieldType.boolean)) ∈ lw_all := lw_g (lw_at lw_m5 145 rfl) rfl
theorem q1148 : (Jvm.Cond.methodLink "TankFieldModel" (177 : Nat) ({ cls := "TankFieldModel", name := "findBest", desc := "(I)I" } : Jvm.MethodName)) ∈ lw_all := lw_g (lw_at lw_m5 146 rfl) rfl
theorem q1149 : (Jvm.Cond.privateMethod ({ cls := "TankFieldModel", name := "findBest", desc := "(I)I" } : Jvm.MethodName)) ∈ lw_tbl := lw_at lw_m5 147 rfl
theorem q1150 : (Jvm.Cond.instanceMethod ({ cls := "TankFieldModel", name := "findBest", desc := "(I)I" } : Jvm.MethodName)) ∈ lw_all := lw_g (lw_at lw_m5 148 rfl) rfl
theorem q1151 : (Jvm.Cond.code ({ cls := "TankFieldModel", name := "findBest", desc := "(I)I" } : Jvm.MethodName) prog_13_method_27_code (5 : Nat) (Option.some Jvm.ClassFile.FieldType.int)) ∈ lw_all := lw_g (lw_at lw_m5 149 rfl) rfl
theorem q1152 : (Jvm.Cond.methodLink "TankFieldModel" (180 : Nat) ({ cls := "TankFieldModel", name := "isAhead", desc := "(II)Z" } : Jvm.MethodName)) ∈ lw_all := lw_g (lw_at lw_m5 150 rfl) rfl
theorem q1153 : (Jvm.Cond.privateMethod ({ cls := "TankFieldModel", name := "isAhead", desc := "(II)Z" } : Jvm.MethodName)) ∈ lw_tbl := lw_at lw_m5 151 rfl
theorem q1154 : (Jvm.Cond.instanceMethod ({ cls := "TankFieldModel", name := "isAhead", desc := "(II)Z" } : Jvm.MethodName)) ∈ lw_all := lw_g (lw_at lw_m5 152 rfl) rfl
theorem q1155 : (Jvm.Cond.code ({ cls := "TankFieldModel", name := "isAhead", desc := "(II)Z" } : Jvm.MethodName) prog_13_method_28_code (3 : Nat) (Option.some Jvm.ClassFile.FieldType.boolean)) ∈ lw_all := lw_g (lw_at lw_m5 153 rfl) rfl
theorem q1157 : (Jvm.Cond.instanceMethod ({ cls := "TankFieldModel", name := "others", desc := "()I" } : Jvm.MethodName)) ∈ lw_all := lw_g (lw_at lw_m5 155 rfl) rfl
theorem q1158 : (Jvm.Cond.selects "TankFieldModel" ({ cls := "TankFieldModel", name := "others", desc := "()I" } : Jvm.MethodName) ({ cls := "TankFieldModel", name := "others", desc := "()I" } : Jvm.MethodName)) ∈ lw_all := lw_g (lw_at lw_m5 156 rfl) rfl
theorem q1159 : (Jvm.Cond.code ({ cls := "TankFieldModel", name := "others", desc := "()I" } : Jvm.MethodName) prog_13_method_32_code (3 : Nat) (Option.some Jvm.ClassFile.FieldType.int)) ∈ lw_all := lw_g (lw_at lw_m5 157 rfl) rfl
theorem q1160 : (Jvm.Cond.methodLink "TankFieldModel" (192 : Nat) ({ cls := "TankFieldModel", name := "isNew", desc := "(I)Z" } : Jvm.MethodName)) ∈ lw_all := lw_g (lw_at lw_m5 158 rfl) rfl
theorem q1161 : (Jvm.Cond.privateMethod ({ cls := "TankFieldModel", name := "isNew", desc := "(I)Z" } : Jvm.MethodName)) ∈ lw_tbl := lw_at lw_m5 159 rfl
theorem q1162 : (Jvm.Cond.instanceMethod ({ cls := "TankFieldModel", name := "isNew", desc := "(I)Z" } : Jvm.MethodName)) ∈ lw_all := lw_g (lw_at lw_m5 160 rfl) rfl
theorem q1163 : (Jvm.Cond.code ({ cls := "TankFieldModel", name := "isNew", desc := "(I)Z" } : Jvm.MethodName) prog_13_method_31_code (6 : Nat) (Option.some Jvm.ClassFile.FieldType.boolean)) ∈ lw_all := lw_g (lw_at lw_m5 161 rfl) rfl
theorem q1165 : (Jvm.Cond.instanceMethod ({ cls := "TankFieldModel", name := "isOther", desc := "(I)I" } : Jvm.MethodName)) ∈ lw_all := lw_g (lw_at lw_m5 163 rfl) rfl
theorem q1166 : (Jvm.Cond.selects "TankFieldModel" ({ cls := "TankFieldModel", name := "isOther", desc := "(I)I" } : Jvm.MethodName) ({ cls := "TankFieldModel", name := "isOther", desc := "(I)I" } : Jvm.MethodName)) ∈ lw_all := lw_g (lw_at lw_m5 164 rfl) rfl
theorem q1167 : (Jvm.Cond.code ({ cls := "TankFieldModel", name := "isOther", desc := "(I)I" } : Jvm.MethodName) prog_13_method_34_code (2 : Nat) (Option.some Jvm.ClassFile.FieldType.int)) ∈ lw_all := lw_g (lw_at lw_m5 165 rfl) rfl
theorem q1168 : (Jvm.Cond.methodLink "TankFieldModel" (195 : Nat) ({ cls := "TankFieldModel", name := "isEvent", desc := "(I)Z" } : Jvm.MethodName)) ∈ lw_all := lw_g (lw_at lw_m5 166 rfl) rfl
theorem q1169 : (Jvm.Cond.privateMethod ({ cls := "TankFieldModel", name := "isEvent", desc := "(I)Z" } : Jvm.MethodName)) ∈ lw_tbl := lw_at lw_m5 167 rfl
theorem q1170 : (Jvm.Cond.instanceMethod ({ cls := "TankFieldModel", name := "isEvent", desc := "(I)Z" } : Jvm.MethodName)) ∈ lw_all := lw_g (lw_at lw_m5 168 rfl) rfl
theorem q1171 : (Jvm.Cond.code ({ cls := "TankFieldModel", name := "isEvent", desc := "(I)Z" } : Jvm.MethodName) prog_13_method_33_code (2 : Nat) (Option.some Jvm.ClassFile.FieldType.boolean)) ∈ lw_all := lw_g (lw_at lw_m5 169 rfl) rfl
theorem q1173 : (Jvm.Cond.instanceMethod ({ cls := "TankFieldModel", name := "without", desc := "(I)I" } : Jvm.MethodName)) ∈ lw_all := lw_g (lw_at lw_m5 171 rfl) rfl
theorem q1174 : (Jvm.Cond.selects "TankFieldModel" ({ cls := "TankFieldModel", name := "without", desc := "(I)I" } : Jvm.MethodName) ({ cls := "TankFieldModel", name := "without", desc := "(I)I" } : Jvm.MethodName)) ∈ lw_all := lw_g (lw_at lw_m5 172 rfl) rfl
theorem q1175 : (Jvm.Cond.code ({ cls := "TankFieldModel", name := "without", desc := "(I)I" } : Jvm.MethodName) prog_13_method_35_code (2 : Nat) (Option.some Jvm.ClassFile.FieldType.int)) ∈ lw_all := lw_g (lw_at lw_m5 173 rfl) rfl
theorem q1177 : (Jvm.Cond.instanceMethod ({ cls := "TankFieldModel", name := "event", desc := "(II)I" } : Jvm.MethodName)) ∈ lw_all := lw_g (lw_at lw_m5 175 rfl) rfl
theorem q1178 : (Jvm.Cond.selects "TankFieldModel" ({ cls := "TankFieldModel", name := "event", desc := "(II)I" } : Jvm.MethodName) ({ cls := "TankFieldModel", name := "event", desc := "(II)I" } : Jvm.MethodName)) ∈ lw_all := lw_g (lw_at lw_m5 176 rfl) rfl
theorem q1179 : (Jvm.Cond.code ({ cls := "TankFieldModel", name := "event", desc := "(II)I" } : Jvm.MethodName) prog_13_method_37_code (6 : Nat) (Option.some Jvm.ClassFile.FieldType.int)) ∈ lw_all := lw_g (lw_at lw_m5 177 rfl) rfl
theorem q1180 : (Jvm.Cond.methodLink "TankFieldModel" (198 : Nat) ({ cls := "TankFieldModel", name := "leastTime", desc := "(I)I" } : Jvm.MethodName)) ∈ lw_all := lw_g (lw_at lw_m5 178 rfl) rfl
theorem q1181 : (Jvm.Cond.privateMethod ({ cls := "TankFieldModel", name := "leastTime", desc := "(I)I" } : Jvm.MethodName)) ∈ lw_tbl := lw_at lw_m5 179 rfl
theorem q1182 : (Jvm.Cond.instanceMethod ({ cls := "TankFieldModel", name := "leastTime", desc := "(I)I" } : Jvm.MethodName)) ∈ lw_all := lw_g (lw_at lw_m5 180 rfl) rfl
theorem q1183 : (Jvm.Cond.code ({ cls := "TankFieldModel", name := "leastTime", desc := "(I)I" } : Jvm.MethodName) prog_13_method_36_code (4 : Nat) (Option.some Jvm.ClassFile.FieldType.int)) ∈ lw_all := lw_g (lw_at lw_m5 181 rfl) rfl
theorem q1185 : (Jvm.Cond.instanceMethod ({ cls := "TankFieldModel", name := "member", desc := "(II)I" } : Jvm.MethodName)) ∈ lw_all := lw_g (lw_at lw_m5 183 rfl) rfl
theorem q1186 : (Jvm.Cond.selects "TankFieldModel" ({ cls := "TankFieldModel", name := "member", desc := "(II)I" } : Jvm.MethodName) ({ cls := "TankFieldModel", name := "member", desc := "(II)I" } : Jvm.MethodName)) ∈ lw_all := lw_g (lw_at lw_m5 184 rfl) rfl
theorem q1187 : (Jvm.Cond.code ({ cls := "TankFieldModel", name := "member", desc := "(II)I" } : Jvm.MethodName) prog_13_method_39_code (3 : Nat) (Option.some Jvm.ClassFile.FieldType.int)) ∈ lw_all := lw_g (lw_at lw_m5 185 rfl) rfl
theorem q1188 : (Jvm.Cond.methodLink "TankFieldModel" (201 : Nat) ({ cls := "TankFieldModel", name := "isMember", desc := "(II)Z" } : Jvm.MethodName)) ∈ lw_all := lw_g (lw_at lw_m5 186 rfl) rfl
theorem q1189 : (Jvm.Cond.privateMethod ({ cls := "TankFieldModel", name := "isMember", desc := "(II)Z" } : Jvm.MethodName)) ∈ lw_tbl := lw_at lw_m5 187 rfl
theorem q1190 : (Jvm.Cond.instanceMethod ({ cls := "TankFieldModel", name := "isMember", desc := "(II)Z" } : Jvm.MethodName)) ∈ lw_all := lw_g (lw_at lw_m5 188 rfl) rfl
theorem q1191 : (Jvm.Cond.code ({ cls := "TankFieldModel", name := "isMember", desc := "(II)Z" } : Jvm.MethodName) prog_13_method_38_code (3 : Nat) (Option.some Jvm.ClassFile.FieldType.boolean)) ∈ lw_all := lw_g (lw_at lw_m5 189 rfl) rfl
theorem q1193 : (Jvm.Cond.instanceMethod ({ cls := "TankFieldModel", name := "front", desc := "(II)J" } : Jvm.MethodName)) ∈ lw_all := lw_g (lw_at lw_m5 191 rfl) rfl
theorem q1194 : (Jvm.Cond.selects "TankFieldModel" ({ cls := "TankFieldModel", name := "front", desc := "(II)J" } : Jvm.MethodName) ({ cls := "TankFieldModel", name := "front", desc := "(II)J" } : Jvm.MethodName)) ∈ lw_all := lw_g (lw_at lw_m5 192 rfl) rfl
theorem q1195 : (Jvm.Cond.code ({ cls := "TankFieldModel", name := "front", desc := "(II)J" } : Jvm.MethodName) prog_13_method_42_code (3 : Nat) (Option.some Jvm.ClassFile.FieldType.long)) ∈ lw_all := lw_g (lw_at lw_m5 193 rfl) rfl
theorem q1196 : (Jvm.Cond.methodLink "TankFieldModel" (208 : Nat) ({ cls := "TankFieldModel", name := "makeFront", desc := "(I)V" } : Jvm.MethodName)) ∈ lw_all := lw_g (lw_at lw_m5 194 rfl) rfl
theorem q1197 : (Jvm.Cond.privateMethod ({ cls := "TankFieldModel", name := "makeFront", desc := "(I)V" } : Jvm.MethodName)) ∈ lw_tbl := lw_at lw_m5 195 rfl
theorem q1198 : (Jvm.Cond.instanceMethod ({ cls := "TankFieldModel", name := "makeFront", desc := "(I)V" } : Jvm.MethodName)) ∈ lw_all := lw_g (lw_at lw_m5 196 rfl) rfl
theorem q1199 : (Jvm.Cond.code ({ cls := "TankFieldModel", name := "makeFront", desc := "(I)V" } : Jvm.MethodName) prog_13_method_41_code (28 : Nat) (Option.none : Option Jvm.ClassFile.FieldType)) ∈ lw_all := lw_g (lw_at lw_m5 197 rfl) rfl
theorem q1200 : (Jvm.Cond.methodLink "TankFieldModel" (204 : Nat) ({ cls := "TankFieldModel", name := "determinant", desc := "(JJJJJJJJJ)J" } : Jvm.MethodName)) ∈ lw_all := lw_g (lw_at lw_m5 198 rfl) rfl
theorem q1201 : (Jvm.Cond.static ({ cls := "TankFieldModel", name := "determinant", desc := "(JJJJJJJJJ)J" } : Jvm.MethodName)) ∈ lw_all := lw_g (lw_at lw_m5 199 rfl) rfl
theorem q1202 : (Jvm.Cond.code ({ cls := "TankFieldModel", name := "determinant", desc := "(JJJJJJJJJ)J" } : Jvm.MethodName) prog_13_method_40_code (18 : Nat) (Option.some Jvm.ClassFile.FieldType.long)) ∈ lw_all := lw_g (lw_at lw_m5 200 rfl) rfl
theorem q1204 : (Jvm.Cond.instanceMethod ({ cls := "TankFieldModel", name := "error", desc := "(II)J" } : Jvm.MethodName)) ∈ lw_all := lw_g (lw_at lw_m5 202 rfl) rfl
theorem q1205 : (Jvm.Cond.selects "TankFieldModel" ({ cls := "TankFieldModel", name := "error", desc := "(II)J" } : Jvm.MethodName) ({ cls := "TankFieldModel", name := "error", desc := "(II)J" } : Jvm.MethodName)) ∈ lw_all := lw_g (lw_at lw_m5 203 rfl) rfl
theorem q1206 : (Jvm.Cond.code ({ cls := "TankFieldModel", name := "error", desc := "(II)J" } : Jvm.MethodName) prog_13_method_44_code (3 : Nat) (Option.some Jvm.ClassFile.FieldType.long)) ∈ lw_all := lw_g (lw_at lw_m5 204 rfl) rfl
theorem q1207 : (Jvm.Cond.methodLink "TankFieldModel" (211 : Nat) ({ cls := "TankFieldModel", name := "errorOf", desc := "(II)J" } : Jvm.MethodName)) ∈ lw_all := lw_g (lw_at lw_m5 205 rfl) rfl
theorem q1208 : (Jvm.Cond.privateMethod ({ cls := "TankFieldModel", name := "errorOf", desc := "(II)J" } : Jvm.MethodName)) ∈ lw_tbl := lw_at lw_m5 206 rfl
theorem q1209 : (Jvm.Cond.instanceMethod ({ cls := "TankFieldModel", name := "errorOf", desc := "(II)J" } : Jvm.MethodName)) ∈ lw_all := lw_g (lw_at lw_m5 207 rfl) rfl
theorem q1210 : (Jvm.Cond.code ({ cls := "TankFieldModel", name := "errorOf", desc := "(II)J" } : Jvm.MethodName) prog_13_method_43_code (5 : Nat) (Option.some Jvm.ClassFile.FieldType.long)) ∈ lw_all := lw_g (lw_at lw_m5 208 rfl) rfl
theorem q1212 : (Jvm.Cond.instanceMethod ({ cls := "TankFieldModel", name := "worst", desc := "(I)I" } : Jvm.MethodName)) ∈ lw_all := lw_g (lw_at lw_m5 210 rfl) rfl
theorem q1213 : (Jvm.Cond.selects "TankFieldModel" ({ cls := "TankFieldModel", name := "worst", desc := "(I)I" } : Jvm.MethodName) ({ cls := "TankFieldModel", name := "worst", desc := "(I)I" } : Jvm.MethodName)) ∈ lw_all := lw_g (lw_at lw_m5 211 rfl) rfl
theorem q1214 : (Jvm.Cond.code ({ cls := "TankFieldModel", name := "worst", desc := "(I)I" } : Jvm.MethodName) prog_13_method_45_code (8 : Nat) (Option.some Jvm.ClassFile.FieldType.int)) ∈ lw_all := lw_g (lw_at lw_m5 212 rfl) rfl
theorem q1215 : (Jvm.Cond.constantLong "TankFieldModel" (215 : Nat) (-1 : Int64)) ∈ lw_all := lw_g (lw_at lw_m5 213 rfl) rfl
theorem q1217 : (Jvm.Cond.instanceMethod ({ cls := "TankFieldModel", name := "core", desc := "(II)J" } : Jvm.MethodName)) ∈ lw_all := lw_g (lw_at lw_m5 215 rfl) rfl
theorem q1218 : (Jvm.Cond.selects "TankFieldModel" ({ cls := "TankFieldModel", name := "core", desc := "(II)J" } : Jvm.MethodName) ({ cls := "TankFieldModel", name := "core", desc := "(II)J" } : Jvm.MethodName)) ∈ lw_all := lw_g (lw_at lw_m5 216 rfl) rfl
theorem q1219 : (Jvm.Cond.code ({ cls := "TankFieldModel", name := "core", desc := "(II)J" } : Jvm.MethodName) prog_13_method_46_code (7 : Nat) (Option.some Jvm.ClassFile.FieldType.long)) ∈ lw_all := lw_g (lw_at lw_m5 217 rfl) rfl
theorem q1221 : (Jvm.Cond.instanceMethod ({ cls := "TankFieldModel", name := "sheet", desc := "(III)I" } : Jvm.MethodName)) ∈ lw_all := lw_g (lw_at lw_m5 219 rfl) rfl
theorem q1222 : (Jvm.Cond.selects "TankFieldModel" ({ cls := "TankFieldModel", name := "sheet", desc := "(III)I" } : Jvm.MethodName) ({ cls := "TankFieldModel", name := "sheet", desc := "(III)I" } : Jvm.MethodName)) ∈ lw_all := lw_g (lw_at lw_m5 220 rfl) rfl
theorem q1223 : (Jvm.Cond.code ({ cls := "TankFieldModel", name := "sheet", desc := "(III)I" } : Jvm.MethodName) prog_13_method_47_code (5 : Nat) (Option.some Jvm.ClassFile.FieldType.int)) ∈ lw_all := lw_g (lw_at lw_m5 221 rfl) rfl
theorem q1225 : (Jvm.Cond.instanceMethod ({ cls := "TankFieldModel", name := "drop", desc := "(I)I" } : Jvm.MethodName)) ∈ lw_all := lw_g (lw_at lw_m5 223 rfl) rfl
theorem q1226 : (Jvm.Cond.selects "TankFieldModel" ({ cls := "TankFieldModel", name := "drop", desc := "(I)I" } : Jvm.MethodName) ({ cls := "TankFieldModel", name := "drop", desc := "(I)I" } : Jvm.MethodName)) ∈ lw_all := lw_g (lw_at lw_m5 224 rfl) rfl
theorem q1227 : (Jvm.Cond.code ({ cls := "TankFieldModel", name := "drop", desc := "(I)I" } : Jvm.MethodName) prog_13_method_48_code (3 : Nat) (Option.some Jvm.ClassFile.FieldType.int)) ∈ lw_all := lw_g (lw_at lw_m5 225 rfl) rfl
theorem q1229 : (Jvm.Cond.instanceMethod ({ cls := "TankFieldModel", name := "put", desc := "(III)I" } : Jvm.MethodName)) ∈ lw_all := lw_g (lw_at lw_m5 227 rfl) rfl
theorem q1230 : (Jvm.Cond.selects "TankFieldModel" ({ cls := "TankFieldModel", name := "put", desc := "(III)I" } : Jvm.MethodName) ({ cls := "TankFieldModel", name := "put", desc := "(III)I" } : Jvm.MethodName)) ∈ lw_all := lw_g (lw_at lw_m5 228 rfl) rfl
theorem q1231 : (Jvm.Cond.code ({ cls := "TankFieldModel", name := "put", desc := "(III)I" } : Jvm.MethodName) prog_13_method_49_code (4 : Nat) (Option.some Jvm.ClassFile.FieldType.int)) ∈ lw_all := lw_g (lw_at lw_m5 229 rfl) rfl
theorem q1233 : (Jvm.Cond.instanceMethod ({ cls := "TankFieldModel", name := "at", desc := "(III)J" } : Jvm.MethodName)) ∈ lw_all := lw_g (lw_at lw_m5 231 rfl) rfl
theorem q1234 : (Jvm.Cond.selects "TankFieldModel" ({ cls := "TankFieldModel", name := "at", desc := "(III)J" } : Jvm.MethodName) ({ cls := "TankFieldModel", name := "at", desc := "(III)J" } : Jvm.MethodName)) ∈ lw_all := lw_g (lw_at lw_m5 232 rfl) rfl
theorem q1235 : (Jvm.Cond.code ({ cls := "TankFieldModel", name := "at", desc := "(III)J" } : Jvm.MethodName) prog_13_method_50_code (4 : Nat) (Option.some Jvm.ClassFile.FieldType.long)) ∈ lw_all := lw_g (lw_at lw_m5 233 rfl) rfl
theorem q1236 : (Jvm.Cond.methodLink "TankFieldModel" (217 : Nat) ({ cls := "TankFieldModel", name := "lost", desc := "(I)J" } : Jvm.MethodName)) ∈ lw_all := lw_g (lw_at lw_m5 234 rfl) rfl
theorem q1237 : (Jvm.Cond.privateMethod ({ cls := "TankFieldModel", name := "lost", desc := "(I)J" } : Jvm.MethodName)) ∈ lw_tbl := lw_at lw_m5 235 rfl
theorem q1238 : (Jvm.Cond.instanceMethod ({ cls := "TankFieldModel", name := "lost", desc := "(I)J" } : Jvm.MethodName)) ∈ lw_all := lw_g (lw_at lw_m5 236 rfl) rfl
theorem q1239 : (Jvm.Cond.code ({ cls := "TankFieldModel", name := "lost", desc := "(I)J" } : Jvm.MethodName) prog_13_method_4_code (2 : Nat) (Option.some Jvm.ClassFile.FieldType.long)) ∈ lw_all := lw_g (lw_at lw_m5 237 rfl) rfl
theorem q1241 : (Jvm.Cond.instanceMethod ({ cls := "TankFieldModel", name := "tell", desc := "(I)I" } : Jvm.MethodName)) ∈ lw_all := lw_g (lw_at lw_m5 239 rfl) rfl
theorem q1242 : (Jvm.Cond.selects "TankFieldModel" ({ cls := "TankFieldModel", name := "tell", desc := "(I)I" } : Jvm.MethodName) ({ cls := "TankFieldModel", name := "tell", desc := "(I)I" } : Jvm.MethodName)) ∈ lw_all := lw_g (lw_at lw_m6 0 rfl) rfl
theorem q1243 : (Jvm.Cond.code ({ cls := "TankFieldModel", name := "tell", desc := "(I)I" } : Jvm.MethodName) prog_13_method_52_code (2 : Nat) (Option.some Jvm.ClassFile.FieldType.int)) ∈ lw_all := lw_g (lw_at lw_m6 1 rfl) rfl
theorem q1244 : (Jvm.Cond.methodLink "TankFieldModel" (224 : Nat) ({ cls := "TankFieldModel", name := "begins", desc := "(I)V" } : Jvm.MethodName)) ∈ lw_all := lw_g (lw_at lw_m6 2 rfl) rfl
theorem q1245 : (Jvm.Cond.privateMethod ({ cls := "TankFieldModel", name := "begins", desc := "(I)V" } : Jvm.MethodName)) ∈ lw_tbl := lw_at lw_m6 3 rfl
theorem q1246 : (Jvm.Cond.instanceMethod ({ cls := "TankFieldModel", name := "begins", desc := "(I)V" } : Jvm.MethodName)) ∈ lw_all := lw_g (lw_at lw_m6 4 rfl) rfl
theorem q1247 : (Jvm.Cond.code ({ cls := "TankFieldModel", name := "begins", desc := "(I)V" } : Jvm.MethodName) prog_13_method_51_code (2 : Nat) (Option.none : Option Jvm.ClassFile.FieldType)) ∈ lw_all := lw_g (lw_at lw_m6 5 rfl) rfl
theorem q1249 : (Jvm.Cond.instanceMethod ({ cls := "TankFieldModel", name := "weigh", desc := "(I)I" } : Jvm.MethodName)) ∈ lw_all := lw_g (lw_at lw_m6 7 rfl) rfl
theorem q1250 : (Jvm.Cond.selects "TankFieldModel" ({ cls := "TankFieldModel", name := "weigh", desc := "(I)I" } : Jvm.MethodName) ({ cls := "TankFieldModel", name := "weigh", desc := "(I)I" } : Jvm.MethodName)) ∈ lw_all := lw_g (lw_at lw_m6 8 rfl) rfl
theorem q1251 : (Jvm.Cond.code ({ cls := "TankFieldModel", name := "weigh", desc := "(I)I" } : Jvm.MethodName) prog_13_method_53_code (3 : Nat) (Option.some Jvm.ClassFile.FieldType.int)) ∈ lw_all := lw_g (lw_at lw_m6 9 rfl) rfl
theorem q1253 : (Jvm.Cond.instanceMethod ({ cls := "TankFieldModel", name := "as", desc := "(II)I" } : Jvm.MethodName)) ∈ lw_all := lw_g (lw_at lw_m6 11 rfl) rfl
theorem q1254 : (Jvm.Cond.selects "TankFieldModel" ({ cls := "TankFieldModel", name := "as", desc := "(II)I" } : Jvm.MethodName) ({ cls := "TankFieldModel", name := "as", desc := "(II)I" } : Jvm.MethodName)) ∈ lw_all := lw_g (lw_at lw_m6 12 rfl) rfl
theorem q1255 : (Jvm.Cond.code ({ cls := "TankFieldModel", name := "as", desc := "(II)I" } : Jvm.MethodName) prog_13_method_54_code (5 : Nat) (Option.some Jvm.ClassFile.FieldType.int)) ∈ lw_all := lw_g (lw_at lw_m6 13 rfl) rfl
theorem q1257 : (Jvm.Cond.instanceMethod ({ cls := "TankFieldModel", name := "trace", desc := "()I" } : Jvm.MethodName)) ∈ lw_all := lw_g (lw_at lw_m6 15 rfl) rfl
theorem q1258 : (Jvm.Cond.selects "TankFieldModel" ({ cls := "TankFieldModel", name := "trace", desc := "()I" } : Jvm.MethodName) ({ cls := "TankFieldModel", name := "trace", desc := "()I" } : Jvm.MethodName)) ∈ lw_all := lw_g (lw_at lw_m6 16 rfl) rfl
theorem q1259 : (Jvm.Cond.code ({ cls := "TankFieldModel", name := "trace", desc := "()I" } : Jvm.MethodName) prog_13_method_55_code (1 : Nat) (Option.some Jvm.ClassFile.FieldType.int)) ∈ lw_all := lw_g (lw_at lw_m6 17 rfl) rfl
theorem q1261 : (Jvm.Cond.instanceMethod ({ cls := "TankFieldModel", name := "fault", desc := "()I" } : Jvm.MethodName)) ∈ lw_all := lw_g (lw_at lw_m6 19 rfl) rfl
theorem q1262 : (Jvm.Cond.selects "TankFieldModel" ({ cls := "TankFieldModel", name := "fault", desc := "()I" } : Jvm.MethodName) ({ cls := "TankFieldModel", name := "fault", desc := "()I" } : Jvm.MethodName)) ∈ lw_all := lw_g (lw_at lw_m6 20 rfl) rfl
theorem q1263 : (Jvm.Cond.code ({ cls := "TankFieldModel", name := "fault", desc := "()I" } : Jvm.MethodName) prog_13_method_56_code (1 : Nat) (Option.some Jvm.ClassFile.FieldType.int)) ∈ lw_all := lw_g (lw_at lw_m6 21 rfl) rfl
theorem q1265 : (Jvm.Cond.instanceMethod ({ cls := "TankFieldModel", name := "told", desc := "(I)I" } : Jvm.MethodName)) ∈ lw_all := lw_g (lw_at lw_m6 23 rfl) rfl
theorem q1266 : (Jvm.Cond.selects "TankFieldModel" ({ cls := "TankFieldModel", name := "told", desc := "(I)I" } : Jvm.MethodName) ({ cls := "TankFieldModel", name := "told", desc := "(I)I" } : Jvm.MethodName)) ∈ lw_all := lw_g (lw_at lw_m6 24 rfl) rfl
theorem q1267 : (Jvm.Cond.code ({ cls := "TankFieldModel", name := "told", desc := "(I)I" } : Jvm.MethodName) prog_13_method_57_code (2 : Nat) (Option.some Jvm.ClassFile.FieldType.int)) ∈ lw_all := lw_g (lw_at lw_m6 25 rfl) rfl
theorem in_X2 : ∀ w ∈ wsX20, w ∈ lw_all := lw_in wsX20 [967, 969, 971, 973, 975, 977, 979, 981, 983, 985, 987, 989, 991, 993, 995, 997, 999, 1001, 1003, 1005, 1007, 1009, 1011, 1013, 1015, 1017, 1019, 1021, 1023, 1025, 1027, 1029, 1031, 1033, 1035, 1037, 1039, 1041, 1043, 1045] (by decide +kernel) (by decide +kernel)
