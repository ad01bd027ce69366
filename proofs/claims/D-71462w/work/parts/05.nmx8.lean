/-! OneElasticModel -/
set_option maxRecDepth 100000
def RX8 : String := "OneElasticModel"
def TX8 : u_T := fun k => match k with
  | 0 => ("OneElasticModel", "w", "[I", true)
  | 1 => ("OneElasticModel", "isImage", "Z", false)
  | 2 => ("OneElasticModel", "tape", "[I", true)
  | 3 => ("OneElasticModel", "taped", "I", false)
  | 4 => ("OneElasticModel", "lane", "[I", true)
  | 5 => ("OneElasticModel", "size", "[I", true)
  | 6 => ("OneElasticModel", "items", "[J", true)
  | 7 => ("OneElasticModel", "up", "[I", true)
  | 8 => ("OneElasticModel", "down", "[I", true)
  | 9 => ("OneElasticModel", "above", "I", false)
  | 10 => ("OneElasticModel", "below", "I", false)
  | 11 => ("OneElasticModel", "fell", "[I", true)
  | 12 => ("OneElasticModel", "fallen", "I", false)
  | 13 => ("OneElasticModel", "torn", "I", false)
  | 14 => ("OneElasticModel", "at", "I", false)
  | 15 => ("OneElasticModel", "start", "I", false)
  | 16 => ("OneElasticModel", "number", "I", false)
  | 17 => ("OneElasticModel", "read", "[I", true)
  | 18 => ("OneElasticModel", "comesUp", "[I", true)
  | 19 => ("OneElasticModel", "comesDown", "[I", true)
  | _ => ("OneElasticModel", "held", "[J", true)
def tyX8 : Nat → FieldType := fun k => match k with
  | 0 => .array .int
  | 1 => .boolean
  | 2 => .array .int
  | 3 => .int
  | 4 => .array .int
  | 5 => .array .int
  | 6 => .array .long
  | 7 => .array .int
  | 8 => .array .int
  | 9 => .int
  | 10 => .int
  | 11 => .array .int
  | 12 => .int
  | 13 => .int
  | 14 => .int
  | 15 => .int
  | 16 => .int
  | 17 => .array .int
  | 18 => .array .int
  | 19 => .array .int
  | _ => .array .long
abbrev wsX80 : List Cond := u_ws RX8 TX8 21
set_option maxRecDepth 100000 in
theorem nmX8 : ∀ a, a < 21 → ∀ b, b < 21 → a ≠ b → (TX8 a).2.1 ≠ (TX8 b).2.1 := by decide +kernel
set_option maxRecDepth 100000 in
theorem tyX8_ok : ∀ k, k < 21 → parseFieldDescriptor (TX8 k).2.2.1 = some (tyX8 k) := by decide +kernel
abbrev cX8_init : ByteArray := prog_13_method_1_code
def yX8_init : MethodName := ⟨RX8, "<init>", "()V"⟩
def dkwX8_init_6 : List UInt8 := [167, 255, 241, 177]
abbrev dktX8_init_6 : List UInt8 := dkwX8_init_6 ++ []
def dkwX8_init_5 : List UInt8 := [180, 0, 7, 6, 4, 79, 3, 60, 27, 7, 162, 0, 16, 42, 180, 0, 16, 27, 2, 79, 132, 1, 1]
abbrev dktX8_init_5 : List UInt8 := dkwX8_init_5 ++ dktX8_init_6
def dkwX8_init_4 : List UInt8 := [16, 24, 188, 11, 181, 0, 44, 42, 180, 0, 7, 4, 16, 20, 79, 42, 180, 0, 7, 5, 16, 8, 79, 42]
abbrev dktX8_init_4 : List UInt8 := dkwX8_init_4 ++ dktX8_init_5
def dkwX8_init_3 : List UInt8 := [188, 10, 181, 0, 35, 42, 17, 0, 243, 188, 10, 181, 0, 38, 42, 17, 0, 243, 188, 10, 181, 0, 41, 42]
abbrev dktX8_init_3 : List UInt8 := dkwX8_init_3 ++ dktX8_init_4
def dkwX8_init_2 : List UInt8 := [188, 10, 181, 0, 26, 42, 16, 8, 188, 10, 181, 0, 29, 42, 16, 8, 188, 10, 181, 0, 32, 42, 16, 60]
abbrev dktX8_init_2 : List UInt8 := dkwX8_init_2 ++ dktX8_init_3
def dkwX8_init_1 : List UInt8 := [188, 10, 181, 0, 16, 42, 7, 188, 10, 181, 0, 19, 42, 16, 96, 188, 11, 181, 0, 22, 42, 16, 8]
abbrev dktX8_init_1 : List UInt8 := dkwX8_init_1 ++ dktX8_init_2
def dkwX8_init_0 : List UInt8 := [42, 183, 0, 1, 42, 17, 4, 118, 188, 10, 181, 0, 7, 42, 16, 90, 188, 10, 181, 0, 13, 42, 7]
abbrev dktX8_init_0 : List UInt8 := dkwX8_init_0 ++ dktX8_init_1
theorem dksX8_init_0 : cX8_init.data.toList.drop 0 = dktX8_init_0 := by decide +kernel
theorem dksX8_init_1 : cX8_init.data.toList.drop 23 = dktX8_init_1 := dk_seg dksX8_init_0 23 rfl rfl
theorem dksX8_init_2 : cX8_init.data.toList.drop 46 = dktX8_init_2 := dk_seg dksX8_init_1 23 rfl rfl
theorem dksX8_init_3 : cX8_init.data.toList.drop 70 = dktX8_init_3 := dk_seg dksX8_init_2 24 rfl rfl
theorem dksX8_init_4 : cX8_init.data.toList.drop 94 = dktX8_init_4 := dk_seg dksX8_init_3 24 rfl rfl
theorem dksX8_init_5 : cX8_init.data.toList.drop 118 = dktX8_init_5 := dk_seg dksX8_init_4 24 rfl rfl
theorem dksX8_init_6 : cX8_init.data.toList.drop 141 = dktX8_init_6 := dk_seg dksX8_init_5 23 rfl rfl
theorem dX8_init_0 : decode cX8_init 0 = .ok (.aload_n 0, 1) := dk_42 (dk_at dksX8_init_0 0 rfl rfl)
theorem dX8_init_1 : decode cX8_init 1 = .ok (.invokespecial 1, 3) := dk_183 0 1 (dk_at dksX8_init_0 1 rfl rfl)
theorem dX8_init_4 : decode cX8_init 4 = .ok (.aload_n 0, 1) := dk_42 (dk_at dksX8_init_0 4 rfl rfl)
theorem dX8_init_5 : decode cX8_init 5 = .ok (.sipush 1142, 3) := dk_17 4 118 (dk_at dksX8_init_0 5 rfl rfl)
theorem dX8_init_8 : decode cX8_init 8 = .ok (.newarray .int, 2) := dk_188_10 (dk_at dksX8_init_0 8 rfl rfl)
theorem dX8_init_10 : decode cX8_init 10 = .ok (.putfield 7, 3) := dk_181 0 7 (dk_at dksX8_init_0 10 rfl rfl)
theorem dX8_init_13 : decode cX8_init 13 = .ok (.aload_n 0, 1) := dk_42 (dk_at dksX8_init_0 13 rfl rfl)
theorem dX8_init_14 : decode cX8_init 14 = .ok (.bipush 90, 2) := dk_16 90 (dk_at dksX8_init_0 14 rfl rfl)
theorem dX8_init_16 : decode cX8_init 16 = .ok (.newarray .int, 2) := dk_188_10 (dk_at dksX8_init_0 16 rfl rfl)
theorem dX8_init_18 : decode cX8_init 18 = .ok (.putfield 13, 3) := dk_181 0 13 (dk_at dksX8_init_0 18 rfl rfl)
theorem dX8_init_21 : decode cX8_init 21 = .ok (.aload_n 0, 1) := dk_42 (dk_at dksX8_init_0 21 rfl rfl)
theorem dX8_init_22 : decode cX8_init 22 = .ok (.iconst 4, 1) := dk_7 (dk_at dksX8_init_0 22 rfl rfl)
theorem dX8_init_23 : decode cX8_init 23 = .ok (.newarray .int, 2) := dk_188_10 (dk_at dksX8_init_1 0 rfl rfl)
theorem dX8_init_25 : decode cX8_init 25 = .ok (.putfield 16, 3) := dk_181 0 16 (dk_at dksX8_init_1 2 rfl rfl)
theorem dX8_init_28 : decode cX8_init 28 = .ok (.aload_n 0, 1) := dk_42 (dk_at dksX8_init_1 5 rfl rfl)
theorem dX8_init_29 : decode cX8_init 29 = .ok (.iconst 4, 1) := dk_7 (dk_at dksX8_init_1 6 rfl rfl)
theorem dX8_init_30 : decode cX8_init 30 = .ok (.newarray .int, 2) := dk_188_10 (dk_at dksX8_init_1 7 rfl rfl)
theorem dX8_init_32 : decode cX8_init 32 = .ok (.putfield 19, 3) := dk_181 0 19 (dk_at dksX8_init_1 9 rfl rfl)
theorem dX8_init_35 : decode cX8_init 35 = .ok (.aload_n 0, 1) := dk_42 (dk_at dksX8_init_1 12 rfl rfl)
theorem dX8_init_36 : decode cX8_init 36 = .ok (.bipush 96, 2) := dk_16 96 (dk_at dksX8_init_1 13 rfl rfl)
theorem dX8_init_38 : decode cX8_init 38 = .ok (.newarray .long, 2) := dk_188_11 (dk_at dksX8_init_1 15 rfl rfl)
theorem dX8_init_40 : decode cX8_init 40 = .ok (.putfield 22, 3) := dk_181 0 22 (dk_at dksX8_init_1 17 rfl rfl)
theorem dX8_init_43 : decode cX8_init 43 = .ok (.aload_n 0, 1) := dk_42 (dk_at dksX8_init_1 20 rfl rfl)
theorem dX8_init_44 : decode cX8_init 44 = .ok (.bipush 8, 2) := dk_16 8 (dk_at dksX8_init_1 21 rfl rfl)
theorem dX8_init_46 : decode cX8_init 46 = .ok (.newarray .int, 2) := dk_188_10 (dk_at dksX8_init_2 0 rfl rfl)
theorem dX8_init_48 : decode cX8_init 48 = .ok (.putfield 26, 3) := dk_181 0 26 (dk_at dksX8_init_2 2 rfl rfl)
theorem dX8_init_51 : decode cX8_init 51 = .ok (.aload_n 0, 1) := dk_42 (dk_at dksX8_init_2 5 rfl rfl)
theorem dX8_init_52 : decode cX8_init 52 = .ok (.bipush 8, 2) := dk_16 8 (dk_at dksX8_init_2 6 rfl rfl)
theorem dX8_init_54 : decode cX8_init 54 = .ok (.newarray .int, 2) := dk_188_10 (dk_at dksX8_init_2 8 rfl rfl)
theorem dX8_init_56 : decode cX8_init 56 = .ok (.putfield 29, 3) := dk_181 0 29 (dk_at dksX8_init_2 10 rfl rfl)
theorem dX8_init_59 : decode cX8_init 59 = .ok (.aload_n 0, 1) := dk_42 (dk_at dksX8_init_2 13 rfl rfl)
theorem dX8_init_60 : decode cX8_init 60 = .ok (.bipush 8, 2) := dk_16 8 (dk_at dksX8_init_2 14 rfl rfl)
theorem dX8_init_62 : decode cX8_init 62 = .ok (.newarray .int, 2) := dk_188_10 (dk_at dksX8_init_2 16 rfl rfl)
theorem dX8_init_64 : decode cX8_init 64 = .ok (.putfield 32, 3) := dk_181 0 32 (dk_at dksX8_init_2 18 rfl rfl)
theorem dX8_init_67 : decode cX8_init 67 = .ok (.aload_n 0, 1) := dk_42 (dk_at dksX8_init_2 21 rfl rfl)
theorem dX8_init_68 : decode cX8_init 68 = .ok (.bipush 60, 2) := dk_16 60 (dk_at dksX8_init_2 22 rfl rfl)
theorem dX8_init_70 : decode cX8_init 70 = .ok (.newarray .int, 2) := dk_188_10 (dk_at dksX8_init_3 0 rfl rfl)
theorem dX8_init_72 : decode cX8_init 72 = .ok (.putfield 35, 3) := dk_181 0 35 (dk_at dksX8_init_3 2 rfl rfl)
theorem dX8_init_75 : decode cX8_init 75 = .ok (.aload_n 0, 1) := dk_42 (dk_at dksX8_init_3 5 rfl rfl)
theorem dX8_init_76 : decode cX8_init 76 = .ok (.sipush 243, 3) := dk_17 0 243 (dk_at dksX8_init_3 6 rfl rfl)
theorem dX8_init_79 : decode cX8_init 79 = .ok (.newarray .int, 2) := dk_188_10 (dk_at dksX8_init_3 9 rfl rfl)
theorem dX8_init_81 : decode cX8_init 81 = .ok (.putfield 38, 3) := dk_181 0 38 (dk_at dksX8_init_3 11 rfl rfl)
theorem dX8_init_84 : decode cX8_init 84 = .ok (.aload_n 0, 1) := dk_42 (dk_at dksX8_init_3 14 rfl rfl)
theorem dX8_init_85 : decode cX8_init 85 = .ok (.sipush 243, 3) := dk_17 0 243 (dk_at dksX8_init_3 15 rfl rfl)
theorem dX8_init_88 : decode cX8_init 88 = .ok (.newarray .int, 2) := dk_188_10 (dk_at dksX8_init_3 18 rfl rfl)
theorem dX8_init_90 : decode cX8_init 90 = .ok (.putfield 41, 3) := dk_181 0 41 (dk_at dksX8_init_3 20 rfl rfl)
theorem dX8_init_93 : decode cX8_init 93 = .ok (.aload_n 0, 1) := dk_42 (dk_at dksX8_init_3 23 rfl rfl)
theorem dX8_init_94 : decode cX8_init 94 = .ok (.bipush 24, 2) := dk_16 24 (dk_at dksX8_init_4 0 rfl rfl)
theorem dX8_init_96 : decode cX8_init 96 = .ok (.newarray .long, 2) := dk_188_11 (dk_at dksX8_init_4 2 rfl rfl)
theorem dX8_init_98 : decode cX8_init 98 = .ok (.putfield 44, 3) := dk_181 0 44 (dk_at dksX8_init_4 4 rfl rfl)
theorem dX8_init_101 : decode cX8_init 101 = .ok (.aload_n 0, 1) := dk_42 (dk_at dksX8_init_4 7 rfl rfl)
theorem dX8_init_102 : decode cX8_init 102 = .ok (.getfield 7, 3) := dk_180 0 7 (dk_at dksX8_init_4 8 rfl rfl)
theorem dX8_init_105 : decode cX8_init 105 = .ok (.iconst 1, 1) := dk_4 (dk_at dksX8_init_4 11 rfl rfl)
theorem dX8_init_106 : decode cX8_init 106 = .ok (.bipush 20, 2) := dk_16 20 (dk_at dksX8_init_4 12 rfl rfl)
theorem dX8_init_108 : decode cX8_init 108 = .ok (.iastore, 1) := dk_79 (dk_at dksX8_init_4 14 rfl rfl)
theorem dX8_init_109 : decode cX8_init 109 = .ok (.aload_n 0, 1) := dk_42 (dk_at dksX8_init_4 15 rfl rfl)
theorem dX8_init_110 : decode cX8_init 110 = .ok (.getfield 7, 3) := dk_180 0 7 (dk_at dksX8_init_4 16 rfl rfl)
theorem dX8_init_113 : decode cX8_init 113 = .ok (.iconst 2, 1) := dk_5 (dk_at dksX8_init_4 19 rfl rfl)
theorem dX8_init_114 : decode cX8_init 114 = .ok (.bipush 8, 2) := dk_16 8 (dk_at dksX8_init_4 20 rfl rfl)
theorem dX8_init_116 : decode cX8_init 116 = .ok (.iastore, 1) := dk_79 (dk_at dksX8_init_4 22 rfl rfl)
theorem dX8_init_117 : decode cX8_init 117 = .ok (.aload_n 0, 1) := dk_42 (dk_at dksX8_init_4 23 rfl rfl)
theorem dX8_init_118 : decode cX8_init 118 = .ok (.getfield 7, 3) := dk_180 0 7 (dk_at dksX8_init_5 0 rfl rfl)
theorem dX8_init_121 : decode cX8_init 121 = .ok (.iconst 3, 1) := dk_6 (dk_at dksX8_init_5 3 rfl rfl)
theorem dX8_init_122 : decode cX8_init 122 = .ok (.iconst 1, 1) := dk_4 (dk_at dksX8_init_5 4 rfl rfl)
theorem dX8_init_123 : decode cX8_init 123 = .ok (.iastore, 1) := dk_79 (dk_at dksX8_init_5 5 rfl rfl)
theorem dX8_init_124 : decode cX8_init 124 = .ok (.iconst 0, 1) := dk_3 (dk_at dksX8_init_5 6 rfl rfl)
theorem dX8_init_125 : decode cX8_init 125 = .ok (.istore_n 1, 1) := dk_60 (dk_at dksX8_init_5 7 rfl rfl)
theorem dX8_init_126 : decode cX8_init 126 = .ok (.iload_n 1, 1) := dk_27 (dk_at dksX8_init_5 8 rfl rfl)
theorem dX8_init_127 : decode cX8_init 127 = .ok (.iconst 4, 1) := dk_7 (dk_at dksX8_init_5 9 rfl rfl)
theorem dX8_init_128 : decode cX8_init 128 = .ok (.if_icmp .ge 16, 3) := dk_162 0 16 (dk_at dksX8_init_5 10 rfl rfl)
theorem dX8_init_131 : decode cX8_init 131 = .ok (.aload_n 0, 1) := dk_42 (dk_at dksX8_init_5 13 rfl rfl)
theorem dX8_init_132 : decode cX8_init 132 = .ok (.getfield 16, 3) := dk_180 0 16 (dk_at dksX8_init_5 14 rfl rfl)
theorem dX8_init_135 : decode cX8_init 135 = .ok (.iload_n 1, 1) := dk_27 (dk_at dksX8_init_5 17 rfl rfl)
theorem dX8_init_136 : decode cX8_init 136 = .ok (.iconst (-1), 1) := dk_2 (dk_at dksX8_init_5 18 rfl rfl)
theorem dX8_init_137 : decode cX8_init 137 = .ok (.iastore, 1) := dk_79 (dk_at dksX8_init_5 19 rfl rfl)
theorem dX8_init_138 : decode cX8_init 138 = .ok (.iinc 1 1, 3) := dk_132 1 1 (dk_at dksX8_init_5 20 rfl rfl)
theorem dX8_init_141 : decode cX8_init 141 = .ok (.goto (-15), 3) := dk_167 255 241 (dk_at dksX8_init_6 0 rfl rfl)
theorem dX8_init_144 : decode cX8_init 144 = .ok (.return_, 1) := dk_177 (dk_at dksX8_init_6 3 rfl rfl)
abbrev cX8_type : ByteArray := prog_13_method_22_code
def yX8_type : MethodName := ⟨RX8, "type", "(I)I"⟩
def dkwX8_type_2 : List UInt8 := [181, 0, 121, 42, 180, 0, 121, 172]
abbrev dktX8_type_2 : List UInt8 := dkwX8_type_2 ++ []
def dkwX8_type_1 : List UInt8 := [160, 0, 6, 16, 253, 172, 42, 180, 0, 13, 42, 180, 0, 121, 27, 79, 42, 89, 180, 0, 121, 4, 96]
abbrev dktX8_type_1 : List UInt8 := dkwX8_type_1 ++ dktX8_type_2
def dkwX8_type_0 : List UInt8 := [27, 133, 20, 0, 117, 20, 0, 119, 184, 0, 49, 154, 0, 5, 2, 172, 42, 180, 0, 121, 16, 90]
abbrev dktX8_type_0 : List UInt8 := dkwX8_type_0 ++ dktX8_type_1
theorem dksX8_type_0 : cX8_type.data.toList.drop 0 = dktX8_type_0 := by decide +kernel
theorem dksX8_type_1 : cX8_type.data.toList.drop 22 = dktX8_type_1 := dk_seg dksX8_type_0 22 rfl rfl
theorem dksX8_type_2 : cX8_type.data.toList.drop 45 = dktX8_type_2 := dk_seg dksX8_type_1 23 rfl rfl
theorem dX8_type_0 : decode cX8_type 0 = .ok (.iload_n 1, 1) := dk_27 (dk_at dksX8_type_0 0 rfl rfl)
theorem dX8_type_1 : decode cX8_type 1 = .ok (.i2l, 1) := dk_133 (dk_at dksX8_type_0 1 rfl rfl)
theorem dX8_type_2 : decode cX8_type 2 = .ok (.ldc2_w 117, 3) := dk_20 0 117 (dk_at dksX8_type_0 2 rfl rfl)
theorem dX8_type_5 : decode cX8_type 5 = .ok (.ldc2_w 119, 3) := dk_20 0 119 (dk_at dksX8_type_0 5 rfl rfl)
theorem dX8_type_8 : decode cX8_type 8 = .ok (.invokestatic 49, 3) := dk_184 0 49 (dk_at dksX8_type_0 8 rfl rfl)
theorem dX8_type_11 : decode cX8_type 11 = .ok (.ifCond .ne 5, 3) := dk_154 0 5 (dk_at dksX8_type_0 11 rfl rfl)
theorem dX8_type_14 : decode cX8_type 14 = .ok (.iconst (-1), 1) := dk_2 (dk_at dksX8_type_0 14 rfl rfl)
theorem dX8_type_15 : decode cX8_type 15 = .ok (.ireturn, 1) := dk_172 (dk_at dksX8_type_0 15 rfl rfl)
theorem dX8_type_16 : decode cX8_type 16 = .ok (.aload_n 0, 1) := dk_42 (dk_at dksX8_type_0 16 rfl rfl)
theorem dX8_type_17 : decode cX8_type 17 = .ok (.getfield 121, 3) := dk_180 0 121 (dk_at dksX8_type_0 17 rfl rfl)
theorem dX8_type_20 : decode cX8_type 20 = .ok (.bipush 90, 2) := dk_16 90 (dk_at dksX8_type_0 20 rfl rfl)
theorem dX8_type_22 : decode cX8_type 22 = .ok (.if_icmp .ne 6, 3) := dk_160 0 6 (dk_at dksX8_type_1 0 rfl rfl)
theorem dX8_type_25 : decode cX8_type 25 = .ok (.bipush (-3), 2) := dk_16 253 (dk_at dksX8_type_1 3 rfl rfl)
theorem dX8_type_27 : decode cX8_type 27 = .ok (.ireturn, 1) := dk_172 (dk_at dksX8_type_1 5 rfl rfl)
theorem dX8_type_28 : decode cX8_type 28 = .ok (.aload_n 0, 1) := dk_42 (dk_at dksX8_type_1 6 rfl rfl)
theorem dX8_type_29 : decode cX8_type 29 = .ok (.getfield 13, 3) := dk_180 0 13 (dk_at dksX8_type_1 7 rfl rfl)
theorem dX8_type_32 : decode cX8_type 32 = .ok (.aload_n 0, 1) := dk_42 (dk_at dksX8_type_1 10 rfl rfl)
theorem dX8_type_33 : decode cX8_type 33 = .ok (.getfield 121, 3) := dk_180 0 121 (dk_at dksX8_type_1 11 rfl rfl)
theorem dX8_type_36 : decode cX8_type 36 = .ok (.iload_n 1, 1) := dk_27 (dk_at dksX8_type_1 14 rfl rfl)
theorem dX8_type_37 : decode cX8_type 37 = .ok (.iastore, 1) := dk_79 (dk_at dksX8_type_1 15 rfl rfl)
theorem dX8_type_38 : decode cX8_type 38 = .ok (.aload_n 0, 1) := dk_42 (dk_at dksX8_type_1 16 rfl rfl)
theorem dX8_type_39 : decode cX8_type 39 = .ok (.dup, 1) := dk_89 (dk_at dksX8_type_1 17 rfl rfl)
theorem dX8_type_40 : decode cX8_type 40 = .ok (.getfield 121, 3) := dk_180 0 121 (dk_at dksX8_type_1 18 rfl rfl)
theorem dX8_type_43 : decode cX8_type 43 = .ok (.iconst 1, 1) := dk_4 (dk_at dksX8_type_1 21 rfl rfl)
theorem dX8_type_44 : decode cX8_type 44 = .ok (.iadd, 1) := dk_96 (dk_at dksX8_type_1 22 rfl rfl)
theorem dX8_type_45 : decode cX8_type 45 = .ok (.putfield 121, 3) := dk_181 0 121 (dk_at dksX8_type_2 0 rfl rfl)
theorem dX8_type_48 : decode cX8_type 48 = .ok (.aload_n 0, 1) := dk_42 (dk_at dksX8_type_2 3 rfl rfl)
theorem dX8_type_49 : decode cX8_type 49 = .ok (.getfield 121, 3) := dk_180 0 121 (dk_at dksX8_type_2 4 rfl rfl)
theorem dX8_type_52 : decode cX8_type 52 = .ok (.ireturn, 1) := dk_172 (dk_at dksX8_type_2 7 rfl rfl)
abbrev cX8_in : ByteArray := prog_13_method_3_code
def yX8_in : MethodName := ⟨RX8, "in", "(JJJ)Z"⟩
def dkwX8_in_0 : List UInt8 := [30, 32, 148, 155, 0, 14, 30, 22, 4, 148, 157, 0, 7, 4, 167, 0, 4, 3, 172]
abbrev dktX8_in_0 : List UInt8 := dkwX8_in_0 ++ []
theorem dksX8_in_0 : cX8_in.data.toList.drop 0 = dktX8_in_0 := by decide +kernel
theorem dX8_in_0 : decode cX8_in 0 = .ok (.lload_n 0, 1) := dk_30 (dk_at dksX8_in_0 0 rfl rfl)
theorem dX8_in_1 : decode cX8_in 1 = .ok (.lload_n 2, 1) := dk_32 (dk_at dksX8_in_0 1 rfl rfl)
theorem dX8_in_2 : decode cX8_in 2 = .ok (.lcmp, 1) := dk_148 (dk_at dksX8_in_0 2 rfl rfl)
theorem dX8_in_3 : decode cX8_in 3 = .ok (.ifCond .lt 14, 3) := dk_155 0 14 (dk_at dksX8_in_0 3 rfl rfl)
theorem dX8_in_6 : decode cX8_in 6 = .ok (.lload_n 0, 1) := dk_30 (dk_at dksX8_in_0 6 rfl rfl)
theorem dX8_in_7 : decode cX8_in 7 = .ok (.lload 4, 2) := dk_22 4 (dk_at dksX8_in_0 7 rfl rfl)
theorem dX8_in_9 : decode cX8_in 9 = .ok (.lcmp, 1) := dk_148 (dk_at dksX8_in_0 9 rfl rfl)
theorem dX8_in_10 : decode cX8_in 10 = .ok (.ifCond .gt 7, 3) := dk_157 0 7 (dk_at dksX8_in_0 10 rfl rfl)
theorem dX8_in_13 : decode cX8_in 13 = .ok (.iconst 1, 1) := dk_4 (dk_at dksX8_in_0 13 rfl rfl)
theorem dX8_in_14 : decode cX8_in 14 = .ok (.goto 4, 3) := dk_167 0 4 (dk_at dksX8_in_0 14 rfl rfl)
theorem dX8_in_17 : decode cX8_in 17 = .ok (.iconst 0, 1) := dk_3 (dk_at dksX8_in_0 17 rfl rfl)
theorem dX8_in_18 : decode cX8_in 18 = .ok (.ireturn, 1) := dk_172 (dk_at dksX8_in_0 18 rfl rfl)
abbrev cX8_street : ByteArray := prog_13_method_31_code
def yX8_street : MethodName := ⟨RX8, "street", "()I"⟩
def dkwX8_street_3 : List UInt8 := [180, 0, 7, 16, 60, 3, 79, 42, 3, 182, 0, 165, 42, 180, 0, 7, 3, 46, 172]
abbrev dktX8_street_3 : List UInt8 := dkwX8_street_3 ++ []
def dkwX8_street_2 : List UInt8 := [162, 0, 21, 42, 180, 0, 7, 28, 42, 180, 0, 35, 28, 46, 79, 132, 2, 1, 167, 255, 235, 42]
abbrev dktX8_street_2 : List UInt8 := dkwX8_street_2 ++ dktX8_street_3
def dkwX8_street_1 : List UInt8 := [180, 0, 35, 5, 16, 8, 79, 42, 180, 0, 35, 6, 42, 180, 0, 7, 6, 46, 79, 3, 61, 28, 16, 60]
abbrev dktX8_street_1 : List UInt8 := dkwX8_street_1 ++ dktX8_street_2
def dkwX8_street_0 : List UInt8 := [42, 182, 0, 162, 60, 42, 3, 181, 0, 121, 27, 154, 0, 11, 16, 236, 42, 180, 0, 127, 100, 172, 42]
abbrev dktX8_street_0 : List UInt8 := dkwX8_street_0 ++ dktX8_street_1
theorem dksX8_street_0 : cX8_street.data.toList.drop 0 = dktX8_street_0 := by decide +kernel
theorem dksX8_street_1 : cX8_street.data.toList.drop 23 = dktX8_street_1 := dk_seg dksX8_street_0 23 rfl rfl
theorem dksX8_street_2 : cX8_street.data.toList.drop 47 = dktX8_street_2 := dk_seg dksX8_street_1 24 rfl rfl
theorem dksX8_street_3 : cX8_street.data.toList.drop 69 = dktX8_street_3 := dk_seg dksX8_street_2 22 rfl rfl
theorem dX8_street_0 : decode cX8_street 0 = .ok (.aload_n 0, 1) := dk_42 (dk_at dksX8_street_0 0 rfl rfl)
theorem dX8_street_1 : decode cX8_street 1 = .ok (.invokevirtual 162, 3) := dk_182 0 162 (dk_at dksX8_street_0 1 rfl rfl)
theorem dX8_street_4 : decode cX8_street 4 = .ok (.istore_n 1, 1) := dk_60 (dk_at dksX8_street_0 4 rfl rfl)
theorem dX8_street_5 : decode cX8_street 5 = .ok (.aload_n 0, 1) := dk_42 (dk_at dksX8_street_0 5 rfl rfl)
theorem dX8_street_6 : decode cX8_street 6 = .ok (.iconst 0, 1) := dk_3 (dk_at dksX8_street_0 6 rfl rfl)
theorem dX8_street_7 : decode cX8_street 7 = .ok (.putfield 121, 3) := dk_181 0 121 (dk_at dksX8_street_0 7 rfl rfl)
theorem dX8_street_10 : decode cX8_street 10 = .ok (.iload_n 1, 1) := dk_27 (dk_at dksX8_street_0 10 rfl rfl)
theorem dX8_street_11 : decode cX8_street 11 = .ok (.ifCond .ne 11, 3) := dk_154 0 11 (dk_at dksX8_street_0 11 rfl rfl)
theorem dX8_street_14 : decode cX8_street 14 = .ok (.bipush (-20), 2) := dk_16 236 (dk_at dksX8_street_0 14 rfl rfl)
theorem dX8_street_16 : decode cX8_street 16 = .ok (.aload_n 0, 1) := dk_42 (dk_at dksX8_street_0 16 rfl rfl)
theorem dX8_street_17 : decode cX8_street 17 = .ok (.getfield 127, 3) := dk_180 0 127 (dk_at dksX8_street_0 17 rfl rfl)
theorem dX8_street_20 : decode cX8_street 20 = .ok (.isub, 1) := dk_100 (dk_at dksX8_street_0 20 rfl rfl)
theorem dX8_street_21 : decode cX8_street 21 = .ok (.ireturn, 1) := dk_172 (dk_at dksX8_street_0 21 rfl rfl)
theorem dX8_street_22 : decode cX8_street 22 = .ok (.aload_n 0, 1) := dk_42 (dk_at dksX8_street_0 22 rfl rfl)
theorem dX8_street_23 : decode cX8_street 23 = .ok (.getfield 35, 3) := dk_180 0 35 (dk_at dksX8_street_1 0 rfl rfl)
theorem dX8_street_26 : decode cX8_street 26 = .ok (.iconst 2, 1) := dk_5 (dk_at dksX8_street_1 3 rfl rfl)
theorem dX8_street_27 : decode cX8_street 27 = .ok (.bipush 8, 2) := dk_16 8 (dk_at dksX8_street_1 4 rfl rfl)
theorem dX8_street_29 : decode cX8_street 29 = .ok (.iastore, 1) := dk_79 (dk_at dksX8_street_1 6 rfl rfl)
theorem dX8_street_30 : decode cX8_street 30 = .ok (.aload_n 0, 1) := dk_42 (dk_at dksX8_street_1 7 rfl rfl)
theorem dX8_street_31 : decode cX8_street 31 = .ok (.getfield 35, 3) := dk_180 0 35 (dk_at dksX8_street_1 8 rfl rfl)
theorem dX8_street_34 : decode cX8_street 34 = .ok (.iconst 3, 1) := dk_6 (dk_at dksX8_street_1 11 rfl rfl)
theorem dX8_street_35 : decode cX8_street 35 = .ok (.aload_n 0, 1) := dk_42 (dk_at dksX8_street_1 12 rfl rfl)
theorem dX8_street_36 : decode cX8_street 36 = .ok (.getfield 7, 3) := dk_180 0 7 (dk_at dksX8_street_1 13 rfl rfl)
theorem dX8_street_39 : decode cX8_street 39 = .ok (.iconst 3, 1) := dk_6 (dk_at dksX8_street_1 16 rfl rfl)
theorem dX8_street_40 : decode cX8_street 40 = .ok (.iaload, 1) := dk_46 (dk_at dksX8_street_1 17 rfl rfl)
theorem dX8_street_41 : decode cX8_street 41 = .ok (.iastore, 1) := dk_79 (dk_at dksX8_street_1 18 rfl rfl)
theorem dX8_street_42 : decode cX8_street 42 = .ok (.iconst 0, 1) := dk_3 (dk_at dksX8_street_1 19 rfl rfl)
theorem dX8_street_43 : decode cX8_street 43 = .ok (.istore_n 2, 1) := dk_61 (dk_at dksX8_street_1 20 rfl rfl)
theorem dX8_street_44 : decode cX8_street 44 = .ok (.iload_n 2, 1) := dk_28 (dk_at dksX8_street_1 21 rfl rfl)
theorem dX8_street_45 : decode cX8_street 45 = .ok (.bipush 60, 2) := dk_16 60 (dk_at dksX8_street_1 22 rfl rfl)
theorem dX8_street_47 : decode cX8_street 47 = .ok (.if_icmp .ge 21, 3) := dk_162 0 21 (dk_at dksX8_street_2 0 rfl rfl)
theorem dX8_street_50 : decode cX8_street 50 = .ok (.aload_n 0, 1) := dk_42 (dk_at dksX8_street_2 3 rfl rfl)
theorem dX8_street_51 : decode cX8_street 51 = .ok (.getfield 7, 3) := dk_180 0 7 (dk_at dksX8_street_2 4 rfl rfl)
theorem dX8_street_54 : decode cX8_street 54 = .ok (.iload_n 2, 1) := dk_28 (dk_at dksX8_street_2 7 rfl rfl)
theorem dX8_street_55 : decode cX8_street 55 = .ok (.aload_n 0, 1) := dk_42 (dk_at dksX8_street_2 8 rfl rfl)
theorem dX8_street_56 : decode cX8_street 56 = .ok (.getfield 35, 3) := dk_180 0 35 (dk_at dksX8_street_2 9 rfl rfl)
theorem dX8_street_59 : decode cX8_street 59 = .ok (.iload_n 2, 1) := dk_28 (dk_at dksX8_street_2 12 rfl rfl)
theorem dX8_street_60 : decode cX8_street 60 = .ok (.iaload, 1) := dk_46 (dk_at dksX8_street_2 13 rfl rfl)
theorem dX8_street_61 : decode cX8_street 61 = .ok (.iastore, 1) := dk_79 (dk_at dksX8_street_2 14 rfl rfl)
theorem dX8_street_62 : decode cX8_street 62 = .ok (.iinc 2 1, 3) := dk_132 2 1 (dk_at dksX8_street_2 15 rfl rfl)
theorem dX8_street_65 : decode cX8_street 65 = .ok (.goto (-21), 3) := dk_167 255 235 (dk_at dksX8_street_2 18 rfl rfl)
theorem dX8_street_68 : decode cX8_street 68 = .ok (.aload_n 0, 1) := dk_42 (dk_at dksX8_street_2 21 rfl rfl)
theorem dX8_street_69 : decode cX8_street 69 = .ok (.getfield 7, 3) := dk_180 0 7 (dk_at dksX8_street_3 0 rfl rfl)
theorem dX8_street_72 : decode cX8_street 72 = .ok (.bipush 60, 2) := dk_16 60 (dk_at dksX8_street_3 3 rfl rfl)
theorem dX8_street_74 : decode cX8_street 74 = .ok (.iconst 0, 1) := dk_3 (dk_at dksX8_street_3 5 rfl rfl)
theorem dX8_street_75 : decode cX8_street 75 = .ok (.iastore, 1) := dk_79 (dk_at dksX8_street_3 6 rfl rfl)
theorem dX8_street_76 : decode cX8_street 76 = .ok (.aload_n 0, 1) := dk_42 (dk_at dksX8_street_3 7 rfl rfl)
theorem dX8_street_77 : decode cX8_street 77 = .ok (.iconst 0, 1) := dk_3 (dk_at dksX8_street_3 8 rfl rfl)
theorem dX8_street_78 : decode cX8_street 78 = .ok (.invokevirtual 165, 3) := dk_182 0 165 (dk_at dksX8_street_3 9 rfl rfl)
theorem dX8_street_81 : decode cX8_street 81 = .ok (.aload_n 0, 1) := dk_42 (dk_at dksX8_street_3 12 rfl rfl)
theorem dX8_street_82 : decode cX8_street 82 = .ok (.getfield 7, 3) := dk_180 0 7 (dk_at dksX8_street_3 13 rfl rfl)
theorem dX8_street_85 : decode cX8_street 85 = .ok (.iconst 0, 1) := dk_3 (dk_at dksX8_street_3 16 rfl rfl)
theorem dX8_street_86 : decode cX8_street 86 = .ok (.iaload, 1) := dk_46 (dk_at dksX8_street_3 17 rfl rfl)
theorem dX8_street_87 : decode cX8_street 87 = .ok (.ireturn, 1) := dk_172 (dk_at dksX8_street_3 18 rfl rfl)
abbrev cX8_readsAll : ByteArray := prog_13_method_30_code
def yX8_readsAll : MethodName := ⟨RX8, "readsAll", "()Z"⟩
def dkwX8_readsAll_5 : List UInt8 := [182, 0, 130, 167, 255, 209, 4, 172]
abbrev dktX8_readsAll_5 : List UInt8 := dkwX8_readsAll_5 ++ []
def dkwX8_readsAll_4 : List UInt8 := [182, 0, 151, 153, 0, 17, 42, 182, 0, 159, 153, 0, 10, 42, 182, 0, 155, 154, 0, 5, 3, 172, 42]
abbrev dktX8_readsAll_4 : List UInt8 := dkwX8_readsAll_4 ++ dktX8_readsAll_5
def dkwX8_readsAll_3 : List UInt8 := [182, 0, 130, 42, 182, 0, 133, 155, 0, 46, 42, 180, 0, 35, 3, 46, 16, 8, 159, 0, 26, 42, 16, 45]
abbrev dktX8_readsAll_3 : List UInt8 := dkwX8_readsAll_3 ++ dktX8_readsAll_4
def dkwX8_readsAll_2 : List UInt8 := [180, 0, 137, 79, 42, 16, 58, 182, 0, 151, 153, 0, 10, 42, 182, 0, 155, 154, 0, 5, 3, 172, 42]
abbrev dktX8_readsAll_2 : List UInt8 := dkwX8_readsAll_2 ++ dktX8_readsAll_3
def dkwX8_readsAll_1 : List UInt8 := [167, 255, 240, 42, 4, 16, 60, 5, 182, 0, 147, 154, 0, 5, 3, 172, 42, 180, 0, 35, 4, 42]
abbrev dktX8_readsAll_1 : List UInt8 := dkwX8_readsAll_1 ++ dktX8_readsAll_2
def dkwX8_readsAll_0 : List UInt8 := [42, 3, 181, 0, 124, 3, 60, 27, 16, 60, 162, 0, 16, 42, 180, 0, 35, 27, 3, 79, 132, 1, 1]
abbrev dktX8_readsAll_0 : List UInt8 := dkwX8_readsAll_0 ++ dktX8_readsAll_1
theorem dksX8_readsAll_0 : cX8_readsAll.data.toList.drop 0 = dktX8_readsAll_0 := by decide +kernel
theorem dksX8_readsAll_1 : cX8_readsAll.data.toList.drop 23 = dktX8_readsAll_1 := dk_seg dksX8_readsAll_0 23 rfl rfl
theorem dksX8_readsAll_2 : cX8_readsAll.data.toList.drop 45 = dktX8_readsAll_2 := dk_seg dksX8_readsAll_1 22 rfl rfl
theorem dksX8_readsAll_3 : cX8_readsAll.data.toList.drop 68 = dktX8_readsAll_3 := dk_seg dksX8_readsAll_2 23 rfl rfl
theorem dksX8_readsAll_4 : cX8_readsAll.data.toList.drop 92 = dktX8_readsAll_4 := dk_seg dksX8_readsAll_3 24 rfl rfl
theorem dksX8_readsAll_5 : cX8_readsAll.data.toList.drop 115 = dktX8_readsAll_5 := dk_seg dksX8_readsAll_4 23 rfl rfl
theorem dX8_readsAll_0 : decode cX8_readsAll 0 = .ok (.aload_n 0, 1) := dk_42 (dk_at dksX8_readsAll_0 0 rfl rfl)
theorem dX8_readsAll_1 : decode cX8_readsAll 1 = .ok (.iconst 0, 1) := dk_3 (dk_at dksX8_readsAll_0 1 rfl rfl)
theorem dX8_readsAll_2 : decode cX8_readsAll 2 = .ok (.putfield 124, 3) := dk_181 0 124 (dk_at dksX8_readsAll_0 2 rfl rfl)
theorem dX8_readsAll_5 : decode cX8_readsAll 5 = .ok (.iconst 0, 1) := dk_3 (dk_at dksX8_readsAll_0 5 rfl rfl)
theorem dX8_readsAll_6 : decode cX8_readsAll 6 = .ok (.istore_n 1, 1) := dk_60 (dk_at dksX8_readsAll_0 6 rfl rfl)
theorem dX8_readsAll_7 : decode cX8_readsAll 7 = .ok (.iload_n 1, 1) := dk_27 (dk_at dksX8_readsAll_0 7 rfl rfl)
theorem dX8_readsAll_8 : decode cX8_readsAll 8 = .ok (.bipush 60, 2) := dk_16 60 (dk_at dksX8_readsAll_0 8 rfl rfl)
theorem dX8_readsAll_10 : decode cX8_readsAll 10 = .ok (.if_icmp .ge 16, 3) := dk_162 0 16 (dk_at dksX8_readsAll_0 10 rfl rfl)
theorem dX8_readsAll_13 : decode cX8_readsAll 13 = .ok (.aload_n 0, 1) := dk_42 (dk_at dksX8_readsAll_0 13 rfl rfl)
theorem dX8_readsAll_14 : decode cX8_readsAll 14 = .ok (.getfield 35, 3) := dk_180 0 35 (dk_at dksX8_readsAll_0 14 rfl rfl)
theorem dX8_readsAll_17 : decode cX8_readsAll 17 = .ok (.iload_n 1, 1) := dk_27 (dk_at dksX8_readsAll_0 17 rfl rfl)
theorem dX8_readsAll_18 : decode cX8_readsAll 18 = .ok (.iconst 0, 1) := dk_3 (dk_at dksX8_readsAll_0 18 rfl rfl)
theorem dX8_readsAll_19 : decode cX8_readsAll 19 = .ok (.iastore, 1) := dk_79 (dk_at dksX8_readsAll_0 19 rfl rfl)
theorem dX8_readsAll_20 : decode cX8_readsAll 20 = .ok (.iinc 1 1, 3) := dk_132 1 1 (dk_at dksX8_readsAll_0 20 rfl rfl)
theorem dX8_readsAll_23 : decode cX8_readsAll 23 = .ok (.goto (-16), 3) := dk_167 255 240 (dk_at dksX8_readsAll_1 0 rfl rfl)
theorem dX8_readsAll_26 : decode cX8_readsAll 26 = .ok (.aload_n 0, 1) := dk_42 (dk_at dksX8_readsAll_1 3 rfl rfl)
theorem dX8_readsAll_27 : decode cX8_readsAll 27 = .ok (.iconst 1, 1) := dk_4 (dk_at dksX8_readsAll_1 4 rfl rfl)
theorem dX8_readsAll_28 : decode cX8_readsAll 28 = .ok (.bipush 60, 2) := dk_16 60 (dk_at dksX8_readsAll_1 5 rfl rfl)
theorem dX8_readsAll_30 : decode cX8_readsAll 30 = .ok (.iconst 2, 1) := dk_5 (dk_at dksX8_readsAll_1 7 rfl rfl)
theorem dX8_readsAll_31 : decode cX8_readsAll 31 = .ok (.invokevirtual 147, 3) := dk_182 0 147 (dk_at dksX8_readsAll_1 8 rfl rfl)
theorem dX8_readsAll_34 : decode cX8_readsAll 34 = .ok (.ifCond .ne 5, 3) := dk_154 0 5 (dk_at dksX8_readsAll_1 11 rfl rfl)
theorem dX8_readsAll_37 : decode cX8_readsAll 37 = .ok (.iconst 0, 1) := dk_3 (dk_at dksX8_readsAll_1 14 rfl rfl)
theorem dX8_readsAll_38 : decode cX8_readsAll 38 = .ok (.ireturn, 1) := dk_172 (dk_at dksX8_readsAll_1 15 rfl rfl)
theorem dX8_readsAll_39 : decode cX8_readsAll 39 = .ok (.aload_n 0, 1) := dk_42 (dk_at dksX8_readsAll_1 16 rfl rfl)
theorem dX8_readsAll_40 : decode cX8_readsAll 40 = .ok (.getfield 35, 3) := dk_180 0 35 (dk_at dksX8_readsAll_1 17 rfl rfl)
theorem dX8_readsAll_43 : decode cX8_readsAll 43 = .ok (.iconst 1, 1) := dk_4 (dk_at dksX8_readsAll_1 20 rfl rfl)
theorem dX8_readsAll_44 : decode cX8_readsAll 44 = .ok (.aload_n 0, 1) := dk_42 (dk_at dksX8_readsAll_1 21 rfl rfl)
theorem dX8_readsAll_45 : decode cX8_readsAll 45 = .ok (.getfield 137, 3) := dk_180 0 137 (dk_at dksX8_readsAll_2 0 rfl rfl)
theorem dX8_readsAll_48 : decode cX8_readsAll 48 = .ok (.iastore, 1) := dk_79 (dk_at dksX8_readsAll_2 3 rfl rfl)
theorem dX8_readsAll_49 : decode cX8_readsAll 49 = .ok (.aload_n 0, 1) := dk_42 (dk_at dksX8_readsAll_2 4 rfl rfl)
theorem dX8_readsAll_50 : decode cX8_readsAll 50 = .ok (.bipush 58, 2) := dk_16 58 (dk_at dksX8_readsAll_2 5 rfl rfl)
theorem dX8_readsAll_52 : decode cX8_readsAll 52 = .ok (.invokevirtual 151, 3) := dk_182 0 151 (dk_at dksX8_readsAll_2 7 rfl rfl)
theorem dX8_readsAll_55 : decode cX8_readsAll 55 = .ok (.ifCond .eq 10, 3) := dk_153 0 10 (dk_at dksX8_readsAll_2 10 rfl rfl)
theorem dX8_readsAll_58 : decode cX8_readsAll 58 = .ok (.aload_n 0, 1) := dk_42 (dk_at dksX8_readsAll_2 13 rfl rfl)
theorem dX8_readsAll_59 : decode cX8_readsAll 59 = .ok (.invokevirtual 155, 3) := dk_182 0 155 (dk_at dksX8_readsAll_2 14 rfl rfl)
theorem dX8_readsAll_62 : decode cX8_readsAll 62 = .ok (.ifCond .ne 5, 3) := dk_154 0 5 (dk_at dksX8_readsAll_2 17 rfl rfl)
theorem dX8_readsAll_65 : decode cX8_readsAll 65 = .ok (.iconst 0, 1) := dk_3 (dk_at dksX8_readsAll_2 20 rfl rfl)
theorem dX8_readsAll_66 : decode cX8_readsAll 66 = .ok (.ireturn, 1) := dk_172 (dk_at dksX8_readsAll_2 21 rfl rfl)
theorem dX8_readsAll_67 : decode cX8_readsAll 67 = .ok (.aload_n 0, 1) := dk_42 (dk_at dksX8_readsAll_2 22 rfl rfl)
theorem dX8_readsAll_68 : decode cX8_readsAll 68 = .ok (.invokevirtual 130, 3) := dk_182 0 130 (dk_at dksX8_readsAll_3 0 rfl rfl)
theorem dX8_readsAll_71 : decode cX8_readsAll 71 = .ok (.aload_n 0, 1) := dk_42 (dk_at dksX8_readsAll_3 3 rfl rfl)
theorem dX8_readsAll_72 : decode cX8_readsAll 72 = .ok (.invokevirtual 133, 3) := dk_182 0 133 (dk_at dksX8_readsAll_3 4 rfl rfl)
theorem dX8_readsAll_75 : decode cX8_readsAll 75 = .ok (.ifCond .lt 46, 3) := dk_155 0 46 (dk_at dksX8_readsAll_3 7 rfl rfl)
theorem dX8_readsAll_78 : decode cX8_readsAll 78 = .ok (.aload_n 0, 1) := dk_42 (dk_at dksX8_readsAll_3 10 rfl rfl)
theorem dX8_readsAll_79 : decode cX8_readsAll 79 = .ok (.getfield 35, 3) := dk_180 0 35 (dk_at dksX8_readsAll_3 11 rfl rfl)
theorem dX8_readsAll_82 : decode cX8_readsAll 82 = .ok (.iconst 0, 1) := dk_3 (dk_at dksX8_readsAll_3 14 rfl rfl)
theorem dX8_readsAll_83 : decode cX8_readsAll 83 = .ok (.iaload, 1) := dk_46 (dk_at dksX8_readsAll_3 15 rfl rfl)
theorem dX8_readsAll_84 : decode cX8_readsAll 84 = .ok (.bipush 8, 2) := dk_16 8 (dk_at dksX8_readsAll_3 16 rfl rfl)
theorem dX8_readsAll_86 : decode cX8_readsAll 86 = .ok (.if_icmp .eq 26, 3) := dk_159 0 26 (dk_at dksX8_readsAll_3 18 rfl rfl)
theorem dX8_readsAll_89 : decode cX8_readsAll 89 = .ok (.aload_n 0, 1) := dk_42 (dk_at dksX8_readsAll_3 21 rfl rfl)
theorem dX8_readsAll_90 : decode cX8_readsAll 90 = .ok (.bipush 45, 2) := dk_16 45 (dk_at dksX8_readsAll_3 22 rfl rfl)
theorem dX8_readsAll_92 : decode cX8_readsAll 92 = .ok (.invokevirtual 151, 3) := dk_182 0 151 (dk_at dksX8_readsAll_4 0 rfl rfl)
theorem dX8_readsAll_95 : decode cX8_readsAll 95 = .ok (.ifCond .eq 17, 3) := dk_153 0 17 (dk_at dksX8_readsAll_4 3 rfl rfl)
theorem dX8_readsAll_98 : decode cX8_readsAll 98 = .ok (.aload_n 0, 1) := dk_42 (dk_at dksX8_readsAll_4 6 rfl rfl)
theorem dX8_readsAll_99 : decode cX8_readsAll 99 = .ok (.invokevirtual 159, 3) := dk_182 0 159 (dk_at dksX8_readsAll_4 7 rfl rfl)
theorem dX8_readsAll_102 : decode cX8_readsAll 102 = .ok (.ifCond .eq 10, 3) := dk_153 0 10 (dk_at dksX8_readsAll_4 10 rfl rfl)
theorem dX8_readsAll_105 : decode cX8_readsAll 105 = .ok (.aload_n 0, 1) := dk_42 (dk_at dksX8_readsAll_4 13 rfl rfl)
theorem dX8_readsAll_106 : decode cX8_readsAll 106 = .ok (.invokevirtual 155, 3) := dk_182 0 155 (dk_at dksX8_readsAll_4 14 rfl rfl)
theorem dX8_readsAll_109 : decode cX8_readsAll 109 = .ok (.ifCond .ne 5, 3) := dk_154 0 5 (dk_at dksX8_readsAll_4 17 rfl rfl)
theorem dX8_readsAll_112 : decode cX8_readsAll 112 = .ok (.iconst 0, 1) := dk_3 (dk_at dksX8_readsAll_4 20 rfl rfl)
theorem dX8_readsAll_113 : decode cX8_readsAll 113 = .ok (.ireturn, 1) := dk_172 (dk_at dksX8_readsAll_4 21 rfl rfl)
theorem dX8_readsAll_114 : decode cX8_readsAll 114 = .ok (.aload_n 0, 1) := dk_42 (dk_at dksX8_readsAll_4 22 rfl rfl)
theorem dX8_readsAll_115 : decode cX8_readsAll 115 = .ok (.invokevirtual 130, 3) := dk_182 0 130 (dk_at dksX8_readsAll_5 0 rfl rfl)
theorem dX8_readsAll_118 : decode cX8_readsAll 118 = .ok (.goto (-47), 3) := dk_167 255 209 (dk_at dksX8_readsAll_5 3 rfl rfl)
theorem dX8_readsAll_121 : decode cX8_readsAll 121 = .ok (.iconst 1, 1) := dk_4 (dk_at dksX8_readsAll_5 6 rfl rfl)
theorem dX8_readsAll_122 : decode cX8_readsAll 122 = .ok (.ireturn, 1) := dk_172 (dk_at dksX8_readsAll_5 7 rfl rfl)
abbrev cX8_takesNumber : ByteArray := prog_13_method_26_code
def yX8_takesNumber : MethodName := ⟨RX8, "takesNumber", "(III)Z"⟩
def dkwX8_takesNumber_5 : List UInt8 := [3, 172, 4, 172]
abbrev dktX8_takesNumber_5 : List UInt8 := dkwX8_takesNumber_5 ++ []
def dkwX8_takesNumber_4 : List UInt8 := [182, 0, 133, 133, 20, 0, 140, 20, 0, 142, 184, 0, 49, 153, 0, 13, 42, 42, 180, 0, 124, 181, 0, 127]
abbrev dktX8_takesNumber_4 : List UInt8 := dkwX8_takesNumber_4 ++ dktX8_takesNumber_5
def dkwX8_takesNumber_3 : List UInt8 := [21, 4, 153, 0, 18, 42, 180, 0, 137, 133, 27, 133, 28, 133, 184, 0, 49, 154, 0, 5, 3, 172, 42]
abbrev dktX8_takesNumber_3 : List UInt8 := dkwX8_takesNumber_3 ++ dktX8_takesNumber_4
def dkwX8_takesNumber_2 : List UInt8 := [96, 16, 48, 100, 181, 0, 137, 132, 4, 1, 42, 89, 180, 0, 124, 4, 96, 181, 0, 124, 167, 255, 201]
abbrev dktX8_takesNumber_2 : List UInt8 := dkwX8_takesNumber_2 ++ dktX8_takesNumber_3
def dkwX8_takesNumber_1 : List UInt8 := [20, 0, 140, 20, 0, 142, 184, 0, 49, 153, 0, 38, 42, 16, 10, 42, 180, 0, 137, 104, 42, 182, 0, 133]
abbrev dktX8_takesNumber_1 : List UInt8 := dkwX8_takesNumber_1 ++ dktX8_takesNumber_2
def dkwX8_takesNumber_0 : List UInt8 := [42, 182, 0, 130, 42, 3, 181, 0, 137, 3, 54, 4, 21, 4, 29, 162, 0, 55, 42, 182, 0, 133, 133]
abbrev dktX8_takesNumber_0 : List UInt8 := dkwX8_takesNumber_0 ++ dktX8_takesNumber_1
theorem dksX8_takesNumber_0 : cX8_takesNumber.data.toList.drop 0 = dktX8_takesNumber_0 := by decide +kernel
theorem dksX8_takesNumber_1 : cX8_takesNumber.data.toList.drop 23 = dktX8_takesNumber_1 := dk_seg dksX8_takesNumber_0 23 rfl rfl
theorem dksX8_takesNumber_2 : cX8_takesNumber.data.toList.drop 47 = dktX8_takesNumber_2 := dk_seg dksX8_takesNumber_1 24 rfl rfl
theorem dksX8_takesNumber_3 : cX8_takesNumber.data.toList.drop 70 = dktX8_takesNumber_3 := dk_seg dksX8_takesNumber_2 23 rfl rfl
theorem dksX8_takesNumber_4 : cX8_takesNumber.data.toList.drop 93 = dktX8_takesNumber_4 := dk_seg dksX8_takesNumber_3 23 rfl rfl
theorem dksX8_takesNumber_5 : cX8_takesNumber.data.toList.drop 117 = dktX8_takesNumber_5 := dk_seg dksX8_takesNumber_4 24 rfl rfl
theorem dX8_takesNumber_0 : decode cX8_takesNumber 0 = .ok (.aload_n 0, 1) := dk_42 (dk_at dksX8_takesNumber_0 0 rfl rfl)
theorem dX8_takesNumber_1 : decode cX8_takesNumber 1 = .ok (.invokevirtual 130, 3) := dk_182 0 130 (dk_at dksX8_takesNumber_0 1 rfl rfl)
theorem dX8_takesNumber_4 : decode cX8_takesNumber 4 = .ok (.aload_n 0, 1) := dk_42 (dk_at dksX8_takesNumber_0 4 rfl rfl)
theorem dX8_takesNumber_5 : decode cX8_takesNumber 5 = .ok (.iconst 0, 1) := dk_3 (dk_at dksX8_takesNumber_0 5 rfl rfl)
theorem dX8_takesNumber_6 : decode cX8_takesNumber 6 = .ok (.putfield 137, 3) := dk_181 0 137 (dk_at dksX8_takesNumber_0 6 rfl rfl)
theorem dX8_takesNumber_9 : decode cX8_takesNumber 9 = .ok (.iconst 0, 1) := dk_3 (dk_at dksX8_takesNumber_0 9 rfl rfl)
theorem dX8_takesNumber_10 : decode cX8_takesNumber 10 = .ok (.istore 4, 2) := dk_54 4 (dk_at dksX8_takesNumber_0 10 rfl rfl)
theorem dX8_takesNumber_12 : decode cX8_takesNumber 12 = .ok (.iload 4, 2) := dk_21 4 (dk_at dksX8_takesNumber_0 12 rfl rfl)
theorem dX8_takesNumber_14 : decode cX8_takesNumber 14 = .ok (.iload_n 3, 1) := dk_29 (dk_at dksX8_takesNumber_0 14 rfl rfl)
theorem dX8_takesNumber_15 : decode cX8_takesNumber 15 = .ok (.if_icmp .ge 55, 3) := dk_162 0 55 (dk_at dksX8_takesNumber_0 15 rfl rfl)
theorem dX8_takesNumber_18 : decode cX8_takesNumber 18 = .ok (.aload_n 0, 1) := dk_42 (dk_at dksX8_takesNumber_0 18 rfl rfl)
theorem dX8_takesNumber_19 : decode cX8_takesNumber 19 = .ok (.invokevirtual 133, 3) := dk_182 0 133 (dk_at dksX8_takesNumber_0 19 rfl rfl)
theorem dX8_takesNumber_22 : decode cX8_takesNumber 22 = .ok (.i2l, 1) := dk_133 (dk_at dksX8_takesNumber_0 22 rfl rfl)
theorem dX8_takesNumber_23 : decode cX8_takesNumber 23 = .ok (.ldc2_w 140, 3) := dk_20 0 140 (dk_at dksX8_takesNumber_1 0 rfl rfl)
theorem dX8_takesNumber_26 : decode cX8_takesNumber 26 = .ok (.ldc2_w 142, 3) := dk_20 0 142 (dk_at dksX8_takesNumber_1 3 rfl rfl)
theorem dX8_takesNumber_29 : decode cX8_takesNumber 29 = .ok (.invokestatic 49, 3) := dk_184 0 49 (dk_at dksX8_takesNumber_1 6 rfl rfl)
theorem dX8_takesNumber_32 : decode cX8_takesNumber 32 = .ok (.ifCond .eq 38, 3) := dk_153 0 38 (dk_at dksX8_takesNumber_1 9 rfl rfl)
theorem dX8_takesNumber_35 : decode cX8_takesNumber 35 = .ok (.aload_n 0, 1) := dk_42 (dk_at dksX8_takesNumber_1 12 rfl rfl)
theorem dX8_takesNumber_36 : decode cX8_takesNumber 36 = .ok (.bipush 10, 2) := dk_16 10 (dk_at dksX8_takesNumber_1 13 rfl rfl)
theorem dX8_takesNumber_38 : decode cX8_takesNumber 38 = .ok (.aload_n 0, 1) := dk_42 (dk_at dksX8_takesNumber_1 15 rfl rfl)
theorem dX8_takesNumber_39 : decode cX8_takesNumber 39 = .ok (.getfield 137, 3) := dk_180 0 137 (dk_at dksX8_takesNumber_1 16 rfl rfl)
theorem dX8_takesNumber_42 : decode cX8_takesNumber 42 = .ok (.imul, 1) := dk_104 (dk_at dksX8_takesNumber_1 19 rfl rfl)
theorem dX8_takesNumber_43 : decode cX8_takesNumber 43 = .ok (.aload_n 0, 1) := dk_42 (dk_at dksX8_takesNumber_1 20 rfl rfl)
theorem dX8_takesNumber_44 : decode cX8_takesNumber 44 = .ok (.invokevirtual 133, 3) := dk_182 0 133 (dk_at dksX8_takesNumber_1 21 rfl rfl)
theorem dX8_takesNumber_47 : decode cX8_takesNumber 47 = .ok (.iadd, 1) := dk_96 (dk_at dksX8_takesNumber_2 0 rfl rfl)
theorem dX8_takesNumber_48 : decode cX8_takesNumber 48 = .ok (.bipush 48, 2) := dk_16 48 (dk_at dksX8_takesNumber_2 1 rfl rfl)
theorem dX8_takesNumber_50 : decode cX8_takesNumber 50 = .ok (.isub, 1) := dk_100 (dk_at dksX8_takesNumber_2 3 rfl rfl)
theorem dX8_takesNumber_51 : decode cX8_takesNumber 51 = .ok (.putfield 137, 3) := dk_181 0 137 (dk_at dksX8_takesNumber_2 4 rfl rfl)
theorem dX8_takesNumber_54 : decode cX8_takesNumber 54 = .ok (.iinc 4 1, 3) := dk_132 4 1 (dk_at dksX8_takesNumber_2 7 rfl rfl)
theorem dX8_takesNumber_57 : decode cX8_takesNumber 57 = .ok (.aload_n 0, 1) := dk_42 (dk_at dksX8_takesNumber_2 10 rfl rfl)
theorem dX8_takesNumber_58 : decode cX8_takesNumber 58 = .ok (.dup, 1) := dk_89 (dk_at dksX8_takesNumber_2 11 rfl rfl)
theorem dX8_takesNumber_59 : decode cX8_takesNumber 59 = .ok (.getfield 124, 3) := dk_180 0 124 (dk_at dksX8_takesNumber_2 12 rfl rfl)
theorem dX8_takesNumber_62 : decode cX8_takesNumber 62 = .ok (.iconst 1, 1) := dk_4 (dk_at dksX8_takesNumber_2 15 rfl rfl)
theorem dX8_takesNumber_63 : decode cX8_takesNumber 63 = .ok (.iadd, 1) := dk_96 (dk_at dksX8_takesNumber_2 16 rfl rfl)
theorem dX8_takesNumber_64 : decode cX8_takesNumber 64 = .ok (.putfield 124, 3) := dk_181 0 124 (dk_at dksX8_takesNumber_2 17 rfl rfl)
theorem dX8_takesNumber_67 : decode cX8_takesNumber 67 = .ok (.goto (-55), 3) := dk_167 255 201 (dk_at dksX8_takesNumber_2 20 rfl rfl)
theorem dX8_takesNumber_70 : decode cX8_takesNumber 70 = .ok (.iload 4, 2) := dk_21 4 (dk_at dksX8_takesNumber_3 0 rfl rfl)
theorem dX8_takesNumber_72 : decode cX8_takesNumber 72 = .ok (.ifCond .eq 18, 3) := dk_153 0 18 (dk_at dksX8_takesNumber_3 2 rfl rfl)
theorem dX8_takesNumber_75 : decode cX8_takesNumber 75 = .ok (.aload_n 0, 1) := dk_42 (dk_at dksX8_takesNumber_3 5 rfl rfl)
theorem dX8_takesNumber_76 : decode cX8_takesNumber 76 = .ok (.getfield 137, 3) := dk_180 0 137 (dk_at dksX8_takesNumber_3 6 rfl rfl)
theorem dX8_takesNumber_79 : decode cX8_takesNumber 79 = .ok (.i2l, 1) := dk_133 (dk_at dksX8_takesNumber_3 9 rfl rfl)
theorem dX8_takesNumber_80 : decode cX8_takesNumber 80 = .ok (.iload_n 1, 1) := dk_27 (dk_at dksX8_takesNumber_3 10 rfl rfl)
theorem dX8_takesNumber_81 : decode cX8_takesNumber 81 = .ok (.i2l, 1) := dk_133 (dk_at dksX8_takesNumber_3 11 rfl rfl)
theorem dX8_takesNumber_82 : decode cX8_takesNumber 82 = .ok (.iload_n 2, 1) := dk_28 (dk_at dksX8_takesNumber_3 12 rfl rfl)
theorem dX8_takesNumber_83 : decode cX8_takesNumber 83 = .ok (.i2l, 1) := dk_133 (dk_at dksX8_takesNumber_3 13 rfl rfl)
theorem dX8_takesNumber_84 : decode cX8_takesNumber 84 = .ok (.invokestatic 49, 3) := dk_184 0 49 (dk_at dksX8_takesNumber_3 14 rfl rfl)
theorem dX8_takesNumber_87 : decode cX8_takesNumber 87 = .ok (.ifCond .ne 5, 3) := dk_154 0 5 (dk_at dksX8_takesNumber_3 17 rfl rfl)
theorem dX8_takesNumber_90 : decode cX8_takesNumber 90 = .ok (.iconst 0, 1) := dk_3 (dk_at dksX8_takesNumber_3 20 rfl rfl)
theorem dX8_takesNumber_91 : decode cX8_takesNumber 91 = .ok (.ireturn, 1) := dk_172 (dk_at dksX8_takesNumber_3 21 rfl rfl)
theorem dX8_takesNumber_92 : decode cX8_takesNumber 92 = .ok (.aload_n 0, 1) := dk_42 (dk_at dksX8_takesNumber_3 22 rfl rfl)
theorem dX8_takesNumber_93 : decode cX8_takesNumber 93 = .ok (.invokevirtual 133, 3) := dk_182 0 133 (dk_at dksX8_takesNumber_4 0 rfl rfl)
theorem dX8_takesNumber_96 : decode cX8_takesNumber 96 = .ok (.i2l, 1) := dk_133 (dk_at dksX8_takesNumber_4 3 rfl rfl)
theorem dX8_takesNumber_97 : decode cX8_takesNumber 97 = .ok (.ldc2_w 140, 3) := dk_20 0 140 (dk_at dksX8_takesNumber_4 4 rfl rfl)
theorem dX8_takesNumber_100 : decode cX8_takesNumber 100 = .ok (.ldc2_w 142, 3) := dk_20 0 142 (dk_at dksX8_takesNumber_4 7 rfl rfl)
theorem dX8_takesNumber_103 : decode cX8_takesNumber 103 = .ok (.invokestatic 49, 3) := dk_184 0 49 (dk_at dksX8_takesNumber_4 10 rfl rfl)
theorem dX8_takesNumber_106 : decode cX8_takesNumber 106 = .ok (.ifCond .eq 13, 3) := dk_153 0 13 (dk_at dksX8_takesNumber_4 13 rfl rfl)
theorem dX8_takesNumber_109 : decode cX8_takesNumber 109 = .ok (.aload_n 0, 1) := dk_42 (dk_at dksX8_takesNumber_4 16 rfl rfl)
theorem dX8_takesNumber_110 : decode cX8_takesNumber 110 = .ok (.aload_n 0, 1) := dk_42 (dk_at dksX8_takesNumber_4 17 rfl rfl)
theorem dX8_takesNumber_111 : decode cX8_takesNumber 111 = .ok (.getfield 124, 3) := dk_180 0 124 (dk_at dksX8_takesNumber_4 18 rfl rfl)
theorem dX8_takesNumber_114 : decode cX8_takesNumber 114 = .ok (.putfield 127, 3) := dk_181 0 127 (dk_at dksX8_takesNumber_4 21 rfl rfl)
theorem dX8_takesNumber_117 : decode cX8_takesNumber 117 = .ok (.iconst 0, 1) := dk_3 (dk_at dksX8_takesNumber_5 0 rfl rfl)
theorem dX8_takesNumber_118 : decode cX8_takesNumber 118 = .ok (.ireturn, 1) := dk_172 (dk_at dksX8_takesNumber_5 1 rfl rfl)
theorem dX8_takesNumber_119 : decode cX8_takesNumber 119 = .ok (.iconst 1, 1) := dk_4 (dk_at dksX8_takesNumber_5 2 rfl rfl)
theorem dX8_takesNumber_120 : decode cX8_takesNumber 120 = .ok (.ireturn, 1) := dk_172 (dk_at dksX8_takesNumber_5 3 rfl rfl)
abbrev cX8_blanks : ByteArray := prog_13_method_23_code
def yX8_blanks : MethodName := ⟨RX8, "blanks", "()V"⟩
def dkwX8_blanks_2 : List UInt8 := [177]
abbrev dktX8_blanks_2 : List UInt8 := dkwX8_blanks_2 ++ []
def dkwX8_blanks_1 : List UInt8 := [160, 0, 16, 42, 89, 180, 0, 124, 4, 96, 181, 0, 124, 167, 255, 221, 42, 42, 180, 0, 124, 181, 0, 127]
abbrev dktX8_blanks_1 : List UInt8 := dkwX8_blanks_1 ++ dktX8_blanks_2
def dkwX8_blanks_0 : List UInt8 := [42, 180, 0, 124, 42, 180, 0, 121, 162, 0, 30, 42, 180, 0, 13, 42, 180, 0, 124, 46, 16, 32]
abbrev dktX8_blanks_0 : List UInt8 := dkwX8_blanks_0 ++ dktX8_blanks_1
theorem dksX8_blanks_0 : cX8_blanks.data.toList.drop 0 = dktX8_blanks_0 := by decide +kernel
theorem dksX8_blanks_1 : cX8_blanks.data.toList.drop 22 = dktX8_blanks_1 := dk_seg dksX8_blanks_0 22 rfl rfl
theorem dksX8_blanks_2 : cX8_blanks.data.toList.drop 46 = dktX8_blanks_2 := dk_seg dksX8_blanks_1 24 rfl rfl
theorem dX8_blanks_0 : decode cX8_blanks 0 = .ok (.aload_n 0, 1) := dk_42 (dk_at dksX8_blanks_0 0 rfl rfl)
theorem dX8_blanks_1 : decode cX8_blanks 1 = .ok (.getfield 124, 3) := dk_180 0 124 (dk_at dksX8_blanks_0 1 rfl rfl)
theorem dX8_blanks_4 : decode cX8_blanks 4 = .ok (.aload_n 0, 1) := dk_42 (dk_at dksX8_blanks_0 4 rfl rfl)
theorem dX8_blanks_5 : decode cX8_blanks 5 = .ok (.getfield 121, 3) := dk_180 0 121 (dk_at dksX8_blanks_0 5 rfl rfl)
theorem dX8_blanks_8 : decode cX8_blanks 8 = .ok (.if_icmp .ge 30, 3) := dk_162 0 30 (dk_at dksX8_blanks_0 8 rfl rfl)
theorem dX8_blanks_11 : decode cX8_blanks 11 = .ok (.aload_n 0, 1) := dk_42 (dk_at dksX8_blanks_0 11 rfl rfl)
theorem dX8_blanks_12 : decode cX8_blanks 12 = .ok (.getfield 13, 3) := dk_180 0 13 (dk_at dksX8_blanks_0 12 rfl rfl)
theorem dX8_blanks_15 : decode cX8_blanks 15 = .ok (.aload_n 0, 1) := dk_42 (dk_at dksX8_blanks_0 15 rfl rfl)
theorem dX8_blanks_16 : decode cX8_blanks 16 = .ok (.getfield 124, 3) := dk_180 0 124 (dk_at dksX8_blanks_0 16 rfl rfl)
theorem dX8_blanks_19 : decode cX8_blanks 19 = .ok (.iaload, 1) := dk_46 (dk_at dksX8_blanks_0 19 rfl rfl)
theorem dX8_blanks_20 : decode cX8_blanks 20 = .ok (.bipush 32, 2) := dk_16 32 (dk_at dksX8_blanks_0 20 rfl rfl)
theorem dX8_blanks_22 : decode cX8_blanks 22 = .ok (.if_icmp .ne 16, 3) := dk_160 0 16 (dk_at dksX8_blanks_1 0 rfl rfl)
theorem dX8_blanks_25 : decode cX8_blanks 25 = .ok (.aload_n 0, 1) := dk_42 (dk_at dksX8_blanks_1 3 rfl rfl)
theorem dX8_blanks_26 : decode cX8_blanks 26 = .ok (.dup, 1) := dk_89 (dk_at dksX8_blanks_1 4 rfl rfl)
theorem dX8_blanks_27 : decode cX8_blanks 27 = .ok (.getfield 124, 3) := dk_180 0 124 (dk_at dksX8_blanks_1 5 rfl rfl)
theorem dX8_blanks_30 : decode cX8_blanks 30 = .ok (.iconst 1, 1) := dk_4 (dk_at dksX8_blanks_1 8 rfl rfl)
theorem dX8_blanks_31 : decode cX8_blanks 31 = .ok (.iadd, 1) := dk_96 (dk_at dksX8_blanks_1 9 rfl rfl)
theorem dX8_blanks_32 : decode cX8_blanks 32 = .ok (.putfield 124, 3) := dk_181 0 124 (dk_at dksX8_blanks_1 10 rfl rfl)
theorem dX8_blanks_35 : decode cX8_blanks 35 = .ok (.goto (-35), 3) := dk_167 255 221 (dk_at dksX8_blanks_1 13 rfl rfl)
theorem dX8_blanks_38 : decode cX8_blanks 38 = .ok (.aload_n 0, 1) := dk_42 (dk_at dksX8_blanks_1 16 rfl rfl)
theorem dX8_blanks_39 : decode cX8_blanks 39 = .ok (.aload_n 0, 1) := dk_42 (dk_at dksX8_blanks_1 17 rfl rfl)
theorem dX8_blanks_40 : decode cX8_blanks 40 = .ok (.getfield 124, 3) := dk_180 0 124 (dk_at dksX8_blanks_1 18 rfl rfl)
theorem dX8_blanks_43 : decode cX8_blanks 43 = .ok (.putfield 127, 3) := dk_181 0 127 (dk_at dksX8_blanks_1 21 rfl rfl)
theorem dX8_blanks_46 : decode cX8_blanks 46 = .ok (.return_, 1) := dk_177 (dk_at dksX8_blanks_2 0 rfl rfl)
abbrev cX8_here : ByteArray := prog_13_method_24_code
def yX8_here : MethodName := ⟨RX8, "here", "()I"⟩
def dkwX8_here_1 : List UInt8 := [172]
abbrev dktX8_here_1 : List UInt8 := dkwX8_here_1 ++ []
def dkwX8_here_0 : List UInt8 := [42, 180, 0, 124, 42, 180, 0, 121, 162, 0, 15, 42, 180, 0, 13, 42, 180, 0, 124, 46, 167, 0, 4, 2]
abbrev dktX8_here_0 : List UInt8 := dkwX8_here_0 ++ dktX8_here_1
theorem dksX8_here_0 : cX8_here.data.toList.drop 0 = dktX8_here_0 := by decide +kernel
theorem dksX8_here_1 : cX8_here.data.toList.drop 24 = dktX8_here_1 := dk_seg dksX8_here_0 24 rfl rfl
theorem dX8_here_0 : decode cX8_here 0 = .ok (.aload_n 0, 1) := dk_42 (dk_at dksX8_here_0 0 rfl rfl)
theorem dX8_here_1 : decode cX8_here 1 = .ok (.getfield 124, 3) := dk_180 0 124 (dk_at dksX8_here_0 1 rfl rfl)
theorem dX8_here_4 : decode cX8_here 4 = .ok (.aload_n 0, 1) := dk_42 (dk_at dksX8_here_0 4 rfl rfl)
theorem dX8_here_5 : decode cX8_here 5 = .ok (.getfield 121, 3) := dk_180 0 121 (dk_at dksX8_here_0 5 rfl rfl)
theorem dX8_here_8 : decode cX8_here 8 = .ok (.if_icmp .ge 15, 3) := dk_162 0 15 (dk_at dksX8_here_0 8 rfl rfl)
theorem dX8_here_11 : decode cX8_here 11 = .ok (.aload_n 0, 1) := dk_42 (dk_at dksX8_here_0 11 rfl rfl)
theorem dX8_here_12 : decode cX8_here 12 = .ok (.getfield 13, 3) := dk_180 0 13 (dk_at dksX8_here_0 12 rfl rfl)
theorem dX8_here_15 : decode cX8_here 15 = .ok (.aload_n 0, 1) := dk_42 (dk_at dksX8_here_0 15 rfl rfl)
theorem dX8_here_16 : decode cX8_here 16 = .ok (.getfield 124, 3) := dk_180 0 124 (dk_at dksX8_here_0 16 rfl rfl)
theorem dX8_here_19 : decode cX8_here 19 = .ok (.iaload, 1) := dk_46 (dk_at dksX8_here_0 19 rfl rfl)
theorem dX8_here_20 : decode cX8_here 20 = .ok (.goto 4, 3) := dk_167 0 4 (dk_at dksX8_here_0 20 rfl rfl)
theorem dX8_here_23 : decode cX8_here 23 = .ok (.iconst (-1), 1) := dk_2 (dk_at dksX8_here_0 23 rfl rfl)
theorem dX8_here_24 : decode cX8_here 24 = .ok (.ireturn, 1) := dk_172 (dk_at dksX8_here_1 0 rfl rfl)
abbrev cX8_takes : ByteArray := prog_13_method_25_code
def yX8_takes : MethodName := ⟨RX8, "takes", "(I)Z"⟩
def dkwX8_takes_1 : List UInt8 := [153, 0, 7, 4, 167, 0, 4, 3, 96, 181, 0, 124, 28, 172]
abbrev dktX8_takes_1 : List UInt8 := dkwX8_takes_1 ++ []
def dkwX8_takes_0 : List UInt8 := [42, 182, 0, 130, 42, 182, 0, 133, 27, 160, 0, 7, 4, 167, 0, 4, 3, 61, 42, 89, 180, 0, 124, 28]
abbrev dktX8_takes_0 : List UInt8 := dkwX8_takes_0 ++ dktX8_takes_1
theorem dksX8_takes_0 : cX8_takes.data.toList.drop 0 = dktX8_takes_0 := by decide +kernel
theorem dksX8_takes_1 : cX8_takes.data.toList.drop 24 = dktX8_takes_1 := dk_seg dksX8_takes_0 24 rfl rfl
theorem dX8_takes_0 : decode cX8_takes 0 = .ok (.aload_n 0, 1) := dk_42 (dk_at dksX8_takes_0 0 rfl rfl)
theorem dX8_takes_1 : decode cX8_takes 1 = .ok (.invokevirtual 130, 3) := dk_182 0 130 (dk_at dksX8_takes_0 1 rfl rfl)
theorem dX8_takes_4 : decode cX8_takes 4 = .ok (.aload_n 0, 1) := dk_42 (dk_at dksX8_takes_0 4 rfl rfl)
theorem dX8_takes_5 : decode cX8_takes 5 = .ok (.invokevirtual 133, 3) := dk_182 0 133 (dk_at dksX8_takes_0 5 rfl rfl)
theorem dX8_takes_8 : decode cX8_takes 8 = .ok (.iload_n 1, 1) := dk_27 (dk_at dksX8_takes_0 8 rfl rfl)
theorem dX8_takes_9 : decode cX8_takes 9 = .ok (.if_icmp .ne 7, 3) := dk_160 0 7 (dk_at dksX8_takes_0 9 rfl rfl)
theorem dX8_takes_12 : decode cX8_takes 12 = .ok (.iconst 1, 1) := dk_4 (dk_at dksX8_takes_0 12 rfl rfl)
theorem dX8_takes_13 : decode cX8_takes 13 = .ok (.goto 4, 3) := dk_167 0 4 (dk_at dksX8_takes_0 13 rfl rfl)
theorem dX8_takes_16 : decode cX8_takes 16 = .ok (.iconst 0, 1) := dk_3 (dk_at dksX8_takes_0 16 rfl rfl)
theorem dX8_takes_17 : decode cX8_takes 17 = .ok (.istore_n 2, 1) := dk_61 (dk_at dksX8_takes_0 17 rfl rfl)
theorem dX8_takes_18 : decode cX8_takes 18 = .ok (.aload_n 0, 1) := dk_42 (dk_at dksX8_takes_0 18 rfl rfl)
theorem dX8_takes_19 : decode cX8_takes 19 = .ok (.dup, 1) := dk_89 (dk_at dksX8_takes_0 19 rfl rfl)
theorem dX8_takes_20 : decode cX8_takes 20 = .ok (.getfield 124, 3) := dk_180 0 124 (dk_at dksX8_takes_0 20 rfl rfl)
theorem dX8_takes_23 : decode cX8_takes 23 = .ok (.iload_n 2, 1) := dk_28 (dk_at dksX8_takes_0 23 rfl rfl)
theorem dX8_takes_24 : decode cX8_takes 24 = .ok (.ifCond .eq 7, 3) := dk_153 0 7 (dk_at dksX8_takes_1 0 rfl rfl)
theorem dX8_takes_27 : decode cX8_takes 27 = .ok (.iconst 1, 1) := dk_4 (dk_at dksX8_takes_1 3 rfl rfl)
theorem dX8_takes_28 : decode cX8_takes 28 = .ok (.goto 4, 3) := dk_167 0 4 (dk_at dksX8_takes_1 4 rfl rfl)
theorem dX8_takes_31 : decode cX8_takes 31 = .ok (.iconst 0, 1) := dk_3 (dk_at dksX8_takes_1 7 rfl rfl)
theorem dX8_takes_32 : decode cX8_takes 32 = .ok (.iadd, 1) := dk_96 (dk_at dksX8_takes_1 8 rfl rfl)
theorem dX8_takes_33 : decode cX8_takes 33 = .ok (.putfield 124, 3) := dk_181 0 124 (dk_at dksX8_takes_1 9 rfl rfl)
theorem dX8_takes_36 : decode cX8_takes 36 = .ok (.iload_n 2, 1) := dk_28 (dk_at dksX8_takes_1 12 rfl rfl)
theorem dX8_takes_37 : decode cX8_takes 37 = .ok (.ireturn, 1) := dk_172 (dk_at dksX8_takes_1 13 rfl rfl)
abbrev cX8_takesPerson : ByteArray := prog_13_method_28_code
def yX8_takesPerson : MethodName := ⟨RX8, "takesPerson", "()Z"⟩
def dkwX8_takesPerson_6 : List UInt8 := [4, 79, 42, 180, 0, 35, 16, 28, 27, 96, 42, 180, 0, 137, 79, 4, 172]
abbrev dktX8_takesPerson_6 : List UInt8 := dkwX8_takesPerson_6 ++ []
def dkwX8_takesPerson_5 : List UInt8 := [153, 0, 14, 42, 3, 16, 99, 5, 182, 0, 147, 154, 0, 5, 3, 172, 42, 180, 0, 35, 16, 20, 27, 96]
abbrev dktX8_takesPerson_5 : List UInt8 := dkwX8_takesPerson_5 ++ dktX8_takesPerson_6
def dkwX8_takesPerson_4 : List UInt8 := [27, 96, 3, 79, 42, 180, 0, 35, 16, 28, 27, 96, 3, 79, 4, 172, 42, 16, 64, 182, 0, 151]
abbrev dktX8_takesPerson_4 : List UInt8 := dkwX8_takesPerson_4 ++ dktX8_takesPerson_5
def dkwX8_takesPerson_3 : List UInt8 := [180, 0, 35, 3, 92, 46, 4, 96, 79, 42, 16, 126, 182, 0, 151, 153, 0, 25, 42, 180, 0, 35, 16, 20]
abbrev dktX8_takesPerson_3 : List UInt8 := dkwX8_takesPerson_3 ++ dktX8_takesPerson_4
def dkwX8_takesPerson_2 : List UInt8 := [42, 180, 0, 35, 7, 27, 96, 28, 79, 42, 180, 0, 35, 16, 12, 27, 96, 42, 180, 0, 137, 79, 42]
abbrev dktX8_takesPerson_2 : List UInt8 := dkwX8_takesPerson_2 ++ dktX8_takesPerson_3
def dkwX8_takesPerson_1 : List UInt8 := [172, 42, 89, 180, 0, 124, 4, 96, 181, 0, 124, 42, 4, 16, 30, 5, 182, 0, 147, 154, 0, 5, 3, 172]
abbrev dktX8_takesPerson_1 : List UInt8 := dkwX8_takesPerson_1 ++ dktX8_takesPerson_2
def dkwX8_takesPerson_0 : List UInt8 := [42, 180, 0, 35, 3, 46, 60, 42, 182, 0, 130, 42, 182, 0, 133, 184, 0, 144, 61, 28, 156, 0, 5, 3]
abbrev dktX8_takesPerson_0 : List UInt8 := dkwX8_takesPerson_0 ++ dktX8_takesPerson_1
theorem dksX8_takesPerson_0 : cX8_takesPerson.data.toList.drop 0 = dktX8_takesPerson_0 := by decide +kernel
theorem dksX8_takesPerson_1 : cX8_takesPerson.data.toList.drop 24 = dktX8_takesPerson_1 := dk_seg dksX8_takesPerson_0 24 rfl rfl
theorem dksX8_takesPerson_2 : cX8_takesPerson.data.toList.drop 48 = dktX8_takesPerson_2 := dk_seg dksX8_takesPerson_1 24 rfl rfl
theorem dksX8_takesPerson_3 : cX8_takesPerson.data.toList.drop 71 = dktX8_takesPerson_3 := dk_seg dksX8_takesPerson_2 23 rfl rfl
theorem dksX8_takesPerson_4 : cX8_takesPerson.data.toList.drop 95 = dktX8_takesPerson_4 := dk_seg dksX8_takesPerson_3 24 rfl rfl
theorem dksX8_takesPerson_5 : cX8_takesPerson.data.toList.drop 117 = dktX8_takesPerson_5 := dk_seg dksX8_takesPerson_4 22 rfl rfl
theorem dksX8_takesPerson_6 : cX8_takesPerson.data.toList.drop 141 = dktX8_takesPerson_6 := dk_seg dksX8_takesPerson_5 24 rfl rfl
theorem dX8_takesPerson_0 : decode cX8_takesPerson 0 = .ok (.aload_n 0, 1) := dk_42 (dk_at dksX8_takesPerson_0 0 rfl rfl)
theorem dX8_takesPerson_1 : decode cX8_takesPerson 1 = .ok (.getfield 35, 3) := dk_180 0 35 (dk_at dksX8_takesPerson_0 1 rfl rfl)
theorem dX8_takesPerson_4 : decode cX8_takesPerson 4 = .ok (.iconst 0, 1) := dk_3 (dk_at dksX8_takesPerson_0 4 rfl rfl)
theorem dX8_takesPerson_5 : decode cX8_takesPerson 5 = .ok (.iaload, 1) := dk_46 (dk_at dksX8_takesPerson_0 5 rfl rfl)
theorem dX8_takesPerson_6 : decode cX8_takesPerson 6 = .ok (.istore_n 1, 1) := dk_60 (dk_at dksX8_takesPerson_0 6 rfl rfl)
theorem dX8_takesPerson_7 : decode cX8_takesPerson 7 = .ok (.aload_n 0, 1) := dk_42 (dk_at dksX8_takesPerson_0 7 rfl rfl)
theorem dX8_takesPerson_8 : decode cX8_takesPerson 8 = .ok (.invokevirtual 130, 3) := dk_182 0 130 (dk_at dksX8_takesPerson_0 8 rfl rfl)
theorem dX8_takesPerson_11 : decode cX8_takesPerson 11 = .ok (.aload_n 0, 1) := dk_42 (dk_at dksX8_takesPerson_0 11 rfl rfl)
theorem dX8_takesPerson_12 : decode cX8_takesPerson 12 = .ok (.invokevirtual 133, 3) := dk_182 0 133 (dk_at dksX8_takesPerson_0 12 rfl rfl)
theorem dX8_takesPerson_15 : decode cX8_takesPerson 15 = .ok (.invokestatic 144, 3) := dk_184 0 144 (dk_at dksX8_takesPerson_0 15 rfl rfl)
theorem dX8_takesPerson_18 : decode cX8_takesPerson 18 = .ok (.istore_n 2, 1) := dk_61 (dk_at dksX8_takesPerson_0 18 rfl rfl)
theorem dX8_takesPerson_19 : decode cX8_takesPerson 19 = .ok (.iload_n 2, 1) := dk_28 (dk_at dksX8_takesPerson_0 19 rfl rfl)
theorem dX8_takesPerson_20 : decode cX8_takesPerson 20 = .ok (.ifCond .ge 5, 3) := dk_156 0 5 (dk_at dksX8_takesPerson_0 20 rfl rfl)
theorem dX8_takesPerson_23 : decode cX8_takesPerson 23 = .ok (.iconst 0, 1) := dk_3 (dk_at dksX8_takesPerson_0 23 rfl rfl)
theorem dX8_takesPerson_24 : decode cX8_takesPerson 24 = .ok (.ireturn, 1) := dk_172 (dk_at dksX8_takesPerson_1 0 rfl rfl)
theorem dX8_takesPerson_25 : decode cX8_takesPerson 25 = .ok (.aload_n 0, 1) := dk_42 (dk_at dksX8_takesPerson_1 1 rfl rfl)
theorem dX8_takesPerson_26 : decode cX8_takesPerson 26 = .ok (.dup, 1) := dk_89 (dk_at dksX8_takesPerson_1 2 rfl rfl)
theorem dX8_takesPerson_27 : decode cX8_takesPerson 27 = .ok (.getfield 124, 3) := dk_180 0 124 (dk_at dksX8_takesPerson_1 3 rfl rfl)
theorem dX8_takesPerson_30 : decode cX8_takesPerson 30 = .ok (.iconst 1, 1) := dk_4 (dk_at dksX8_takesPerson_1 6 rfl rfl)
theorem dX8_takesPerson_31 : decode cX8_takesPerson 31 = .ok (.iadd, 1) := dk_96 (dk_at dksX8_takesPerson_1 7 rfl rfl)
theorem dX8_takesPerson_32 : decode cX8_takesPerson 32 = .ok (.putfield 124, 3) := dk_181 0 124 (dk_at dksX8_takesPerson_1 8 rfl rfl)
theorem dX8_takesPerson_35 : decode cX8_takesPerson 35 = .ok (.aload_n 0, 1) := dk_42 (dk_at dksX8_takesPerson_1 11 rfl rfl)
theorem dX8_takesPerson_36 : decode cX8_takesPerson 36 = .ok (.iconst 1, 1) := dk_4 (dk_at dksX8_takesPerson_1 12 rfl rfl)
theorem dX8_takesPerson_37 : decode cX8_takesPerson 37 = .ok (.bipush 30, 2) := dk_16 30 (dk_at dksX8_takesPerson_1 13 rfl rfl)
theorem dX8_takesPerson_39 : decode cX8_takesPerson 39 = .ok (.iconst 2, 1) := dk_5 (dk_at dksX8_takesPerson_1 15 rfl rfl)
theorem dX8_takesPerson_40 : decode cX8_takesPerson 40 = .ok (.invokevirtual 147, 3) := dk_182 0 147 (dk_at dksX8_takesPerson_1 16 rfl rfl)
theorem dX8_takesPerson_43 : decode cX8_takesPerson 43 = .ok (.ifCond .ne 5, 3) := dk_154 0 5 (dk_at dksX8_takesPerson_1 19 rfl rfl)
theorem dX8_takesPerson_46 : decode cX8_takesPerson 46 = .ok (.iconst 0, 1) := dk_3 (dk_at dksX8_takesPerson_1 22 rfl rfl)
theorem dX8_takesPerson_47 : decode cX8_takesPerson 47 = .ok (.ireturn, 1) := dk_172 (dk_at dksX8_takesPerson_1 23 rfl rfl)
theorem dX8_takesPerson_48 : decode cX8_takesPerson 48 = .ok (.aload_n 0, 1) := dk_42 (dk_at dksX8_takesPerson_2 0 rfl rfl)
theorem dX8_takesPerson_49 : decode cX8_takesPerson 49 = .ok (.getfield 35, 3) := dk_180 0 35 (dk_at dksX8_takesPerson_2 1 rfl rfl)
theorem dX8_takesPerson_52 : decode cX8_takesPerson 52 = .ok (.iconst 4, 1) := dk_7 (dk_at dksX8_takesPerson_2 4 rfl rfl)
theorem dX8_takesPerson_53 : decode cX8_takesPerson 53 = .ok (.iload_n 1, 1) := dk_27 (dk_at dksX8_takesPerson_2 5 rfl rfl)
theorem dX8_takesPerson_54 : decode cX8_takesPerson 54 = .ok (.iadd, 1) := dk_96 (dk_at dksX8_takesPerson_2 6 rfl rfl)
theorem dX8_takesPerson_55 : decode cX8_takesPerson 55 = .ok (.iload_n 2, 1) := dk_28 (dk_at dksX8_takesPerson_2 7 rfl rfl)
theorem dX8_takesPerson_56 : decode cX8_takesPerson 56 = .ok (.iastore, 1) := dk_79 (dk_at dksX8_takesPerson_2 8 rfl rfl)
theorem dX8_takesPerson_57 : decode cX8_takesPerson 57 = .ok (.aload_n 0, 1) := dk_42 (dk_at dksX8_takesPerson_2 9 rfl rfl)
theorem dX8_takesPerson_58 : decode cX8_takesPerson 58 = .ok (.getfield 35, 3) := dk_180 0 35 (dk_at dksX8_takesPerson_2 10 rfl rfl)
theorem dX8_takesPerson_61 : decode cX8_takesPerson 61 = .ok (.bipush 12, 2) := dk_16 12 (dk_at dksX8_takesPerson_2 13 rfl rfl)
theorem dX8_takesPerson_63 : decode cX8_takesPerson 63 = .ok (.iload_n 1, 1) := dk_27 (dk_at dksX8_takesPerson_2 15 rfl rfl)
theorem dX8_takesPerson_64 : decode cX8_takesPerson 64 = .ok (.iadd, 1) := dk_96 (dk_at dksX8_takesPerson_2 16 rfl rfl)
theorem dX8_takesPerson_65 : decode cX8_takesPerson 65 = .ok (.aload_n 0, 1) := dk_42 (dk_at dksX8_takesPerson_2 17 rfl rfl)
theorem dX8_takesPerson_66 : decode cX8_takesPerson 66 = .ok (.getfield 137, 3) := dk_180 0 137 (dk_at dksX8_takesPerson_2 18 rfl rfl)
theorem dX8_takesPerson_69 : decode cX8_takesPerson 69 = .ok (.iastore, 1) := dk_79 (dk_at dksX8_takesPerson_2 21 rfl rfl)
theorem dX8_takesPerson_70 : decode cX8_takesPerson 70 = .ok (.aload_n 0, 1) := dk_42 (dk_at dksX8_takesPerson_2 22 rfl rfl)
theorem dX8_takesPerson_71 : decode cX8_takesPerson 71 = .ok (.getfield 35, 3) := dk_180 0 35 (dk_at dksX8_takesPerson_3 0 rfl rfl)
theorem dX8_takesPerson_74 : decode cX8_takesPerson 74 = .ok (.iconst 0, 1) := dk_3 (dk_at dksX8_takesPerson_3 3 rfl rfl)
theorem dX8_takesPerson_75 : decode cX8_takesPerson 75 = .ok (.dup2, 1) := dk_92 (dk_at dksX8_takesPerson_3 4 rfl rfl)
theorem dX8_takesPerson_76 : decode cX8_takesPerson 76 = .ok (.iaload, 1) := dk_46 (dk_at dksX8_takesPerson_3 5 rfl rfl)
theorem dX8_takesPerson_77 : decode cX8_takesPerson 77 = .ok (.iconst 1, 1) := dk_4 (dk_at dksX8_takesPerson_3 6 rfl rfl)
theorem dX8_takesPerson_78 : decode cX8_takesPerson 78 = .ok (.iadd, 1) := dk_96 (dk_at dksX8_takesPerson_3 7 rfl rfl)
theorem dX8_takesPerson_79 : decode cX8_takesPerson 79 = .ok (.iastore, 1) := dk_79 (dk_at dksX8_takesPerson_3 8 rfl rfl)
theorem dX8_takesPerson_80 : decode cX8_takesPerson 80 = .ok (.aload_n 0, 1) := dk_42 (dk_at dksX8_takesPerson_3 9 rfl rfl)
theorem dX8_takesPerson_81 : decode cX8_takesPerson 81 = .ok (.bipush 126, 2) := dk_16 126 (dk_at dksX8_takesPerson_3 10 rfl rfl)
theorem dX8_takesPerson_83 : decode cX8_takesPerson 83 = .ok (.invokevirtual 151, 3) := dk_182 0 151 (dk_at dksX8_takesPerson_3 12 rfl rfl)
theorem dX8_takesPerson_86 : decode cX8_takesPerson 86 = .ok (.ifCond .eq 25, 3) := dk_153 0 25 (dk_at dksX8_takesPerson_3 15 rfl rfl)
theorem dX8_takesPerson_89 : decode cX8_takesPerson 89 = .ok (.aload_n 0, 1) := dk_42 (dk_at dksX8_takesPerson_3 18 rfl rfl)
theorem dX8_takesPerson_90 : decode cX8_takesPerson 90 = .ok (.getfield 35, 3) := dk_180 0 35 (dk_at dksX8_takesPerson_3 19 rfl rfl)
theorem dX8_takesPerson_93 : decode cX8_takesPerson 93 = .ok (.bipush 20, 2) := dk_16 20 (dk_at dksX8_takesPerson_3 22 rfl rfl)
theorem dX8_takesPerson_95 : decode cX8_takesPerson 95 = .ok (.iload_n 1, 1) := dk_27 (dk_at dksX8_takesPerson_4 0 rfl rfl)
theorem dX8_takesPerson_96 : decode cX8_takesPerson 96 = .ok (.iadd, 1) := dk_96 (dk_at dksX8_takesPerson_4 1 rfl rfl)
theorem dX8_takesPerson_97 : decode cX8_takesPerson 97 = .ok (.iconst 0, 1) := dk_3 (dk_at dksX8_takesPerson_4 2 rfl rfl)
theorem dX8_takesPerson_98 : decode cX8_takesPerson 98 = .ok (.iastore, 1) := dk_79 (dk_at dksX8_takesPerson_4 3 rfl rfl)
theorem dX8_takesPerson_99 : decode cX8_takesPerson 99 = .ok (.aload_n 0, 1) := dk_42 (dk_at dksX8_takesPerson_4 4 rfl rfl)
theorem dX8_takesPerson_100 : decode cX8_takesPerson 100 = .ok (.getfield 35, 3) := dk_180 0 35 (dk_at dksX8_takesPerson_4 5 rfl rfl)
theorem dX8_takesPerson_103 : decode cX8_takesPerson 103 = .ok (.bipush 28, 2) := dk_16 28 (dk_at dksX8_takesPerson_4 8 rfl rfl)
theorem dX8_takesPerson_105 : decode cX8_takesPerson 105 = .ok (.iload_n 1, 1) := dk_27 (dk_at dksX8_takesPerson_4 10 rfl rfl)
theorem dX8_takesPerson_106 : decode cX8_takesPerson 106 = .ok (.iadd, 1) := dk_96 (dk_at dksX8_takesPerson_4 11 rfl rfl)
theorem dX8_takesPerson_107 : decode cX8_takesPerson 107 = .ok (.iconst 0, 1) := dk_3 (dk_at dksX8_takesPerson_4 12 rfl rfl)
theorem dX8_takesPerson_108 : decode cX8_takesPerson 108 = .ok (.iastore, 1) := dk_79 (dk_at dksX8_takesPerson_4 13 rfl rfl)
theorem dX8_takesPerson_109 : decode cX8_takesPerson 109 = .ok (.iconst 1, 1) := dk_4 (dk_at dksX8_takesPerson_4 14 rfl rfl)
theorem dX8_takesPerson_110 : decode cX8_takesPerson 110 = .ok (.ireturn, 1) := dk_172 (dk_at dksX8_takesPerson_4 15 rfl rfl)
theorem dX8_takesPerson_111 : decode cX8_takesPerson 111 = .ok (.aload_n 0, 1) := dk_42 (dk_at dksX8_takesPerson_4 16 rfl rfl)
theorem dX8_takesPerson_112 : decode cX8_takesPerson 112 = .ok (.bipush 64, 2) := dk_16 64 (dk_at dksX8_takesPerson_4 17 rfl rfl)
theorem dX8_takesPerson_114 : decode cX8_takesPerson 114 = .ok (.invokevirtual 151, 3) := dk_182 0 151 (dk_at dksX8_takesPerson_4 19 rfl rfl)
theorem dX8_takesPerson_117 : decode cX8_takesPerson 117 = .ok (.ifCond .eq 14, 3) := dk_153 0 14 (dk_at dksX8_takesPerson_5 0 rfl rfl)
theorem dX8_takesPerson_120 : decode cX8_takesPerson 120 = .ok (.aload_n 0, 1) := dk_42 (dk_at dksX8_takesPerson_5 3 rfl rfl)
theorem dX8_takesPerson_121 : decode cX8_takesPerson 121 = .ok (.iconst 0, 1) := dk_3 (dk_at dksX8_takesPerson_5 4 rfl rfl)
theorem dX8_takesPerson_122 : decode cX8_takesPerson 122 = .ok (.bipush 99, 2) := dk_16 99 (dk_at dksX8_takesPerson_5 5 rfl rfl)
theorem dX8_takesPerson_124 : decode cX8_takesPerson 124 = .ok (.iconst 2, 1) := dk_5 (dk_at dksX8_takesPerson_5 7 rfl rfl)
theorem dX8_takesPerson_125 : decode cX8_takesPerson 125 = .ok (.invokevirtual 147, 3) := dk_182 0 147 (dk_at dksX8_takesPerson_5 8 rfl rfl)
theorem dX8_takesPerson_128 : decode cX8_takesPerson 128 = .ok (.ifCond .ne 5, 3) := dk_154 0 5 (dk_at dksX8_takesPerson_5 11 rfl rfl)
theorem dX8_takesPerson_131 : decode cX8_takesPerson 131 = .ok (.iconst 0, 1) := dk_3 (dk_at dksX8_takesPerson_5 14 rfl rfl)
theorem dX8_takesPerson_132 : decode cX8_takesPerson 132 = .ok (.ireturn, 1) := dk_172 (dk_at dksX8_takesPerson_5 15 rfl rfl)
theorem dX8_takesPerson_133 : decode cX8_takesPerson 133 = .ok (.aload_n 0, 1) := dk_42 (dk_at dksX8_takesPerson_5 16 rfl rfl)
theorem dX8_takesPerson_134 : decode cX8_takesPerson 134 = .ok (.getfield 35, 3) := dk_180 0 35 (dk_at dksX8_takesPerson_5 17 rfl rfl)
theorem dX8_takesPerson_137 : decode cX8_takesPerson 137 = .ok (.bipush 20, 2) := dk_16 20 (dk_at dksX8_takesPerson_5 20 rfl rfl)
theorem dX8_takesPerson_139 : decode cX8_takesPerson 139 = .ok (.iload_n 1, 1) := dk_27 (dk_at dksX8_takesPerson_5 22 rfl rfl)
theorem dX8_takesPerson_140 : decode cX8_takesPerson 140 = .ok (.iadd, 1) := dk_96 (dk_at dksX8_takesPerson_5 23 rfl rfl)
theorem dX8_takesPerson_141 : decode cX8_takesPerson 141 = .ok (.iconst 1, 1) := dk_4 (dk_at dksX8_takesPerson_6 0 rfl rfl)
theorem dX8_takesPerson_142 : decode cX8_takesPerson 142 = .ok (.iastore, 1) := dk_79 (dk_at dksX8_takesPerson_6 1 rfl rfl)
theorem dX8_takesPerson_143 : decode cX8_takesPerson 143 = .ok (.aload_n 0, 1) := dk_42 (dk_at dksX8_takesPerson_6 2 rfl rfl)
theorem dX8_takesPerson_144 : decode cX8_takesPerson 144 = .ok (.getfield 35, 3) := dk_180 0 35 (dk_at dksX8_takesPerson_6 3 rfl rfl)
theorem dX8_takesPerson_147 : decode cX8_takesPerson 147 = .ok (.bipush 28, 2) := dk_16 28 (dk_at dksX8_takesPerson_6 6 rfl rfl)
theorem dX8_takesPerson_149 : decode cX8_takesPerson 149 = .ok (.iload_n 1, 1) := dk_27 (dk_at dksX8_takesPerson_6 8 rfl rfl)
theorem dX8_takesPerson_150 : decode cX8_takesPerson 150 = .ok (.iadd, 1) := dk_96 (dk_at dksX8_takesPerson_6 9 rfl rfl)
theorem dX8_takesPerson_151 : decode cX8_takesPerson 151 = .ok (.aload_n 0, 1) := dk_42 (dk_at dksX8_takesPerson_6 10 rfl rfl)
theorem dX8_takesPerson_152 : decode cX8_takesPerson 152 = .ok (.getfield 137, 3) := dk_180 0 137 (dk_at dksX8_takesPerson_6 11 rfl rfl)
theorem dX8_takesPerson_155 : decode cX8_takesPerson 155 = .ok (.iastore, 1) := dk_79 (dk_at dksX8_takesPerson_6 14 rfl rfl)
theorem dX8_takesPerson_156 : decode cX8_takesPerson 156 = .ok (.iconst 1, 1) := dk_4 (dk_at dksX8_takesPerson_6 15 rfl rfl)
theorem dX8_takesPerson_157 : decode cX8_takesPerson 157 = .ok (.ireturn, 1) := dk_172 (dk_at dksX8_takesPerson_6 16 rfl rfl)
abbrev cX8_kindOf : ByteArray := prog_13_method_27_code
def yX8_kindOf : MethodName := ⟨RX8, "kindOf", "(I)I"⟩
def dkwX8_kindOf_2 : List UInt8 := [167, 0, 4, 2, 172]
abbrev dktX8_kindOf_2 : List UInt8 := dkwX8_kindOf_2 ++ []
def dkwX8_kindOf_1 : List UInt8 := [160, 0, 7, 5, 167, 0, 24, 26, 16, 121, 160, 0, 7, 6, 167, 0, 14, 26, 16, 116, 160, 0, 7, 7]
abbrev dktX8_kindOf_1 : List UInt8 := dkwX8_kindOf_1 ++ dktX8_kindOf_2
def dkwX8_kindOf_0 : List UInt8 := [26, 16, 112, 160, 0, 7, 3, 167, 0, 44, 26, 16, 115, 160, 0, 7, 4, 167, 0, 34, 26, 16, 114]
abbrev dktX8_kindOf_0 : List UInt8 := dkwX8_kindOf_0 ++ dktX8_kindOf_1
theorem dksX8_kindOf_0 : cX8_kindOf.data.toList.drop 0 = dktX8_kindOf_0 := by decide +kernel
theorem dksX8_kindOf_1 : cX8_kindOf.data.toList.drop 23 = dktX8_kindOf_1 := dk_seg dksX8_kindOf_0 23 rfl rfl
theorem dksX8_kindOf_2 : cX8_kindOf.data.toList.drop 47 = dktX8_kindOf_2 := dk_seg dksX8_kindOf_1 24 rfl rfl
theorem dX8_kindOf_0 : decode cX8_kindOf 0 = .ok (.iload_n 0, 1) := dk_26 (dk_at dksX8_kindOf_0 0 rfl rfl)
theorem dX8_kindOf_1 : decode cX8_kindOf 1 = .ok (.bipush 112, 2) := dk_16 112 (dk_at dksX8_kindOf_0 1 rfl rfl)
theorem dX8_kindOf_3 : decode cX8_kindOf 3 = .ok (.if_icmp .ne 7, 3) := dk_160 0 7 (dk_at dksX8_kindOf_0 3 rfl rfl)
theorem dX8_kindOf_6 : decode cX8_kindOf 6 = .ok (.iconst 0, 1) := dk_3 (dk_at dksX8_kindOf_0 6 rfl rfl)
theorem dX8_kindOf_7 : decode cX8_kindOf 7 = .ok (.goto 44, 3) := dk_167 0 44 (dk_at dksX8_kindOf_0 7 rfl rfl)
theorem dX8_kindOf_10 : decode cX8_kindOf 10 = .ok (.iload_n 0, 1) := dk_26 (dk_at dksX8_kindOf_0 10 rfl rfl)
theorem dX8_kindOf_11 : decode cX8_kindOf 11 = .ok (.bipush 115, 2) := dk_16 115 (dk_at dksX8_kindOf_0 11 rfl rfl)
theorem dX8_kindOf_13 : decode cX8_kindOf 13 = .ok (.if_icmp .ne 7, 3) := dk_160 0 7 (dk_at dksX8_kindOf_0 13 rfl rfl)
theorem dX8_kindOf_16 : decode cX8_kindOf 16 = .ok (.iconst 1, 1) := dk_4 (dk_at dksX8_kindOf_0 16 rfl rfl)
theorem dX8_kindOf_17 : decode cX8_kindOf 17 = .ok (.goto 34, 3) := dk_167 0 34 (dk_at dksX8_kindOf_0 17 rfl rfl)
theorem dX8_kindOf_20 : decode cX8_kindOf 20 = .ok (.iload_n 0, 1) := dk_26 (dk_at dksX8_kindOf_0 20 rfl rfl)
theorem dX8_kindOf_21 : decode cX8_kindOf 21 = .ok (.bipush 114, 2) := dk_16 114 (dk_at dksX8_kindOf_0 21 rfl rfl)
theorem dX8_kindOf_23 : decode cX8_kindOf 23 = .ok (.if_icmp .ne 7, 3) := dk_160 0 7 (dk_at dksX8_kindOf_1 0 rfl rfl)
theorem dX8_kindOf_26 : decode cX8_kindOf 26 = .ok (.iconst 2, 1) := dk_5 (dk_at dksX8_kindOf_1 3 rfl rfl)
theorem dX8_kindOf_27 : decode cX8_kindOf 27 = .ok (.goto 24, 3) := dk_167 0 24 (dk_at dksX8_kindOf_1 4 rfl rfl)
theorem dX8_kindOf_30 : decode cX8_kindOf 30 = .ok (.iload_n 0, 1) := dk_26 (dk_at dksX8_kindOf_1 7 rfl rfl)
theorem dX8_kindOf_31 : decode cX8_kindOf 31 = .ok (.bipush 121, 2) := dk_16 121 (dk_at dksX8_kindOf_1 8 rfl rfl)
theorem dX8_kindOf_33 : decode cX8_kindOf 33 = .ok (.if_icmp .ne 7, 3) := dk_160 0 7 (dk_at dksX8_kindOf_1 10 rfl rfl)
theorem dX8_kindOf_36 : decode cX8_kindOf 36 = .ok (.iconst 3, 1) := dk_6 (dk_at dksX8_kindOf_1 13 rfl rfl)
theorem dX8_kindOf_37 : decode cX8_kindOf 37 = .ok (.goto 14, 3) := dk_167 0 14 (dk_at dksX8_kindOf_1 14 rfl rfl)
theorem dX8_kindOf_40 : decode cX8_kindOf 40 = .ok (.iload_n 0, 1) := dk_26 (dk_at dksX8_kindOf_1 17 rfl rfl)
theorem dX8_kindOf_41 : decode cX8_kindOf 41 = .ok (.bipush 116, 2) := dk_16 116 (dk_at dksX8_kindOf_1 18 rfl rfl)
theorem dX8_kindOf_43 : decode cX8_kindOf 43 = .ok (.if_icmp .ne 7, 3) := dk_160 0 7 (dk_at dksX8_kindOf_1 20 rfl rfl)
theorem dX8_kindOf_46 : decode cX8_kindOf 46 = .ok (.iconst 4, 1) := dk_7 (dk_at dksX8_kindOf_1 23 rfl rfl)
theorem dX8_kindOf_47 : decode cX8_kindOf 47 = .ok (.goto 4, 3) := dk_167 0 4 (dk_at dksX8_kindOf_2 0 rfl rfl)
theorem dX8_kindOf_50 : decode cX8_kindOf 50 = .ok (.iconst (-1), 1) := dk_2 (dk_at dksX8_kindOf_2 3 rfl rfl)
theorem dX8_kindOf_51 : decode cX8_kindOf 51 = .ok (.ireturn, 1) := dk_172 (dk_at dksX8_kindOf_2 4 rfl rfl)
abbrev cX8_takesSeam : ByteArray := prog_13_method_29_code
def yX8_takesSeam : MethodName := ⟨RX8, "takesSeam", "()Z"⟩
def dkwX8_takesSeam_3 : List UInt8 := [4, 172]
abbrev dktX8_takesSeam_3 : List UInt8 := dkwX8_takesSeam_3 ++ []
def dkwX8_takesSeam_2 : List UInt8 := [16, 9, 4, 182, 0, 147, 154, 0, 5, 3, 172, 42, 180, 0, 35, 16, 44, 27, 96, 42, 180, 0, 137, 79]
abbrev dktX8_takesSeam_2 : List UInt8 := dkwX8_takesSeam_2 ++ dktX8_takesSeam_3
def dkwX8_takesSeam_1 : List UInt8 := [180, 0, 35, 16, 36, 27, 96, 42, 180, 0, 137, 79, 42, 16, 120, 182, 0, 151, 153, 0, 14, 42, 4]
abbrev dktX8_takesSeam_1 : List UInt8 := dkwX8_takesSeam_1 ++ dktX8_takesSeam_2
def dkwX8_takesSeam_0 : List UInt8 := [42, 180, 0, 35, 3, 46, 4, 100, 60, 42, 4, 16, 20, 5, 182, 0, 147, 154, 0, 5, 3, 172, 42]
abbrev dktX8_takesSeam_0 : List UInt8 := dkwX8_takesSeam_0 ++ dktX8_takesSeam_1
theorem dksX8_takesSeam_0 : cX8_takesSeam.data.toList.drop 0 = dktX8_takesSeam_0 := by decide +kernel
theorem dksX8_takesSeam_1 : cX8_takesSeam.data.toList.drop 23 = dktX8_takesSeam_1 := dk_seg dksX8_takesSeam_0 23 rfl rfl
theorem dksX8_takesSeam_2 : cX8_takesSeam.data.toList.drop 46 = dktX8_takesSeam_2 := dk_seg dksX8_takesSeam_1 23 rfl rfl
theorem dksX8_takesSeam_3 : cX8_takesSeam.data.toList.drop 70 = dktX8_takesSeam_3 := dk_seg dksX8_takesSeam_2 24 rfl rfl
theorem dX8_takesSeam_0 : decode cX8_takesSeam 0 = .ok (.aload_n 0, 1) := dk_42 (dk_at dksX8_takesSeam_0 0 rfl rfl)
theorem dX8_takesSeam_1 : decode cX8_takesSeam 1 = .ok (.getfield 35, 3) := dk_180 0 35 (dk_at dksX8_takesSeam_0 1 rfl rfl)
theorem dX8_takesSeam_4 : decode cX8_takesSeam 4 = .ok (.iconst 0, 1) := dk_3 (dk_at dksX8_takesSeam_0 4 rfl rfl)
theorem dX8_takesSeam_5 : decode cX8_takesSeam 5 = .ok (.iaload, 1) := dk_46 (dk_at dksX8_takesSeam_0 5 rfl rfl)
theorem dX8_takesSeam_6 : decode cX8_takesSeam 6 = .ok (.iconst 1, 1) := dk_4 (dk_at dksX8_takesSeam_0 6 rfl rfl)
theorem dX8_takesSeam_7 : decode cX8_takesSeam 7 = .ok (.isub, 1) := dk_100 (dk_at dksX8_takesSeam_0 7 rfl rfl)
theorem dX8_takesSeam_8 : decode cX8_takesSeam 8 = .ok (.istore_n 1, 1) := dk_60 (dk_at dksX8_takesSeam_0 8 rfl rfl)
theorem dX8_takesSeam_9 : decode cX8_takesSeam 9 = .ok (.aload_n 0, 1) := dk_42 (dk_at dksX8_takesSeam_0 9 rfl rfl)
theorem dX8_takesSeam_10 : decode cX8_takesSeam 10 = .ok (.iconst 1, 1) := dk_4 (dk_at dksX8_takesSeam_0 10 rfl rfl)
theorem dX8_takesSeam_11 : decode cX8_takesSeam 11 = .ok (.bipush 20, 2) := dk_16 20 (dk_at dksX8_takesSeam_0 11 rfl rfl)
theorem dX8_takesSeam_13 : decode cX8_takesSeam 13 = .ok (.iconst 2, 1) := dk_5 (dk_at dksX8_takesSeam_0 13 rfl rfl)
theorem dX8_takesSeam_14 : decode cX8_takesSeam 14 = .ok (.invokevirtual 147, 3) := dk_182 0 147 (dk_at dksX8_takesSeam_0 14 rfl rfl)
theorem dX8_takesSeam_17 : decode cX8_takesSeam 17 = .ok (.ifCond .ne 5, 3) := dk_154 0 5 (dk_at dksX8_takesSeam_0 17 rfl rfl)
theorem dX8_takesSeam_20 : decode cX8_takesSeam 20 = .ok (.iconst 0, 1) := dk_3 (dk_at dksX8_takesSeam_0 20 rfl rfl)
theorem dX8_takesSeam_21 : decode cX8_takesSeam 21 = .ok (.ireturn, 1) := dk_172 (dk_at dksX8_takesSeam_0 21 rfl rfl)
theorem dX8_takesSeam_22 : decode cX8_takesSeam 22 = .ok (.aload_n 0, 1) := dk_42 (dk_at dksX8_takesSeam_0 22 rfl rfl)
theorem dX8_takesSeam_23 : decode cX8_takesSeam 23 = .ok (.getfield 35, 3) := dk_180 0 35 (dk_at dksX8_takesSeam_1 0 rfl rfl)
theorem dX8_takesSeam_26 : decode cX8_takesSeam 26 = .ok (.bipush 36, 2) := dk_16 36 (dk_at dksX8_takesSeam_1 3 rfl rfl)
theorem dX8_takesSeam_28 : decode cX8_takesSeam 28 = .ok (.iload_n 1, 1) := dk_27 (dk_at dksX8_takesSeam_1 5 rfl rfl)
theorem dX8_takesSeam_29 : decode cX8_takesSeam 29 = .ok (.iadd, 1) := dk_96 (dk_at dksX8_takesSeam_1 6 rfl rfl)
theorem dX8_takesSeam_30 : decode cX8_takesSeam 30 = .ok (.aload_n 0, 1) := dk_42 (dk_at dksX8_takesSeam_1 7 rfl rfl)
theorem dX8_takesSeam_31 : decode cX8_takesSeam 31 = .ok (.getfield 137, 3) := dk_180 0 137 (dk_at dksX8_takesSeam_1 8 rfl rfl)
theorem dX8_takesSeam_34 : decode cX8_takesSeam 34 = .ok (.iastore, 1) := dk_79 (dk_at dksX8_takesSeam_1 11 rfl rfl)
theorem dX8_takesSeam_35 : decode cX8_takesSeam 35 = .ok (.aload_n 0, 1) := dk_42 (dk_at dksX8_takesSeam_1 12 rfl rfl)
theorem dX8_takesSeam_36 : decode cX8_takesSeam 36 = .ok (.bipush 120, 2) := dk_16 120 (dk_at dksX8_takesSeam_1 13 rfl rfl)
theorem dX8_takesSeam_38 : decode cX8_takesSeam 38 = .ok (.invokevirtual 151, 3) := dk_182 0 151 (dk_at dksX8_takesSeam_1 15 rfl rfl)
theorem dX8_takesSeam_41 : decode cX8_takesSeam 41 = .ok (.ifCond .eq 14, 3) := dk_153 0 14 (dk_at dksX8_takesSeam_1 18 rfl rfl)
theorem dX8_takesSeam_44 : decode cX8_takesSeam 44 = .ok (.aload_n 0, 1) := dk_42 (dk_at dksX8_takesSeam_1 21 rfl rfl)
theorem dX8_takesSeam_45 : decode cX8_takesSeam 45 = .ok (.iconst 1, 1) := dk_4 (dk_at dksX8_takesSeam_1 22 rfl rfl)
theorem dX8_takesSeam_46 : decode cX8_takesSeam 46 = .ok (.bipush 9, 2) := dk_16 9 (dk_at dksX8_takesSeam_2 0 rfl rfl)
theorem dX8_takesSeam_48 : decode cX8_takesSeam 48 = .ok (.iconst 1, 1) := dk_4 (dk_at dksX8_takesSeam_2 2 rfl rfl)
theorem dX8_takesSeam_49 : decode cX8_takesSeam 49 = .ok (.invokevirtual 147, 3) := dk_182 0 147 (dk_at dksX8_takesSeam_2 3 rfl rfl)
theorem dX8_takesSeam_52 : decode cX8_takesSeam 52 = .ok (.ifCond .ne 5, 3) := dk_154 0 5 (dk_at dksX8_takesSeam_2 6 rfl rfl)
theorem dX8_takesSeam_55 : decode cX8_takesSeam 55 = .ok (.iconst 0, 1) := dk_3 (dk_at dksX8_takesSeam_2 9 rfl rfl)
theorem dX8_takesSeam_56 : decode cX8_takesSeam 56 = .ok (.ireturn, 1) := dk_172 (dk_at dksX8_takesSeam_2 10 rfl rfl)
theorem dX8_takesSeam_57 : decode cX8_takesSeam 57 = .ok (.aload_n 0, 1) := dk_42 (dk_at dksX8_takesSeam_2 11 rfl rfl)
theorem dX8_takesSeam_58 : decode cX8_takesSeam 58 = .ok (.getfield 35, 3) := dk_180 0 35 (dk_at dksX8_takesSeam_2 12 rfl rfl)
theorem dX8_takesSeam_61 : decode cX8_takesSeam 61 = .ok (.bipush 44, 2) := dk_16 44 (dk_at dksX8_takesSeam_2 15 rfl rfl)
theorem dX8_takesSeam_63 : decode cX8_takesSeam 63 = .ok (.iload_n 1, 1) := dk_27 (dk_at dksX8_takesSeam_2 17 rfl rfl)
theorem dX8_takesSeam_64 : decode cX8_takesSeam 64 = .ok (.iadd, 1) := dk_96 (dk_at dksX8_takesSeam_2 18 rfl rfl)
theorem dX8_takesSeam_65 : decode cX8_takesSeam 65 = .ok (.aload_n 0, 1) := dk_42 (dk_at dksX8_takesSeam_2 19 rfl rfl)
theorem dX8_takesSeam_66 : decode cX8_takesSeam 66 = .ok (.getfield 137, 3) := dk_180 0 137 (dk_at dksX8_takesSeam_2 20 rfl rfl)
theorem dX8_takesSeam_69 : decode cX8_takesSeam 69 = .ok (.iastore, 1) := dk_79 (dk_at dksX8_takesSeam_2 23 rfl rfl)
theorem dX8_takesSeam_70 : decode cX8_takesSeam 70 = .ok (.iconst 1, 1) := dk_4 (dk_at dksX8_takesSeam_3 0 rfl rfl)
theorem dX8_takesSeam_71 : decode cX8_takesSeam 71 = .ok (.ireturn, 1) := dk_172 (dk_at dksX8_takesSeam_3 1 rfl rfl)
abbrev cX8_settles : ByteArray := prog_13_method_21_code
def yX8_settles : MethodName := ⟨RX8, "settles", "(I)V"⟩
def dkwX8_settles_5 : List UInt8 := [181, 0, 97, 4, 61, 132, 4, 1, 167, 255, 190, 167, 255, 139, 177]
abbrev dktX8_settles_5 : List UInt8 := dkwX8_settles_5 ++ []
def dkwX8_settles_4 : List UInt8 := [96, 21, 4, 96, 3, 79, 42, 180, 0, 32, 42, 180, 0, 97, 21, 4, 79, 42, 89, 180, 0, 97, 4, 96]
abbrev dktX8_settles_4 : List UInt8 := dkwX8_settles_4 ++ dktX8_settles_5
def dkwX8_settles_3 : List UInt8 := [162, 0, 59, 28, 154, 0, 55, 42, 27, 21, 4, 182, 0, 114, 153, 0, 39, 42, 180, 0, 7, 27, 16, 20]
abbrev dktX8_settles_3 : List UInt8 := dkwX8_settles_3 ++ dktX8_settles_4
def dkwX8_settles_2 : List UInt8 := [42, 89, 180, 0, 100, 4, 96, 181, 0, 100, 3, 54, 4, 21, 4, 42, 180, 0, 7, 27, 3, 96, 46]
abbrev dktX8_settles_2 : List UInt8 := dkwX8_settles_2 ++ dktX8_settles_3
def dkwX8_settles_1 : List UInt8 := [182, 0, 107, 62, 29, 155, 0, 7, 4, 167, 0, 4, 3, 61, 28, 153, 0, 19, 42, 27, 29, 182, 0, 111]
abbrev dktX8_settles_1 : List UInt8 := dkwX8_settles_1 ++ dktX8_settles_2
def dkwX8_settles_0 : List UInt8 := [42, 3, 181, 0, 97, 42, 3, 181, 0, 100, 4, 61, 28, 153, 0, 119, 42, 27, 182, 0, 103, 42, 27]
abbrev dktX8_settles_0 : List UInt8 := dkwX8_settles_0 ++ dktX8_settles_1
theorem dksX8_settles_0 : cX8_settles.data.toList.drop 0 = dktX8_settles_0 := by decide +kernel
theorem dksX8_settles_1 : cX8_settles.data.toList.drop 23 = dktX8_settles_1 := dk_seg dksX8_settles_0 23 rfl rfl
theorem dksX8_settles_2 : cX8_settles.data.toList.drop 47 = dktX8_settles_2 := dk_seg dksX8_settles_1 24 rfl rfl
theorem dksX8_settles_3 : cX8_settles.data.toList.drop 70 = dktX8_settles_3 := dk_seg dksX8_settles_2 23 rfl rfl
theorem dksX8_settles_4 : cX8_settles.data.toList.drop 94 = dktX8_settles_4 := dk_seg dksX8_settles_3 24 rfl rfl
theorem dksX8_settles_5 : cX8_settles.data.toList.drop 118 = dktX8_settles_5 := dk_seg dksX8_settles_4 24 rfl rfl
theorem dX8_settles_0 : decode cX8_settles 0 = .ok (.aload_n 0, 1) := dk_42 (dk_at dksX8_settles_0 0 rfl rfl)
theorem dX8_settles_1 : decode cX8_settles 1 = .ok (.iconst 0, 1) := dk_3 (dk_at dksX8_settles_0 1 rfl rfl)
theorem dX8_settles_2 : decode cX8_settles 2 = .ok (.putfield 97, 3) := dk_181 0 97 (dk_at dksX8_settles_0 2 rfl rfl)
theorem dX8_settles_5 : decode cX8_settles 5 = .ok (.aload_n 0, 1) := dk_42 (dk_at dksX8_settles_0 5 rfl rfl)
theorem dX8_settles_6 : decode cX8_settles 6 = .ok (.iconst 0, 1) := dk_3 (dk_at dksX8_settles_0 6 rfl rfl)
theorem dX8_settles_7 : decode cX8_settles 7 = .ok (.putfield 100, 3) := dk_181 0 100 (dk_at dksX8_settles_0 7 rfl rfl)
theorem dX8_settles_10 : decode cX8_settles 10 = .ok (.iconst 1, 1) := dk_4 (dk_at dksX8_settles_0 10 rfl rfl)
theorem dX8_settles_11 : decode cX8_settles 11 = .ok (.istore_n 2, 1) := dk_61 (dk_at dksX8_settles_0 11 rfl rfl)
theorem dX8_settles_12 : decode cX8_settles 12 = .ok (.iload_n 2, 1) := dk_28 (dk_at dksX8_settles_0 12 rfl rfl)
theorem dX8_settles_13 : decode cX8_settles 13 = .ok (.ifCond .eq 119, 3) := dk_153 0 119 (dk_at dksX8_settles_0 13 rfl rfl)
theorem dX8_settles_16 : decode cX8_settles 16 = .ok (.aload_n 0, 1) := dk_42 (dk_at dksX8_settles_0 16 rfl rfl)
theorem dX8_settles_17 : decode cX8_settles 17 = .ok (.iload_n 1, 1) := dk_27 (dk_at dksX8_settles_0 17 rfl rfl)
theorem dX8_settles_18 : decode cX8_settles 18 = .ok (.invokevirtual 103, 3) := dk_182 0 103 (dk_at dksX8_settles_0 18 rfl rfl)
theorem dX8_settles_21 : decode cX8_settles 21 = .ok (.aload_n 0, 1) := dk_42 (dk_at dksX8_settles_0 21 rfl rfl)
theorem dX8_settles_22 : decode cX8_settles 22 = .ok (.iload_n 1, 1) := dk_27 (dk_at dksX8_settles_0 22 rfl rfl)
theorem dX8_settles_23 : decode cX8_settles 23 = .ok (.invokevirtual 107, 3) := dk_182 0 107 (dk_at dksX8_settles_1 0 rfl rfl)
theorem dX8_settles_26 : decode cX8_settles 26 = .ok (.istore_n 3, 1) := dk_62 (dk_at dksX8_settles_1 3 rfl rfl)
theorem dX8_settles_27 : decode cX8_settles 27 = .ok (.iload_n 3, 1) := dk_29 (dk_at dksX8_settles_1 4 rfl rfl)
theorem dX8_settles_28 : decode cX8_settles 28 = .ok (.ifCond .lt 7, 3) := dk_155 0 7 (dk_at dksX8_settles_1 5 rfl rfl)
theorem dX8_settles_31 : decode cX8_settles 31 = .ok (.iconst 1, 1) := dk_4 (dk_at dksX8_settles_1 8 rfl rfl)
theorem dX8_settles_32 : decode cX8_settles 32 = .ok (.goto 4, 3) := dk_167 0 4 (dk_at dksX8_settles_1 9 rfl rfl)
theorem dX8_settles_35 : decode cX8_settles 35 = .ok (.iconst 0, 1) := dk_3 (dk_at dksX8_settles_1 12 rfl rfl)
theorem dX8_settles_36 : decode cX8_settles 36 = .ok (.istore_n 2, 1) := dk_61 (dk_at dksX8_settles_1 13 rfl rfl)
theorem dX8_settles_37 : decode cX8_settles 37 = .ok (.iload_n 2, 1) := dk_28 (dk_at dksX8_settles_1 14 rfl rfl)
theorem dX8_settles_38 : decode cX8_settles 38 = .ok (.ifCond .eq 19, 3) := dk_153 0 19 (dk_at dksX8_settles_1 15 rfl rfl)
theorem dX8_settles_41 : decode cX8_settles 41 = .ok (.aload_n 0, 1) := dk_42 (dk_at dksX8_settles_1 18 rfl rfl)
theorem dX8_settles_42 : decode cX8_settles 42 = .ok (.iload_n 1, 1) := dk_27 (dk_at dksX8_settles_1 19 rfl rfl)
theorem dX8_settles_43 : decode cX8_settles 43 = .ok (.iload_n 3, 1) := dk_29 (dk_at dksX8_settles_1 20 rfl rfl)
theorem dX8_settles_44 : decode cX8_settles 44 = .ok (.invokevirtual 111, 3) := dk_182 0 111 (dk_at dksX8_settles_1 21 rfl rfl)
theorem dX8_settles_47 : decode cX8_settles 47 = .ok (.aload_n 0, 1) := dk_42 (dk_at dksX8_settles_2 0 rfl rfl)
theorem dX8_settles_48 : decode cX8_settles 48 = .ok (.dup, 1) := dk_89 (dk_at dksX8_settles_2 1 rfl rfl)
theorem dX8_settles_49 : decode cX8_settles 49 = .ok (.getfield 100, 3) := dk_180 0 100 (dk_at dksX8_settles_2 2 rfl rfl)
theorem dX8_settles_52 : decode cX8_settles 52 = .ok (.iconst 1, 1) := dk_4 (dk_at dksX8_settles_2 5 rfl rfl)
theorem dX8_settles_53 : decode cX8_settles 53 = .ok (.iadd, 1) := dk_96 (dk_at dksX8_settles_2 6 rfl rfl)
theorem dX8_settles_54 : decode cX8_settles 54 = .ok (.putfield 100, 3) := dk_181 0 100 (dk_at dksX8_settles_2 7 rfl rfl)
theorem dX8_settles_57 : decode cX8_settles 57 = .ok (.iconst 0, 1) := dk_3 (dk_at dksX8_settles_2 10 rfl rfl)
theorem dX8_settles_58 : decode cX8_settles 58 = .ok (.istore 4, 2) := dk_54 4 (dk_at dksX8_settles_2 11 rfl rfl)
theorem dX8_settles_60 : decode cX8_settles 60 = .ok (.iload 4, 2) := dk_21 4 (dk_at dksX8_settles_2 13 rfl rfl)
theorem dX8_settles_62 : decode cX8_settles 62 = .ok (.aload_n 0, 1) := dk_42 (dk_at dksX8_settles_2 15 rfl rfl)
theorem dX8_settles_63 : decode cX8_settles 63 = .ok (.getfield 7, 3) := dk_180 0 7 (dk_at dksX8_settles_2 16 rfl rfl)
theorem dX8_settles_66 : decode cX8_settles 66 = .ok (.iload_n 1, 1) := dk_27 (dk_at dksX8_settles_2 19 rfl rfl)
theorem dX8_settles_67 : decode cX8_settles 67 = .ok (.iconst 0, 1) := dk_3 (dk_at dksX8_settles_2 20 rfl rfl)
theorem dX8_settles_68 : decode cX8_settles 68 = .ok (.iadd, 1) := dk_96 (dk_at dksX8_settles_2 21 rfl rfl)
theorem dX8_settles_69 : decode cX8_settles 69 = .ok (.iaload, 1) := dk_46 (dk_at dksX8_settles_2 22 rfl rfl)
theorem dX8_settles_70 : decode cX8_settles 70 = .ok (.if_icmp .ge 59, 3) := dk_162 0 59 (dk_at dksX8_settles_3 0 rfl rfl)
theorem dX8_settles_73 : decode cX8_settles 73 = .ok (.iload_n 2, 1) := dk_28 (dk_at dksX8_settles_3 3 rfl rfl)
theorem dX8_settles_74 : decode cX8_settles 74 = .ok (.ifCond .ne 55, 3) := dk_154 0 55 (dk_at dksX8_settles_3 4 rfl rfl)
theorem dX8_settles_77 : decode cX8_settles 77 = .ok (.aload_n 0, 1) := dk_42 (dk_at dksX8_settles_3 7 rfl rfl)
theorem dX8_settles_78 : decode cX8_settles 78 = .ok (.iload_n 1, 1) := dk_27 (dk_at dksX8_settles_3 8 rfl rfl)
theorem dX8_settles_79 : decode cX8_settles 79 = .ok (.iload 4, 2) := dk_21 4 (dk_at dksX8_settles_3 9 rfl rfl)
theorem dX8_settles_81 : decode cX8_settles 81 = .ok (.invokevirtual 114, 3) := dk_182 0 114 (dk_at dksX8_settles_3 11 rfl rfl)
theorem dX8_settles_84 : decode cX8_settles 84 = .ok (.ifCond .eq 39, 3) := dk_153 0 39 (dk_at dksX8_settles_3 14 rfl rfl)
theorem dX8_settles_87 : decode cX8_settles 87 = .ok (.aload_n 0, 1) := dk_42 (dk_at dksX8_settles_3 17 rfl rfl)
theorem dX8_settles_88 : decode cX8_settles 88 = .ok (.getfield 7, 3) := dk_180 0 7 (dk_at dksX8_settles_3 18 rfl rfl)
theorem dX8_settles_91 : decode cX8_settles 91 = .ok (.iload_n 1, 1) := dk_27 (dk_at dksX8_settles_3 21 rfl rfl)
theorem dX8_settles_92 : decode cX8_settles 92 = .ok (.bipush 20, 2) := dk_16 20 (dk_at dksX8_settles_3 22 rfl rfl)
theorem dX8_settles_94 : decode cX8_settles 94 = .ok (.iadd, 1) := dk_96 (dk_at dksX8_settles_4 0 rfl rfl)
theorem dX8_settles_95 : decode cX8_settles 95 = .ok (.iload 4, 2) := dk_21 4 (dk_at dksX8_settles_4 1 rfl rfl)
theorem dX8_settles_97 : decode cX8_settles 97 = .ok (.iadd, 1) := dk_96 (dk_at dksX8_settles_4 3 rfl rfl)
theorem dX8_settles_98 : decode cX8_settles 98 = .ok (.iconst 0, 1) := dk_3 (dk_at dksX8_settles_4 4 rfl rfl)
theorem dX8_settles_99 : decode cX8_settles 99 = .ok (.iastore, 1) := dk_79 (dk_at dksX8_settles_4 5 rfl rfl)
theorem dX8_settles_100 : decode cX8_settles 100 = .ok (.aload_n 0, 1) := dk_42 (dk_at dksX8_settles_4 6 rfl rfl)
theorem dX8_settles_101 : decode cX8_settles 101 = .ok (.getfield 32, 3) := dk_180 0 32 (dk_at dksX8_settles_4 7 rfl rfl)
theorem dX8_settles_104 : decode cX8_settles 104 = .ok (.aload_n 0, 1) := dk_42 (dk_at dksX8_settles_4 10 rfl rfl)
theorem dX8_settles_105 : decode cX8_settles 105 = .ok (.getfield 97, 3) := dk_180 0 97 (dk_at dksX8_settles_4 11 rfl rfl)
theorem dX8_settles_108 : decode cX8_settles 108 = .ok (.iload 4, 2) := dk_21 4 (dk_at dksX8_settles_4 14 rfl rfl)
theorem dX8_settles_110 : decode cX8_settles 110 = .ok (.iastore, 1) := dk_79 (dk_at dksX8_settles_4 16 rfl rfl)
theorem dX8_settles_111 : decode cX8_settles 111 = .ok (.aload_n 0, 1) := dk_42 (dk_at dksX8_settles_4 17 rfl rfl)
theorem dX8_settles_112 : decode cX8_settles 112 = .ok (.dup, 1) := dk_89 (dk_at dksX8_settles_4 18 rfl rfl)
theorem dX8_settles_113 : decode cX8_settles 113 = .ok (.getfield 97, 3) := dk_180 0 97 (dk_at dksX8_settles_4 19 rfl rfl)
theorem dX8_settles_116 : decode cX8_settles 116 = .ok (.iconst 1, 1) := dk_4 (dk_at dksX8_settles_4 22 rfl rfl)
theorem dX8_settles_117 : decode cX8_settles 117 = .ok (.iadd, 1) := dk_96 (dk_at dksX8_settles_4 23 rfl rfl)
theorem dX8_settles_118 : decode cX8_settles 118 = .ok (.putfield 97, 3) := dk_181 0 97 (dk_at dksX8_settles_5 0 rfl rfl)
theorem dX8_settles_121 : decode cX8_settles 121 = .ok (.iconst 1, 1) := dk_4 (dk_at dksX8_settles_5 3 rfl rfl)
theorem dX8_settles_122 : decode cX8_settles 122 = .ok (.istore_n 2, 1) := dk_61 (dk_at dksX8_settles_5 4 rfl rfl)
theorem dX8_settles_123 : decode cX8_settles 123 = .ok (.iinc 4 1, 3) := dk_132 4 1 (dk_at dksX8_settles_5 5 rfl rfl)
theorem dX8_settles_126 : decode cX8_settles 126 = .ok (.goto (-66), 3) := dk_167 255 190 (dk_at dksX8_settles_5 8 rfl rfl)
theorem dX8_settles_129 : decode cX8_settles 129 = .ok (.goto (-117), 3) := dk_167 255 139 (dk_at dksX8_settles_5 11 rfl rfl)
theorem dX8_settles_132 : decode cX8_settles 132 = .ok (.return_, 1) := dk_177 (dk_at dksX8_settles_5 14 rfl rfl)
abbrev cX8_layPulls : ByteArray := prog_13_method_12_code
def yX8_layPulls : MethodName := ⟨RX8, "layPulls", "(I)V"⟩
def dkwX8_layPulls_6 : List UInt8 := [29, 182, 0, 61, 79, 132, 5, 1, 167, 255, 216, 132, 2, 1, 167, 255, 134, 177]
abbrev dktX8_layPulls_6 : List UInt8 := dkwX8_layPulls_6 ++ []
def dkwX8_layPulls_5 : List UInt8 := [158, 0, 35, 42, 180, 0, 26, 21, 5, 21, 4, 79, 42, 180, 0, 29, 21, 5, 42, 27, 16, 44, 96, 28]
abbrev dktX8_layPulls_5 : List UInt8 := dkwX8_layPulls_5 ++ dktX8_layPulls_6
def dkwX8_layPulls_4 : List UInt8 := [16, 36, 96, 28, 29, 182, 0, 61, 100, 54, 4, 28, 54, 5, 21, 5, 29, 162, 0, 40, 21, 4]
abbrev dktX8_layPulls_4 : List UInt8 := dkwX8_layPulls_4 ++ dktX8_layPulls_5
def dkwX8_layPulls_3 : List UInt8 := [180, 0, 7, 27, 16, 28, 96, 29, 96, 46, 42, 180, 0, 7, 27, 16, 28, 96, 28, 96, 46, 100, 42, 27]
abbrev dktX8_layPulls_3 : List UInt8 := dkwX8_layPulls_3 ++ dktX8_layPulls_4
def dkwX8_layPulls_2 : List UInt8 := [182, 0, 53, 153, 0, 12, 42, 27, 28, 182, 0, 57, 167, 0, 5, 16, 252, 62, 29, 155, 0, 85, 42]
abbrev dktX8_layPulls_2 : List UInt8 := dkwX8_layPulls_2 ++ dktX8_layPulls_3
def dkwX8_layPulls_1 : List UInt8 := [132, 2, 1, 167, 255, 233, 3, 61, 28, 42, 180, 0, 7, 27, 3, 96, 46, 162, 0, 116, 42, 27, 28]
abbrev dktX8_layPulls_1 : List UInt8 := dkwX8_layPulls_1 ++ dktX8_layPulls_2
def dkwX8_layPulls_0 : List UInt8 := [3, 61, 28, 16, 8, 162, 0, 23, 42, 180, 0, 26, 28, 3, 79, 42, 180, 0, 29, 28, 4, 79]
abbrev dktX8_layPulls_0 : List UInt8 := dkwX8_layPulls_0 ++ dktX8_layPulls_1
theorem dksX8_layPulls_0 : cX8_layPulls.data.toList.drop 0 = dktX8_layPulls_0 := by decide +kernel
theorem dksX8_layPulls_1 : cX8_layPulls.data.toList.drop 22 = dktX8_layPulls_1 := dk_seg dksX8_layPulls_0 22 rfl rfl
theorem dksX8_layPulls_2 : cX8_layPulls.data.toList.drop 45 = dktX8_layPulls_2 := dk_seg dksX8_layPulls_1 23 rfl rfl
theorem dksX8_layPulls_3 : cX8_layPulls.data.toList.drop 68 = dktX8_layPulls_3 := dk_seg dksX8_layPulls_2 23 rfl rfl
theorem dksX8_layPulls_4 : cX8_layPulls.data.toList.drop 92 = dktX8_layPulls_4 := dk_seg dksX8_layPulls_3 24 rfl rfl
theorem dksX8_layPulls_5 : cX8_layPulls.data.toList.drop 114 = dktX8_layPulls_5 := dk_seg dksX8_layPulls_4 22 rfl rfl
theorem dksX8_layPulls_6 : cX8_layPulls.data.toList.drop 138 = dktX8_layPulls_6 := dk_seg dksX8_layPulls_5 24 rfl rfl
theorem dX8_layPulls_0 : decode cX8_layPulls 0 = .ok (.iconst 0, 1) := dk_3 (dk_at dksX8_layPulls_0 0 rfl rfl)
theorem dX8_layPulls_1 : decode cX8_layPulls 1 = .ok (.istore_n 2, 1) := dk_61 (dk_at dksX8_layPulls_0 1 rfl rfl)
theorem dX8_layPulls_2 : decode cX8_layPulls 2 = .ok (.iload_n 2, 1) := dk_28 (dk_at dksX8_layPulls_0 2 rfl rfl)
theorem dX8_layPulls_3 : decode cX8_layPulls 3 = .ok (.bipush 8, 2) := dk_16 8 (dk_at dksX8_layPulls_0 3 rfl rfl)
theorem dX8_layPulls_5 : decode cX8_layPulls 5 = .ok (.if_icmp .ge 23, 3) := dk_162 0 23 (dk_at dksX8_layPulls_0 5 rfl rfl)
theorem dX8_layPulls_8 : decode cX8_layPulls 8 = .ok (.aload_n 0, 1) := dk_42 (dk_at dksX8_layPulls_0 8 rfl rfl)
theorem dX8_layPulls_9 : decode cX8_layPulls 9 = .ok (.getfield 26, 3) := dk_180 0 26 (dk_at dksX8_layPulls_0 9 rfl rfl)
theorem dX8_layPulls_12 : decode cX8_layPulls 12 = .ok (.iload_n 2, 1) := dk_28 (dk_at dksX8_layPulls_0 12 rfl rfl)
theorem dX8_layPulls_13 : decode cX8_layPulls 13 = .ok (.iconst 0, 1) := dk_3 (dk_at dksX8_layPulls_0 13 rfl rfl)
theorem dX8_layPulls_14 : decode cX8_layPulls 14 = .ok (.iastore, 1) := dk_79 (dk_at dksX8_layPulls_0 14 rfl rfl)
theorem dX8_layPulls_15 : decode cX8_layPulls 15 = .ok (.aload_n 0, 1) := dk_42 (dk_at dksX8_layPulls_0 15 rfl rfl)
theorem dX8_layPulls_16 : decode cX8_layPulls 16 = .ok (.getfield 29, 3) := dk_180 0 29 (dk_at dksX8_layPulls_0 16 rfl rfl)
theorem dX8_layPulls_19 : decode cX8_layPulls 19 = .ok (.iload_n 2, 1) := dk_28 (dk_at dksX8_layPulls_0 19 rfl rfl)
theorem dX8_layPulls_20 : decode cX8_layPulls 20 = .ok (.iconst 1, 1) := dk_4 (dk_at dksX8_layPulls_0 20 rfl rfl)
theorem dX8_layPulls_21 : decode cX8_layPulls 21 = .ok (.iastore, 1) := dk_79 (dk_at dksX8_layPulls_0 21 rfl rfl)
theorem dX8_layPulls_22 : decode cX8_layPulls 22 = .ok (.iinc 2 1, 3) := dk_132 2 1 (dk_at dksX8_layPulls_1 0 rfl rfl)
theorem dX8_layPulls_25 : decode cX8_layPulls 25 = .ok (.goto (-23), 3) := dk_167 255 233 (dk_at dksX8_layPulls_1 3 rfl rfl)
theorem dX8_layPulls_28 : decode cX8_layPulls 28 = .ok (.iconst 0, 1) := dk_3 (dk_at dksX8_layPulls_1 6 rfl rfl)
theorem dX8_layPulls_29 : decode cX8_layPulls 29 = .ok (.istore_n 2, 1) := dk_61 (dk_at dksX8_layPulls_1 7 rfl rfl)
theorem dX8_layPulls_30 : decode cX8_layPulls 30 = .ok (.iload_n 2, 1) := dk_28 (dk_at dksX8_layPulls_1 8 rfl rfl)
theorem dX8_layPulls_31 : decode cX8_layPulls 31 = .ok (.aload_n 0, 1) := dk_42 (dk_at dksX8_layPulls_1 9 rfl rfl)
theorem dX8_layPulls_32 : decode cX8_layPulls 32 = .ok (.getfield 7, 3) := dk_180 0 7 (dk_at dksX8_layPulls_1 10 rfl rfl)
theorem dX8_layPulls_35 : decode cX8_layPulls 35 = .ok (.iload_n 1, 1) := dk_27 (dk_at dksX8_layPulls_1 13 rfl rfl)
theorem dX8_layPulls_36 : decode cX8_layPulls 36 = .ok (.iconst 0, 1) := dk_3 (dk_at dksX8_layPulls_1 14 rfl rfl)
theorem dX8_layPulls_37 : decode cX8_layPulls 37 = .ok (.iadd, 1) := dk_96 (dk_at dksX8_layPulls_1 15 rfl rfl)
theorem dX8_layPulls_38 : decode cX8_layPulls 38 = .ok (.iaload, 1) := dk_46 (dk_at dksX8_layPulls_1 16 rfl rfl)
theorem dX8_layPulls_39 : decode cX8_layPulls 39 = .ok (.if_icmp .ge 116, 3) := dk_162 0 116 (dk_at dksX8_layPulls_1 17 rfl rfl)
theorem dX8_layPulls_42 : decode cX8_layPulls 42 = .ok (.aload_n 0, 1) := dk_42 (dk_at dksX8_layPulls_1 20 rfl rfl)
theorem dX8_layPulls_43 : decode cX8_layPulls 43 = .ok (.iload_n 1, 1) := dk_27 (dk_at dksX8_layPulls_1 21 rfl rfl)
theorem dX8_layPulls_44 : decode cX8_layPulls 44 = .ok (.iload_n 2, 1) := dk_28 (dk_at dksX8_layPulls_1 22 rfl rfl)
theorem dX8_layPulls_45 : decode cX8_layPulls 45 = .ok (.invokevirtual 53, 3) := dk_182 0 53 (dk_at dksX8_layPulls_2 0 rfl rfl)
theorem dX8_layPulls_48 : decode cX8_layPulls 48 = .ok (.ifCond .eq 12, 3) := dk_153 0 12 (dk_at dksX8_layPulls_2 3 rfl rfl)
theorem dX8_layPulls_51 : decode cX8_layPulls 51 = .ok (.aload_n 0, 1) := dk_42 (dk_at dksX8_layPulls_2 6 rfl rfl)
theorem dX8_layPulls_52 : decode cX8_layPulls 52 = .ok (.iload_n 1, 1) := dk_27 (dk_at dksX8_layPulls_2 7 rfl rfl)
theorem dX8_layPulls_53 : decode cX8_layPulls 53 = .ok (.iload_n 2, 1) := dk_28 (dk_at dksX8_layPulls_2 8 rfl rfl)
theorem dX8_layPulls_54 : decode cX8_layPulls 54 = .ok (.invokevirtual 57, 3) := dk_182 0 57 (dk_at dksX8_layPulls_2 9 rfl rfl)
theorem dX8_layPulls_57 : decode cX8_layPulls 57 = .ok (.goto 5, 3) := dk_167 0 5 (dk_at dksX8_layPulls_2 12 rfl rfl)
theorem dX8_layPulls_60 : decode cX8_layPulls 60 = .ok (.bipush (-4), 2) := dk_16 252 (dk_at dksX8_layPulls_2 15 rfl rfl)
theorem dX8_layPulls_62 : decode cX8_layPulls 62 = .ok (.istore_n 3, 1) := dk_62 (dk_at dksX8_layPulls_2 17 rfl rfl)
theorem dX8_layPulls_63 : decode cX8_layPulls 63 = .ok (.iload_n 3, 1) := dk_29 (dk_at dksX8_layPulls_2 18 rfl rfl)
theorem dX8_layPulls_64 : decode cX8_layPulls 64 = .ok (.ifCond .lt 85, 3) := dk_155 0 85 (dk_at dksX8_layPulls_2 19 rfl rfl)
theorem dX8_layPulls_67 : decode cX8_layPulls 67 = .ok (.aload_n 0, 1) := dk_42 (dk_at dksX8_layPulls_2 22 rfl rfl)
theorem dX8_layPulls_68 : decode cX8_layPulls 68 = .ok (.getfield 7, 3) := dk_180 0 7 (dk_at dksX8_layPulls_3 0 rfl rfl)
theorem dX8_layPulls_71 : decode cX8_layPulls 71 = .ok (.iload_n 1, 1) := dk_27 (dk_at dksX8_layPulls_3 3 rfl rfl)
theorem dX8_layPulls_72 : decode cX8_layPulls 72 = .ok (.bipush 28, 2) := dk_16 28 (dk_at dksX8_layPulls_3 4 rfl rfl)
theorem dX8_layPulls_74 : decode cX8_layPulls 74 = .ok (.iadd, 1) := dk_96 (dk_at dksX8_layPulls_3 6 rfl rfl)
theorem dX8_layPulls_75 : decode cX8_layPulls 75 = .ok (.iload_n 3, 1) := dk_29 (dk_at dksX8_layPulls_3 7 rfl rfl)
theorem dX8_layPulls_76 : decode cX8_layPulls 76 = .ok (.iadd, 1) := dk_96 (dk_at dksX8_layPulls_3 8 rfl rfl)
theorem dX8_layPulls_77 : decode cX8_layPulls 77 = .ok (.iaload, 1) := dk_46 (dk_at dksX8_layPulls_3 9 rfl rfl)
theorem dX8_layPulls_78 : decode cX8_layPulls 78 = .ok (.aload_n 0, 1) := dk_42 (dk_at dksX8_layPulls_3 10 rfl rfl)
theorem dX8_layPulls_79 : decode cX8_layPulls 79 = .ok (.getfield 7, 3) := dk_180 0 7 (dk_at dksX8_layPulls_3 11 rfl rfl)
theorem dX8_layPulls_82 : decode cX8_layPulls 82 = .ok (.iload_n 1, 1) := dk_27 (dk_at dksX8_layPulls_3 14 rfl rfl)
theorem dX8_layPulls_83 : decode cX8_layPulls 83 = .ok (.bipush 28, 2) := dk_16 28 (dk_at dksX8_layPulls_3 15 rfl rfl)
theorem dX8_layPulls_85 : decode cX8_layPulls 85 = .ok (.iadd, 1) := dk_96 (dk_at dksX8_layPulls_3 17 rfl rfl)
theorem dX8_layPulls_86 : decode cX8_layPulls 86 = .ok (.iload_n 2, 1) := dk_28 (dk_at dksX8_layPulls_3 18 rfl rfl)
theorem dX8_layPulls_87 : decode cX8_layPulls 87 = .ok (.iadd, 1) := dk_96 (dk_at dksX8_layPulls_3 19 rfl rfl)
theorem dX8_layPulls_88 : decode cX8_layPulls 88 = .ok (.iaload, 1) := dk_46 (dk_at dksX8_layPulls_3 20 rfl rfl)
theorem dX8_layPulls_89 : decode cX8_layPulls 89 = .ok (.isub, 1) := dk_100 (dk_at dksX8_layPulls_3 21 rfl rfl)
theorem dX8_layPulls_90 : decode cX8_layPulls 90 = .ok (.aload_n 0, 1) := dk_42 (dk_at dksX8_layPulls_3 22 rfl rfl)
theorem dX8_layPulls_91 : decode cX8_layPulls 91 = .ok (.iload_n 1, 1) := dk_27 (dk_at dksX8_layPulls_3 23 rfl rfl)
theorem dX8_layPulls_92 : decode cX8_layPulls 92 = .ok (.bipush 36, 2) := dk_16 36 (dk_at dksX8_layPulls_4 0 rfl rfl)
theorem dX8_layPulls_94 : decode cX8_layPulls 94 = .ok (.iadd, 1) := dk_96 (dk_at dksX8_layPulls_4 2 rfl rfl)
theorem dX8_layPulls_95 : decode cX8_layPulls 95 = .ok (.iload_n 2, 1) := dk_28 (dk_at dksX8_layPulls_4 3 rfl rfl)
theorem dX8_layPulls_96 : decode cX8_layPulls 96 = .ok (.iload_n 3, 1) := dk_29 (dk_at dksX8_layPulls_4 4 rfl rfl)
theorem dX8_layPulls_97 : decode cX8_layPulls 97 = .ok (.invokevirtual 61, 3) := dk_182 0 61 (dk_at dksX8_layPulls_4 5 rfl rfl)
theorem dX8_layPulls_100 : decode cX8_layPulls 100 = .ok (.isub, 1) := dk_100 (dk_at dksX8_layPulls_4 8 rfl rfl)
theorem dX8_layPulls_101 : decode cX8_layPulls 101 = .ok (.istore 4, 2) := dk_54 4 (dk_at dksX8_layPulls_4 9 rfl rfl)
theorem dX8_layPulls_103 : decode cX8_layPulls 103 = .ok (.iload_n 2, 1) := dk_28 (dk_at dksX8_layPulls_4 11 rfl rfl)
theorem dX8_layPulls_104 : decode cX8_layPulls 104 = .ok (.istore 5, 2) := dk_54 5 (dk_at dksX8_layPulls_4 12 rfl rfl)
theorem dX8_layPulls_106 : decode cX8_layPulls 106 = .ok (.iload 5, 2) := dk_21 5 (dk_at dksX8_layPulls_4 14 rfl rfl)
theorem dX8_layPulls_108 : decode cX8_layPulls 108 = .ok (.iload_n 3, 1) := dk_29 (dk_at dksX8_layPulls_4 16 rfl rfl)
theorem dX8_layPulls_109 : decode cX8_layPulls 109 = .ok (.if_icmp .ge 40, 3) := dk_162 0 40 (dk_at dksX8_layPulls_4 17 rfl rfl)
theorem dX8_layPulls_112 : decode cX8_layPulls 112 = .ok (.iload 4, 2) := dk_21 4 (dk_at dksX8_layPulls_4 20 rfl rfl)
theorem dX8_layPulls_114 : decode cX8_layPulls 114 = .ok (.ifCond .le 35, 3) := dk_158 0 35 (dk_at dksX8_layPulls_5 0 rfl rfl)
theorem dX8_layPulls_117 : decode cX8_layPulls 117 = .ok (.aload_n 0, 1) := dk_42 (dk_at dksX8_layPulls_5 3 rfl rfl)
theorem dX8_layPulls_118 : decode cX8_layPulls 118 = .ok (.getfield 26, 3) := dk_180 0 26 (dk_at dksX8_layPulls_5 4 rfl rfl)
theorem dX8_layPulls_121 : decode cX8_layPulls 121 = .ok (.iload 5, 2) := dk_21 5 (dk_at dksX8_layPulls_5 7 rfl rfl)
theorem dX8_layPulls_123 : decode cX8_layPulls 123 = .ok (.iload 4, 2) := dk_21 4 (dk_at dksX8_layPulls_5 9 rfl rfl)
theorem dX8_layPulls_125 : decode cX8_layPulls 125 = .ok (.iastore, 1) := dk_79 (dk_at dksX8_layPulls_5 11 rfl rfl)
theorem dX8_layPulls_126 : decode cX8_layPulls 126 = .ok (.aload_n 0, 1) := dk_42 (dk_at dksX8_layPulls_5 12 rfl rfl)
theorem dX8_layPulls_127 : decode cX8_layPulls 127 = .ok (.getfield 29, 3) := dk_180 0 29 (dk_at dksX8_layPulls_5 13 rfl rfl)
theorem dX8_layPulls_130 : decode cX8_layPulls 130 = .ok (.iload 5, 2) := dk_21 5 (dk_at dksX8_layPulls_5 16 rfl rfl)
theorem dX8_layPulls_132 : decode cX8_layPulls 132 = .ok (.aload_n 0, 1) := dk_42 (dk_at dksX8_layPulls_5 18 rfl rfl)
theorem dX8_layPulls_133 : decode cX8_layPulls 133 = .ok (.iload_n 1, 1) := dk_27 (dk_at dksX8_layPulls_5 19 rfl rfl)
theorem dX8_layPulls_134 : decode cX8_layPulls 134 = .ok (.bipush 44, 2) := dk_16 44 (dk_at dksX8_layPulls_5 20 rfl rfl)
theorem dX8_layPulls_136 : decode cX8_layPulls 136 = .ok (.iadd, 1) := dk_96 (dk_at dksX8_layPulls_5 22 rfl rfl)
theorem dX8_layPulls_137 : decode cX8_layPulls 137 = .ok (.iload_n 2, 1) := dk_28 (dk_at dksX8_layPulls_5 23 rfl rfl)
theorem dX8_layPulls_138 : decode cX8_layPulls 138 = .ok (.iload_n 3, 1) := dk_29 (dk_at dksX8_layPulls_6 0 rfl rfl)
theorem dX8_layPulls_139 : decode cX8_layPulls 139 = .ok (.invokevirtual 61, 3) := dk_182 0 61 (dk_at dksX8_layPulls_6 1 rfl rfl)
theorem dX8_layPulls_142 : decode cX8_layPulls 142 = .ok (.iastore, 1) := dk_79 (dk_at dksX8_layPulls_6 4 rfl rfl)
theorem dX8_layPulls_143 : decode cX8_layPulls 143 = .ok (.iinc 5 1, 3) := dk_132 5 1 (dk_at dksX8_layPulls_6 5 rfl rfl)
theorem dX8_layPulls_146 : decode cX8_layPulls 146 = .ok (.goto (-40), 3) := dk_167 255 216 (dk_at dksX8_layPulls_6 8 rfl rfl)
theorem dX8_layPulls_149 : decode cX8_layPulls 149 = .ok (.iinc 2 1, 3) := dk_132 2 1 (dk_at dksX8_layPulls_6 11 rfl rfl)
theorem dX8_layPulls_152 : decode cX8_layPulls 152 = .ok (.goto (-122), 3) := dk_167 255 134 (dk_at dksX8_layPulls_6 14 rfl rfl)
theorem dX8_layPulls_155 : decode cX8_layPulls 155 = .ok (.return_, 1) := dk_177 (dk_at dksX8_layPulls_6 17 rfl rfl)
abbrev cX8_holds : ByteArray := prog_13_method_8_code
def yX8_holds : MethodName := ⟨RX8, "holds", "(II)Z"⟩
def dkwX8_holds_0 : List UInt8 := [42, 180, 0, 7, 27, 16, 20, 96, 28, 96, 46, 4, 160, 0, 7, 4, 167, 0, 4, 3, 172]
abbrev dktX8_holds_0 : List UInt8 := dkwX8_holds_0 ++ []
theorem dksX8_holds_0 : cX8_holds.data.toList.drop 0 = dktX8_holds_0 := by decide +kernel
theorem dX8_holds_0 : decode cX8_holds 0 = .ok (.aload_n 0, 1) := dk_42 (dk_at dksX8_holds_0 0 rfl rfl)
theorem dX8_holds_1 : decode cX8_holds 1 = .ok (.getfield 7, 3) := dk_180 0 7 (dk_at dksX8_holds_0 1 rfl rfl)
theorem dX8_holds_4 : decode cX8_holds 4 = .ok (.iload_n 1, 1) := dk_27 (dk_at dksX8_holds_0 4 rfl rfl)
theorem dX8_holds_5 : decode cX8_holds 5 = .ok (.bipush 20, 2) := dk_16 20 (dk_at dksX8_holds_0 5 rfl rfl)
theorem dX8_holds_7 : decode cX8_holds 7 = .ok (.iadd, 1) := dk_96 (dk_at dksX8_holds_0 7 rfl rfl)
theorem dX8_holds_8 : decode cX8_holds 8 = .ok (.iload_n 2, 1) := dk_28 (dk_at dksX8_holds_0 8 rfl rfl)
theorem dX8_holds_9 : decode cX8_holds 9 = .ok (.iadd, 1) := dk_96 (dk_at dksX8_holds_0 9 rfl rfl)
theorem dX8_holds_10 : decode cX8_holds 10 = .ok (.iaload, 1) := dk_46 (dk_at dksX8_holds_0 10 rfl rfl)
theorem dX8_holds_11 : decode cX8_holds 11 = .ok (.iconst 1, 1) := dk_4 (dk_at dksX8_holds_0 11 rfl rfl)
theorem dX8_holds_12 : decode cX8_holds 12 = .ok (.if_icmp .ne 7, 3) := dk_160 0 7 (dk_at dksX8_holds_0 12 rfl rfl)
theorem dX8_holds_15 : decode cX8_holds 15 = .ok (.iconst 1, 1) := dk_4 (dk_at dksX8_holds_0 15 rfl rfl)
theorem dX8_holds_16 : decode cX8_holds 16 = .ok (.goto 4, 3) := dk_167 0 4 (dk_at dksX8_holds_0 16 rfl rfl)
theorem dX8_holds_19 : decode cX8_holds 19 = .ok (.iconst 0, 1) := dk_3 (dk_at dksX8_holds_0 19 rfl rfl)
theorem dX8_holds_20 : decode cX8_holds 20 = .ok (.ireturn, 1) := dk_172 (dk_at dksX8_holds_0 20 rfl rfl)
abbrev cX8_nextRight : ByteArray := prog_13_method_9_code
def yX8_nextRight : MethodName := ⟨RX8, "nextRight", "(II)I"⟩
def dkwX8_nextRight_2 : List UInt8 := [132, 3, 1, 167, 255, 210, 16, 252, 172]
abbrev dktX8_nextRight_2 : List UInt8 := dkwX8_nextRight_2 ++ []
def dkwX8_nextRight_1 : List UInt8 := [29, 96, 4, 100, 46, 4, 160, 0, 6, 16, 252, 172, 42, 27, 29, 182, 0, 53, 153, 0, 5, 29, 172]
abbrev dktX8_nextRight_1 : List UInt8 := dkwX8_nextRight_1 ++ dktX8_nextRight_2
def dkwX8_nextRight_0 : List UInt8 := [28, 4, 96, 62, 29, 42, 180, 0, 7, 27, 3, 96, 46, 162, 0, 40, 42, 180, 0, 7, 27, 16, 52, 96]
abbrev dktX8_nextRight_0 : List UInt8 := dkwX8_nextRight_0 ++ dktX8_nextRight_1
theorem dksX8_nextRight_0 : cX8_nextRight.data.toList.drop 0 = dktX8_nextRight_0 := by decide +kernel
theorem dksX8_nextRight_1 : cX8_nextRight.data.toList.drop 24 = dktX8_nextRight_1 := dk_seg dksX8_nextRight_0 24 rfl rfl
theorem dksX8_nextRight_2 : cX8_nextRight.data.toList.drop 47 = dktX8_nextRight_2 := dk_seg dksX8_nextRight_1 23 rfl rfl
theorem dX8_nextRight_0 : decode cX8_nextRight 0 = .ok (.iload_n 2, 1) := dk_28 (dk_at dksX8_nextRight_0 0 rfl rfl)
theorem dX8_nextRight_1 : decode cX8_nextRight 1 = .ok (.iconst 1, 1) := dk_4 (dk_at dksX8_nextRight_0 1 rfl rfl)
theorem dX8_nextRight_2 : decode cX8_nextRight 2 = .ok (.iadd, 1) := dk_96 (dk_at dksX8_nextRight_0 2 rfl rfl)
theorem dX8_nextRight_3 : decode cX8_nextRight 3 = .ok (.istore_n 3, 1) := dk_62 (dk_at dksX8_nextRight_0 3 rfl rfl)
theorem dX8_nextRight_4 : decode cX8_nextRight 4 = .ok (.iload_n 3, 1) := dk_29 (dk_at dksX8_nextRight_0 4 rfl rfl)
theorem dX8_nextRight_5 : decode cX8_nextRight 5 = .ok (.aload_n 0, 1) := dk_42 (dk_at dksX8_nextRight_0 5 rfl rfl)
theorem dX8_nextRight_6 : decode cX8_nextRight 6 = .ok (.getfield 7, 3) := dk_180 0 7 (dk_at dksX8_nextRight_0 6 rfl rfl)
theorem dX8_nextRight_9 : decode cX8_nextRight 9 = .ok (.iload_n 1, 1) := dk_27 (dk_at dksX8_nextRight_0 9 rfl rfl)
theorem dX8_nextRight_10 : decode cX8_nextRight 10 = .ok (.iconst 0, 1) := dk_3 (dk_at dksX8_nextRight_0 10 rfl rfl)
theorem dX8_nextRight_11 : decode cX8_nextRight 11 = .ok (.iadd, 1) := dk_96 (dk_at dksX8_nextRight_0 11 rfl rfl)
theorem dX8_nextRight_12 : decode cX8_nextRight 12 = .ok (.iaload, 1) := dk_46 (dk_at dksX8_nextRight_0 12 rfl rfl)
theorem dX8_nextRight_13 : decode cX8_nextRight 13 = .ok (.if_icmp .ge 40, 3) := dk_162 0 40 (dk_at dksX8_nextRight_0 13 rfl rfl)
theorem dX8_nextRight_16 : decode cX8_nextRight 16 = .ok (.aload_n 0, 1) := dk_42 (dk_at dksX8_nextRight_0 16 rfl rfl)
theorem dX8_nextRight_17 : decode cX8_nextRight 17 = .ok (.getfield 7, 3) := dk_180 0 7 (dk_at dksX8_nextRight_0 17 rfl rfl)
theorem dX8_nextRight_20 : decode cX8_nextRight 20 = .ok (.iload_n 1, 1) := dk_27 (dk_at dksX8_nextRight_0 20 rfl rfl)
theorem dX8_nextRight_21 : decode cX8_nextRight 21 = .ok (.bipush 52, 2) := dk_16 52 (dk_at dksX8_nextRight_0 21 rfl rfl)
theorem dX8_nextRight_23 : decode cX8_nextRight 23 = .ok (.iadd, 1) := dk_96 (dk_at dksX8_nextRight_0 23 rfl rfl)
theorem dX8_nextRight_24 : decode cX8_nextRight 24 = .ok (.iload_n 3, 1) := dk_29 (dk_at dksX8_nextRight_1 0 rfl rfl)
theorem dX8_nextRight_25 : decode cX8_nextRight 25 = .ok (.iadd, 1) := dk_96 (dk_at dksX8_nextRight_1 1 rfl rfl)
theorem dX8_nextRight_26 : decode cX8_nextRight 26 = .ok (.iconst 1, 1) := dk_4 (dk_at dksX8_nextRight_1 2 rfl rfl)
theorem dX8_nextRight_27 : decode cX8_nextRight 27 = .ok (.isub, 1) := dk_100 (dk_at dksX8_nextRight_1 3 rfl rfl)
theorem dX8_nextRight_28 : decode cX8_nextRight 28 = .ok (.iaload, 1) := dk_46 (dk_at dksX8_nextRight_1 4 rfl rfl)
theorem dX8_nextRight_29 : decode cX8_nextRight 29 = .ok (.iconst 1, 1) := dk_4 (dk_at dksX8_nextRight_1 5 rfl rfl)
theorem dX8_nextRight_30 : decode cX8_nextRight 30 = .ok (.if_icmp .ne 6, 3) := dk_160 0 6 (dk_at dksX8_nextRight_1 6 rfl rfl)
theorem dX8_nextRight_33 : decode cX8_nextRight 33 = .ok (.bipush (-4), 2) := dk_16 252 (dk_at dksX8_nextRight_1 9 rfl rfl)
theorem dX8_nextRight_35 : decode cX8_nextRight 35 = .ok (.ireturn, 1) := dk_172 (dk_at dksX8_nextRight_1 11 rfl rfl)
theorem dX8_nextRight_36 : decode cX8_nextRight 36 = .ok (.aload_n 0, 1) := dk_42 (dk_at dksX8_nextRight_1 12 rfl rfl)
theorem dX8_nextRight_37 : decode cX8_nextRight 37 = .ok (.iload_n 1, 1) := dk_27 (dk_at dksX8_nextRight_1 13 rfl rfl)
theorem dX8_nextRight_38 : decode cX8_nextRight 38 = .ok (.iload_n 3, 1) := dk_29 (dk_at dksX8_nextRight_1 14 rfl rfl)
theorem dX8_nextRight_39 : decode cX8_nextRight 39 = .ok (.invokevirtual 53, 3) := dk_182 0 53 (dk_at dksX8_nextRight_1 15 rfl rfl)
theorem dX8_nextRight_42 : decode cX8_nextRight 42 = .ok (.ifCond .eq 5, 3) := dk_153 0 5 (dk_at dksX8_nextRight_1 18 rfl rfl)
theorem dX8_nextRight_45 : decode cX8_nextRight 45 = .ok (.iload_n 3, 1) := dk_29 (dk_at dksX8_nextRight_1 21 rfl rfl)
theorem dX8_nextRight_46 : decode cX8_nextRight 46 = .ok (.ireturn, 1) := dk_172 (dk_at dksX8_nextRight_1 22 rfl rfl)
theorem dX8_nextRight_47 : decode cX8_nextRight 47 = .ok (.iinc 3 1, 3) := dk_132 3 1 (dk_at dksX8_nextRight_2 0 rfl rfl)
theorem dX8_nextRight_50 : decode cX8_nextRight 50 = .ok (.goto (-46), 3) := dk_167 255 210 (dk_at dksX8_nextRight_2 3 rfl rfl)
theorem dX8_nextRight_53 : decode cX8_nextRight 53 = .ok (.bipush (-4), 2) := dk_16 252 (dk_at dksX8_nextRight_2 6 rfl rfl)
theorem dX8_nextRight_55 : decode cX8_nextRight 55 = .ok (.ireturn, 1) := dk_172 (dk_at dksX8_nextRight_2 8 rfl rfl)
abbrev cX8_sumOf : ByteArray := prog_13_method_11_code
def yX8_sumOf : MethodName := ⟨RX8, "sumOf", "(III)I"⟩
def dkwX8_sumOf_1 : List UInt8 := [54, 4, 132, 5, 1, 167, 255, 233, 21, 4, 172]
abbrev dktX8_sumOf_1 : List UInt8 := dkwX8_sumOf_1 ++ []
def dkwX8_sumOf_0 : List UInt8 := [3, 54, 4, 28, 54, 5, 21, 5, 29, 162, 0, 23, 21, 4, 42, 180, 0, 7, 27, 21, 5, 96, 46, 96]
abbrev dktX8_sumOf_0 : List UInt8 := dkwX8_sumOf_0 ++ dktX8_sumOf_1
theorem dksX8_sumOf_0 : cX8_sumOf.data.toList.drop 0 = dktX8_sumOf_0 := by decide +kernel
theorem dksX8_sumOf_1 : cX8_sumOf.data.toList.drop 24 = dktX8_sumOf_1 := dk_seg dksX8_sumOf_0 24 rfl rfl
theorem dX8_sumOf_0 : decode cX8_sumOf 0 = .ok (.iconst 0, 1) := dk_3 (dk_at dksX8_sumOf_0 0 rfl rfl)
theorem dX8_sumOf_1 : decode cX8_sumOf 1 = .ok (.istore 4, 2) := dk_54 4 (dk_at dksX8_sumOf_0 1 rfl rfl)
theorem dX8_sumOf_3 : decode cX8_sumOf 3 = .ok (.iload_n 2, 1) := dk_28 (dk_at dksX8_sumOf_0 3 rfl rfl)
theorem dX8_sumOf_4 : decode cX8_sumOf 4 = .ok (.istore 5, 2) := dk_54 5 (dk_at dksX8_sumOf_0 4 rfl rfl)
theorem dX8_sumOf_6 : decode cX8_sumOf 6 = .ok (.iload 5, 2) := dk_21 5 (dk_at dksX8_sumOf_0 6 rfl rfl)
theorem dX8_sumOf_8 : decode cX8_sumOf 8 = .ok (.iload_n 3, 1) := dk_29 (dk_at dksX8_sumOf_0 8 rfl rfl)
theorem dX8_sumOf_9 : decode cX8_sumOf 9 = .ok (.if_icmp .ge 23, 3) := dk_162 0 23 (dk_at dksX8_sumOf_0 9 rfl rfl)
theorem dX8_sumOf_12 : decode cX8_sumOf 12 = .ok (.iload 4, 2) := dk_21 4 (dk_at dksX8_sumOf_0 12 rfl rfl)
theorem dX8_sumOf_14 : decode cX8_sumOf 14 = .ok (.aload_n 0, 1) := dk_42 (dk_at dksX8_sumOf_0 14 rfl rfl)
theorem dX8_sumOf_15 : decode cX8_sumOf 15 = .ok (.getfield 7, 3) := dk_180 0 7 (dk_at dksX8_sumOf_0 15 rfl rfl)
theorem dX8_sumOf_18 : decode cX8_sumOf 18 = .ok (.iload_n 1, 1) := dk_27 (dk_at dksX8_sumOf_0 18 rfl rfl)
theorem dX8_sumOf_19 : decode cX8_sumOf 19 = .ok (.iload 5, 2) := dk_21 5 (dk_at dksX8_sumOf_0 19 rfl rfl)
theorem dX8_sumOf_21 : decode cX8_sumOf 21 = .ok (.iadd, 1) := dk_96 (dk_at dksX8_sumOf_0 21 rfl rfl)
theorem dX8_sumOf_22 : decode cX8_sumOf 22 = .ok (.iaload, 1) := dk_46 (dk_at dksX8_sumOf_0 22 rfl rfl)
theorem dX8_sumOf_23 : decode cX8_sumOf 23 = .ok (.iadd, 1) := dk_96 (dk_at dksX8_sumOf_0 23 rfl rfl)
theorem dX8_sumOf_24 : decode cX8_sumOf 24 = .ok (.istore 4, 2) := dk_54 4 (dk_at dksX8_sumOf_1 0 rfl rfl)
theorem dX8_sumOf_26 : decode cX8_sumOf 26 = .ok (.iinc 5 1, 3) := dk_132 5 1 (dk_at dksX8_sumOf_1 2 rfl rfl)
theorem dX8_sumOf_29 : decode cX8_sumOf 29 = .ok (.goto (-23), 3) := dk_167 255 233 (dk_at dksX8_sumOf_1 5 rfl rfl)
theorem dX8_sumOf_32 : decode cX8_sumOf 32 = .ok (.iload 4, 2) := dk_21 4 (dk_at dksX8_sumOf_1 8 rfl rfl)
theorem dX8_sumOf_34 : decode cX8_sumOf 34 = .ok (.ireturn, 1) := dk_172 (dk_at dksX8_sumOf_1 10 rfl rfl)
abbrev cX8_tornSeam : ByteArray := prog_13_method_19_code
def yX8_tornSeam : MethodName := ⟨RX8, "tornSeam", "(I)I"⟩
def dkwX8_tornSeam_2 : List UInt8 := [167, 255, 213, 16, 252, 172]
abbrev dktX8_tornSeam_2 : List UInt8 := dkwX8_tornSeam_2 ++ []
def dkwX8_tornSeam_1 : List UInt8 := [180, 0, 7, 27, 4, 96, 46, 42, 180, 0, 29, 28, 46, 104, 164, 0, 5, 28, 172, 132, 2, 1]
abbrev dktX8_tornSeam_1 : List UInt8 := dkwX8_tornSeam_1 ++ dktX8_tornSeam_2
def dkwX8_tornSeam_0 : List UInt8 := [3, 61, 28, 4, 96, 42, 180, 0, 7, 27, 3, 96, 46, 162, 0, 35, 42, 180, 0, 26, 28, 46, 42]
abbrev dktX8_tornSeam_0 : List UInt8 := dkwX8_tornSeam_0 ++ dktX8_tornSeam_1
theorem dksX8_tornSeam_0 : cX8_tornSeam.data.toList.drop 0 = dktX8_tornSeam_0 := by decide +kernel
theorem dksX8_tornSeam_1 : cX8_tornSeam.data.toList.drop 23 = dktX8_tornSeam_1 := dk_seg dksX8_tornSeam_0 23 rfl rfl
theorem dksX8_tornSeam_2 : cX8_tornSeam.data.toList.drop 45 = dktX8_tornSeam_2 := dk_seg dksX8_tornSeam_1 22 rfl rfl
theorem dX8_tornSeam_0 : decode cX8_tornSeam 0 = .ok (.iconst 0, 1) := dk_3 (dk_at dksX8_tornSeam_0 0 rfl rfl)
theorem dX8_tornSeam_1 : decode cX8_tornSeam 1 = .ok (.istore_n 2, 1) := dk_61 (dk_at dksX8_tornSeam_0 1 rfl rfl)
theorem dX8_tornSeam_2 : decode cX8_tornSeam 2 = .ok (.iload_n 2, 1) := dk_28 (dk_at dksX8_tornSeam_0 2 rfl rfl)
theorem dX8_tornSeam_3 : decode cX8_tornSeam 3 = .ok (.iconst 1, 1) := dk_4 (dk_at dksX8_tornSeam_0 3 rfl rfl)
theorem dX8_tornSeam_4 : decode cX8_tornSeam 4 = .ok (.iadd, 1) := dk_96 (dk_at dksX8_tornSeam_0 4 rfl rfl)
theorem dX8_tornSeam_5 : decode cX8_tornSeam 5 = .ok (.aload_n 0, 1) := dk_42 (dk_at dksX8_tornSeam_0 5 rfl rfl)
theorem dX8_tornSeam_6 : decode cX8_tornSeam 6 = .ok (.getfield 7, 3) := dk_180 0 7 (dk_at dksX8_tornSeam_0 6 rfl rfl)
theorem dX8_tornSeam_9 : decode cX8_tornSeam 9 = .ok (.iload_n 1, 1) := dk_27 (dk_at dksX8_tornSeam_0 9 rfl rfl)
theorem dX8_tornSeam_10 : decode cX8_tornSeam 10 = .ok (.iconst 0, 1) := dk_3 (dk_at dksX8_tornSeam_0 10 rfl rfl)
theorem dX8_tornSeam_11 : decode cX8_tornSeam 11 = .ok (.iadd, 1) := dk_96 (dk_at dksX8_tornSeam_0 11 rfl rfl)
theorem dX8_tornSeam_12 : decode cX8_tornSeam 12 = .ok (.iaload, 1) := dk_46 (dk_at dksX8_tornSeam_0 12 rfl rfl)
theorem dX8_tornSeam_13 : decode cX8_tornSeam 13 = .ok (.if_icmp .ge 35, 3) := dk_162 0 35 (dk_at dksX8_tornSeam_0 13 rfl rfl)
theorem dX8_tornSeam_16 : decode cX8_tornSeam 16 = .ok (.aload_n 0, 1) := dk_42 (dk_at dksX8_tornSeam_0 16 rfl rfl)
theorem dX8_tornSeam_17 : decode cX8_tornSeam 17 = .ok (.getfield 26, 3) := dk_180 0 26 (dk_at dksX8_tornSeam_0 17 rfl rfl)
theorem dX8_tornSeam_20 : decode cX8_tornSeam 20 = .ok (.iload_n 2, 1) := dk_28 (dk_at dksX8_tornSeam_0 20 rfl rfl)
theorem dX8_tornSeam_21 : decode cX8_tornSeam 21 = .ok (.iaload, 1) := dk_46 (dk_at dksX8_tornSeam_0 21 rfl rfl)
theorem dX8_tornSeam_22 : decode cX8_tornSeam 22 = .ok (.aload_n 0, 1) := dk_42 (dk_at dksX8_tornSeam_0 22 rfl rfl)
theorem dX8_tornSeam_23 : decode cX8_tornSeam 23 = .ok (.getfield 7, 3) := dk_180 0 7 (dk_at dksX8_tornSeam_1 0 rfl rfl)
theorem dX8_tornSeam_26 : decode cX8_tornSeam 26 = .ok (.iload_n 1, 1) := dk_27 (dk_at dksX8_tornSeam_1 3 rfl rfl)
theorem dX8_tornSeam_27 : decode cX8_tornSeam 27 = .ok (.iconst 1, 1) := dk_4 (dk_at dksX8_tornSeam_1 4 rfl rfl)
theorem dX8_tornSeam_28 : decode cX8_tornSeam 28 = .ok (.iadd, 1) := dk_96 (dk_at dksX8_tornSeam_1 5 rfl rfl)
theorem dX8_tornSeam_29 : decode cX8_tornSeam 29 = .ok (.iaload, 1) := dk_46 (dk_at dksX8_tornSeam_1 6 rfl rfl)
theorem dX8_tornSeam_30 : decode cX8_tornSeam 30 = .ok (.aload_n 0, 1) := dk_42 (dk_at dksX8_tornSeam_1 7 rfl rfl)
theorem dX8_tornSeam_31 : decode cX8_tornSeam 31 = .ok (.getfield 29, 3) := dk_180 0 29 (dk_at dksX8_tornSeam_1 8 rfl rfl)
theorem dX8_tornSeam_34 : decode cX8_tornSeam 34 = .ok (.iload_n 2, 1) := dk_28 (dk_at dksX8_tornSeam_1 11 rfl rfl)
theorem dX8_tornSeam_35 : decode cX8_tornSeam 35 = .ok (.iaload, 1) := dk_46 (dk_at dksX8_tornSeam_1 12 rfl rfl)
theorem dX8_tornSeam_36 : decode cX8_tornSeam 36 = .ok (.imul, 1) := dk_104 (dk_at dksX8_tornSeam_1 13 rfl rfl)
theorem dX8_tornSeam_37 : decode cX8_tornSeam 37 = .ok (.if_icmp .le 5, 3) := dk_164 0 5 (dk_at dksX8_tornSeam_1 14 rfl rfl)
theorem dX8_tornSeam_40 : decode cX8_tornSeam 40 = .ok (.iload_n 2, 1) := dk_28 (dk_at dksX8_tornSeam_1 17 rfl rfl)
theorem dX8_tornSeam_41 : decode cX8_tornSeam 41 = .ok (.ireturn, 1) := dk_172 (dk_at dksX8_tornSeam_1 18 rfl rfl)
theorem dX8_tornSeam_42 : decode cX8_tornSeam 42 = .ok (.iinc 2 1, 3) := dk_132 2 1 (dk_at dksX8_tornSeam_1 19 rfl rfl)
theorem dX8_tornSeam_45 : decode cX8_tornSeam 45 = .ok (.goto (-43), 3) := dk_167 255 213 (dk_at dksX8_tornSeam_2 0 rfl rfl)
theorem dX8_tornSeam_48 : decode cX8_tornSeam 48 = .ok (.bipush (-4), 2) := dk_16 252 (dk_at dksX8_tornSeam_2 3 rfl rfl)
theorem dX8_tornSeam_50 : decode cX8_tornSeam 50 = .ok (.ireturn, 1) := dk_172 (dk_at dksX8_tornSeam_2 5 rfl rfl)
abbrev cX8_cuts : ByteArray := prog_13_method_20_code
def yX8_cuts : MethodName := ⟨RX8, "cuts", "(II)V"⟩
def dkwX8_cuts_2 : List UInt8 := [29, 62, 132, 4, 1, 167, 255, 210, 42, 180, 0, 7, 27, 16, 52, 96, 29, 96, 4, 79, 177]
abbrev dktX8_cuts_2 : List UInt8 := dkwX8_cuts_2 ++ []
def dkwX8_cuts_1 : List UInt8 := [96, 21, 4, 96, 46, 42, 180, 0, 7, 27, 16, 44, 96, 29, 96, 46, 164, 0, 8, 21, 4, 167, 0, 4]
abbrev dktX8_cuts_1 : List UInt8 := dkwX8_cuts_1 ++ dktX8_cuts_2
def dkwX8_cuts_0 : List UInt8 := [28, 62, 28, 4, 96, 54, 4, 42, 27, 21, 4, 182, 0, 53, 154, 0, 42, 42, 180, 0, 7, 27, 16, 44]
abbrev dktX8_cuts_0 : List UInt8 := dkwX8_cuts_0 ++ dktX8_cuts_1
theorem dksX8_cuts_0 : cX8_cuts.data.toList.drop 0 = dktX8_cuts_0 := by decide +kernel
theorem dksX8_cuts_1 : cX8_cuts.data.toList.drop 24 = dktX8_cuts_1 := dk_seg dksX8_cuts_0 24 rfl rfl
theorem dksX8_cuts_2 : cX8_cuts.data.toList.drop 48 = dktX8_cuts_2 := dk_seg dksX8_cuts_1 24 rfl rfl
theorem dX8_cuts_0 : decode cX8_cuts 0 = .ok (.iload_n 2, 1) := dk_28 (dk_at dksX8_cuts_0 0 rfl rfl)
theorem dX8_cuts_1 : decode cX8_cuts 1 = .ok (.istore_n 3, 1) := dk_62 (dk_at dksX8_cuts_0 1 rfl rfl)
theorem dX8_cuts_2 : decode cX8_cuts 2 = .ok (.iload_n 2, 1) := dk_28 (dk_at dksX8_cuts_0 2 rfl rfl)
theorem dX8_cuts_3 : decode cX8_cuts 3 = .ok (.iconst 1, 1) := dk_4 (dk_at dksX8_cuts_0 3 rfl rfl)
theorem dX8_cuts_4 : decode cX8_cuts 4 = .ok (.iadd, 1) := dk_96 (dk_at dksX8_cuts_0 4 rfl rfl)
theorem dX8_cuts_5 : decode cX8_cuts 5 = .ok (.istore 4, 2) := dk_54 4 (dk_at dksX8_cuts_0 5 rfl rfl)
theorem dX8_cuts_7 : decode cX8_cuts 7 = .ok (.aload_n 0, 1) := dk_42 (dk_at dksX8_cuts_0 7 rfl rfl)
theorem dX8_cuts_8 : decode cX8_cuts 8 = .ok (.iload_n 1, 1) := dk_27 (dk_at dksX8_cuts_0 8 rfl rfl)
theorem dX8_cuts_9 : decode cX8_cuts 9 = .ok (.iload 4, 2) := dk_21 4 (dk_at dksX8_cuts_0 9 rfl rfl)
theorem dX8_cuts_11 : decode cX8_cuts 11 = .ok (.invokevirtual 53, 3) := dk_182 0 53 (dk_at dksX8_cuts_0 11 rfl rfl)
theorem dX8_cuts_14 : decode cX8_cuts 14 = .ok (.ifCond .ne 42, 3) := dk_154 0 42 (dk_at dksX8_cuts_0 14 rfl rfl)
theorem dX8_cuts_17 : decode cX8_cuts 17 = .ok (.aload_n 0, 1) := dk_42 (dk_at dksX8_cuts_0 17 rfl rfl)
theorem dX8_cuts_18 : decode cX8_cuts 18 = .ok (.getfield 7, 3) := dk_180 0 7 (dk_at dksX8_cuts_0 18 rfl rfl)
theorem dX8_cuts_21 : decode cX8_cuts 21 = .ok (.iload_n 1, 1) := dk_27 (dk_at dksX8_cuts_0 21 rfl rfl)
theorem dX8_cuts_22 : decode cX8_cuts 22 = .ok (.bipush 44, 2) := dk_16 44 (dk_at dksX8_cuts_0 22 rfl rfl)
theorem dX8_cuts_24 : decode cX8_cuts 24 = .ok (.iadd, 1) := dk_96 (dk_at dksX8_cuts_1 0 rfl rfl)
theorem dX8_cuts_25 : decode cX8_cuts 25 = .ok (.iload 4, 2) := dk_21 4 (dk_at dksX8_cuts_1 1 rfl rfl)
theorem dX8_cuts_27 : decode cX8_cuts 27 = .ok (.iadd, 1) := dk_96 (dk_at dksX8_cuts_1 3 rfl rfl)
theorem dX8_cuts_28 : decode cX8_cuts 28 = .ok (.iaload, 1) := dk_46 (dk_at dksX8_cuts_1 4 rfl rfl)
theorem dX8_cuts_29 : decode cX8_cuts 29 = .ok (.aload_n 0, 1) := dk_42 (dk_at dksX8_cuts_1 5 rfl rfl)
theorem dX8_cuts_30 : decode cX8_cuts 30 = .ok (.getfield 7, 3) := dk_180 0 7 (dk_at dksX8_cuts_1 6 rfl rfl)
theorem dX8_cuts_33 : decode cX8_cuts 33 = .ok (.iload_n 1, 1) := dk_27 (dk_at dksX8_cuts_1 9 rfl rfl)
theorem dX8_cuts_34 : decode cX8_cuts 34 = .ok (.bipush 44, 2) := dk_16 44 (dk_at dksX8_cuts_1 10 rfl rfl)
theorem dX8_cuts_36 : decode cX8_cuts 36 = .ok (.iadd, 1) := dk_96 (dk_at dksX8_cuts_1 12 rfl rfl)
theorem dX8_cuts_37 : decode cX8_cuts 37 = .ok (.iload_n 3, 1) := dk_29 (dk_at dksX8_cuts_1 13 rfl rfl)
theorem dX8_cuts_38 : decode cX8_cuts 38 = .ok (.iadd, 1) := dk_96 (dk_at dksX8_cuts_1 14 rfl rfl)
theorem dX8_cuts_39 : decode cX8_cuts 39 = .ok (.iaload, 1) := dk_46 (dk_at dksX8_cuts_1 15 rfl rfl)
theorem dX8_cuts_40 : decode cX8_cuts 40 = .ok (.if_icmp .le 8, 3) := dk_164 0 8 (dk_at dksX8_cuts_1 16 rfl rfl)
theorem dX8_cuts_43 : decode cX8_cuts 43 = .ok (.iload 4, 2) := dk_21 4 (dk_at dksX8_cuts_1 19 rfl rfl)
theorem dX8_cuts_45 : decode cX8_cuts 45 = .ok (.goto 4, 3) := dk_167 0 4 (dk_at dksX8_cuts_1 21 rfl rfl)
theorem dX8_cuts_48 : decode cX8_cuts 48 = .ok (.iload_n 3, 1) := dk_29 (dk_at dksX8_cuts_2 0 rfl rfl)
theorem dX8_cuts_49 : decode cX8_cuts 49 = .ok (.istore_n 3, 1) := dk_62 (dk_at dksX8_cuts_2 1 rfl rfl)
theorem dX8_cuts_50 : decode cX8_cuts 50 = .ok (.iinc 4 1, 3) := dk_132 4 1 (dk_at dksX8_cuts_2 2 rfl rfl)
theorem dX8_cuts_53 : decode cX8_cuts 53 = .ok (.goto (-46), 3) := dk_167 255 210 (dk_at dksX8_cuts_2 5 rfl rfl)
theorem dX8_cuts_56 : decode cX8_cuts 56 = .ok (.aload_n 0, 1) := dk_42 (dk_at dksX8_cuts_2 8 rfl rfl)
theorem dX8_cuts_57 : decode cX8_cuts 57 = .ok (.getfield 7, 3) := dk_180 0 7 (dk_at dksX8_cuts_2 9 rfl rfl)
theorem dX8_cuts_60 : decode cX8_cuts 60 = .ok (.iload_n 1, 1) := dk_27 (dk_at dksX8_cuts_2 12 rfl rfl)
theorem dX8_cuts_61 : decode cX8_cuts 61 = .ok (.bipush 52, 2) := dk_16 52 (dk_at dksX8_cuts_2 13 rfl rfl)
theorem dX8_cuts_63 : decode cX8_cuts 63 = .ok (.iadd, 1) := dk_96 (dk_at dksX8_cuts_2 15 rfl rfl)
theorem dX8_cuts_64 : decode cX8_cuts 64 = .ok (.iload_n 3, 1) := dk_29 (dk_at dksX8_cuts_2 16 rfl rfl)
theorem dX8_cuts_65 : decode cX8_cuts 65 = .ok (.iadd, 1) := dk_96 (dk_at dksX8_cuts_2 17 rfl rfl)
theorem dX8_cuts_66 : decode cX8_cuts 66 = .ok (.iconst 1, 1) := dk_4 (dk_at dksX8_cuts_2 18 rfl rfl)
theorem dX8_cuts_67 : decode cX8_cuts 67 = .ok (.iastore, 1) := dk_79 (dk_at dksX8_cuts_2 19 rfl rfl)
theorem dX8_cuts_68 : decode cX8_cuts 68 = .ok (.return_, 1) := dk_177 (dk_at dksX8_cuts_2 20 rfl rfl)
abbrev cX8_isPulledOff : ByteArray := prog_13_method_18_code
def yX8_isPulledOff : MethodName := ⟨RX8, "isPulledOff", "(II)Z"⟩
def dkwX8_isPulledOff_2 : List UInt8 := [104, 164, 0, 7, 4, 167, 0, 4, 3, 172]
abbrev dktX8_isPulledOff_2 : List UInt8 := dkwX8_isPulledOff_2 ++ []
def dkwX8_isPulledOff_1 : List UInt8 := [180, 0, 83, 62, 42, 27, 28, 182, 0, 53, 153, 0, 22, 29, 42, 27, 28, 182, 0, 94, 42, 180, 0, 87]
abbrev dktX8_isPulledOff_1 : List UInt8 := dkwX8_isPulledOff_1 ++ dktX8_isPulledOff_2
def dkwX8_isPulledOff_0 : List UInt8 := [42, 27, 28, 182, 0, 90, 42, 180, 0, 83, 156, 0, 11, 42, 180, 0, 83, 116, 167, 0, 7, 42]
abbrev dktX8_isPulledOff_0 : List UInt8 := dkwX8_isPulledOff_0 ++ dktX8_isPulledOff_1
theorem dksX8_isPulledOff_0 : cX8_isPulledOff.data.toList.drop 0 = dktX8_isPulledOff_0 := by decide +kernel
theorem dksX8_isPulledOff_1 : cX8_isPulledOff.data.toList.drop 22 = dktX8_isPulledOff_1 := dk_seg dksX8_isPulledOff_0 22 rfl rfl
theorem dksX8_isPulledOff_2 : cX8_isPulledOff.data.toList.drop 46 = dktX8_isPulledOff_2 := dk_seg dksX8_isPulledOff_1 24 rfl rfl
theorem dX8_isPulledOff_0 : decode cX8_isPulledOff 0 = .ok (.aload_n 0, 1) := dk_42 (dk_at dksX8_isPulledOff_0 0 rfl rfl)
theorem dX8_isPulledOff_1 : decode cX8_isPulledOff 1 = .ok (.iload_n 1, 1) := dk_27 (dk_at dksX8_isPulledOff_0 1 rfl rfl)
theorem dX8_isPulledOff_2 : decode cX8_isPulledOff 2 = .ok (.iload_n 2, 1) := dk_28 (dk_at dksX8_isPulledOff_0 2 rfl rfl)
theorem dX8_isPulledOff_3 : decode cX8_isPulledOff 3 = .ok (.invokevirtual 90, 3) := dk_182 0 90 (dk_at dksX8_isPulledOff_0 3 rfl rfl)
theorem dX8_isPulledOff_6 : decode cX8_isPulledOff 6 = .ok (.aload_n 0, 1) := dk_42 (dk_at dksX8_isPulledOff_0 6 rfl rfl)
theorem dX8_isPulledOff_7 : decode cX8_isPulledOff 7 = .ok (.getfield 83, 3) := dk_180 0 83 (dk_at dksX8_isPulledOff_0 7 rfl rfl)
theorem dX8_isPulledOff_10 : decode cX8_isPulledOff 10 = .ok (.ifCond .ge 11, 3) := dk_156 0 11 (dk_at dksX8_isPulledOff_0 10 rfl rfl)
theorem dX8_isPulledOff_13 : decode cX8_isPulledOff 13 = .ok (.aload_n 0, 1) := dk_42 (dk_at dksX8_isPulledOff_0 13 rfl rfl)
theorem dX8_isPulledOff_14 : decode cX8_isPulledOff 14 = .ok (.getfield 83, 3) := dk_180 0 83 (dk_at dksX8_isPulledOff_0 14 rfl rfl)
theorem dX8_isPulledOff_17 : decode cX8_isPulledOff 17 = .ok (.ineg, 1) := dk_116 (dk_at dksX8_isPulledOff_0 17 rfl rfl)
theorem dX8_isPulledOff_18 : decode cX8_isPulledOff 18 = .ok (.goto 7, 3) := dk_167 0 7 (dk_at dksX8_isPulledOff_0 18 rfl rfl)
theorem dX8_isPulledOff_21 : decode cX8_isPulledOff 21 = .ok (.aload_n 0, 1) := dk_42 (dk_at dksX8_isPulledOff_0 21 rfl rfl)
theorem dX8_isPulledOff_22 : decode cX8_isPulledOff 22 = .ok (.getfield 83, 3) := dk_180 0 83 (dk_at dksX8_isPulledOff_1 0 rfl rfl)
theorem dX8_isPulledOff_25 : decode cX8_isPulledOff 25 = .ok (.istore_n 3, 1) := dk_62 (dk_at dksX8_isPulledOff_1 3 rfl rfl)
theorem dX8_isPulledOff_26 : decode cX8_isPulledOff 26 = .ok (.aload_n 0, 1) := dk_42 (dk_at dksX8_isPulledOff_1 4 rfl rfl)
theorem dX8_isPulledOff_27 : decode cX8_isPulledOff 27 = .ok (.iload_n 1, 1) := dk_27 (dk_at dksX8_isPulledOff_1 5 rfl rfl)
theorem dX8_isPulledOff_28 : decode cX8_isPulledOff 28 = .ok (.iload_n 2, 1) := dk_28 (dk_at dksX8_isPulledOff_1 6 rfl rfl)
theorem dX8_isPulledOff_29 : decode cX8_isPulledOff 29 = .ok (.invokevirtual 53, 3) := dk_182 0 53 (dk_at dksX8_isPulledOff_1 7 rfl rfl)
theorem dX8_isPulledOff_32 : decode cX8_isPulledOff 32 = .ok (.ifCond .eq 22, 3) := dk_153 0 22 (dk_at dksX8_isPulledOff_1 10 rfl rfl)
theorem dX8_isPulledOff_35 : decode cX8_isPulledOff 35 = .ok (.iload_n 3, 1) := dk_29 (dk_at dksX8_isPulledOff_1 13 rfl rfl)
theorem dX8_isPulledOff_36 : decode cX8_isPulledOff 36 = .ok (.aload_n 0, 1) := dk_42 (dk_at dksX8_isPulledOff_1 14 rfl rfl)
theorem dX8_isPulledOff_37 : decode cX8_isPulledOff 37 = .ok (.iload_n 1, 1) := dk_27 (dk_at dksX8_isPulledOff_1 15 rfl rfl)
theorem dX8_isPulledOff_38 : decode cX8_isPulledOff 38 = .ok (.iload_n 2, 1) := dk_28 (dk_at dksX8_isPulledOff_1 16 rfl rfl)
theorem dX8_isPulledOff_39 : decode cX8_isPulledOff 39 = .ok (.invokevirtual 94, 3) := dk_182 0 94 (dk_at dksX8_isPulledOff_1 17 rfl rfl)
theorem dX8_isPulledOff_42 : decode cX8_isPulledOff 42 = .ok (.aload_n 0, 1) := dk_42 (dk_at dksX8_isPulledOff_1 20 rfl rfl)
theorem dX8_isPulledOff_43 : decode cX8_isPulledOff 43 = .ok (.getfield 87, 3) := dk_180 0 87 (dk_at dksX8_isPulledOff_1 21 rfl rfl)
theorem dX8_isPulledOff_46 : decode cX8_isPulledOff 46 = .ok (.imul, 1) := dk_104 (dk_at dksX8_isPulledOff_2 0 rfl rfl)
theorem dX8_isPulledOff_47 : decode cX8_isPulledOff 47 = .ok (.if_icmp .le 7, 3) := dk_164 0 7 (dk_at dksX8_isPulledOff_2 1 rfl rfl)
theorem dX8_isPulledOff_50 : decode cX8_isPulledOff 50 = .ok (.iconst 1, 1) := dk_4 (dk_at dksX8_isPulledOff_2 4 rfl rfl)
theorem dX8_isPulledOff_51 : decode cX8_isPulledOff 51 = .ok (.goto 4, 3) := dk_167 0 4 (dk_at dksX8_isPulledOff_2 5 rfl rfl)
theorem dX8_isPulledOff_54 : decode cX8_isPulledOff 54 = .ok (.iconst 0, 1) := dk_3 (dk_at dksX8_isPulledOff_2 8 rfl rfl)
theorem dX8_isPulledOff_55 : decode cX8_isPulledOff 55 = .ok (.ireturn, 1) := dk_172 (dk_at dksX8_isPulledOff_2 9 rfl rfl)
abbrev cX8_layPulled : ByteArray := prog_13_method_17_code
def yX8_layPulled : MethodName := ⟨RX8, "layPulled", "(II)V"⟩
def dkwX8_layPulled_5 : List UInt8 := [182, 0, 53, 153, 0, 11, 21, 4, 21, 6, 104, 167, 0, 4, 4, 181, 0, 87, 177]
abbrev dktX8_layPulled_5 : List UInt8 := dkwX8_layPulled_5 ++ []
def dkwX8_layPulled_4 : List UInt8 := [153, 0, 16, 29, 21, 6, 104, 21, 5, 21, 4, 104, 100, 167, 0, 4, 3, 181, 0, 83, 42, 42, 27, 28]
abbrev dktX8_layPulled_4 : List UInt8 := dkwX8_layPulled_4 ++ dktX8_layPulled_5
def dkwX8_layPulled_3 : List UInt8 := [158, 0, 14, 42, 180, 0, 29, 28, 4, 100, 46, 167, 0, 4, 4, 54, 6, 42, 42, 27, 28, 182, 0, 53]
abbrev dktX8_layPulled_3 : List UInt8 := dkwX8_layPulled_3 ++ dktX8_layPulled_4
def dkwX8_layPulled_2 : List UInt8 := [4, 54, 4, 28, 158, 0, 14, 42, 180, 0, 26, 28, 4, 100, 46, 167, 0, 4, 3, 54, 5, 28]
abbrev dktX8_layPulled_2 : List UInt8 := dkwX8_layPulled_2 ++ dktX8_layPulled_3
def dkwX8_layPulled_1 : List UInt8 := [62, 28, 4, 96, 42, 180, 0, 7, 27, 3, 96, 46, 162, 0, 12, 42, 180, 0, 29, 28, 46, 167, 0, 4]
abbrev dktX8_layPulled_1 : List UInt8 := dkwX8_layPulled_1 ++ dktX8_layPulled_2
def dkwX8_layPulled_0 : List UInt8 := [28, 4, 96, 42, 180, 0, 7, 27, 3, 96, 46, 162, 0, 12, 42, 180, 0, 26, 28, 46, 167, 0, 4, 3]
abbrev dktX8_layPulled_0 : List UInt8 := dkwX8_layPulled_0 ++ dktX8_layPulled_1
theorem dksX8_layPulled_0 : cX8_layPulled.data.toList.drop 0 = dktX8_layPulled_0 := by decide +kernel
theorem dksX8_layPulled_1 : cX8_layPulled.data.toList.drop 24 = dktX8_layPulled_1 := dk_seg dksX8_layPulled_0 24 rfl rfl
theorem dksX8_layPulled_2 : cX8_layPulled.data.toList.drop 48 = dktX8_layPulled_2 := dk_seg dksX8_layPulled_1 24 rfl rfl
theorem dksX8_layPulled_3 : cX8_layPulled.data.toList.drop 70 = dktX8_layPulled_3 := dk_seg dksX8_layPulled_2 22 rfl rfl
theorem dksX8_layPulled_4 : cX8_layPulled.data.toList.drop 94 = dktX8_layPulled_4 := dk_seg dksX8_layPulled_3 24 rfl rfl
theorem dksX8_layPulled_5 : cX8_layPulled.data.toList.drop 118 = dktX8_layPulled_5 := dk_seg dksX8_layPulled_4 24 rfl rfl
theorem dX8_layPulled_0 : decode cX8_layPulled 0 = .ok (.iload_n 2, 1) := dk_28 (dk_at dksX8_layPulled_0 0 rfl rfl)
theorem dX8_layPulled_1 : decode cX8_layPulled 1 = .ok (.iconst 1, 1) := dk_4 (dk_at dksX8_layPulled_0 1 rfl rfl)
theorem dX8_layPulled_2 : decode cX8_layPulled 2 = .ok (.iadd, 1) := dk_96 (dk_at dksX8_layPulled_0 2 rfl rfl)
theorem dX8_layPulled_3 : decode cX8_layPulled 3 = .ok (.aload_n 0, 1) := dk_42 (dk_at dksX8_layPulled_0 3 rfl rfl)
theorem dX8_layPulled_4 : decode cX8_layPulled 4 = .ok (.getfield 7, 3) := dk_180 0 7 (dk_at dksX8_layPulled_0 4 rfl rfl)
theorem dX8_layPulled_7 : decode cX8_layPulled 7 = .ok (.iload_n 1, 1) := dk_27 (dk_at dksX8_layPulled_0 7 rfl rfl)
theorem dX8_layPulled_8 : decode cX8_layPulled 8 = .ok (.iconst 0, 1) := dk_3 (dk_at dksX8_layPulled_0 8 rfl rfl)
theorem dX8_layPulled_9 : decode cX8_layPulled 9 = .ok (.iadd, 1) := dk_96 (dk_at dksX8_layPulled_0 9 rfl rfl)
theorem dX8_layPulled_10 : decode cX8_layPulled 10 = .ok (.iaload, 1) := dk_46 (dk_at dksX8_layPulled_0 10 rfl rfl)
theorem dX8_layPulled_11 : decode cX8_layPulled 11 = .ok (.if_icmp .ge 12, 3) := dk_162 0 12 (dk_at dksX8_layPulled_0 11 rfl rfl)
theorem dX8_layPulled_14 : decode cX8_layPulled 14 = .ok (.aload_n 0, 1) := dk_42 (dk_at dksX8_layPulled_0 14 rfl rfl)
theorem dX8_layPulled_15 : decode cX8_layPulled 15 = .ok (.getfield 26, 3) := dk_180 0 26 (dk_at dksX8_layPulled_0 15 rfl rfl)
theorem dX8_layPulled_18 : decode cX8_layPulled 18 = .ok (.iload_n 2, 1) := dk_28 (dk_at dksX8_layPulled_0 18 rfl rfl)
theorem dX8_layPulled_19 : decode cX8_layPulled 19 = .ok (.iaload, 1) := dk_46 (dk_at dksX8_layPulled_0 19 rfl rfl)
theorem dX8_layPulled_20 : decode cX8_layPulled 20 = .ok (.goto 4, 3) := dk_167 0 4 (dk_at dksX8_layPulled_0 20 rfl rfl)
theorem dX8_layPulled_23 : decode cX8_layPulled 23 = .ok (.iconst 0, 1) := dk_3 (dk_at dksX8_layPulled_0 23 rfl rfl)
theorem dX8_layPulled_24 : decode cX8_layPulled 24 = .ok (.istore_n 3, 1) := dk_62 (dk_at dksX8_layPulled_1 0 rfl rfl)
theorem dX8_layPulled_25 : decode cX8_layPulled 25 = .ok (.iload_n 2, 1) := dk_28 (dk_at dksX8_layPulled_1 1 rfl rfl)
theorem dX8_layPulled_26 : decode cX8_layPulled 26 = .ok (.iconst 1, 1) := dk_4 (dk_at dksX8_layPulled_1 2 rfl rfl)
theorem dX8_layPulled_27 : decode cX8_layPulled 27 = .ok (.iadd, 1) := dk_96 (dk_at dksX8_layPulled_1 3 rfl rfl)
theorem dX8_layPulled_28 : decode cX8_layPulled 28 = .ok (.aload_n 0, 1) := dk_42 (dk_at dksX8_layPulled_1 4 rfl rfl)
theorem dX8_layPulled_29 : decode cX8_layPulled 29 = .ok (.getfield 7, 3) := dk_180 0 7 (dk_at dksX8_layPulled_1 5 rfl rfl)
theorem dX8_layPulled_32 : decode cX8_layPulled 32 = .ok (.iload_n 1, 1) := dk_27 (dk_at dksX8_layPulled_1 8 rfl rfl)
theorem dX8_layPulled_33 : decode cX8_layPulled 33 = .ok (.iconst 0, 1) := dk_3 (dk_at dksX8_layPulled_1 9 rfl rfl)
theorem dX8_layPulled_34 : decode cX8_layPulled 34 = .ok (.iadd, 1) := dk_96 (dk_at dksX8_layPulled_1 10 rfl rfl)
theorem dX8_layPulled_35 : decode cX8_layPulled 35 = .ok (.iaload, 1) := dk_46 (dk_at dksX8_layPulled_1 11 rfl rfl)
theorem dX8_layPulled_36 : decode cX8_layPulled 36 = .ok (.if_icmp .ge 12, 3) := dk_162 0 12 (dk_at dksX8_layPulled_1 12 rfl rfl)
theorem dX8_layPulled_39 : decode cX8_layPulled 39 = .ok (.aload_n 0, 1) := dk_42 (dk_at dksX8_layPulled_1 15 rfl rfl)
theorem dX8_layPulled_40 : decode cX8_layPulled 40 = .ok (.getfield 29, 3) := dk_180 0 29 (dk_at dksX8_layPulled_1 16 rfl rfl)
theorem dX8_layPulled_43 : decode cX8_layPulled 43 = .ok (.iload_n 2, 1) := dk_28 (dk_at dksX8_layPulled_1 19 rfl rfl)
theorem dX8_layPulled_44 : decode cX8_layPulled 44 = .ok (.iaload, 1) := dk_46 (dk_at dksX8_layPulled_1 20 rfl rfl)
theorem dX8_layPulled_45 : decode cX8_layPulled 45 = .ok (.goto 4, 3) := dk_167 0 4 (dk_at dksX8_layPulled_1 21 rfl rfl)
theorem dX8_layPulled_48 : decode cX8_layPulled 48 = .ok (.iconst 1, 1) := dk_4 (dk_at dksX8_layPulled_2 0 rfl rfl)
theorem dX8_layPulled_49 : decode cX8_layPulled 49 = .ok (.istore 4, 2) := dk_54 4 (dk_at dksX8_layPulled_2 1 rfl rfl)
theorem dX8_layPulled_51 : decode cX8_layPulled 51 = .ok (.iload_n 2, 1) := dk_28 (dk_at dksX8_layPulled_2 3 rfl rfl)
theorem dX8_layPulled_52 : decode cX8_layPulled 52 = .ok (.ifCond .le 14, 3) := dk_158 0 14 (dk_at dksX8_layPulled_2 4 rfl rfl)
theorem dX8_layPulled_55 : decode cX8_layPulled 55 = .ok (.aload_n 0, 1) := dk_42 (dk_at dksX8_layPulled_2 7 rfl rfl)
theorem dX8_layPulled_56 : decode cX8_layPulled 56 = .ok (.getfield 26, 3) := dk_180 0 26 (dk_at dksX8_layPulled_2 8 rfl rfl)
theorem dX8_layPulled_59 : decode cX8_layPulled 59 = .ok (.iload_n 2, 1) := dk_28 (dk_at dksX8_layPulled_2 11 rfl rfl)
theorem dX8_layPulled_60 : decode cX8_layPulled 60 = .ok (.iconst 1, 1) := dk_4 (dk_at dksX8_layPulled_2 12 rfl rfl)
theorem dX8_layPulled_61 : decode cX8_layPulled 61 = .ok (.isub, 1) := dk_100 (dk_at dksX8_layPulled_2 13 rfl rfl)
theorem dX8_layPulled_62 : decode cX8_layPulled 62 = .ok (.iaload, 1) := dk_46 (dk_at dksX8_layPulled_2 14 rfl rfl)
theorem dX8_layPulled_63 : decode cX8_layPulled 63 = .ok (.goto 4, 3) := dk_167 0 4 (dk_at dksX8_layPulled_2 15 rfl rfl)
theorem dX8_layPulled_66 : decode cX8_layPulled 66 = .ok (.iconst 0, 1) := dk_3 (dk_at dksX8_layPulled_2 18 rfl rfl)
theorem dX8_layPulled_67 : decode cX8_layPulled 67 = .ok (.istore 5, 2) := dk_54 5 (dk_at dksX8_layPulled_2 19 rfl rfl)
theorem dX8_layPulled_69 : decode cX8_layPulled 69 = .ok (.iload_n 2, 1) := dk_28 (dk_at dksX8_layPulled_2 21 rfl rfl)
theorem dX8_layPulled_70 : decode cX8_layPulled 70 = .ok (.ifCond .le 14, 3) := dk_158 0 14 (dk_at dksX8_layPulled_3 0 rfl rfl)
theorem dX8_layPulled_73 : decode cX8_layPulled 73 = .ok (.aload_n 0, 1) := dk_42 (dk_at dksX8_layPulled_3 3 rfl rfl)
theorem dX8_layPulled_74 : decode cX8_layPulled 74 = .ok (.getfield 29, 3) := dk_180 0 29 (dk_at dksX8_layPulled_3 4 rfl rfl)
theorem dX8_layPulled_77 : decode cX8_layPulled 77 = .ok (.iload_n 2, 1) := dk_28 (dk_at dksX8_layPulled_3 7 rfl rfl)
theorem dX8_layPulled_78 : decode cX8_layPulled 78 = .ok (.iconst 1, 1) := dk_4 (dk_at dksX8_layPulled_3 8 rfl rfl)
theorem dX8_layPulled_79 : decode cX8_layPulled 79 = .ok (.isub, 1) := dk_100 (dk_at dksX8_layPulled_3 9 rfl rfl)
theorem dX8_layPulled_80 : decode cX8_layPulled 80 = .ok (.iaload, 1) := dk_46 (dk_at dksX8_layPulled_3 10 rfl rfl)
theorem dX8_layPulled_81 : decode cX8_layPulled 81 = .ok (.goto 4, 3) := dk_167 0 4 (dk_at dksX8_layPulled_3 11 rfl rfl)
theorem dX8_layPulled_84 : decode cX8_layPulled 84 = .ok (.iconst 1, 1) := dk_4 (dk_at dksX8_layPulled_3 14 rfl rfl)
theorem dX8_layPulled_85 : decode cX8_layPulled 85 = .ok (.istore 6, 2) := dk_54 6 (dk_at dksX8_layPulled_3 15 rfl rfl)
theorem dX8_layPulled_87 : decode cX8_layPulled 87 = .ok (.aload_n 0, 1) := dk_42 (dk_at dksX8_layPulled_3 17 rfl rfl)
theorem dX8_layPulled_88 : decode cX8_layPulled 88 = .ok (.aload_n 0, 1) := dk_42 (dk_at dksX8_layPulled_3 18 rfl rfl)
theorem dX8_layPulled_89 : decode cX8_layPulled 89 = .ok (.iload_n 1, 1) := dk_27 (dk_at dksX8_layPulled_3 19 rfl rfl)
theorem dX8_layPulled_90 : decode cX8_layPulled 90 = .ok (.iload_n 2, 1) := dk_28 (dk_at dksX8_layPulled_3 20 rfl rfl)
theorem dX8_layPulled_91 : decode cX8_layPulled 91 = .ok (.invokevirtual 53, 3) := dk_182 0 53 (dk_at dksX8_layPulled_3 21 rfl rfl)
theorem dX8_layPulled_94 : decode cX8_layPulled 94 = .ok (.ifCond .eq 16, 3) := dk_153 0 16 (dk_at dksX8_layPulled_4 0 rfl rfl)
theorem dX8_layPulled_97 : decode cX8_layPulled 97 = .ok (.iload_n 3, 1) := dk_29 (dk_at dksX8_layPulled_4 3 rfl rfl)
theorem dX8_layPulled_98 : decode cX8_layPulled 98 = .ok (.iload 6, 2) := dk_21 6 (dk_at dksX8_layPulled_4 4 rfl rfl)
theorem dX8_layPulled_100 : decode cX8_layPulled 100 = .ok (.imul, 1) := dk_104 (dk_at dksX8_layPulled_4 6 rfl rfl)
theorem dX8_layPulled_101 : decode cX8_layPulled 101 = .ok (.iload 5, 2) := dk_21 5 (dk_at dksX8_layPulled_4 7 rfl rfl)
theorem dX8_layPulled_103 : decode cX8_layPulled 103 = .ok (.iload 4, 2) := dk_21 4 (dk_at dksX8_layPulled_4 9 rfl rfl)
theorem dX8_layPulled_105 : decode cX8_layPulled 105 = .ok (.imul, 1) := dk_104 (dk_at dksX8_layPulled_4 11 rfl rfl)
theorem dX8_layPulled_106 : decode cX8_layPulled 106 = .ok (.isub, 1) := dk_100 (dk_at dksX8_layPulled_4 12 rfl rfl)
theorem dX8_layPulled_107 : decode cX8_layPulled 107 = .ok (.goto 4, 3) := dk_167 0 4 (dk_at dksX8_layPulled_4 13 rfl rfl)
theorem dX8_layPulled_110 : decode cX8_layPulled 110 = .ok (.iconst 0, 1) := dk_3 (dk_at dksX8_layPulled_4 16 rfl rfl)
theorem dX8_layPulled_111 : decode cX8_layPulled 111 = .ok (.putfield 83, 3) := dk_181 0 83 (dk_at dksX8_layPulled_4 17 rfl rfl)
theorem dX8_layPulled_114 : decode cX8_layPulled 114 = .ok (.aload_n 0, 1) := dk_42 (dk_at dksX8_layPulled_4 20 rfl rfl)
theorem dX8_layPulled_115 : decode cX8_layPulled 115 = .ok (.aload_n 0, 1) := dk_42 (dk_at dksX8_layPulled_4 21 rfl rfl)
theorem dX8_layPulled_116 : decode cX8_layPulled 116 = .ok (.iload_n 1, 1) := dk_27 (dk_at dksX8_layPulled_4 22 rfl rfl)
theorem dX8_layPulled_117 : decode cX8_layPulled 117 = .ok (.iload_n 2, 1) := dk_28 (dk_at dksX8_layPulled_4 23 rfl rfl)
theorem dX8_layPulled_118 : decode cX8_layPulled 118 = .ok (.invokevirtual 53, 3) := dk_182 0 53 (dk_at dksX8_layPulled_5 0 rfl rfl)
theorem dX8_layPulled_121 : decode cX8_layPulled 121 = .ok (.ifCond .eq 11, 3) := dk_153 0 11 (dk_at dksX8_layPulled_5 3 rfl rfl)
theorem dX8_layPulled_124 : decode cX8_layPulled 124 = .ok (.iload 4, 2) := dk_21 4 (dk_at dksX8_layPulled_5 6 rfl rfl)
theorem dX8_layPulled_126 : decode cX8_layPulled 126 = .ok (.iload 6, 2) := dk_21 6 (dk_at dksX8_layPulled_5 8 rfl rfl)
theorem dX8_layPulled_128 : decode cX8_layPulled 128 = .ok (.imul, 1) := dk_104 (dk_at dksX8_layPulled_5 10 rfl rfl)
theorem dX8_layPulled_129 : decode cX8_layPulled 129 = .ok (.goto 4, 3) := dk_167 0 4 (dk_at dksX8_layPulled_5 11 rfl rfl)
theorem dX8_layPulled_132 : decode cX8_layPulled 132 = .ok (.iconst 1, 1) := dk_4 (dk_at dksX8_layPulled_5 14 rfl rfl)
theorem dX8_layPulled_133 : decode cX8_layPulled 133 = .ok (.putfield 87, 3) := dk_181 0 87 (dk_at dksX8_layPulled_5 15 rfl rfl)
theorem dX8_layPulled_136 : decode cX8_layPulled 136 = .ok (.return_, 1) := dk_177 (dk_at dksX8_layPulled_5 18 rfl rfl)
abbrev cX8_outOf : ByteArray := prog_13_method_14_code
def yX8_outOf : MethodName := ⟨RX8, "outOf", "(II)I"⟩
def dkwX8_outOf_7 : List UInt8 := [172]
abbrev dktX8_outOf_7 : List UInt8 := dkwX8_outOf_7 ++ []
def dkwX8_outOf_6 : List UInt8 := [96, 46, 162, 0, 18, 42, 27, 28, 4, 96, 182, 0, 53, 154, 0, 7, 4, 167, 0, 4, 3, 96, 172, 29]
abbrev dktX8_outOf_6 : List UInt8 := dkwX8_outOf_6 ++ dktX8_outOf_7
def dkwX8_outOf_5 : List UInt8 := [28, 4, 100, 182, 0, 53, 154, 0, 7, 4, 167, 0, 4, 3, 96, 28, 4, 96, 42, 180, 0, 7, 27, 3]
abbrev dktX8_outOf_5 : List UInt8 := dkwX8_outOf_5 ++ dktX8_outOf_6
def dkwX8_outOf_4 : List UInt8 := [184, 0, 49, 153, 0, 7, 3, 167, 0, 9, 29, 21, 4, 184, 0, 68, 172, 29, 28, 158, 0, 18, 42, 27]
abbrev dktX8_outOf_4 : List UInt8 := dkwX8_outOf_4 ++ dktX8_outOf_5
def dkwX8_outOf_3 : List UInt8 := [29, 21, 4, 184, 0, 65, 172, 29, 21, 4, 184, 0, 68, 172, 21, 4, 133, 20, 0, 71, 20, 0, 73]
abbrev dktX8_outOf_3 : List UInt8 := dkwX8_outOf_3 ++ dktX8_outOf_4
def dkwX8_outOf_2 : List UInt8 := [170, 0, 0, 0, 0, 0, 0, 126, 0, 0, 0, 1, 0, 0, 0, 4, 0, 0, 0, 32, 0, 0, 0, 39, 0, 0, 0, 46, 0, 0, 0, 72]
abbrev dktX8_outOf_2 : List UInt8 := dkwX8_outOf_2 ++ dktX8_outOf_3
def dkwX8_outOf_1 : List UInt8 := [180, 0, 7, 27, 7, 96, 28, 96, 46]
abbrev dktX8_outOf_1 : List UInt8 := dkwX8_outOf_1 ++ dktX8_outOf_2
def dkwX8_outOf_0 : List UInt8 := [42, 180, 0, 7, 27, 16, 12, 96, 28, 96, 46, 62, 42, 180, 0, 7, 27, 5, 96, 46, 54, 4, 42]
abbrev dktX8_outOf_0 : List UInt8 := dkwX8_outOf_0 ++ dktX8_outOf_1
theorem dksX8_outOf_0 : cX8_outOf.data.toList.drop 0 = dktX8_outOf_0 := by decide +kernel
theorem dksX8_outOf_1 : cX8_outOf.data.toList.drop 23 = dktX8_outOf_1 := dk_seg dksX8_outOf_0 23 rfl rfl
theorem dksX8_outOf_2 : cX8_outOf.data.toList.drop 32 = dktX8_outOf_2 := dk_seg dksX8_outOf_1 9 rfl rfl
theorem dksX8_outOf_3 : cX8_outOf.data.toList.drop 64 = dktX8_outOf_3 := dk_seg dksX8_outOf_2 32 rfl rfl
theorem dksX8_outOf_4 : cX8_outOf.data.toList.drop 87 = dktX8_outOf_4 := dk_seg dksX8_outOf_3 23 rfl rfl
theorem dksX8_outOf_5 : cX8_outOf.data.toList.drop 111 = dktX8_outOf_5 := dk_seg dksX8_outOf_4 24 rfl rfl
theorem dksX8_outOf_6 : cX8_outOf.data.toList.drop 135 = dktX8_outOf_6 := dk_seg dksX8_outOf_5 24 rfl rfl
theorem dksX8_outOf_7 : cX8_outOf.data.toList.drop 159 = dktX8_outOf_7 := dk_seg dksX8_outOf_6 24 rfl rfl
theorem dX8_outOf_0 : decode cX8_outOf 0 = .ok (.aload_n 0, 1) := dk_42 (dk_at dksX8_outOf_0 0 rfl rfl)
theorem dX8_outOf_1 : decode cX8_outOf 1 = .ok (.getfield 7, 3) := dk_180 0 7 (dk_at dksX8_outOf_0 1 rfl rfl)
theorem dX8_outOf_4 : decode cX8_outOf 4 = .ok (.iload_n 1, 1) := dk_27 (dk_at dksX8_outOf_0 4 rfl rfl)
theorem dX8_outOf_5 : decode cX8_outOf 5 = .ok (.bipush 12, 2) := dk_16 12 (dk_at dksX8_outOf_0 5 rfl rfl)
theorem dX8_outOf_7 : decode cX8_outOf 7 = .ok (.iadd, 1) := dk_96 (dk_at dksX8_outOf_0 7 rfl rfl)
theorem dX8_outOf_8 : decode cX8_outOf 8 = .ok (.iload_n 2, 1) := dk_28 (dk_at dksX8_outOf_0 8 rfl rfl)
theorem dX8_outOf_9 : decode cX8_outOf 9 = .ok (.iadd, 1) := dk_96 (dk_at dksX8_outOf_0 9 rfl rfl)
theorem dX8_outOf_10 : decode cX8_outOf 10 = .ok (.iaload, 1) := dk_46 (dk_at dksX8_outOf_0 10 rfl rfl)
theorem dX8_outOf_11 : decode cX8_outOf 11 = .ok (.istore_n 3, 1) := dk_62 (dk_at dksX8_outOf_0 11 rfl rfl)
theorem dX8_outOf_12 : decode cX8_outOf 12 = .ok (.aload_n 0, 1) := dk_42 (dk_at dksX8_outOf_0 12 rfl rfl)
theorem dX8_outOf_13 : decode cX8_outOf 13 = .ok (.getfield 7, 3) := dk_180 0 7 (dk_at dksX8_outOf_0 13 rfl rfl)
theorem dX8_outOf_16 : decode cX8_outOf 16 = .ok (.iload_n 1, 1) := dk_27 (dk_at dksX8_outOf_0 16 rfl rfl)
theorem dX8_outOf_17 : decode cX8_outOf 17 = .ok (.iconst 2, 1) := dk_5 (dk_at dksX8_outOf_0 17 rfl rfl)
theorem dX8_outOf_18 : decode cX8_outOf 18 = .ok (.iadd, 1) := dk_96 (dk_at dksX8_outOf_0 18 rfl rfl)
theorem dX8_outOf_19 : decode cX8_outOf 19 = .ok (.iaload, 1) := dk_46 (dk_at dksX8_outOf_0 19 rfl rfl)
theorem dX8_outOf_20 : decode cX8_outOf 20 = .ok (.istore 4, 2) := dk_54 4 (dk_at dksX8_outOf_0 20 rfl rfl)
theorem dX8_outOf_22 : decode cX8_outOf 22 = .ok (.aload_n 0, 1) := dk_42 (dk_at dksX8_outOf_0 22 rfl rfl)
theorem dX8_outOf_23 : decode cX8_outOf 23 = .ok (.getfield 7, 3) := dk_180 0 7 (dk_at dksX8_outOf_1 0 rfl rfl)
theorem dX8_outOf_26 : decode cX8_outOf 26 = .ok (.iload_n 1, 1) := dk_27 (dk_at dksX8_outOf_1 3 rfl rfl)
theorem dX8_outOf_27 : decode cX8_outOf 27 = .ok (.iconst 4, 1) := dk_7 (dk_at dksX8_outOf_1 4 rfl rfl)
theorem dX8_outOf_28 : decode cX8_outOf 28 = .ok (.iadd, 1) := dk_96 (dk_at dksX8_outOf_1 5 rfl rfl)
theorem dX8_outOf_29 : decode cX8_outOf 29 = .ok (.iload_n 2, 1) := dk_28 (dk_at dksX8_outOf_1 6 rfl rfl)
theorem dX8_outOf_30 : decode cX8_outOf 30 = .ok (.iadd, 1) := dk_96 (dk_at dksX8_outOf_1 7 rfl rfl)
theorem dX8_outOf_31 : decode cX8_outOf 31 = .ok (.iaload, 1) := dk_46 (dk_at dksX8_outOf_1 8 rfl rfl)
theorem dX8_outOf_32 : decode cX8_outOf 32 = .ok (.tableswitch 126 1 4 #[32, 39, 46, 72], 32) := by decide +kernel
theorem dX8_outOf_64 : decode cX8_outOf 64 = .ok (.iload_n 3, 1) := dk_29 (dk_at dksX8_outOf_3 0 rfl rfl)
theorem dX8_outOf_65 : decode cX8_outOf 65 = .ok (.iload 4, 2) := dk_21 4 (dk_at dksX8_outOf_3 1 rfl rfl)
theorem dX8_outOf_67 : decode cX8_outOf 67 = .ok (.invokestatic 65, 3) := dk_184 0 65 (dk_at dksX8_outOf_3 3 rfl rfl)
theorem dX8_outOf_70 : decode cX8_outOf 70 = .ok (.ireturn, 1) := dk_172 (dk_at dksX8_outOf_3 6 rfl rfl)
theorem dX8_outOf_71 : decode cX8_outOf 71 = .ok (.iload_n 3, 1) := dk_29 (dk_at dksX8_outOf_3 7 rfl rfl)
theorem dX8_outOf_72 : decode cX8_outOf 72 = .ok (.iload 4, 2) := dk_21 4 (dk_at dksX8_outOf_3 8 rfl rfl)
theorem dX8_outOf_74 : decode cX8_outOf 74 = .ok (.invokestatic 68, 3) := dk_184 0 68 (dk_at dksX8_outOf_3 10 rfl rfl)
theorem dX8_outOf_77 : decode cX8_outOf 77 = .ok (.ireturn, 1) := dk_172 (dk_at dksX8_outOf_3 13 rfl rfl)
theorem dX8_outOf_78 : decode cX8_outOf 78 = .ok (.iload 4, 2) := dk_21 4 (dk_at dksX8_outOf_3 14 rfl rfl)
theorem dX8_outOf_80 : decode cX8_outOf 80 = .ok (.i2l, 1) := dk_133 (dk_at dksX8_outOf_3 16 rfl rfl)
theorem dX8_outOf_81 : decode cX8_outOf 81 = .ok (.ldc2_w 71, 3) := dk_20 0 71 (dk_at dksX8_outOf_3 17 rfl rfl)
theorem dX8_outOf_84 : decode cX8_outOf 84 = .ok (.ldc2_w 73, 3) := dk_20 0 73 (dk_at dksX8_outOf_3 20 rfl rfl)
theorem dX8_outOf_87 : decode cX8_outOf 87 = .ok (.invokestatic 49, 3) := dk_184 0 49 (dk_at dksX8_outOf_4 0 rfl rfl)
theorem dX8_outOf_90 : decode cX8_outOf 90 = .ok (.ifCond .eq 7, 3) := dk_153 0 7 (dk_at dksX8_outOf_4 3 rfl rfl)
theorem dX8_outOf_93 : decode cX8_outOf 93 = .ok (.iconst 0, 1) := dk_3 (dk_at dksX8_outOf_4 6 rfl rfl)
theorem dX8_outOf_94 : decode cX8_outOf 94 = .ok (.goto 9, 3) := dk_167 0 9 (dk_at dksX8_outOf_4 7 rfl rfl)
theorem dX8_outOf_97 : decode cX8_outOf 97 = .ok (.iload_n 3, 1) := dk_29 (dk_at dksX8_outOf_4 10 rfl rfl)
theorem dX8_outOf_98 : decode cX8_outOf 98 = .ok (.iload 4, 2) := dk_21 4 (dk_at dksX8_outOf_4 11 rfl rfl)
theorem dX8_outOf_100 : decode cX8_outOf 100 = .ok (.invokestatic 68, 3) := dk_184 0 68 (dk_at dksX8_outOf_4 13 rfl rfl)
theorem dX8_outOf_103 : decode cX8_outOf 103 = .ok (.ireturn, 1) := dk_172 (dk_at dksX8_outOf_4 16 rfl rfl)
theorem dX8_outOf_104 : decode cX8_outOf 104 = .ok (.iload_n 3, 1) := dk_29 (dk_at dksX8_outOf_4 17 rfl rfl)
theorem dX8_outOf_105 : decode cX8_outOf 105 = .ok (.iload_n 2, 1) := dk_28 (dk_at dksX8_outOf_4 18 rfl rfl)
theorem dX8_outOf_106 : decode cX8_outOf 106 = .ok (.ifCond .le 18, 3) := dk_158 0 18 (dk_at dksX8_outOf_4 19 rfl rfl)
theorem dX8_outOf_109 : decode cX8_outOf 109 = .ok (.aload_n 0, 1) := dk_42 (dk_at dksX8_outOf_4 22 rfl rfl)
theorem dX8_outOf_110 : decode cX8_outOf 110 = .ok (.iload_n 1, 1) := dk_27 (dk_at dksX8_outOf_4 23 rfl rfl)
theorem dX8_outOf_111 : decode cX8_outOf 111 = .ok (.iload_n 2, 1) := dk_28 (dk_at dksX8_outOf_5 0 rfl rfl)
theorem dX8_outOf_112 : decode cX8_outOf 112 = .ok (.iconst 1, 1) := dk_4 (dk_at dksX8_outOf_5 1 rfl rfl)
theorem dX8_outOf_113 : decode cX8_outOf 113 = .ok (.isub, 1) := dk_100 (dk_at dksX8_outOf_5 2 rfl rfl)
theorem dX8_outOf_114 : decode cX8_outOf 114 = .ok (.invokevirtual 53, 3) := dk_182 0 53 (dk_at dksX8_outOf_5 3 rfl rfl)
theorem dX8_outOf_117 : decode cX8_outOf 117 = .ok (.ifCond .ne 7, 3) := dk_154 0 7 (dk_at dksX8_outOf_5 6 rfl rfl)
theorem dX8_outOf_120 : decode cX8_outOf 120 = .ok (.iconst 1, 1) := dk_4 (dk_at dksX8_outOf_5 9 rfl rfl)
theorem dX8_outOf_121 : decode cX8_outOf 121 = .ok (.goto 4, 3) := dk_167 0 4 (dk_at dksX8_outOf_5 10 rfl rfl)
theorem dX8_outOf_124 : decode cX8_outOf 124 = .ok (.iconst 0, 1) := dk_3 (dk_at dksX8_outOf_5 13 rfl rfl)
theorem dX8_outOf_125 : decode cX8_outOf 125 = .ok (.iadd, 1) := dk_96 (dk_at dksX8_outOf_5 14 rfl rfl)
theorem dX8_outOf_126 : decode cX8_outOf 126 = .ok (.iload_n 2, 1) := dk_28 (dk_at dksX8_outOf_5 15 rfl rfl)
theorem dX8_outOf_127 : decode cX8_outOf 127 = .ok (.iconst 1, 1) := dk_4 (dk_at dksX8_outOf_5 16 rfl rfl)
theorem dX8_outOf_128 : decode cX8_outOf 128 = .ok (.iadd, 1) := dk_96 (dk_at dksX8_outOf_5 17 rfl rfl)
theorem dX8_outOf_129 : decode cX8_outOf 129 = .ok (.aload_n 0, 1) := dk_42 (dk_at dksX8_outOf_5 18 rfl rfl)
theorem dX8_outOf_130 : decode cX8_outOf 130 = .ok (.getfield 7, 3) := dk_180 0 7 (dk_at dksX8_outOf_5 19 rfl rfl)
theorem dX8_outOf_133 : decode cX8_outOf 133 = .ok (.iload_n 1, 1) := dk_27 (dk_at dksX8_outOf_5 22 rfl rfl)
theorem dX8_outOf_134 : decode cX8_outOf 134 = .ok (.iconst 0, 1) := dk_3 (dk_at dksX8_outOf_5 23 rfl rfl)
theorem dX8_outOf_135 : decode cX8_outOf 135 = .ok (.iadd, 1) := dk_96 (dk_at dksX8_outOf_6 0 rfl rfl)
theorem dX8_outOf_136 : decode cX8_outOf 136 = .ok (.iaload, 1) := dk_46 (dk_at dksX8_outOf_6 1 rfl rfl)
theorem dX8_outOf_137 : decode cX8_outOf 137 = .ok (.if_icmp .ge 18, 3) := dk_162 0 18 (dk_at dksX8_outOf_6 2 rfl rfl)
theorem dX8_outOf_140 : decode cX8_outOf 140 = .ok (.aload_n 0, 1) := dk_42 (dk_at dksX8_outOf_6 5 rfl rfl)
theorem dX8_outOf_141 : decode cX8_outOf 141 = .ok (.iload_n 1, 1) := dk_27 (dk_at dksX8_outOf_6 6 rfl rfl)
theorem dX8_outOf_142 : decode cX8_outOf 142 = .ok (.iload_n 2, 1) := dk_28 (dk_at dksX8_outOf_6 7 rfl rfl)
theorem dX8_outOf_143 : decode cX8_outOf 143 = .ok (.iconst 1, 1) := dk_4 (dk_at dksX8_outOf_6 8 rfl rfl)
theorem dX8_outOf_144 : decode cX8_outOf 144 = .ok (.iadd, 1) := dk_96 (dk_at dksX8_outOf_6 9 rfl rfl)
theorem dX8_outOf_145 : decode cX8_outOf 145 = .ok (.invokevirtual 53, 3) := dk_182 0 53 (dk_at dksX8_outOf_6 10 rfl rfl)
theorem dX8_outOf_148 : decode cX8_outOf 148 = .ok (.ifCond .ne 7, 3) := dk_154 0 7 (dk_at dksX8_outOf_6 13 rfl rfl)
theorem dX8_outOf_151 : decode cX8_outOf 151 = .ok (.iconst 1, 1) := dk_4 (dk_at dksX8_outOf_6 16 rfl rfl)
theorem dX8_outOf_152 : decode cX8_outOf 152 = .ok (.goto 4, 3) := dk_167 0 4 (dk_at dksX8_outOf_6 17 rfl rfl)
theorem dX8_outOf_155 : decode cX8_outOf 155 = .ok (.iconst 0, 1) := dk_3 (dk_at dksX8_outOf_6 20 rfl rfl)
theorem dX8_outOf_156 : decode cX8_outOf 156 = .ok (.iadd, 1) := dk_96 (dk_at dksX8_outOf_6 21 rfl rfl)
theorem dX8_outOf_157 : decode cX8_outOf 157 = .ok (.ireturn, 1) := dk_172 (dk_at dksX8_outOf_6 22 rfl rfl)
theorem dX8_outOf_158 : decode cX8_outOf 158 = .ok (.iload_n 3, 1) := dk_29 (dk_at dksX8_outOf_6 23 rfl rfl)
theorem dX8_outOf_159 : decode cX8_outOf 159 = .ok (.ireturn, 1) := dk_172 (dk_at dksX8_outOf_7 0 rfl rfl)
abbrev cX8_stout : ByteArray := prog_13_method_15_code
def yX8_stout : MethodName := ⟨RX8, "stout", "(II)I"⟩
def dkwX8_stout_0 : List UInt8 := [27, 133, 20, 0, 75, 20, 0, 77, 184, 0, 49, 153, 0, 7, 26, 167, 0, 6, 5, 26, 104, 172]
abbrev dktX8_stout_0 : List UInt8 := dkwX8_stout_0 ++ []
theorem dksX8_stout_0 : cX8_stout.data.toList.drop 0 = dktX8_stout_0 := by decide +kernel
theorem dX8_stout_0 : decode cX8_stout 0 = .ok (.iload_n 1, 1) := dk_27 (dk_at dksX8_stout_0 0 rfl rfl)
theorem dX8_stout_1 : decode cX8_stout 1 = .ok (.i2l, 1) := dk_133 (dk_at dksX8_stout_0 1 rfl rfl)
theorem dX8_stout_2 : decode cX8_stout 2 = .ok (.ldc2_w 75, 3) := dk_20 0 75 (dk_at dksX8_stout_0 2 rfl rfl)
theorem dX8_stout_5 : decode cX8_stout 5 = .ok (.ldc2_w 77, 3) := dk_20 0 77 (dk_at dksX8_stout_0 5 rfl rfl)
theorem dX8_stout_8 : decode cX8_stout 8 = .ok (.invokestatic 49, 3) := dk_184 0 49 (dk_at dksX8_stout_0 8 rfl rfl)
theorem dX8_stout_11 : decode cX8_stout 11 = .ok (.ifCond .eq 7, 3) := dk_153 0 7 (dk_at dksX8_stout_0 11 rfl rfl)
theorem dX8_stout_14 : decode cX8_stout 14 = .ok (.iload_n 0, 1) := dk_26 (dk_at dksX8_stout_0 14 rfl rfl)
theorem dX8_stout_15 : decode cX8_stout 15 = .ok (.goto 6, 3) := dk_167 0 6 (dk_at dksX8_stout_0 15 rfl rfl)
theorem dX8_stout_18 : decode cX8_stout 18 = .ok (.iconst 2, 1) := dk_5 (dk_at dksX8_stout_0 18 rfl rfl)
theorem dX8_stout_19 : decode cX8_stout 19 = .ok (.iload_n 0, 1) := dk_26 (dk_at dksX8_stout_0 19 rfl rfl)
theorem dX8_stout_20 : decode cX8_stout 20 = .ok (.imul, 1) := dk_104 (dk_at dksX8_stout_0 20 rfl rfl)
theorem dX8_stout_21 : decode cX8_stout 21 = .ok (.ireturn, 1) := dk_172 (dk_at dksX8_stout_0 21 rfl rfl)
abbrev cX8_parson : ByteArray := prog_13_method_16_code
def yX8_parson : MethodName := ⟨RX8, "parson", "(II)I"⟩
def dkwX8_parson_1 : List UInt8 := [28, 5, 162, 0, 7, 3, 167, 0, 6, 28, 5, 100, 172]
abbrev dktX8_parson_1 : List UInt8 := dkwX8_parson_1 ++ []
def dkwX8_parson_0 : List UInt8 := [26, 27, 184, 0, 65, 61, 27, 133, 20, 0, 79, 20, 0, 81, 184, 0, 49, 154, 0, 7, 28, 167, 0, 15]
abbrev dktX8_parson_0 : List UInt8 := dkwX8_parson_0 ++ dktX8_parson_1
theorem dksX8_parson_0 : cX8_parson.data.toList.drop 0 = dktX8_parson_0 := by decide +kernel
theorem dksX8_parson_1 : cX8_parson.data.toList.drop 24 = dktX8_parson_1 := dk_seg dksX8_parson_0 24 rfl rfl
theorem dX8_parson_0 : decode cX8_parson 0 = .ok (.iload_n 0, 1) := dk_26 (dk_at dksX8_parson_0 0 rfl rfl)
theorem dX8_parson_1 : decode cX8_parson 1 = .ok (.iload_n 1, 1) := dk_27 (dk_at dksX8_parson_0 1 rfl rfl)
theorem dX8_parson_2 : decode cX8_parson 2 = .ok (.invokestatic 65, 3) := dk_184 0 65 (dk_at dksX8_parson_0 2 rfl rfl)
theorem dX8_parson_5 : decode cX8_parson 5 = .ok (.istore_n 2, 1) := dk_61 (dk_at dksX8_parson_0 5 rfl rfl)
theorem dX8_parson_6 : decode cX8_parson 6 = .ok (.iload_n 1, 1) := dk_27 (dk_at dksX8_parson_0 6 rfl rfl)
theorem dX8_parson_7 : decode cX8_parson 7 = .ok (.i2l, 1) := dk_133 (dk_at dksX8_parson_0 7 rfl rfl)
theorem dX8_parson_8 : decode cX8_parson 8 = .ok (.ldc2_w 79, 3) := dk_20 0 79 (dk_at dksX8_parson_0 8 rfl rfl)
theorem dX8_parson_11 : decode cX8_parson 11 = .ok (.ldc2_w 81, 3) := dk_20 0 81 (dk_at dksX8_parson_0 11 rfl rfl)
theorem dX8_parson_14 : decode cX8_parson 14 = .ok (.invokestatic 49, 3) := dk_184 0 49 (dk_at dksX8_parson_0 14 rfl rfl)
theorem dX8_parson_17 : decode cX8_parson 17 = .ok (.ifCond .ne 7, 3) := dk_154 0 7 (dk_at dksX8_parson_0 17 rfl rfl)
theorem dX8_parson_20 : decode cX8_parson 20 = .ok (.iload_n 2, 1) := dk_28 (dk_at dksX8_parson_0 20 rfl rfl)
theorem dX8_parson_21 : decode cX8_parson 21 = .ok (.goto 15, 3) := dk_167 0 15 (dk_at dksX8_parson_0 21 rfl rfl)
theorem dX8_parson_24 : decode cX8_parson 24 = .ok (.iload_n 2, 1) := dk_28 (dk_at dksX8_parson_1 0 rfl rfl)
theorem dX8_parson_25 : decode cX8_parson 25 = .ok (.iconst 2, 1) := dk_5 (dk_at dksX8_parson_1 1 rfl rfl)
theorem dX8_parson_26 : decode cX8_parson 26 = .ok (.if_icmp .ge 7, 3) := dk_162 0 7 (dk_at dksX8_parson_1 2 rfl rfl)
theorem dX8_parson_29 : decode cX8_parson 29 = .ok (.iconst 0, 1) := dk_3 (dk_at dksX8_parson_1 5 rfl rfl)
theorem dX8_parson_30 : decode cX8_parson 30 = .ok (.goto 6, 3) := dk_167 0 6 (dk_at dksX8_parson_1 6 rfl rfl)
theorem dX8_parson_33 : decode cX8_parson 33 = .ok (.iload_n 2, 1) := dk_28 (dk_at dksX8_parson_1 9 rfl rfl)
theorem dX8_parson_34 : decode cX8_parson 34 = .ok (.iconst 2, 1) := dk_5 (dk_at dksX8_parson_1 10 rfl rfl)
theorem dX8_parson_35 : decode cX8_parson 35 = .ok (.isub, 1) := dk_100 (dk_at dksX8_parson_1 11 rfl rfl)
theorem dX8_parson_36 : decode cX8_parson 36 = .ok (.ireturn, 1) := dk_172 (dk_at dksX8_parson_1 12 rfl rfl)
abbrev cX8_person : ByteArray := prog_13_method_32_code
def yX8_person : MethodName := ⟨RX8, "person", "(IIIII)I"⟩
def dkwX8_person_8 : List UInt8 := [16, 60, 3, 79, 42, 3, 182, 0, 165, 21, 6, 172]
abbrev dktX8_person_8 : List UInt8 := dkwX8_person_8 ++ []
def dkwX8_person_7 : List UInt8 := [16, 52, 21, 6, 96, 4, 100, 3, 79, 42, 180, 0, 7, 3, 92, 46, 4, 96, 79, 42, 180, 0, 7]
abbrev dktX8_person_7 : List UInt8 := dkwX8_person_7 ++ dktX8_person_8
def dkwX8_person_6 : List UInt8 := [4, 100, 21, 4, 79, 42, 180, 0, 7, 16, 44, 21, 6, 96, 4, 100, 21, 5, 79, 42, 180, 0, 7]
abbrev dktX8_person_6 : List UInt8 := dkwX8_person_6 ++ dktX8_person_7
def dkwX8_person_5 : List UInt8 := [180, 0, 7, 16, 28, 21, 6, 96, 29, 79, 21, 6, 158, 0, 44, 42, 180, 0, 7, 16, 36, 21, 6, 96]
abbrev dktX8_person_5 : List UInt8 := dkwX8_person_5 ++ dktX8_person_6
def dkwX8_person_4 : List UInt8 := [180, 0, 7, 16, 12, 21, 6, 96, 28, 79, 42, 180, 0, 7, 16, 20, 21, 6, 96, 4, 79, 42]
abbrev dktX8_person_4 : List UInt8 := dkwX8_person_4 ++ dktX8_person_5
def dkwX8_person_3 : List UInt8 := [54, 6, 21, 6, 16, 8, 160, 0, 6, 16, 253, 172, 42, 180, 0, 7, 7, 21, 6, 96, 27, 79, 42]
abbrev dktX8_person_3 : List UInt8 := dkwX8_person_3 ++ dktX8_person_4
def dkwX8_person_2 : List UInt8 := [153, 0, 16, 21, 5, 133, 10, 20, 0, 79, 184, 0, 49, 154, 0, 5, 2, 172, 42, 180, 0, 7, 3, 46]
abbrev dktX8_person_2 : List UInt8 := dkwX8_person_2 ++ dktX8_person_3
def dkwX8_person_1 : List UInt8 := [29, 133, 9, 20, 0, 172, 184, 0, 49, 153, 0, 29, 21, 4, 133, 10, 20, 0, 174, 184, 0, 49]
abbrev dktX8_person_1 : List UInt8 := dkwX8_person_1 ++ dktX8_person_2
def dkwX8_person_0 : List UInt8 := [27, 133, 9, 20, 0, 168, 184, 0, 49, 153, 0, 53, 28, 133, 10, 20, 0, 170, 184, 0, 49, 153, 0, 41]
abbrev dktX8_person_0 : List UInt8 := dkwX8_person_0 ++ dktX8_person_1
theorem dksX8_person_0 : cX8_person.data.toList.drop 0 = dktX8_person_0 := by decide +kernel
theorem dksX8_person_1 : cX8_person.data.toList.drop 24 = dktX8_person_1 := dk_seg dksX8_person_0 24 rfl rfl
theorem dksX8_person_2 : cX8_person.data.toList.drop 46 = dktX8_person_2 := dk_seg dksX8_person_1 22 rfl rfl
theorem dksX8_person_3 : cX8_person.data.toList.drop 70 = dktX8_person_3 := dk_seg dksX8_person_2 24 rfl rfl
theorem dksX8_person_4 : cX8_person.data.toList.drop 93 = dktX8_person_4 := dk_seg dksX8_person_3 23 rfl rfl
theorem dksX8_person_5 : cX8_person.data.toList.drop 115 = dktX8_person_5 := dk_seg dksX8_person_4 22 rfl rfl
theorem dksX8_person_6 : cX8_person.data.toList.drop 139 = dktX8_person_6 := dk_seg dksX8_person_5 24 rfl rfl
theorem dksX8_person_7 : cX8_person.data.toList.drop 162 = dktX8_person_7 := dk_seg dksX8_person_6 23 rfl rfl
theorem dksX8_person_8 : cX8_person.data.toList.drop 185 = dktX8_person_8 := dk_seg dksX8_person_7 23 rfl rfl
theorem dX8_person_0 : decode cX8_person 0 = .ok (.iload_n 1, 1) := dk_27 (dk_at dksX8_person_0 0 rfl rfl)
theorem dX8_person_1 : decode cX8_person 1 = .ok (.i2l, 1) := dk_133 (dk_at dksX8_person_0 1 rfl rfl)
theorem dX8_person_2 : decode cX8_person 2 = .ok (.lconst 0, 1) := dk_9 (dk_at dksX8_person_0 2 rfl rfl)
theorem dX8_person_3 : decode cX8_person 3 = .ok (.ldc2_w 168, 3) := dk_20 0 168 (dk_at dksX8_person_0 3 rfl rfl)
theorem dX8_person_6 : decode cX8_person 6 = .ok (.invokestatic 49, 3) := dk_184 0 49 (dk_at dksX8_person_0 6 rfl rfl)
theorem dX8_person_9 : decode cX8_person 9 = .ok (.ifCond .eq 53, 3) := dk_153 0 53 (dk_at dksX8_person_0 9 rfl rfl)
theorem dX8_person_12 : decode cX8_person 12 = .ok (.iload_n 2, 1) := dk_28 (dk_at dksX8_person_0 12 rfl rfl)
theorem dX8_person_13 : decode cX8_person 13 = .ok (.i2l, 1) := dk_133 (dk_at dksX8_person_0 13 rfl rfl)
theorem dX8_person_14 : decode cX8_person 14 = .ok (.lconst 1, 1) := dk_10 (dk_at dksX8_person_0 14 rfl rfl)
theorem dX8_person_15 : decode cX8_person 15 = .ok (.ldc2_w 170, 3) := dk_20 0 170 (dk_at dksX8_person_0 15 rfl rfl)
theorem dX8_person_18 : decode cX8_person 18 = .ok (.invokestatic 49, 3) := dk_184 0 49 (dk_at dksX8_person_0 18 rfl rfl)
theorem dX8_person_21 : decode cX8_person 21 = .ok (.ifCond .eq 41, 3) := dk_153 0 41 (dk_at dksX8_person_0 21 rfl rfl)
theorem dX8_person_24 : decode cX8_person 24 = .ok (.iload_n 3, 1) := dk_29 (dk_at dksX8_person_1 0 rfl rfl)
theorem dX8_person_25 : decode cX8_person 25 = .ok (.i2l, 1) := dk_133 (dk_at dksX8_person_1 1 rfl rfl)
theorem dX8_person_26 : decode cX8_person 26 = .ok (.lconst 0, 1) := dk_9 (dk_at dksX8_person_1 2 rfl rfl)
theorem dX8_person_27 : decode cX8_person 27 = .ok (.ldc2_w 172, 3) := dk_20 0 172 (dk_at dksX8_person_1 3 rfl rfl)
theorem dX8_person_30 : decode cX8_person 30 = .ok (.invokestatic 49, 3) := dk_184 0 49 (dk_at dksX8_person_1 6 rfl rfl)
theorem dX8_person_33 : decode cX8_person 33 = .ok (.ifCond .eq 29, 3) := dk_153 0 29 (dk_at dksX8_person_1 9 rfl rfl)
theorem dX8_person_36 : decode cX8_person 36 = .ok (.iload 4, 2) := dk_21 4 (dk_at dksX8_person_1 12 rfl rfl)
theorem dX8_person_38 : decode cX8_person 38 = .ok (.i2l, 1) := dk_133 (dk_at dksX8_person_1 14 rfl rfl)
theorem dX8_person_39 : decode cX8_person 39 = .ok (.lconst 1, 1) := dk_10 (dk_at dksX8_person_1 15 rfl rfl)
theorem dX8_person_40 : decode cX8_person 40 = .ok (.ldc2_w 174, 3) := dk_20 0 174 (dk_at dksX8_person_1 16 rfl rfl)
theorem dX8_person_43 : decode cX8_person 43 = .ok (.invokestatic 49, 3) := dk_184 0 49 (dk_at dksX8_person_1 19 rfl rfl)
theorem dX8_person_46 : decode cX8_person 46 = .ok (.ifCond .eq 16, 3) := dk_153 0 16 (dk_at dksX8_person_2 0 rfl rfl)
theorem dX8_person_49 : decode cX8_person 49 = .ok (.iload 5, 2) := dk_21 5 (dk_at dksX8_person_2 3 rfl rfl)
theorem dX8_person_51 : decode cX8_person 51 = .ok (.i2l, 1) := dk_133 (dk_at dksX8_person_2 5 rfl rfl)
theorem dX8_person_52 : decode cX8_person 52 = .ok (.lconst 1, 1) := dk_10 (dk_at dksX8_person_2 6 rfl rfl)
theorem dX8_person_53 : decode cX8_person 53 = .ok (.ldc2_w 79, 3) := dk_20 0 79 (dk_at dksX8_person_2 7 rfl rfl)
theorem dX8_person_56 : decode cX8_person 56 = .ok (.invokestatic 49, 3) := dk_184 0 49 (dk_at dksX8_person_2 10 rfl rfl)
theorem dX8_person_59 : decode cX8_person 59 = .ok (.ifCond .ne 5, 3) := dk_154 0 5 (dk_at dksX8_person_2 13 rfl rfl)
theorem dX8_person_62 : decode cX8_person 62 = .ok (.iconst (-1), 1) := dk_2 (dk_at dksX8_person_2 16 rfl rfl)
theorem dX8_person_63 : decode cX8_person 63 = .ok (.ireturn, 1) := dk_172 (dk_at dksX8_person_2 17 rfl rfl)
theorem dX8_person_64 : decode cX8_person 64 = .ok (.aload_n 0, 1) := dk_42 (dk_at dksX8_person_2 18 rfl rfl)
theorem dX8_person_65 : decode cX8_person 65 = .ok (.getfield 7, 3) := dk_180 0 7 (dk_at dksX8_person_2 19 rfl rfl)
theorem dX8_person_68 : decode cX8_person 68 = .ok (.iconst 0, 1) := dk_3 (dk_at dksX8_person_2 22 rfl rfl)
theorem dX8_person_69 : decode cX8_person 69 = .ok (.iaload, 1) := dk_46 (dk_at dksX8_person_2 23 rfl rfl)
theorem dX8_person_70 : decode cX8_person 70 = .ok (.istore 6, 2) := dk_54 6 (dk_at dksX8_person_3 0 rfl rfl)
theorem dX8_person_72 : decode cX8_person 72 = .ok (.iload 6, 2) := dk_21 6 (dk_at dksX8_person_3 2 rfl rfl)
theorem dX8_person_74 : decode cX8_person 74 = .ok (.bipush 8, 2) := dk_16 8 (dk_at dksX8_person_3 4 rfl rfl)
theorem dX8_person_76 : decode cX8_person 76 = .ok (.if_icmp .ne 6, 3) := dk_160 0 6 (dk_at dksX8_person_3 6 rfl rfl)
theorem dX8_person_79 : decode cX8_person 79 = .ok (.bipush (-3), 2) := dk_16 253 (dk_at dksX8_person_3 9 rfl rfl)
theorem dX8_person_81 : decode cX8_person 81 = .ok (.ireturn, 1) := dk_172 (dk_at dksX8_person_3 11 rfl rfl)
theorem dX8_person_82 : decode cX8_person 82 = .ok (.aload_n 0, 1) := dk_42 (dk_at dksX8_person_3 12 rfl rfl)
theorem dX8_person_83 : decode cX8_person 83 = .ok (.getfield 7, 3) := dk_180 0 7 (dk_at dksX8_person_3 13 rfl rfl)
theorem dX8_person_86 : decode cX8_person 86 = .ok (.iconst 4, 1) := dk_7 (dk_at dksX8_person_3 16 rfl rfl)
theorem dX8_person_87 : decode cX8_person 87 = .ok (.iload 6, 2) := dk_21 6 (dk_at dksX8_person_3 17 rfl rfl)
theorem dX8_person_89 : decode cX8_person 89 = .ok (.iadd, 1) := dk_96 (dk_at dksX8_person_3 19 rfl rfl)
theorem dX8_person_90 : decode cX8_person 90 = .ok (.iload_n 1, 1) := dk_27 (dk_at dksX8_person_3 20 rfl rfl)
theorem dX8_person_91 : decode cX8_person 91 = .ok (.iastore, 1) := dk_79 (dk_at dksX8_person_3 21 rfl rfl)
theorem dX8_person_92 : decode cX8_person 92 = .ok (.aload_n 0, 1) := dk_42 (dk_at dksX8_person_3 22 rfl rfl)
theorem dX8_person_93 : decode cX8_person 93 = .ok (.getfield 7, 3) := dk_180 0 7 (dk_at dksX8_person_4 0 rfl rfl)
theorem dX8_person_96 : decode cX8_person 96 = .ok (.bipush 12, 2) := dk_16 12 (dk_at dksX8_person_4 3 rfl rfl)
theorem dX8_person_98 : decode cX8_person 98 = .ok (.iload 6, 2) := dk_21 6 (dk_at dksX8_person_4 5 rfl rfl)
theorem dX8_person_100 : decode cX8_person 100 = .ok (.iadd, 1) := dk_96 (dk_at dksX8_person_4 7 rfl rfl)
theorem dX8_person_101 : decode cX8_person 101 = .ok (.iload_n 2, 1) := dk_28 (dk_at dksX8_person_4 8 rfl rfl)
theorem dX8_person_102 : decode cX8_person 102 = .ok (.iastore, 1) := dk_79 (dk_at dksX8_person_4 9 rfl rfl)
theorem dX8_person_103 : decode cX8_person 103 = .ok (.aload_n 0, 1) := dk_42 (dk_at dksX8_person_4 10 rfl rfl)
theorem dX8_person_104 : decode cX8_person 104 = .ok (.getfield 7, 3) := dk_180 0 7 (dk_at dksX8_person_4 11 rfl rfl)
theorem dX8_person_107 : decode cX8_person 107 = .ok (.bipush 20, 2) := dk_16 20 (dk_at dksX8_person_4 14 rfl rfl)
theorem dX8_person_109 : decode cX8_person 109 = .ok (.iload 6, 2) := dk_21 6 (dk_at dksX8_person_4 16 rfl rfl)
theorem dX8_person_111 : decode cX8_person 111 = .ok (.iadd, 1) := dk_96 (dk_at dksX8_person_4 18 rfl rfl)
theorem dX8_person_112 : decode cX8_person 112 = .ok (.iconst 1, 1) := dk_4 (dk_at dksX8_person_4 19 rfl rfl)
theorem dX8_person_113 : decode cX8_person 113 = .ok (.iastore, 1) := dk_79 (dk_at dksX8_person_4 20 rfl rfl)
theorem dX8_person_114 : decode cX8_person 114 = .ok (.aload_n 0, 1) := dk_42 (dk_at dksX8_person_4 21 rfl rfl)
theorem dX8_person_115 : decode cX8_person 115 = .ok (.getfield 7, 3) := dk_180 0 7 (dk_at dksX8_person_5 0 rfl rfl)
theorem dX8_person_118 : decode cX8_person 118 = .ok (.bipush 28, 2) := dk_16 28 (dk_at dksX8_person_5 3 rfl rfl)
theorem dX8_person_120 : decode cX8_person 120 = .ok (.iload 6, 2) := dk_21 6 (dk_at dksX8_person_5 5 rfl rfl)
theorem dX8_person_122 : decode cX8_person 122 = .ok (.iadd, 1) := dk_96 (dk_at dksX8_person_5 7 rfl rfl)
theorem dX8_person_123 : decode cX8_person 123 = .ok (.iload_n 3, 1) := dk_29 (dk_at dksX8_person_5 8 rfl rfl)
theorem dX8_person_124 : decode cX8_person 124 = .ok (.iastore, 1) := dk_79 (dk_at dksX8_person_5 9 rfl rfl)
theorem dX8_person_125 : decode cX8_person 125 = .ok (.iload 6, 2) := dk_21 6 (dk_at dksX8_person_5 10 rfl rfl)
theorem dX8_person_127 : decode cX8_person 127 = .ok (.ifCond .le 44, 3) := dk_158 0 44 (dk_at dksX8_person_5 12 rfl rfl)
theorem dX8_person_130 : decode cX8_person 130 = .ok (.aload_n 0, 1) := dk_42 (dk_at dksX8_person_5 15 rfl rfl)
theorem dX8_person_131 : decode cX8_person 131 = .ok (.getfield 7, 3) := dk_180 0 7 (dk_at dksX8_person_5 16 rfl rfl)
theorem dX8_person_134 : decode cX8_person 134 = .ok (.bipush 36, 2) := dk_16 36 (dk_at dksX8_person_5 19 rfl rfl)
theorem dX8_person_136 : decode cX8_person 136 = .ok (.iload 6, 2) := dk_21 6 (dk_at dksX8_person_5 21 rfl rfl)
theorem dX8_person_138 : decode cX8_person 138 = .ok (.iadd, 1) := dk_96 (dk_at dksX8_person_5 23 rfl rfl)
theorem dX8_person_139 : decode cX8_person 139 = .ok (.iconst 1, 1) := dk_4 (dk_at dksX8_person_6 0 rfl rfl)
theorem dX8_person_140 : decode cX8_person 140 = .ok (.isub, 1) := dk_100 (dk_at dksX8_person_6 1 rfl rfl)
theorem dX8_person_141 : decode cX8_person 141 = .ok (.iload 4, 2) := dk_21 4 (dk_at dksX8_person_6 2 rfl rfl)
theorem dX8_person_143 : decode cX8_person 143 = .ok (.iastore, 1) := dk_79 (dk_at dksX8_person_6 4 rfl rfl)
theorem dX8_person_144 : decode cX8_person 144 = .ok (.aload_n 0, 1) := dk_42 (dk_at dksX8_person_6 5 rfl rfl)
theorem dX8_person_145 : decode cX8_person 145 = .ok (.getfield 7, 3) := dk_180 0 7 (dk_at dksX8_person_6 6 rfl rfl)
theorem dX8_person_148 : decode cX8_person 148 = .ok (.bipush 44, 2) := dk_16 44 (dk_at dksX8_person_6 9 rfl rfl)
theorem dX8_person_150 : decode cX8_person 150 = .ok (.iload 6, 2) := dk_21 6 (dk_at dksX8_person_6 11 rfl rfl)
theorem dX8_person_152 : decode cX8_person 152 = .ok (.iadd, 1) := dk_96 (dk_at dksX8_person_6 13 rfl rfl)
theorem dX8_person_153 : decode cX8_person 153 = .ok (.iconst 1, 1) := dk_4 (dk_at dksX8_person_6 14 rfl rfl)
theorem dX8_person_154 : decode cX8_person 154 = .ok (.isub, 1) := dk_100 (dk_at dksX8_person_6 15 rfl rfl)
theorem dX8_person_155 : decode cX8_person 155 = .ok (.iload 5, 2) := dk_21 5 (dk_at dksX8_person_6 16 rfl rfl)
theorem dX8_person_157 : decode cX8_person 157 = .ok (.iastore, 1) := dk_79 (dk_at dksX8_person_6 18 rfl rfl)
theorem dX8_person_158 : decode cX8_person 158 = .ok (.aload_n 0, 1) := dk_42 (dk_at dksX8_person_6 19 rfl rfl)
theorem dX8_person_159 : decode cX8_person 159 = .ok (.getfield 7, 3) := dk_180 0 7 (dk_at dksX8_person_6 20 rfl rfl)
theorem dX8_person_162 : decode cX8_person 162 = .ok (.bipush 52, 2) := dk_16 52 (dk_at dksX8_person_7 0 rfl rfl)
theorem dX8_person_164 : decode cX8_person 164 = .ok (.iload 6, 2) := dk_21 6 (dk_at dksX8_person_7 2 rfl rfl)
theorem dX8_person_166 : decode cX8_person 166 = .ok (.iadd, 1) := dk_96 (dk_at dksX8_person_7 4 rfl rfl)
theorem dX8_person_167 : decode cX8_person 167 = .ok (.iconst 1, 1) := dk_4 (dk_at dksX8_person_7 5 rfl rfl)
theorem dX8_person_168 : decode cX8_person 168 = .ok (.isub, 1) := dk_100 (dk_at dksX8_person_7 6 rfl rfl)
theorem dX8_person_169 : decode cX8_person 169 = .ok (.iconst 0, 1) := dk_3 (dk_at dksX8_person_7 7 rfl rfl)
theorem dX8_person_170 : decode cX8_person 170 = .ok (.iastore, 1) := dk_79 (dk_at dksX8_person_7 8 rfl rfl)
theorem dX8_person_171 : decode cX8_person 171 = .ok (.aload_n 0, 1) := dk_42 (dk_at dksX8_person_7 9 rfl rfl)
theorem dX8_person_172 : decode cX8_person 172 = .ok (.getfield 7, 3) := dk_180 0 7 (dk_at dksX8_person_7 10 rfl rfl)
theorem dX8_person_175 : decode cX8_person 175 = .ok (.iconst 0, 1) := dk_3 (dk_at dksX8_person_7 13 rfl rfl)
theorem dX8_person_176 : decode cX8_person 176 = .ok (.dup2, 1) := dk_92 (dk_at dksX8_person_7 14 rfl rfl)
theorem dX8_person_177 : decode cX8_person 177 = .ok (.iaload, 1) := dk_46 (dk_at dksX8_person_7 15 rfl rfl)
theorem dX8_person_178 : decode cX8_person 178 = .ok (.iconst 1, 1) := dk_4 (dk_at dksX8_person_7 16 rfl rfl)
theorem dX8_person_179 : decode cX8_person 179 = .ok (.iadd, 1) := dk_96 (dk_at dksX8_person_7 17 rfl rfl)
theorem dX8_person_180 : decode cX8_person 180 = .ok (.iastore, 1) := dk_79 (dk_at dksX8_person_7 18 rfl rfl)
theorem dX8_person_181 : decode cX8_person 181 = .ok (.aload_n 0, 1) := dk_42 (dk_at dksX8_person_7 19 rfl rfl)
theorem dX8_person_182 : decode cX8_person 182 = .ok (.getfield 7, 3) := dk_180 0 7 (dk_at dksX8_person_7 20 rfl rfl)
theorem dX8_person_185 : decode cX8_person 185 = .ok (.bipush 60, 2) := dk_16 60 (dk_at dksX8_person_8 0 rfl rfl)
theorem dX8_person_187 : decode cX8_person 187 = .ok (.iconst 0, 1) := dk_3 (dk_at dksX8_person_8 2 rfl rfl)
theorem dX8_person_188 : decode cX8_person 188 = .ok (.iastore, 1) := dk_79 (dk_at dksX8_person_8 3 rfl rfl)
theorem dX8_person_189 : decode cX8_person 189 = .ok (.aload_n 0, 1) := dk_42 (dk_at dksX8_person_8 4 rfl rfl)
theorem dX8_person_190 : decode cX8_person 190 = .ok (.iconst 0, 1) := dk_3 (dk_at dksX8_person_8 5 rfl rfl)
theorem dX8_person_191 : decode cX8_person 191 = .ok (.invokevirtual 165, 3) := dk_182 0 165 (dk_at dksX8_person_8 6 rfl rfl)
theorem dX8_person_194 : decode cX8_person 194 = .ok (.iload 6, 2) := dk_21 6 (dk_at dksX8_person_8 9 rfl rfl)
theorem dX8_person_196 : decode cX8_person 196 = .ok (.ireturn, 1) := dk_172 (dk_at dksX8_person_8 11 rfl rfl)
abbrev cX8_of : ByteArray := prog_13_method_34_code
def yX8_of : MethodName := ⟨RX8, "of", "(II)I"⟩
def dkwX8_of_3 : List UInt8 := [16, 20, 27, 96, 46, 172, 42, 3, 27, 182, 0, 94, 172, 42, 27, 182, 0, 179, 172, 2, 172]
abbrev dktX8_of_3 : List UInt8 := dkwX8_of_3 ++ []
def dkwX8_of_2 : List UInt8 := [42, 180, 0, 7, 7, 27, 96, 46, 172, 42, 180, 0, 7, 16, 12, 27, 96, 46, 172, 42, 180, 0, 7]
abbrev dktX8_of_2 : List UInt8 := dkwX8_of_2 ++ dktX8_of_3
def dkwX8_of_1 : List UInt8 := [170, 0, 0, 0, 75, 0, 0, 0, 0, 0, 0, 0, 4, 0, 0, 0, 33, 0, 0, 0, 42, 0, 0, 0, 52, 0, 0, 0, 62, 0, 0, 0, 69]
abbrev dktX8_of_1 : List UInt8 := dkwX8_of_1 ++ dktX8_of_2
def dkwX8_of_0 : List UInt8 := [42, 27, 182, 0, 176, 154, 0, 5, 2, 172, 28]
abbrev dktX8_of_0 : List UInt8 := dkwX8_of_0 ++ dktX8_of_1
theorem dksX8_of_0 : cX8_of.data.toList.drop 0 = dktX8_of_0 := by decide +kernel
theorem dksX8_of_1 : cX8_of.data.toList.drop 11 = dktX8_of_1 := dk_seg dksX8_of_0 11 rfl rfl
theorem dksX8_of_2 : cX8_of.data.toList.drop 44 = dktX8_of_2 := dk_seg dksX8_of_1 33 rfl rfl
theorem dksX8_of_3 : cX8_of.data.toList.drop 67 = dktX8_of_3 := dk_seg dksX8_of_2 23 rfl rfl
theorem dX8_of_0 : decode cX8_of 0 = .ok (.aload_n 0, 1) := dk_42 (dk_at dksX8_of_0 0 rfl rfl)
theorem dX8_of_1 : decode cX8_of 1 = .ok (.iload_n 1, 1) := dk_27 (dk_at dksX8_of_0 1 rfl rfl)
theorem dX8_of_2 : decode cX8_of 2 = .ok (.invokevirtual 176, 3) := dk_182 0 176 (dk_at dksX8_of_0 2 rfl rfl)
theorem dX8_of_5 : decode cX8_of 5 = .ok (.ifCond .ne 5, 3) := dk_154 0 5 (dk_at dksX8_of_0 5 rfl rfl)
theorem dX8_of_8 : decode cX8_of 8 = .ok (.iconst (-1), 1) := dk_2 (dk_at dksX8_of_0 8 rfl rfl)
theorem dX8_of_9 : decode cX8_of 9 = .ok (.ireturn, 1) := dk_172 (dk_at dksX8_of_0 9 rfl rfl)
theorem dX8_of_10 : decode cX8_of 10 = .ok (.iload_n 2, 1) := dk_28 (dk_at dksX8_of_0 10 rfl rfl)
theorem dX8_of_11 : decode cX8_of 11 = .ok (.tableswitch 75 0 4 #[33, 42, 52, 62, 69], 33) := by decide +kernel
theorem dX8_of_44 : decode cX8_of 44 = .ok (.aload_n 0, 1) := dk_42 (dk_at dksX8_of_2 0 rfl rfl)
theorem dX8_of_45 : decode cX8_of 45 = .ok (.getfield 7, 3) := dk_180 0 7 (dk_at dksX8_of_2 1 rfl rfl)
theorem dX8_of_48 : decode cX8_of 48 = .ok (.iconst 4, 1) := dk_7 (dk_at dksX8_of_2 4 rfl rfl)
theorem dX8_of_49 : decode cX8_of 49 = .ok (.iload_n 1, 1) := dk_27 (dk_at dksX8_of_2 5 rfl rfl)
theorem dX8_of_50 : decode cX8_of 50 = .ok (.iadd, 1) := dk_96 (dk_at dksX8_of_2 6 rfl rfl)
theorem dX8_of_51 : decode cX8_of 51 = .ok (.iaload, 1) := dk_46 (dk_at dksX8_of_2 7 rfl rfl)
theorem dX8_of_52 : decode cX8_of 52 = .ok (.ireturn, 1) := dk_172 (dk_at dksX8_of_2 8 rfl rfl)
theorem dX8_of_53 : decode cX8_of 53 = .ok (.aload_n 0, 1) := dk_42 (dk_at dksX8_of_2 9 rfl rfl)
theorem dX8_of_54 : decode cX8_of 54 = .ok (.getfield 7, 3) := dk_180 0 7 (dk_at dksX8_of_2 10 rfl rfl)
theorem dX8_of_57 : decode cX8_of 57 = .ok (.bipush 12, 2) := dk_16 12 (dk_at dksX8_of_2 13 rfl rfl)
theorem dX8_of_59 : decode cX8_of 59 = .ok (.iload_n 1, 1) := dk_27 (dk_at dksX8_of_2 15 rfl rfl)
theorem dX8_of_60 : decode cX8_of 60 = .ok (.iadd, 1) := dk_96 (dk_at dksX8_of_2 16 rfl rfl)
theorem dX8_of_61 : decode cX8_of 61 = .ok (.iaload, 1) := dk_46 (dk_at dksX8_of_2 17 rfl rfl)
theorem dX8_of_62 : decode cX8_of 62 = .ok (.ireturn, 1) := dk_172 (dk_at dksX8_of_2 18 rfl rfl)
theorem dX8_of_63 : decode cX8_of 63 = .ok (.aload_n 0, 1) := dk_42 (dk_at dksX8_of_2 19 rfl rfl)
theorem dX8_of_64 : decode cX8_of 64 = .ok (.getfield 7, 3) := dk_180 0 7 (dk_at dksX8_of_2 20 rfl rfl)
theorem dX8_of_67 : decode cX8_of 67 = .ok (.bipush 20, 2) := dk_16 20 (dk_at dksX8_of_3 0 rfl rfl)
theorem dX8_of_69 : decode cX8_of 69 = .ok (.iload_n 1, 1) := dk_27 (dk_at dksX8_of_3 2 rfl rfl)
theorem dX8_of_70 : decode cX8_of 70 = .ok (.iadd, 1) := dk_96 (dk_at dksX8_of_3 3 rfl rfl)
theorem dX8_of_71 : decode cX8_of 71 = .ok (.iaload, 1) := dk_46 (dk_at dksX8_of_3 4 rfl rfl)
theorem dX8_of_72 : decode cX8_of 72 = .ok (.ireturn, 1) := dk_172 (dk_at dksX8_of_3 5 rfl rfl)
theorem dX8_of_73 : decode cX8_of 73 = .ok (.aload_n 0, 1) := dk_42 (dk_at dksX8_of_3 6 rfl rfl)
theorem dX8_of_74 : decode cX8_of 74 = .ok (.iconst 0, 1) := dk_3 (dk_at dksX8_of_3 7 rfl rfl)
theorem dX8_of_75 : decode cX8_of 75 = .ok (.iload_n 1, 1) := dk_27 (dk_at dksX8_of_3 8 rfl rfl)
theorem dX8_of_76 : decode cX8_of 76 = .ok (.invokevirtual 94, 3) := dk_182 0 94 (dk_at dksX8_of_3 9 rfl rfl)
theorem dX8_of_79 : decode cX8_of 79 = .ok (.ireturn, 1) := dk_172 (dk_at dksX8_of_3 12 rfl rfl)
theorem dX8_of_80 : decode cX8_of 80 = .ok (.aload_n 0, 1) := dk_42 (dk_at dksX8_of_3 13 rfl rfl)
theorem dX8_of_81 : decode cX8_of 81 = .ok (.iload_n 1, 1) := dk_27 (dk_at dksX8_of_3 14 rfl rfl)
theorem dX8_of_82 : decode cX8_of 82 = .ok (.invokevirtual 179, 3) := dk_182 0 179 (dk_at dksX8_of_3 15 rfl rfl)
theorem dX8_of_85 : decode cX8_of 85 = .ok (.ireturn, 1) := dk_172 (dk_at dksX8_of_3 18 rfl rfl)
theorem dX8_of_86 : decode cX8_of 86 = .ok (.iconst (-1), 1) := dk_2 (dk_at dksX8_of_3 19 rfl rfl)
theorem dX8_of_87 : decode cX8_of 87 = .ok (.ireturn, 1) := dk_172 (dk_at dksX8_of_3 20 rfl rfl)
abbrev cX8_isPerson : ByteArray := prog_13_method_6_code
def yX8_isPerson : MethodName := ⟨RX8, "isPerson", "(I)Z"⟩
def dkwX8_isPerson_0 : List UInt8 := [27, 133, 9, 42, 180, 0, 7, 3, 46, 4, 100, 133, 184, 0, 49, 172]
abbrev dktX8_isPerson_0 : List UInt8 := dkwX8_isPerson_0 ++ []
theorem dksX8_isPerson_0 : cX8_isPerson.data.toList.drop 0 = dktX8_isPerson_0 := by decide +kernel
theorem dX8_isPerson_0 : decode cX8_isPerson 0 = .ok (.iload_n 1, 1) := dk_27 (dk_at dksX8_isPerson_0 0 rfl rfl)
theorem dX8_isPerson_1 : decode cX8_isPerson 1 = .ok (.i2l, 1) := dk_133 (dk_at dksX8_isPerson_0 1 rfl rfl)
theorem dX8_isPerson_2 : decode cX8_isPerson 2 = .ok (.lconst 0, 1) := dk_9 (dk_at dksX8_isPerson_0 2 rfl rfl)
theorem dX8_isPerson_3 : decode cX8_isPerson 3 = .ok (.aload_n 0, 1) := dk_42 (dk_at dksX8_isPerson_0 3 rfl rfl)
theorem dX8_isPerson_4 : decode cX8_isPerson 4 = .ok (.getfield 7, 3) := dk_180 0 7 (dk_at dksX8_isPerson_0 4 rfl rfl)
theorem dX8_isPerson_7 : decode cX8_isPerson 7 = .ok (.iconst 0, 1) := dk_3 (dk_at dksX8_isPerson_0 7 rfl rfl)
theorem dX8_isPerson_8 : decode cX8_isPerson 8 = .ok (.iaload, 1) := dk_46 (dk_at dksX8_isPerson_0 8 rfl rfl)
theorem dX8_isPerson_9 : decode cX8_isPerson 9 = .ok (.iconst 1, 1) := dk_4 (dk_at dksX8_isPerson_0 9 rfl rfl)
theorem dX8_isPerson_10 : decode cX8_isPerson 10 = .ok (.isub, 1) := dk_100 (dk_at dksX8_isPerson_0 10 rfl rfl)
theorem dX8_isPerson_11 : decode cX8_isPerson 11 = .ok (.i2l, 1) := dk_133 (dk_at dksX8_isPerson_0 11 rfl rfl)
theorem dX8_isPerson_12 : decode cX8_isPerson 12 = .ok (.invokestatic 49, 3) := dk_184 0 49 (dk_at dksX8_isPerson_0 12 rfl rfl)
theorem dX8_isPerson_15 : decode cX8_isPerson 15 = .ok (.ireturn, 1) := dk_172 (dk_at dksX8_isPerson_0 15 rfl rfl)
abbrev cX8_sideOf : ByteArray := prog_13_method_33_code
def yX8_sideOf : MethodName := ⟨RX8, "sideOf", "(I)I"⟩
def dkwX8_sideOf_1 : List UInt8 := [180, 0, 83, 156, 0, 7, 5, 167, 0, 4, 3, 172]
abbrev dktX8_sideOf_1 : List UInt8 := dkwX8_sideOf_1 ++ []
def dkwX8_sideOf_0 : List UInt8 := [42, 3, 182, 0, 103, 42, 3, 27, 182, 0, 90, 42, 180, 0, 83, 158, 0, 7, 4, 167, 0, 15, 42]
abbrev dktX8_sideOf_0 : List UInt8 := dkwX8_sideOf_0 ++ dktX8_sideOf_1
theorem dksX8_sideOf_0 : cX8_sideOf.data.toList.drop 0 = dktX8_sideOf_0 := by decide +kernel
theorem dksX8_sideOf_1 : cX8_sideOf.data.toList.drop 23 = dktX8_sideOf_1 := dk_seg dksX8_sideOf_0 23 rfl rfl
theorem dX8_sideOf_0 : decode cX8_sideOf 0 = .ok (.aload_n 0, 1) := dk_42 (dk_at dksX8_sideOf_0 0 rfl rfl)
theorem dX8_sideOf_1 : decode cX8_sideOf 1 = .ok (.iconst 0, 1) := dk_3 (dk_at dksX8_sideOf_0 1 rfl rfl)
theorem dX8_sideOf_2 : decode cX8_sideOf 2 = .ok (.invokevirtual 103, 3) := dk_182 0 103 (dk_at dksX8_sideOf_0 2 rfl rfl)
theorem dX8_sideOf_5 : decode cX8_sideOf 5 = .ok (.aload_n 0, 1) := dk_42 (dk_at dksX8_sideOf_0 5 rfl rfl)
theorem dX8_sideOf_6 : decode cX8_sideOf 6 = .ok (.iconst 0, 1) := dk_3 (dk_at dksX8_sideOf_0 6 rfl rfl)
theorem dX8_sideOf_7 : decode cX8_sideOf 7 = .ok (.iload_n 1, 1) := dk_27 (dk_at dksX8_sideOf_0 7 rfl rfl)
theorem dX8_sideOf_8 : decode cX8_sideOf 8 = .ok (.invokevirtual 90, 3) := dk_182 0 90 (dk_at dksX8_sideOf_0 8 rfl rfl)
theorem dX8_sideOf_11 : decode cX8_sideOf 11 = .ok (.aload_n 0, 1) := dk_42 (dk_at dksX8_sideOf_0 11 rfl rfl)
theorem dX8_sideOf_12 : decode cX8_sideOf 12 = .ok (.getfield 83, 3) := dk_180 0 83 (dk_at dksX8_sideOf_0 12 rfl rfl)
theorem dX8_sideOf_15 : decode cX8_sideOf 15 = .ok (.ifCond .le 7, 3) := dk_158 0 7 (dk_at dksX8_sideOf_0 15 rfl rfl)
theorem dX8_sideOf_18 : decode cX8_sideOf 18 = .ok (.iconst 1, 1) := dk_4 (dk_at dksX8_sideOf_0 18 rfl rfl)
theorem dX8_sideOf_19 : decode cX8_sideOf 19 = .ok (.goto 15, 3) := dk_167 0 15 (dk_at dksX8_sideOf_0 19 rfl rfl)
theorem dX8_sideOf_22 : decode cX8_sideOf 22 = .ok (.aload_n 0, 1) := dk_42 (dk_at dksX8_sideOf_0 22 rfl rfl)
theorem dX8_sideOf_23 : decode cX8_sideOf 23 = .ok (.getfield 83, 3) := dk_180 0 83 (dk_at dksX8_sideOf_1 0 rfl rfl)
theorem dX8_sideOf_26 : decode cX8_sideOf 26 = .ok (.ifCond .ge 7, 3) := dk_156 0 7 (dk_at dksX8_sideOf_1 3 rfl rfl)
theorem dX8_sideOf_29 : decode cX8_sideOf 29 = .ok (.iconst 2, 1) := dk_5 (dk_at dksX8_sideOf_1 6 rfl rfl)
theorem dX8_sideOf_30 : decode cX8_sideOf 30 = .ok (.goto 4, 3) := dk_167 0 4 (dk_at dksX8_sideOf_1 7 rfl rfl)
theorem dX8_sideOf_33 : decode cX8_sideOf 33 = .ok (.iconst 0, 1) := dk_3 (dk_at dksX8_sideOf_1 10 rfl rfl)
theorem dX8_sideOf_34 : decode cX8_sideOf 34 = .ok (.ireturn, 1) := dk_172 (dk_at dksX8_sideOf_1 11 rfl rfl)
abbrev cX8_place : ByteArray := prog_13_method_38_code
def yX8_place : MethodName := ⟨RX8, "place", "(II)I"⟩
def dkwX8_place_1 : List UInt8 := [182, 0, 188, 42, 180, 0, 83, 42, 180, 0, 87, 28, 184, 0, 191, 172]
abbrev dktX8_place_1 : List UInt8 := dkwX8_place_1 ++ []
def dkwX8_place_0 : List UInt8 := [42, 27, 182, 0, 176, 153, 0, 13, 28, 133, 9, 10, 184, 0, 49, 154, 0, 5, 2, 172, 42, 3, 27]
abbrev dktX8_place_0 : List UInt8 := dkwX8_place_0 ++ dktX8_place_1
theorem dksX8_place_0 : cX8_place.data.toList.drop 0 = dktX8_place_0 := by decide +kernel
theorem dksX8_place_1 : cX8_place.data.toList.drop 23 = dktX8_place_1 := dk_seg dksX8_place_0 23 rfl rfl
theorem dX8_place_0 : decode cX8_place 0 = .ok (.aload_n 0, 1) := dk_42 (dk_at dksX8_place_0 0 rfl rfl)
theorem dX8_place_1 : decode cX8_place 1 = .ok (.iload_n 1, 1) := dk_27 (dk_at dksX8_place_0 1 rfl rfl)
theorem dX8_place_2 : decode cX8_place 2 = .ok (.invokevirtual 176, 3) := dk_182 0 176 (dk_at dksX8_place_0 2 rfl rfl)
theorem dX8_place_5 : decode cX8_place 5 = .ok (.ifCond .eq 13, 3) := dk_153 0 13 (dk_at dksX8_place_0 5 rfl rfl)
theorem dX8_place_8 : decode cX8_place 8 = .ok (.iload_n 2, 1) := dk_28 (dk_at dksX8_place_0 8 rfl rfl)
theorem dX8_place_9 : decode cX8_place 9 = .ok (.i2l, 1) := dk_133 (dk_at dksX8_place_0 9 rfl rfl)
theorem dX8_place_10 : decode cX8_place 10 = .ok (.lconst 0, 1) := dk_9 (dk_at dksX8_place_0 10 rfl rfl)
theorem dX8_place_11 : decode cX8_place 11 = .ok (.lconst 1, 1) := dk_10 (dk_at dksX8_place_0 11 rfl rfl)
theorem dX8_place_12 : decode cX8_place 12 = .ok (.invokestatic 49, 3) := dk_184 0 49 (dk_at dksX8_place_0 12 rfl rfl)
theorem dX8_place_15 : decode cX8_place 15 = .ok (.ifCond .ne 5, 3) := dk_154 0 5 (dk_at dksX8_place_0 15 rfl rfl)
theorem dX8_place_18 : decode cX8_place 18 = .ok (.iconst (-1), 1) := dk_2 (dk_at dksX8_place_0 18 rfl rfl)
theorem dX8_place_19 : decode cX8_place 19 = .ok (.ireturn, 1) := dk_172 (dk_at dksX8_place_0 19 rfl rfl)
theorem dX8_place_20 : decode cX8_place 20 = .ok (.aload_n 0, 1) := dk_42 (dk_at dksX8_place_0 20 rfl rfl)
theorem dX8_place_21 : decode cX8_place 21 = .ok (.iconst 0, 1) := dk_3 (dk_at dksX8_place_0 21 rfl rfl)
theorem dX8_place_22 : decode cX8_place 22 = .ok (.iload_n 1, 1) := dk_27 (dk_at dksX8_place_0 22 rfl rfl)
theorem dX8_place_23 : decode cX8_place 23 = .ok (.invokevirtual 188, 3) := dk_182 0 188 (dk_at dksX8_place_1 0 rfl rfl)
theorem dX8_place_26 : decode cX8_place 26 = .ok (.aload_n 0, 1) := dk_42 (dk_at dksX8_place_1 3 rfl rfl)
theorem dX8_place_27 : decode cX8_place 27 = .ok (.getfield 83, 3) := dk_180 0 83 (dk_at dksX8_place_1 4 rfl rfl)
theorem dX8_place_30 : decode cX8_place 30 = .ok (.aload_n 0, 1) := dk_42 (dk_at dksX8_place_1 7 rfl rfl)
theorem dX8_place_31 : decode cX8_place 31 = .ok (.getfield 87, 3) := dk_180 0 87 (dk_at dksX8_place_1 8 rfl rfl)
theorem dX8_place_34 : decode cX8_place 34 = .ok (.iload_n 2, 1) := dk_28 (dk_at dksX8_place_1 11 rfl rfl)
theorem dX8_place_35 : decode cX8_place 35 = .ok (.invokestatic 191, 3) := dk_184 0 191 (dk_at dksX8_place_1 12 rfl rfl)
theorem dX8_place_38 : decode cX8_place 38 = .ok (.ireturn, 1) := dk_172 (dk_at dksX8_place_1 15 rfl rfl)
abbrev cX8_layPlace : ByteArray := prog_13_method_37_code
def yX8_layPlace : MethodName := ⟨RX8, "layPlace", "(II)V"⟩
def dkwX8_layPlace_6 : List UInt8 := [42, 180, 0, 26, 29, 46, 42, 27, 16, 44, 96, 29, 28, 182, 0, 61, 104, 96, 181, 0, 83, 177]
abbrev dktX8_layPlace_6 : List UInt8 := dkwX8_layPlace_6 ++ []
def dkwX8_layPlace_5 : List UInt8 := [181, 0, 87, 42, 42, 180, 0, 83, 42, 27, 16, 36, 96, 29, 28, 182, 0, 61, 96, 42, 180, 0, 87, 104]
abbrev dktX8_layPlace_5 : List UInt8 := dkwX8_layPlace_5 ++ dktX8_layPlace_6
def dkwX8_layPlace_4 : List UInt8 := [155, 0, 69, 21, 4, 155, 0, 64, 42, 180, 0, 26, 29, 46, 158, 0, 55, 42, 42, 180, 0, 29, 29, 46]
abbrev dktX8_layPlace_4 : List UInt8 := dkwX8_layPlace_4 ++ dktX8_layPlace_5
def dkwX8_layPlace_3 : List UInt8 := [180, 0, 7, 27, 16, 28, 96, 21, 4, 96, 46, 167, 0, 4, 3, 181, 0, 83, 42, 27, 182, 0, 103, 29]
abbrev dktX8_layPlace_3 : List UInt8 := dkwX8_layPlace_3 ++ dktX8_layPlace_4
def dkwX8_layPlace_2 : List UInt8 := [155, 0, 17, 42, 180, 0, 7, 27, 16, 28, 96, 29, 96, 46, 167, 0, 24, 21, 4, 155, 0, 18, 42]
abbrev dktX8_layPlace_2 : List UInt8 := dkwX8_layPlace_2 ++ dktX8_layPlace_3
def dkwX8_layPlace_1 : List UInt8 := [182, 0, 53, 154, 0, 136, 42, 27, 28, 182, 0, 185, 62, 42, 27, 28, 182, 0, 57, 54, 4, 42, 29]
abbrev dktX8_layPlace_1 : List UInt8 := dkwX8_layPlace_1 ++ dktX8_layPlace_2
def dkwX8_layPlace_0 : List UInt8 := [42, 4, 181, 0, 87, 42, 42, 180, 0, 7, 27, 16, 28, 96, 28, 96, 46, 181, 0, 83, 42, 27, 28]
abbrev dktX8_layPlace_0 : List UInt8 := dkwX8_layPlace_0 ++ dktX8_layPlace_1
theorem dksX8_layPlace_0 : cX8_layPlace.data.toList.drop 0 = dktX8_layPlace_0 := by decide +kernel
theorem dksX8_layPlace_1 : cX8_layPlace.data.toList.drop 23 = dktX8_layPlace_1 := dk_seg dksX8_layPlace_0 23 rfl rfl
theorem dksX8_layPlace_2 : cX8_layPlace.data.toList.drop 46 = dktX8_layPlace_2 := dk_seg dksX8_layPlace_1 23 rfl rfl
theorem dksX8_layPlace_3 : cX8_layPlace.data.toList.drop 69 = dktX8_layPlace_3 := dk_seg dksX8_layPlace_2 23 rfl rfl
theorem dksX8_layPlace_4 : cX8_layPlace.data.toList.drop 93 = dktX8_layPlace_4 := dk_seg dksX8_layPlace_3 24 rfl rfl
theorem dksX8_layPlace_5 : cX8_layPlace.data.toList.drop 117 = dktX8_layPlace_5 := dk_seg dksX8_layPlace_4 24 rfl rfl
theorem dksX8_layPlace_6 : cX8_layPlace.data.toList.drop 141 = dktX8_layPlace_6 := dk_seg dksX8_layPlace_5 24 rfl rfl
theorem dX8_layPlace_0 : decode cX8_layPlace 0 = .ok (.aload_n 0, 1) := dk_42 (dk_at dksX8_layPlace_0 0 rfl rfl)
theorem dX8_layPlace_1 : decode cX8_layPlace 1 = .ok (.iconst 1, 1) := dk_4 (dk_at dksX8_layPlace_0 1 rfl rfl)
theorem dX8_layPlace_2 : decode cX8_layPlace 2 = .ok (.putfield 87, 3) := dk_181 0 87 (dk_at dksX8_layPlace_0 2 rfl rfl)
theorem dX8_layPlace_5 : decode cX8_layPlace 5 = .ok (.aload_n 0, 1) := dk_42 (dk_at dksX8_layPlace_0 5 rfl rfl)
theorem dX8_layPlace_6 : decode cX8_layPlace 6 = .ok (.aload_n 0, 1) := dk_42 (dk_at dksX8_layPlace_0 6 rfl rfl)
theorem dX8_layPlace_7 : decode cX8_layPlace 7 = .ok (.getfield 7, 3) := dk_180 0 7 (dk_at dksX8_layPlace_0 7 rfl rfl)
theorem dX8_layPlace_10 : decode cX8_layPlace 10 = .ok (.iload_n 1, 1) := dk_27 (dk_at dksX8_layPlace_0 10 rfl rfl)
theorem dX8_layPlace_11 : decode cX8_layPlace 11 = .ok (.bipush 28, 2) := dk_16 28 (dk_at dksX8_layPlace_0 11 rfl rfl)
theorem dX8_layPlace_13 : decode cX8_layPlace 13 = .ok (.iadd, 1) := dk_96 (dk_at dksX8_layPlace_0 13 rfl rfl)
theorem dX8_layPlace_14 : decode cX8_layPlace 14 = .ok (.iload_n 2, 1) := dk_28 (dk_at dksX8_layPlace_0 14 rfl rfl)
theorem dX8_layPlace_15 : decode cX8_layPlace 15 = .ok (.iadd, 1) := dk_96 (dk_at dksX8_layPlace_0 15 rfl rfl)
theorem dX8_layPlace_16 : decode cX8_layPlace 16 = .ok (.iaload, 1) := dk_46 (dk_at dksX8_layPlace_0 16 rfl rfl)
theorem dX8_layPlace_17 : decode cX8_layPlace 17 = .ok (.putfield 83, 3) := dk_181 0 83 (dk_at dksX8_layPlace_0 17 rfl rfl)
theorem dX8_layPlace_20 : decode cX8_layPlace 20 = .ok (.aload_n 0, 1) := dk_42 (dk_at dksX8_layPlace_0 20 rfl rfl)
theorem dX8_layPlace_21 : decode cX8_layPlace 21 = .ok (.iload_n 1, 1) := dk_27 (dk_at dksX8_layPlace_0 21 rfl rfl)
theorem dX8_layPlace_22 : decode cX8_layPlace 22 = .ok (.iload_n 2, 1) := dk_28 (dk_at dksX8_layPlace_0 22 rfl rfl)
theorem dX8_layPlace_23 : decode cX8_layPlace 23 = .ok (.invokevirtual 53, 3) := dk_182 0 53 (dk_at dksX8_layPlace_1 0 rfl rfl)
theorem dX8_layPlace_26 : decode cX8_layPlace 26 = .ok (.ifCond .ne 136, 3) := dk_154 0 136 (dk_at dksX8_layPlace_1 3 rfl rfl)
theorem dX8_layPlace_29 : decode cX8_layPlace 29 = .ok (.aload_n 0, 1) := dk_42 (dk_at dksX8_layPlace_1 6 rfl rfl)
theorem dX8_layPlace_30 : decode cX8_layPlace 30 = .ok (.iload_n 1, 1) := dk_27 (dk_at dksX8_layPlace_1 7 rfl rfl)
theorem dX8_layPlace_31 : decode cX8_layPlace 31 = .ok (.iload_n 2, 1) := dk_28 (dk_at dksX8_layPlace_1 8 rfl rfl)
theorem dX8_layPlace_32 : decode cX8_layPlace 32 = .ok (.invokevirtual 185, 3) := dk_182 0 185 (dk_at dksX8_layPlace_1 9 rfl rfl)
theorem dX8_layPlace_35 : decode cX8_layPlace 35 = .ok (.istore_n 3, 1) := dk_62 (dk_at dksX8_layPlace_1 12 rfl rfl)
theorem dX8_layPlace_36 : decode cX8_layPlace 36 = .ok (.aload_n 0, 1) := dk_42 (dk_at dksX8_layPlace_1 13 rfl rfl)
theorem dX8_layPlace_37 : decode cX8_layPlace 37 = .ok (.iload_n 1, 1) := dk_27 (dk_at dksX8_layPlace_1 14 rfl rfl)
theorem dX8_layPlace_38 : decode cX8_layPlace 38 = .ok (.iload_n 2, 1) := dk_28 (dk_at dksX8_layPlace_1 15 rfl rfl)
theorem dX8_layPlace_39 : decode cX8_layPlace 39 = .ok (.invokevirtual 57, 3) := dk_182 0 57 (dk_at dksX8_layPlace_1 16 rfl rfl)
theorem dX8_layPlace_42 : decode cX8_layPlace 42 = .ok (.istore 4, 2) := dk_54 4 (dk_at dksX8_layPlace_1 19 rfl rfl)
theorem dX8_layPlace_44 : decode cX8_layPlace 44 = .ok (.aload_n 0, 1) := dk_42 (dk_at dksX8_layPlace_1 21 rfl rfl)
theorem dX8_layPlace_45 : decode cX8_layPlace 45 = .ok (.iload_n 3, 1) := dk_29 (dk_at dksX8_layPlace_1 22 rfl rfl)
theorem dX8_layPlace_46 : decode cX8_layPlace 46 = .ok (.ifCond .lt 17, 3) := dk_155 0 17 (dk_at dksX8_layPlace_2 0 rfl rfl)
theorem dX8_layPlace_49 : decode cX8_layPlace 49 = .ok (.aload_n 0, 1) := dk_42 (dk_at dksX8_layPlace_2 3 rfl rfl)
theorem dX8_layPlace_50 : decode cX8_layPlace 50 = .ok (.getfield 7, 3) := dk_180 0 7 (dk_at dksX8_layPlace_2 4 rfl rfl)
theorem dX8_layPlace_53 : decode cX8_layPlace 53 = .ok (.iload_n 1, 1) := dk_27 (dk_at dksX8_layPlace_2 7 rfl rfl)
theorem dX8_layPlace_54 : decode cX8_layPlace 54 = .ok (.bipush 28, 2) := dk_16 28 (dk_at dksX8_layPlace_2 8 rfl rfl)
theorem dX8_layPlace_56 : decode cX8_layPlace 56 = .ok (.iadd, 1) := dk_96 (dk_at dksX8_layPlace_2 10 rfl rfl)
theorem dX8_layPlace_57 : decode cX8_layPlace 57 = .ok (.iload_n 3, 1) := dk_29 (dk_at dksX8_layPlace_2 11 rfl rfl)
theorem dX8_layPlace_58 : decode cX8_layPlace 58 = .ok (.iadd, 1) := dk_96 (dk_at dksX8_layPlace_2 12 rfl rfl)
theorem dX8_layPlace_59 : decode cX8_layPlace 59 = .ok (.iaload, 1) := dk_46 (dk_at dksX8_layPlace_2 13 rfl rfl)
theorem dX8_layPlace_60 : decode cX8_layPlace 60 = .ok (.goto 24, 3) := dk_167 0 24 (dk_at dksX8_layPlace_2 14 rfl rfl)
theorem dX8_layPlace_63 : decode cX8_layPlace 63 = .ok (.iload 4, 2) := dk_21 4 (dk_at dksX8_layPlace_2 17 rfl rfl)
theorem dX8_layPlace_65 : decode cX8_layPlace 65 = .ok (.ifCond .lt 18, 3) := dk_155 0 18 (dk_at dksX8_layPlace_2 19 rfl rfl)
theorem dX8_layPlace_68 : decode cX8_layPlace 68 = .ok (.aload_n 0, 1) := dk_42 (dk_at dksX8_layPlace_2 22 rfl rfl)
theorem dX8_layPlace_69 : decode cX8_layPlace 69 = .ok (.getfield 7, 3) := dk_180 0 7 (dk_at dksX8_layPlace_3 0 rfl rfl)
theorem dX8_layPlace_72 : decode cX8_layPlace 72 = .ok (.iload_n 1, 1) := dk_27 (dk_at dksX8_layPlace_3 3 rfl rfl)
theorem dX8_layPlace_73 : decode cX8_layPlace 73 = .ok (.bipush 28, 2) := dk_16 28 (dk_at dksX8_layPlace_3 4 rfl rfl)
theorem dX8_layPlace_75 : decode cX8_layPlace 75 = .ok (.iadd, 1) := dk_96 (dk_at dksX8_layPlace_3 6 rfl rfl)
theorem dX8_layPlace_76 : decode cX8_layPlace 76 = .ok (.iload 4, 2) := dk_21 4 (dk_at dksX8_layPlace_3 7 rfl rfl)
theorem dX8_layPlace_78 : decode cX8_layPlace 78 = .ok (.iadd, 1) := dk_96 (dk_at dksX8_layPlace_3 9 rfl rfl)
theorem dX8_layPlace_79 : decode cX8_layPlace 79 = .ok (.iaload, 1) := dk_46 (dk_at dksX8_layPlace_3 10 rfl rfl)
theorem dX8_layPlace_80 : decode cX8_layPlace 80 = .ok (.goto 4, 3) := dk_167 0 4 (dk_at dksX8_layPlace_3 11 rfl rfl)
theorem dX8_layPlace_83 : decode cX8_layPlace 83 = .ok (.iconst 0, 1) := dk_3 (dk_at dksX8_layPlace_3 14 rfl rfl)
theorem dX8_layPlace_84 : decode cX8_layPlace 84 = .ok (.putfield 83, 3) := dk_181 0 83 (dk_at dksX8_layPlace_3 15 rfl rfl)
theorem dX8_layPlace_87 : decode cX8_layPlace 87 = .ok (.aload_n 0, 1) := dk_42 (dk_at dksX8_layPlace_3 18 rfl rfl)
theorem dX8_layPlace_88 : decode cX8_layPlace 88 = .ok (.iload_n 1, 1) := dk_27 (dk_at dksX8_layPlace_3 19 rfl rfl)
theorem dX8_layPlace_89 : decode cX8_layPlace 89 = .ok (.invokevirtual 103, 3) := dk_182 0 103 (dk_at dksX8_layPlace_3 20 rfl rfl)
theorem dX8_layPlace_92 : decode cX8_layPlace 92 = .ok (.iload_n 3, 1) := dk_29 (dk_at dksX8_layPlace_3 23 rfl rfl)
theorem dX8_layPlace_93 : decode cX8_layPlace 93 = .ok (.ifCond .lt 69, 3) := dk_155 0 69 (dk_at dksX8_layPlace_4 0 rfl rfl)
theorem dX8_layPlace_96 : decode cX8_layPlace 96 = .ok (.iload 4, 2) := dk_21 4 (dk_at dksX8_layPlace_4 3 rfl rfl)
theorem dX8_layPlace_98 : decode cX8_layPlace 98 = .ok (.ifCond .lt 64, 3) := dk_155 0 64 (dk_at dksX8_layPlace_4 5 rfl rfl)
theorem dX8_layPlace_101 : decode cX8_layPlace 101 = .ok (.aload_n 0, 1) := dk_42 (dk_at dksX8_layPlace_4 8 rfl rfl)
theorem dX8_layPlace_102 : decode cX8_layPlace 102 = .ok (.getfield 26, 3) := dk_180 0 26 (dk_at dksX8_layPlace_4 9 rfl rfl)
theorem dX8_layPlace_105 : decode cX8_layPlace 105 = .ok (.iload_n 3, 1) := dk_29 (dk_at dksX8_layPlace_4 12 rfl rfl)
theorem dX8_layPlace_106 : decode cX8_layPlace 106 = .ok (.iaload, 1) := dk_46 (dk_at dksX8_layPlace_4 13 rfl rfl)
theorem dX8_layPlace_107 : decode cX8_layPlace 107 = .ok (.ifCond .le 55, 3) := dk_158 0 55 (dk_at dksX8_layPlace_4 14 rfl rfl)
theorem dX8_layPlace_110 : decode cX8_layPlace 110 = .ok (.aload_n 0, 1) := dk_42 (dk_at dksX8_layPlace_4 17 rfl rfl)
theorem dX8_layPlace_111 : decode cX8_layPlace 111 = .ok (.aload_n 0, 1) := dk_42 (dk_at dksX8_layPlace_4 18 rfl rfl)
theorem dX8_layPlace_112 : decode cX8_layPlace 112 = .ok (.getfield 29, 3) := dk_180 0 29 (dk_at dksX8_layPlace_4 19 rfl rfl)
theorem dX8_layPlace_115 : decode cX8_layPlace 115 = .ok (.iload_n 3, 1) := dk_29 (dk_at dksX8_layPlace_4 22 rfl rfl)
theorem dX8_layPlace_116 : decode cX8_layPlace 116 = .ok (.iaload, 1) := dk_46 (dk_at dksX8_layPlace_4 23 rfl rfl)
theorem dX8_layPlace_117 : decode cX8_layPlace 117 = .ok (.putfield 87, 3) := dk_181 0 87 (dk_at dksX8_layPlace_5 0 rfl rfl)
theorem dX8_layPlace_120 : decode cX8_layPlace 120 = .ok (.aload_n 0, 1) := dk_42 (dk_at dksX8_layPlace_5 3 rfl rfl)
theorem dX8_layPlace_121 : decode cX8_layPlace 121 = .ok (.aload_n 0, 1) := dk_42 (dk_at dksX8_layPlace_5 4 rfl rfl)
theorem dX8_layPlace_122 : decode cX8_layPlace 122 = .ok (.getfield 83, 3) := dk_180 0 83 (dk_at dksX8_layPlace_5 5 rfl rfl)
theorem dX8_layPlace_125 : decode cX8_layPlace 125 = .ok (.aload_n 0, 1) := dk_42 (dk_at dksX8_layPlace_5 8 rfl rfl)
theorem dX8_layPlace_126 : decode cX8_layPlace 126 = .ok (.iload_n 1, 1) := dk_27 (dk_at dksX8_layPlace_5 9 rfl rfl)
theorem dX8_layPlace_127 : decode cX8_layPlace 127 = .ok (.bipush 36, 2) := dk_16 36 (dk_at dksX8_layPlace_5 10 rfl rfl)
theorem dX8_layPlace_129 : decode cX8_layPlace 129 = .ok (.iadd, 1) := dk_96 (dk_at dksX8_layPlace_5 12 rfl rfl)
theorem dX8_layPlace_130 : decode cX8_layPlace 130 = .ok (.iload_n 3, 1) := dk_29 (dk_at dksX8_layPlace_5 13 rfl rfl)
theorem dX8_layPlace_131 : decode cX8_layPlace 131 = .ok (.iload_n 2, 1) := dk_28 (dk_at dksX8_layPlace_5 14 rfl rfl)
theorem dX8_layPlace_132 : decode cX8_layPlace 132 = .ok (.invokevirtual 61, 3) := dk_182 0 61 (dk_at dksX8_layPlace_5 15 rfl rfl)
theorem dX8_layPlace_135 : decode cX8_layPlace 135 = .ok (.iadd, 1) := dk_96 (dk_at dksX8_layPlace_5 18 rfl rfl)
theorem dX8_layPlace_136 : decode cX8_layPlace 136 = .ok (.aload_n 0, 1) := dk_42 (dk_at dksX8_layPlace_5 19 rfl rfl)
theorem dX8_layPlace_137 : decode cX8_layPlace 137 = .ok (.getfield 87, 3) := dk_180 0 87 (dk_at dksX8_layPlace_5 20 rfl rfl)
theorem dX8_layPlace_140 : decode cX8_layPlace 140 = .ok (.imul, 1) := dk_104 (dk_at dksX8_layPlace_5 23 rfl rfl)
theorem dX8_layPlace_141 : decode cX8_layPlace 141 = .ok (.aload_n 0, 1) := dk_42 (dk_at dksX8_layPlace_6 0 rfl rfl)
theorem dX8_layPlace_142 : decode cX8_layPlace 142 = .ok (.getfield 26, 3) := dk_180 0 26 (dk_at dksX8_layPlace_6 1 rfl rfl)
theorem dX8_layPlace_145 : decode cX8_layPlace 145 = .ok (.iload_n 3, 1) := dk_29 (dk_at dksX8_layPlace_6 4 rfl rfl)
theorem dX8_layPlace_146 : decode cX8_layPlace 146 = .ok (.iaload, 1) := dk_46 (dk_at dksX8_layPlace_6 5 rfl rfl)
theorem dX8_layPlace_147 : decode cX8_layPlace 147 = .ok (.aload_n 0, 1) := dk_42 (dk_at dksX8_layPlace_6 6 rfl rfl)
theorem dX8_layPlace_148 : decode cX8_layPlace 148 = .ok (.iload_n 1, 1) := dk_27 (dk_at dksX8_layPlace_6 7 rfl rfl)
theorem dX8_layPlace_149 : decode cX8_layPlace 149 = .ok (.bipush 44, 2) := dk_16 44 (dk_at dksX8_layPlace_6 8 rfl rfl)
theorem dX8_layPlace_151 : decode cX8_layPlace 151 = .ok (.iadd, 1) := dk_96 (dk_at dksX8_layPlace_6 10 rfl rfl)
theorem dX8_layPlace_152 : decode cX8_layPlace 152 = .ok (.iload_n 3, 1) := dk_29 (dk_at dksX8_layPlace_6 11 rfl rfl)
theorem dX8_layPlace_153 : decode cX8_layPlace 153 = .ok (.iload_n 2, 1) := dk_28 (dk_at dksX8_layPlace_6 12 rfl rfl)
theorem dX8_layPlace_154 : decode cX8_layPlace 154 = .ok (.invokevirtual 61, 3) := dk_182 0 61 (dk_at dksX8_layPlace_6 13 rfl rfl)
theorem dX8_layPlace_157 : decode cX8_layPlace 157 = .ok (.imul, 1) := dk_104 (dk_at dksX8_layPlace_6 16 rfl rfl)
theorem dX8_layPlace_158 : decode cX8_layPlace 158 = .ok (.iadd, 1) := dk_96 (dk_at dksX8_layPlace_6 17 rfl rfl)
theorem dX8_layPlace_159 : decode cX8_layPlace 159 = .ok (.putfield 83, 3) := dk_181 0 83 (dk_at dksX8_layPlace_6 18 rfl rfl)
theorem dX8_layPlace_162 : decode cX8_layPlace 162 = .ok (.return_, 1) := dk_177 (dk_at dksX8_layPlace_6 21 rfl rfl)
abbrev cX8_nextLeft : ByteArray := prog_13_method_10_code
def yX8_nextLeft : MethodName := ⟨RX8, "nextLeft", "(II)I"⟩
def dkwX8_nextLeft_1 : List UInt8 := [16, 252, 172, 42, 27, 29, 182, 0, 53, 153, 0, 5, 29, 172, 132, 3, 255, 167, 255, 220, 16, 252, 172]
abbrev dktX8_nextLeft_1 : List UInt8 := dkwX8_nextLeft_1 ++ []
def dkwX8_nextLeft_0 : List UInt8 := [28, 4, 100, 62, 29, 155, 0, 38, 42, 180, 0, 7, 27, 16, 52, 96, 29, 96, 46, 4, 160, 0, 6]
abbrev dktX8_nextLeft_0 : List UInt8 := dkwX8_nextLeft_0 ++ dktX8_nextLeft_1
theorem dksX8_nextLeft_0 : cX8_nextLeft.data.toList.drop 0 = dktX8_nextLeft_0 := by decide +kernel
theorem dksX8_nextLeft_1 : cX8_nextLeft.data.toList.drop 23 = dktX8_nextLeft_1 := dk_seg dksX8_nextLeft_0 23 rfl rfl
theorem dX8_nextLeft_0 : decode cX8_nextLeft 0 = .ok (.iload_n 2, 1) := dk_28 (dk_at dksX8_nextLeft_0 0 rfl rfl)
theorem dX8_nextLeft_1 : decode cX8_nextLeft 1 = .ok (.iconst 1, 1) := dk_4 (dk_at dksX8_nextLeft_0 1 rfl rfl)
theorem dX8_nextLeft_2 : decode cX8_nextLeft 2 = .ok (.isub, 1) := dk_100 (dk_at dksX8_nextLeft_0 2 rfl rfl)
theorem dX8_nextLeft_3 : decode cX8_nextLeft 3 = .ok (.istore_n 3, 1) := dk_62 (dk_at dksX8_nextLeft_0 3 rfl rfl)
theorem dX8_nextLeft_4 : decode cX8_nextLeft 4 = .ok (.iload_n 3, 1) := dk_29 (dk_at dksX8_nextLeft_0 4 rfl rfl)
theorem dX8_nextLeft_5 : decode cX8_nextLeft 5 = .ok (.ifCond .lt 38, 3) := dk_155 0 38 (dk_at dksX8_nextLeft_0 5 rfl rfl)
theorem dX8_nextLeft_8 : decode cX8_nextLeft 8 = .ok (.aload_n 0, 1) := dk_42 (dk_at dksX8_nextLeft_0 8 rfl rfl)
theorem dX8_nextLeft_9 : decode cX8_nextLeft 9 = .ok (.getfield 7, 3) := dk_180 0 7 (dk_at dksX8_nextLeft_0 9 rfl rfl)
theorem dX8_nextLeft_12 : decode cX8_nextLeft 12 = .ok (.iload_n 1, 1) := dk_27 (dk_at dksX8_nextLeft_0 12 rfl rfl)
theorem dX8_nextLeft_13 : decode cX8_nextLeft 13 = .ok (.bipush 52, 2) := dk_16 52 (dk_at dksX8_nextLeft_0 13 rfl rfl)
theorem dX8_nextLeft_15 : decode cX8_nextLeft 15 = .ok (.iadd, 1) := dk_96 (dk_at dksX8_nextLeft_0 15 rfl rfl)
theorem dX8_nextLeft_16 : decode cX8_nextLeft 16 = .ok (.iload_n 3, 1) := dk_29 (dk_at dksX8_nextLeft_0 16 rfl rfl)
theorem dX8_nextLeft_17 : decode cX8_nextLeft 17 = .ok (.iadd, 1) := dk_96 (dk_at dksX8_nextLeft_0 17 rfl rfl)
theorem dX8_nextLeft_18 : decode cX8_nextLeft 18 = .ok (.iaload, 1) := dk_46 (dk_at dksX8_nextLeft_0 18 rfl rfl)
theorem dX8_nextLeft_19 : decode cX8_nextLeft 19 = .ok (.iconst 1, 1) := dk_4 (dk_at dksX8_nextLeft_0 19 rfl rfl)
theorem dX8_nextLeft_20 : decode cX8_nextLeft 20 = .ok (.if_icmp .ne 6, 3) := dk_160 0 6 (dk_at dksX8_nextLeft_0 20 rfl rfl)
theorem dX8_nextLeft_23 : decode cX8_nextLeft 23 = .ok (.bipush (-4), 2) := dk_16 252 (dk_at dksX8_nextLeft_1 0 rfl rfl)
theorem dX8_nextLeft_25 : decode cX8_nextLeft 25 = .ok (.ireturn, 1) := dk_172 (dk_at dksX8_nextLeft_1 2 rfl rfl)
theorem dX8_nextLeft_26 : decode cX8_nextLeft 26 = .ok (.aload_n 0, 1) := dk_42 (dk_at dksX8_nextLeft_1 3 rfl rfl)
theorem dX8_nextLeft_27 : decode cX8_nextLeft 27 = .ok (.iload_n 1, 1) := dk_27 (dk_at dksX8_nextLeft_1 4 rfl rfl)
theorem dX8_nextLeft_28 : decode cX8_nextLeft 28 = .ok (.iload_n 3, 1) := dk_29 (dk_at dksX8_nextLeft_1 5 rfl rfl)
theorem dX8_nextLeft_29 : decode cX8_nextLeft 29 = .ok (.invokevirtual 53, 3) := dk_182 0 53 (dk_at dksX8_nextLeft_1 6 rfl rfl)
theorem dX8_nextLeft_32 : decode cX8_nextLeft 32 = .ok (.ifCond .eq 5, 3) := dk_153 0 5 (dk_at dksX8_nextLeft_1 9 rfl rfl)
theorem dX8_nextLeft_35 : decode cX8_nextLeft 35 = .ok (.iload_n 3, 1) := dk_29 (dk_at dksX8_nextLeft_1 12 rfl rfl)
theorem dX8_nextLeft_36 : decode cX8_nextLeft 36 = .ok (.ireturn, 1) := dk_172 (dk_at dksX8_nextLeft_1 13 rfl rfl)
theorem dX8_nextLeft_37 : decode cX8_nextLeft 37 = .ok (.iinc 3 (-1), 3) := dk_132 3 255 (dk_at dksX8_nextLeft_1 14 rfl rfl)
theorem dX8_nextLeft_40 : decode cX8_nextLeft 40 = .ok (.goto (-36), 3) := dk_167 255 220 (dk_at dksX8_nextLeft_1 17 rfl rfl)
theorem dX8_nextLeft_43 : decode cX8_nextLeft 43 = .ok (.bipush (-4), 2) := dk_16 252 (dk_at dksX8_nextLeft_1 20 rfl rfl)
theorem dX8_nextLeft_45 : decode cX8_nextLeft 45 = .ok (.ireturn, 1) := dk_172 (dk_at dksX8_nextLeft_1 22 rfl rfl)
abbrev cX8_partOf : ByteArray := prog_13_method_36_code
def yX8_partOf : MethodName := ⟨RX8, "partOf", "(III)I"⟩
def dkwX8_partOf_0 : List UInt8 := [26, 27, 184, 0, 182, 62, 28, 154, 0, 9, 26, 29, 108, 167, 0, 6, 27, 29, 108, 172]
abbrev dktX8_partOf_0 : List UInt8 := dkwX8_partOf_0 ++ []
theorem dksX8_partOf_0 : cX8_partOf.data.toList.drop 0 = dktX8_partOf_0 := by decide +kernel
theorem dX8_partOf_0 : decode cX8_partOf 0 = .ok (.iload_n 0, 1) := dk_26 (dk_at dksX8_partOf_0 0 rfl rfl)
theorem dX8_partOf_1 : decode cX8_partOf 1 = .ok (.iload_n 1, 1) := dk_27 (dk_at dksX8_partOf_0 1 rfl rfl)
theorem dX8_partOf_2 : decode cX8_partOf 2 = .ok (.invokestatic 182, 3) := dk_184 0 182 (dk_at dksX8_partOf_0 2 rfl rfl)
theorem dX8_partOf_5 : decode cX8_partOf 5 = .ok (.istore_n 3, 1) := dk_62 (dk_at dksX8_partOf_0 5 rfl rfl)
theorem dX8_partOf_6 : decode cX8_partOf 6 = .ok (.iload_n 2, 1) := dk_28 (dk_at dksX8_partOf_0 6 rfl rfl)
theorem dX8_partOf_7 : decode cX8_partOf 7 = .ok (.ifCond .ne 9, 3) := dk_154 0 9 (dk_at dksX8_partOf_0 7 rfl rfl)
theorem dX8_partOf_10 : decode cX8_partOf 10 = .ok (.iload_n 0, 1) := dk_26 (dk_at dksX8_partOf_0 10 rfl rfl)
theorem dX8_partOf_11 : decode cX8_partOf 11 = .ok (.iload_n 3, 1) := dk_29 (dk_at dksX8_partOf_0 11 rfl rfl)
theorem dX8_partOf_12 : decode cX8_partOf 12 = .ok (.idiv, 1) := dk_108 (dk_at dksX8_partOf_0 12 rfl rfl)
theorem dX8_partOf_13 : decode cX8_partOf 13 = .ok (.goto 6, 3) := dk_167 0 6 (dk_at dksX8_partOf_0 13 rfl rfl)
theorem dX8_partOf_16 : decode cX8_partOf 16 = .ok (.iload_n 1, 1) := dk_27 (dk_at dksX8_partOf_0 16 rfl rfl)
theorem dX8_partOf_17 : decode cX8_partOf 17 = .ok (.iload_n 3, 1) := dk_29 (dk_at dksX8_partOf_0 17 rfl rfl)
theorem dX8_partOf_18 : decode cX8_partOf 18 = .ok (.idiv, 1) := dk_108 (dk_at dksX8_partOf_0 18 rfl rfl)
theorem dX8_partOf_19 : decode cX8_partOf 19 = .ok (.ireturn, 1) := dk_172 (dk_at dksX8_partOf_0 19 rfl rfl)
abbrev cX8_divisor : ByteArray := prog_13_method_35_code
def yX8_divisor : MethodName := ⟨RX8, "divisor", "(II)I"⟩
def dkwX8_divisor_0 : List UInt8 := [26, 61, 27, 62, 29, 153, 0, 16, 28, 29, 112, 54, 4, 29, 61, 21, 4, 62, 167, 255, 242, 28, 172]
abbrev dktX8_divisor_0 : List UInt8 := dkwX8_divisor_0 ++ []
theorem dksX8_divisor_0 : cX8_divisor.data.toList.drop 0 = dktX8_divisor_0 := by decide +kernel
theorem dX8_divisor_0 : decode cX8_divisor 0 = .ok (.iload_n 0, 1) := dk_26 (dk_at dksX8_divisor_0 0 rfl rfl)
theorem dX8_divisor_1 : decode cX8_divisor 1 = .ok (.istore_n 2, 1) := dk_61 (dk_at dksX8_divisor_0 1 rfl rfl)
theorem dX8_divisor_2 : decode cX8_divisor 2 = .ok (.iload_n 1, 1) := dk_27 (dk_at dksX8_divisor_0 2 rfl rfl)
theorem dX8_divisor_3 : decode cX8_divisor 3 = .ok (.istore_n 3, 1) := dk_62 (dk_at dksX8_divisor_0 3 rfl rfl)
theorem dX8_divisor_4 : decode cX8_divisor 4 = .ok (.iload_n 3, 1) := dk_29 (dk_at dksX8_divisor_0 4 rfl rfl)
theorem dX8_divisor_5 : decode cX8_divisor 5 = .ok (.ifCond .eq 16, 3) := dk_153 0 16 (dk_at dksX8_divisor_0 5 rfl rfl)
theorem dX8_divisor_8 : decode cX8_divisor 8 = .ok (.iload_n 2, 1) := dk_28 (dk_at dksX8_divisor_0 8 rfl rfl)
theorem dX8_divisor_9 : decode cX8_divisor 9 = .ok (.iload_n 3, 1) := dk_29 (dk_at dksX8_divisor_0 9 rfl rfl)
theorem dX8_divisor_10 : decode cX8_divisor 10 = .ok (.irem, 1) := dk_112 (dk_at dksX8_divisor_0 10 rfl rfl)
theorem dX8_divisor_11 : decode cX8_divisor 11 = .ok (.istore 4, 2) := dk_54 4 (dk_at dksX8_divisor_0 11 rfl rfl)
theorem dX8_divisor_13 : decode cX8_divisor 13 = .ok (.iload_n 3, 1) := dk_29 (dk_at dksX8_divisor_0 13 rfl rfl)
theorem dX8_divisor_14 : decode cX8_divisor 14 = .ok (.istore_n 2, 1) := dk_61 (dk_at dksX8_divisor_0 14 rfl rfl)
theorem dX8_divisor_15 : decode cX8_divisor 15 = .ok (.iload 4, 2) := dk_21 4 (dk_at dksX8_divisor_0 15 rfl rfl)
theorem dX8_divisor_17 : decode cX8_divisor 17 = .ok (.istore_n 3, 1) := dk_62 (dk_at dksX8_divisor_0 17 rfl rfl)
theorem dX8_divisor_18 : decode cX8_divisor 18 = .ok (.goto (-14), 3) := dk_167 255 242 (dk_at dksX8_divisor_0 18 rfl rfl)
theorem dX8_divisor_21 : decode cX8_divisor 21 = .ok (.iload_n 2, 1) := dk_28 (dk_at dksX8_divisor_0 21 rfl rfl)
theorem dX8_divisor_22 : decode cX8_divisor 22 = .ok (.ireturn, 1) := dk_172 (dk_at dksX8_divisor_0 22 rfl rfl)
abbrev cX8_pulled : ByteArray := prog_13_method_39_code
def yX8_pulled : MethodName := ⟨RX8, "pulled", "(II)I"⟩
def dkwX8_pulled_2 : List UInt8 := [42, 180, 0, 83, 42, 180, 0, 87, 28, 184, 0, 191, 172]
abbrev dktX8_pulled_2 : List UInt8 := dkwX8_pulled_2 ++ []
def dkwX8_pulled_1 : List UInt8 := [182, 0, 103, 42, 3, 27, 182, 0, 90, 42, 180, 0, 83, 156, 0, 11, 42, 180, 0, 83, 116, 167, 0, 7]
abbrev dktX8_pulled_1 : List UInt8 := dkwX8_pulled_1 ++ dktX8_pulled_2
def dkwX8_pulled_0 : List UInt8 := [42, 27, 182, 0, 176, 153, 0, 13, 28, 133, 9, 10, 184, 0, 49, 154, 0, 5, 2, 172, 42, 3]
abbrev dktX8_pulled_0 : List UInt8 := dkwX8_pulled_0 ++ dktX8_pulled_1
theorem dksX8_pulled_0 : cX8_pulled.data.toList.drop 0 = dktX8_pulled_0 := by decide +kernel
theorem dksX8_pulled_1 : cX8_pulled.data.toList.drop 22 = dktX8_pulled_1 := dk_seg dksX8_pulled_0 22 rfl rfl
theorem dksX8_pulled_2 : cX8_pulled.data.toList.drop 46 = dktX8_pulled_2 := dk_seg dksX8_pulled_1 24 rfl rfl
theorem dX8_pulled_0 : decode cX8_pulled 0 = .ok (.aload_n 0, 1) := dk_42 (dk_at dksX8_pulled_0 0 rfl rfl)
theorem dX8_pulled_1 : decode cX8_pulled 1 = .ok (.iload_n 1, 1) := dk_27 (dk_at dksX8_pulled_0 1 rfl rfl)
theorem dX8_pulled_2 : decode cX8_pulled 2 = .ok (.invokevirtual 176, 3) := dk_182 0 176 (dk_at dksX8_pulled_0 2 rfl rfl)
theorem dX8_pulled_5 : decode cX8_pulled 5 = .ok (.ifCond .eq 13, 3) := dk_153 0 13 (dk_at dksX8_pulled_0 5 rfl rfl)
theorem dX8_pulled_8 : decode cX8_pulled 8 = .ok (.iload_n 2, 1) := dk_28 (dk_at dksX8_pulled_0 8 rfl rfl)
theorem dX8_pulled_9 : decode cX8_pulled 9 = .ok (.i2l, 1) := dk_133 (dk_at dksX8_pulled_0 9 rfl rfl)
theorem dX8_pulled_10 : decode cX8_pulled 10 = .ok (.lconst 0, 1) := dk_9 (dk_at dksX8_pulled_0 10 rfl rfl)
theorem dX8_pulled_11 : decode cX8_pulled 11 = .ok (.lconst 1, 1) := dk_10 (dk_at dksX8_pulled_0 11 rfl rfl)
theorem dX8_pulled_12 : decode cX8_pulled 12 = .ok (.invokestatic 49, 3) := dk_184 0 49 (dk_at dksX8_pulled_0 12 rfl rfl)
theorem dX8_pulled_15 : decode cX8_pulled 15 = .ok (.ifCond .ne 5, 3) := dk_154 0 5 (dk_at dksX8_pulled_0 15 rfl rfl)
theorem dX8_pulled_18 : decode cX8_pulled 18 = .ok (.iconst (-1), 1) := dk_2 (dk_at dksX8_pulled_0 18 rfl rfl)
theorem dX8_pulled_19 : decode cX8_pulled 19 = .ok (.ireturn, 1) := dk_172 (dk_at dksX8_pulled_0 19 rfl rfl)
theorem dX8_pulled_20 : decode cX8_pulled 20 = .ok (.aload_n 0, 1) := dk_42 (dk_at dksX8_pulled_0 20 rfl rfl)
theorem dX8_pulled_21 : decode cX8_pulled 21 = .ok (.iconst 0, 1) := dk_3 (dk_at dksX8_pulled_0 21 rfl rfl)
theorem dX8_pulled_22 : decode cX8_pulled 22 = .ok (.invokevirtual 103, 3) := dk_182 0 103 (dk_at dksX8_pulled_1 0 rfl rfl)
theorem dX8_pulled_25 : decode cX8_pulled 25 = .ok (.aload_n 0, 1) := dk_42 (dk_at dksX8_pulled_1 3 rfl rfl)
theorem dX8_pulled_26 : decode cX8_pulled 26 = .ok (.iconst 0, 1) := dk_3 (dk_at dksX8_pulled_1 4 rfl rfl)
theorem dX8_pulled_27 : decode cX8_pulled 27 = .ok (.iload_n 1, 1) := dk_27 (dk_at dksX8_pulled_1 5 rfl rfl)
theorem dX8_pulled_28 : decode cX8_pulled 28 = .ok (.invokevirtual 90, 3) := dk_182 0 90 (dk_at dksX8_pulled_1 6 rfl rfl)
theorem dX8_pulled_31 : decode cX8_pulled 31 = .ok (.aload_n 0, 1) := dk_42 (dk_at dksX8_pulled_1 9 rfl rfl)
theorem dX8_pulled_32 : decode cX8_pulled 32 = .ok (.getfield 83, 3) := dk_180 0 83 (dk_at dksX8_pulled_1 10 rfl rfl)
theorem dX8_pulled_35 : decode cX8_pulled 35 = .ok (.ifCond .ge 11, 3) := dk_156 0 11 (dk_at dksX8_pulled_1 13 rfl rfl)
theorem dX8_pulled_38 : decode cX8_pulled 38 = .ok (.aload_n 0, 1) := dk_42 (dk_at dksX8_pulled_1 16 rfl rfl)
theorem dX8_pulled_39 : decode cX8_pulled 39 = .ok (.getfield 83, 3) := dk_180 0 83 (dk_at dksX8_pulled_1 17 rfl rfl)
theorem dX8_pulled_42 : decode cX8_pulled 42 = .ok (.ineg, 1) := dk_116 (dk_at dksX8_pulled_1 20 rfl rfl)
theorem dX8_pulled_43 : decode cX8_pulled 43 = .ok (.goto 7, 3) := dk_167 0 7 (dk_at dksX8_pulled_1 21 rfl rfl)
theorem dX8_pulled_46 : decode cX8_pulled 46 = .ok (.aload_n 0, 1) := dk_42 (dk_at dksX8_pulled_2 0 rfl rfl)
theorem dX8_pulled_47 : decode cX8_pulled 47 = .ok (.getfield 83, 3) := dk_180 0 83 (dk_at dksX8_pulled_2 1 rfl rfl)
theorem dX8_pulled_50 : decode cX8_pulled 50 = .ok (.aload_n 0, 1) := dk_42 (dk_at dksX8_pulled_2 4 rfl rfl)
theorem dX8_pulled_51 : decode cX8_pulled 51 = .ok (.getfield 87, 3) := dk_180 0 87 (dk_at dksX8_pulled_2 5 rfl rfl)
theorem dX8_pulled_54 : decode cX8_pulled 54 = .ok (.iload_n 2, 1) := dk_28 (dk_at dksX8_pulled_2 8 rfl rfl)
theorem dX8_pulled_55 : decode cX8_pulled 55 = .ok (.invokestatic 191, 3) := dk_184 0 191 (dk_at dksX8_pulled_2 9 rfl rfl)
theorem dX8_pulled_58 : decode cX8_pulled 58 = .ok (.ireturn, 1) := dk_172 (dk_at dksX8_pulled_2 12 rfl rfl)
abbrev cX8_pull : ByteArray := prog_13_method_40_code
def yX8_pull : MethodName := ⟨RX8, "pull", "(II)I"⟩
def dkwX8_pull_1 : List UInt8 := [182, 0, 103, 42, 180, 0, 26, 27, 46, 42, 180, 0, 29, 27, 46, 28, 184, 0, 191, 172]
abbrev dktX8_pull_1 : List UInt8 := dkwX8_pull_1 ++ []
def dkwX8_pull_0 : List UInt8 := [42, 27, 182, 0, 194, 153, 0, 13, 28, 133, 9, 10, 184, 0, 49, 154, 0, 5, 2, 172, 42, 3]
abbrev dktX8_pull_0 : List UInt8 := dkwX8_pull_0 ++ dktX8_pull_1
theorem dksX8_pull_0 : cX8_pull.data.toList.drop 0 = dktX8_pull_0 := by decide +kernel
theorem dksX8_pull_1 : cX8_pull.data.toList.drop 22 = dktX8_pull_1 := dk_seg dksX8_pull_0 22 rfl rfl
theorem dX8_pull_0 : decode cX8_pull 0 = .ok (.aload_n 0, 1) := dk_42 (dk_at dksX8_pull_0 0 rfl rfl)
theorem dX8_pull_1 : decode cX8_pull 1 = .ok (.iload_n 1, 1) := dk_27 (dk_at dksX8_pull_0 1 rfl rfl)
theorem dX8_pull_2 : decode cX8_pull 2 = .ok (.invokevirtual 194, 3) := dk_182 0 194 (dk_at dksX8_pull_0 2 rfl rfl)
theorem dX8_pull_5 : decode cX8_pull 5 = .ok (.ifCond .eq 13, 3) := dk_153 0 13 (dk_at dksX8_pull_0 5 rfl rfl)
theorem dX8_pull_8 : decode cX8_pull 8 = .ok (.iload_n 2, 1) := dk_28 (dk_at dksX8_pull_0 8 rfl rfl)
theorem dX8_pull_9 : decode cX8_pull 9 = .ok (.i2l, 1) := dk_133 (dk_at dksX8_pull_0 9 rfl rfl)
theorem dX8_pull_10 : decode cX8_pull 10 = .ok (.lconst 0, 1) := dk_9 (dk_at dksX8_pull_0 10 rfl rfl)
theorem dX8_pull_11 : decode cX8_pull 11 = .ok (.lconst 1, 1) := dk_10 (dk_at dksX8_pull_0 11 rfl rfl)
theorem dX8_pull_12 : decode cX8_pull 12 = .ok (.invokestatic 49, 3) := dk_184 0 49 (dk_at dksX8_pull_0 12 rfl rfl)
theorem dX8_pull_15 : decode cX8_pull 15 = .ok (.ifCond .ne 5, 3) := dk_154 0 5 (dk_at dksX8_pull_0 15 rfl rfl)
theorem dX8_pull_18 : decode cX8_pull 18 = .ok (.iconst (-1), 1) := dk_2 (dk_at dksX8_pull_0 18 rfl rfl)
theorem dX8_pull_19 : decode cX8_pull 19 = .ok (.ireturn, 1) := dk_172 (dk_at dksX8_pull_0 19 rfl rfl)
theorem dX8_pull_20 : decode cX8_pull 20 = .ok (.aload_n 0, 1) := dk_42 (dk_at dksX8_pull_0 20 rfl rfl)
theorem dX8_pull_21 : decode cX8_pull 21 = .ok (.iconst 0, 1) := dk_3 (dk_at dksX8_pull_0 21 rfl rfl)
theorem dX8_pull_22 : decode cX8_pull 22 = .ok (.invokevirtual 103, 3) := dk_182 0 103 (dk_at dksX8_pull_1 0 rfl rfl)
theorem dX8_pull_25 : decode cX8_pull 25 = .ok (.aload_n 0, 1) := dk_42 (dk_at dksX8_pull_1 3 rfl rfl)
theorem dX8_pull_26 : decode cX8_pull 26 = .ok (.getfield 26, 3) := dk_180 0 26 (dk_at dksX8_pull_1 4 rfl rfl)
theorem dX8_pull_29 : decode cX8_pull 29 = .ok (.iload_n 1, 1) := dk_27 (dk_at dksX8_pull_1 7 rfl rfl)
theorem dX8_pull_30 : decode cX8_pull 30 = .ok (.iaload, 1) := dk_46 (dk_at dksX8_pull_1 8 rfl rfl)
theorem dX8_pull_31 : decode cX8_pull 31 = .ok (.aload_n 0, 1) := dk_42 (dk_at dksX8_pull_1 9 rfl rfl)
theorem dX8_pull_32 : decode cX8_pull 32 = .ok (.getfield 29, 3) := dk_180 0 29 (dk_at dksX8_pull_1 10 rfl rfl)
theorem dX8_pull_35 : decode cX8_pull 35 = .ok (.iload_n 1, 1) := dk_27 (dk_at dksX8_pull_1 13 rfl rfl)
theorem dX8_pull_36 : decode cX8_pull 36 = .ok (.iaload, 1) := dk_46 (dk_at dksX8_pull_1 14 rfl rfl)
theorem dX8_pull_37 : decode cX8_pull 37 = .ok (.iload_n 2, 1) := dk_28 (dk_at dksX8_pull_1 15 rfl rfl)
theorem dX8_pull_38 : decode cX8_pull 38 = .ok (.invokestatic 191, 3) := dk_184 0 191 (dk_at dksX8_pull_1 16 rfl rfl)
theorem dX8_pull_41 : decode cX8_pull 41 = .ok (.ireturn, 1) := dk_172 (dk_at dksX8_pull_1 19 rfl rfl)
abbrev cX8_isSeam : ByteArray := prog_13_method_7_code
def yX8_isSeam : MethodName := ⟨RX8, "isSeam", "(I)Z"⟩
def dkwX8_isSeam_0 : List UInt8 := [27, 133, 9, 42, 180, 0, 7, 3, 46, 5, 100, 133, 184, 0, 49, 172]
abbrev dktX8_isSeam_0 : List UInt8 := dkwX8_isSeam_0 ++ []
theorem dksX8_isSeam_0 : cX8_isSeam.data.toList.drop 0 = dktX8_isSeam_0 := by decide +kernel
theorem dX8_isSeam_0 : decode cX8_isSeam 0 = .ok (.iload_n 1, 1) := dk_27 (dk_at dksX8_isSeam_0 0 rfl rfl)
theorem dX8_isSeam_1 : decode cX8_isSeam 1 = .ok (.i2l, 1) := dk_133 (dk_at dksX8_isSeam_0 1 rfl rfl)
theorem dX8_isSeam_2 : decode cX8_isSeam 2 = .ok (.lconst 0, 1) := dk_9 (dk_at dksX8_isSeam_0 2 rfl rfl)
theorem dX8_isSeam_3 : decode cX8_isSeam 3 = .ok (.aload_n 0, 1) := dk_42 (dk_at dksX8_isSeam_0 3 rfl rfl)
theorem dX8_isSeam_4 : decode cX8_isSeam 4 = .ok (.getfield 7, 3) := dk_180 0 7 (dk_at dksX8_isSeam_0 4 rfl rfl)
theorem dX8_isSeam_7 : decode cX8_isSeam 7 = .ok (.iconst 0, 1) := dk_3 (dk_at dksX8_isSeam_0 7 rfl rfl)
theorem dX8_isSeam_8 : decode cX8_isSeam 8 = .ok (.iaload, 1) := dk_46 (dk_at dksX8_isSeam_0 8 rfl rfl)
theorem dX8_isSeam_9 : decode cX8_isSeam 9 = .ok (.iconst 2, 1) := dk_5 (dk_at dksX8_isSeam_0 9 rfl rfl)
theorem dX8_isSeam_10 : decode cX8_isSeam 10 = .ok (.isub, 1) := dk_100 (dk_at dksX8_isSeam_0 10 rfl rfl)
theorem dX8_isSeam_11 : decode cX8_isSeam 11 = .ok (.i2l, 1) := dk_133 (dk_at dksX8_isSeam_0 11 rfl rfl)
theorem dX8_isSeam_12 : decode cX8_isSeam 12 = .ok (.invokestatic 49, 3) := dk_184 0 49 (dk_at dksX8_isSeam_0 12 rfl rfl)
theorem dX8_isSeam_15 : decode cX8_isSeam 15 = .ok (.ireturn, 1) := dk_172 (dk_at dksX8_isSeam_0 15 rfl rfl)
abbrev cX8_seam : ByteArray := prog_13_method_41_code
def yX8_seam : MethodName := ⟨RX8, "seam", "(II)I"⟩
def dkwX8_seam_1 : List UInt8 := [180, 0, 7, 16, 36, 16, 8, 28, 104, 96, 27, 96, 46, 172]
abbrev dktX8_seam_1 : List UInt8 := dkwX8_seam_1 ++ []
def dkwX8_seam_0 : List UInt8 := [42, 27, 182, 0, 194, 153, 0, 15, 28, 133, 9, 20, 0, 197, 184, 0, 49, 154, 0, 5, 2, 172, 42]
abbrev dktX8_seam_0 : List UInt8 := dkwX8_seam_0 ++ dktX8_seam_1
theorem dksX8_seam_0 : cX8_seam.data.toList.drop 0 = dktX8_seam_0 := by decide +kernel
theorem dksX8_seam_1 : cX8_seam.data.toList.drop 23 = dktX8_seam_1 := dk_seg dksX8_seam_0 23 rfl rfl
theorem dX8_seam_0 : decode cX8_seam 0 = .ok (.aload_n 0, 1) := dk_42 (dk_at dksX8_seam_0 0 rfl rfl)
theorem dX8_seam_1 : decode cX8_seam 1 = .ok (.iload_n 1, 1) := dk_27 (dk_at dksX8_seam_0 1 rfl rfl)
theorem dX8_seam_2 : decode cX8_seam 2 = .ok (.invokevirtual 194, 3) := dk_182 0 194 (dk_at dksX8_seam_0 2 rfl rfl)
theorem dX8_seam_5 : decode cX8_seam 5 = .ok (.ifCond .eq 15, 3) := dk_153 0 15 (dk_at dksX8_seam_0 5 rfl rfl)
theorem dX8_seam_8 : decode cX8_seam 8 = .ok (.iload_n 2, 1) := dk_28 (dk_at dksX8_seam_0 8 rfl rfl)
theorem dX8_seam_9 : decode cX8_seam 9 = .ok (.i2l, 1) := dk_133 (dk_at dksX8_seam_0 9 rfl rfl)
theorem dX8_seam_10 : decode cX8_seam 10 = .ok (.lconst 0, 1) := dk_9 (dk_at dksX8_seam_0 10 rfl rfl)
theorem dX8_seam_11 : decode cX8_seam 11 = .ok (.ldc2_w 197, 3) := dk_20 0 197 (dk_at dksX8_seam_0 11 rfl rfl)
theorem dX8_seam_14 : decode cX8_seam 14 = .ok (.invokestatic 49, 3) := dk_184 0 49 (dk_at dksX8_seam_0 14 rfl rfl)
theorem dX8_seam_17 : decode cX8_seam 17 = .ok (.ifCond .ne 5, 3) := dk_154 0 5 (dk_at dksX8_seam_0 17 rfl rfl)
theorem dX8_seam_20 : decode cX8_seam 20 = .ok (.iconst (-1), 1) := dk_2 (dk_at dksX8_seam_0 20 rfl rfl)
theorem dX8_seam_21 : decode cX8_seam 21 = .ok (.ireturn, 1) := dk_172 (dk_at dksX8_seam_0 21 rfl rfl)
theorem dX8_seam_22 : decode cX8_seam 22 = .ok (.aload_n 0, 1) := dk_42 (dk_at dksX8_seam_0 22 rfl rfl)
theorem dX8_seam_23 : decode cX8_seam 23 = .ok (.getfield 7, 3) := dk_180 0 7 (dk_at dksX8_seam_1 0 rfl rfl)
theorem dX8_seam_26 : decode cX8_seam 26 = .ok (.bipush 36, 2) := dk_16 36 (dk_at dksX8_seam_1 3 rfl rfl)
theorem dX8_seam_28 : decode cX8_seam 28 = .ok (.bipush 8, 2) := dk_16 8 (dk_at dksX8_seam_1 5 rfl rfl)
theorem dX8_seam_30 : decode cX8_seam 30 = .ok (.iload_n 2, 1) := dk_28 (dk_at dksX8_seam_1 7 rfl rfl)
theorem dX8_seam_31 : decode cX8_seam 31 = .ok (.imul, 1) := dk_104 (dk_at dksX8_seam_1 8 rfl rfl)
theorem dX8_seam_32 : decode cX8_seam 32 = .ok (.iadd, 1) := dk_96 (dk_at dksX8_seam_1 9 rfl rfl)
theorem dX8_seam_33 : decode cX8_seam 33 = .ok (.iload_n 1, 1) := dk_27 (dk_at dksX8_seam_1 10 rfl rfl)
theorem dX8_seam_34 : decode cX8_seam 34 = .ok (.iadd, 1) := dk_96 (dk_at dksX8_seam_1 11 rfl rfl)
theorem dX8_seam_35 : decode cX8_seam 35 = .ok (.iaload, 1) := dk_46 (dk_at dksX8_seam_1 12 rfl rfl)
theorem dX8_seam_36 : decode cX8_seam 36 = .ok (.ireturn, 1) := dk_172 (dk_at dksX8_seam_1 13 rfl rfl)
abbrev cX8_count : ByteArray := prog_13_method_46_code
def yX8_count : MethodName := ⟨RX8, "count", "(I)I"⟩
def dkwX8_count_4 : List UInt8 := [16, 60, 46, 172, 2, 172]
abbrev dktX8_count_4 : List UInt8 := dkwX8_count_4 ++ []
def dkwX8_count_3 : List UInt8 := [42, 180, 0, 7, 5, 46, 172, 42, 180, 0, 7, 4, 46, 172, 42, 3, 182, 0, 211, 172, 42, 180, 0, 7]
abbrev dktX8_count_3 : List UInt8 := dkwX8_count_3 ++ dktX8_count_4
def dkwX8_count_2 : List UInt8 := [42, 180, 0, 7, 3, 46, 172, 42, 3, 182, 0, 202, 172, 42, 3, 182, 0, 205, 172, 42, 182, 0, 208, 172]
abbrev dktX8_count_2 : List UInt8 := dkwX8_count_2 ++ dktX8_count_3
def dkwX8_count_1 : List UInt8 := [170, 0, 0, 0, 0, 0, 99, 0, 0, 0, 0, 0, 0, 0, 7, 0, 0, 0, 47, 0, 0, 0, 54, 0, 0, 0, 60, 0, 0, 0, 66, 0, 0, 0, 71, 0, 0, 0, 78, 0, 0, 0, 85, 0, 0, 0, 91]
abbrev dktX8_count_1 : List UInt8 := dkwX8_count_1 ++ dktX8_count_2
def dkwX8_count_0 : List UInt8 := [27]
abbrev dktX8_count_0 : List UInt8 := dkwX8_count_0 ++ dktX8_count_1
theorem dksX8_count_0 : cX8_count.data.toList.drop 0 = dktX8_count_0 := by decide +kernel
theorem dksX8_count_1 : cX8_count.data.toList.drop 1 = dktX8_count_1 := dk_seg dksX8_count_0 1 rfl rfl
theorem dksX8_count_2 : cX8_count.data.toList.drop 48 = dktX8_count_2 := dk_seg dksX8_count_1 47 rfl rfl
theorem dksX8_count_3 : cX8_count.data.toList.drop 72 = dktX8_count_3 := dk_seg dksX8_count_2 24 rfl rfl
theorem dksX8_count_4 : cX8_count.data.toList.drop 96 = dktX8_count_4 := dk_seg dksX8_count_3 24 rfl rfl
theorem dX8_count_0 : decode cX8_count 0 = .ok (.iload_n 1, 1) := dk_27 (dk_at dksX8_count_0 0 rfl rfl)
theorem dX8_count_1 : decode cX8_count 1 = .ok (.tableswitch 99 0 7 #[47, 54, 60, 66, 71, 78, 85, 91], 47) := by decide +kernel
theorem dX8_count_48 : decode cX8_count 48 = .ok (.aload_n 0, 1) := dk_42 (dk_at dksX8_count_2 0 rfl rfl)
theorem dX8_count_49 : decode cX8_count 49 = .ok (.getfield 7, 3) := dk_180 0 7 (dk_at dksX8_count_2 1 rfl rfl)
theorem dX8_count_52 : decode cX8_count 52 = .ok (.iconst 0, 1) := dk_3 (dk_at dksX8_count_2 4 rfl rfl)
theorem dX8_count_53 : decode cX8_count 53 = .ok (.iaload, 1) := dk_46 (dk_at dksX8_count_2 5 rfl rfl)
theorem dX8_count_54 : decode cX8_count 54 = .ok (.ireturn, 1) := dk_172 (dk_at dksX8_count_2 6 rfl rfl)
theorem dX8_count_55 : decode cX8_count 55 = .ok (.aload_n 0, 1) := dk_42 (dk_at dksX8_count_2 7 rfl rfl)
theorem dX8_count_56 : decode cX8_count 56 = .ok (.iconst 0, 1) := dk_3 (dk_at dksX8_count_2 8 rfl rfl)
theorem dX8_count_57 : decode cX8_count 57 = .ok (.invokevirtual 202, 3) := dk_182 0 202 (dk_at dksX8_count_2 9 rfl rfl)
theorem dX8_count_60 : decode cX8_count 60 = .ok (.ireturn, 1) := dk_172 (dk_at dksX8_count_2 12 rfl rfl)
theorem dX8_count_61 : decode cX8_count 61 = .ok (.aload_n 0, 1) := dk_42 (dk_at dksX8_count_2 13 rfl rfl)
theorem dX8_count_62 : decode cX8_count 62 = .ok (.iconst 0, 1) := dk_3 (dk_at dksX8_count_2 14 rfl rfl)
theorem dX8_count_63 : decode cX8_count 63 = .ok (.invokevirtual 205, 3) := dk_182 0 205 (dk_at dksX8_count_2 15 rfl rfl)
theorem dX8_count_66 : decode cX8_count 66 = .ok (.ireturn, 1) := dk_172 (dk_at dksX8_count_2 18 rfl rfl)
theorem dX8_count_67 : decode cX8_count 67 = .ok (.aload_n 0, 1) := dk_42 (dk_at dksX8_count_2 19 rfl rfl)
theorem dX8_count_68 : decode cX8_count 68 = .ok (.invokevirtual 208, 3) := dk_182 0 208 (dk_at dksX8_count_2 20 rfl rfl)
theorem dX8_count_71 : decode cX8_count 71 = .ok (.ireturn, 1) := dk_172 (dk_at dksX8_count_2 23 rfl rfl)
theorem dX8_count_72 : decode cX8_count 72 = .ok (.aload_n 0, 1) := dk_42 (dk_at dksX8_count_3 0 rfl rfl)
theorem dX8_count_73 : decode cX8_count 73 = .ok (.getfield 7, 3) := dk_180 0 7 (dk_at dksX8_count_3 1 rfl rfl)
theorem dX8_count_76 : decode cX8_count 76 = .ok (.iconst 2, 1) := dk_5 (dk_at dksX8_count_3 4 rfl rfl)
theorem dX8_count_77 : decode cX8_count 77 = .ok (.iaload, 1) := dk_46 (dk_at dksX8_count_3 5 rfl rfl)
theorem dX8_count_78 : decode cX8_count 78 = .ok (.ireturn, 1) := dk_172 (dk_at dksX8_count_3 6 rfl rfl)
theorem dX8_count_79 : decode cX8_count 79 = .ok (.aload_n 0, 1) := dk_42 (dk_at dksX8_count_3 7 rfl rfl)
theorem dX8_count_80 : decode cX8_count 80 = .ok (.getfield 7, 3) := dk_180 0 7 (dk_at dksX8_count_3 8 rfl rfl)
theorem dX8_count_83 : decode cX8_count 83 = .ok (.iconst 1, 1) := dk_4 (dk_at dksX8_count_3 11 rfl rfl)
theorem dX8_count_84 : decode cX8_count 84 = .ok (.iaload, 1) := dk_46 (dk_at dksX8_count_3 12 rfl rfl)
theorem dX8_count_85 : decode cX8_count 85 = .ok (.ireturn, 1) := dk_172 (dk_at dksX8_count_3 13 rfl rfl)
theorem dX8_count_86 : decode cX8_count 86 = .ok (.aload_n 0, 1) := dk_42 (dk_at dksX8_count_3 14 rfl rfl)
theorem dX8_count_87 : decode cX8_count 87 = .ok (.iconst 0, 1) := dk_3 (dk_at dksX8_count_3 15 rfl rfl)
theorem dX8_count_88 : decode cX8_count 88 = .ok (.invokevirtual 211, 3) := dk_182 0 211 (dk_at dksX8_count_3 16 rfl rfl)
theorem dX8_count_91 : decode cX8_count 91 = .ok (.ireturn, 1) := dk_172 (dk_at dksX8_count_3 19 rfl rfl)
theorem dX8_count_92 : decode cX8_count 92 = .ok (.aload_n 0, 1) := dk_42 (dk_at dksX8_count_3 20 rfl rfl)
theorem dX8_count_93 : decode cX8_count 93 = .ok (.getfield 7, 3) := dk_180 0 7 (dk_at dksX8_count_3 21 rfl rfl)
theorem dX8_count_96 : decode cX8_count 96 = .ok (.bipush 60, 2) := dk_16 60 (dk_at dksX8_count_4 0 rfl rfl)
theorem dX8_count_98 : decode cX8_count 98 = .ok (.iaload, 1) := dk_46 (dk_at dksX8_count_4 2 rfl rfl)
theorem dX8_count_99 : decode cX8_count 99 = .ok (.ireturn, 1) := dk_172 (dk_at dksX8_count_4 3 rfl rfl)
theorem dX8_count_100 : decode cX8_count 100 = .ok (.iconst (-1), 1) := dk_2 (dk_at dksX8_count_4 4 rfl rfl)
theorem dX8_count_101 : decode cX8_count 101 = .ok (.ireturn, 1) := dk_172 (dk_at dksX8_count_4 5 rfl rfl)
abbrev cX8_holding : ByteArray := prog_13_method_42_code
def yX8_holding : MethodName := ⟨RX8, "holding", "(I)I"⟩
def dkwX8_holding_1 : List UInt8 := [153, 0, 9, 4, 29, 120, 167, 0, 4, 3, 128, 61, 132, 3, 1, 167, 255, 222, 28, 172]
abbrev dktX8_holding_1 : List UInt8 := dkwX8_holding_1 ++ []
def dkwX8_holding_0 : List UInt8 := [3, 61, 3, 62, 29, 42, 180, 0, 7, 27, 3, 96, 46, 162, 0, 28, 28, 42, 27, 29, 182, 0, 53]
abbrev dktX8_holding_0 : List UInt8 := dkwX8_holding_0 ++ dktX8_holding_1
theorem dksX8_holding_0 : cX8_holding.data.toList.drop 0 = dktX8_holding_0 := by decide +kernel
theorem dksX8_holding_1 : cX8_holding.data.toList.drop 23 = dktX8_holding_1 := dk_seg dksX8_holding_0 23 rfl rfl
theorem dX8_holding_0 : decode cX8_holding 0 = .ok (.iconst 0, 1) := dk_3 (dk_at dksX8_holding_0 0 rfl rfl)
theorem dX8_holding_1 : decode cX8_holding 1 = .ok (.istore_n 2, 1) := dk_61 (dk_at dksX8_holding_0 1 rfl rfl)
theorem dX8_holding_2 : decode cX8_holding 2 = .ok (.iconst 0, 1) := dk_3 (dk_at dksX8_holding_0 2 rfl rfl)
theorem dX8_holding_3 : decode cX8_holding 3 = .ok (.istore_n 3, 1) := dk_62 (dk_at dksX8_holding_0 3 rfl rfl)
theorem dX8_holding_4 : decode cX8_holding 4 = .ok (.iload_n 3, 1) := dk_29 (dk_at dksX8_holding_0 4 rfl rfl)
theorem dX8_holding_5 : decode cX8_holding 5 = .ok (.aload_n 0, 1) := dk_42 (dk_at dksX8_holding_0 5 rfl rfl)
theorem dX8_holding_6 : decode cX8_holding 6 = .ok (.getfield 7, 3) := dk_180 0 7 (dk_at dksX8_holding_0 6 rfl rfl)
theorem dX8_holding_9 : decode cX8_holding 9 = .ok (.iload_n 1, 1) := dk_27 (dk_at dksX8_holding_0 9 rfl rfl)
theorem dX8_holding_10 : decode cX8_holding 10 = .ok (.iconst 0, 1) := dk_3 (dk_at dksX8_holding_0 10 rfl rfl)
theorem dX8_holding_11 : decode cX8_holding 11 = .ok (.iadd, 1) := dk_96 (dk_at dksX8_holding_0 11 rfl rfl)
theorem dX8_holding_12 : decode cX8_holding 12 = .ok (.iaload, 1) := dk_46 (dk_at dksX8_holding_0 12 rfl rfl)
theorem dX8_holding_13 : decode cX8_holding 13 = .ok (.if_icmp .ge 28, 3) := dk_162 0 28 (dk_at dksX8_holding_0 13 rfl rfl)
theorem dX8_holding_16 : decode cX8_holding 16 = .ok (.iload_n 2, 1) := dk_28 (dk_at dksX8_holding_0 16 rfl rfl)
theorem dX8_holding_17 : decode cX8_holding 17 = .ok (.aload_n 0, 1) := dk_42 (dk_at dksX8_holding_0 17 rfl rfl)
theorem dX8_holding_18 : decode cX8_holding 18 = .ok (.iload_n 1, 1) := dk_27 (dk_at dksX8_holding_0 18 rfl rfl)
theorem dX8_holding_19 : decode cX8_holding 19 = .ok (.iload_n 3, 1) := dk_29 (dk_at dksX8_holding_0 19 rfl rfl)
theorem dX8_holding_20 : decode cX8_holding 20 = .ok (.invokevirtual 53, 3) := dk_182 0 53 (dk_at dksX8_holding_0 20 rfl rfl)
theorem dX8_holding_23 : decode cX8_holding 23 = .ok (.ifCond .eq 9, 3) := dk_153 0 9 (dk_at dksX8_holding_1 0 rfl rfl)
theorem dX8_holding_26 : decode cX8_holding 26 = .ok (.iconst 1, 1) := dk_4 (dk_at dksX8_holding_1 3 rfl rfl)
theorem dX8_holding_27 : decode cX8_holding 27 = .ok (.iload_n 3, 1) := dk_29 (dk_at dksX8_holding_1 4 rfl rfl)
theorem dX8_holding_28 : decode cX8_holding 28 = .ok (.ishl, 1) := dk_120 (dk_at dksX8_holding_1 5 rfl rfl)
theorem dX8_holding_29 : decode cX8_holding 29 = .ok (.goto 4, 3) := dk_167 0 4 (dk_at dksX8_holding_1 6 rfl rfl)
theorem dX8_holding_32 : decode cX8_holding 32 = .ok (.iconst 0, 1) := dk_3 (dk_at dksX8_holding_1 9 rfl rfl)
theorem dX8_holding_33 : decode cX8_holding 33 = .ok (.ior, 1) := dk_128 (dk_at dksX8_holding_1 10 rfl rfl)
theorem dX8_holding_34 : decode cX8_holding 34 = .ok (.istore_n 2, 1) := dk_61 (dk_at dksX8_holding_1 11 rfl rfl)
theorem dX8_holding_35 : decode cX8_holding 35 = .ok (.iinc 3 1, 3) := dk_132 3 1 (dk_at dksX8_holding_1 12 rfl rfl)
theorem dX8_holding_38 : decode cX8_holding 38 = .ok (.goto (-34), 3) := dk_167 255 222 (dk_at dksX8_holding_1 15 rfl rfl)
theorem dX8_holding_41 : decode cX8_holding 41 = .ok (.iload_n 2, 1) := dk_28 (dk_at dksX8_holding_1 18 rfl rfl)
theorem dX8_holding_42 : decode cX8_holding 42 = .ok (.ireturn, 1) := dk_172 (dk_at dksX8_holding_1 19 rfl rfl)
abbrev cX8_cutOnes : ByteArray := prog_13_method_43_code
def yX8_cutOnes : MethodName := ⟨RX8, "cutOnes", "(I)I"⟩
def dkwX8_cutOnes_1 : List UInt8 := [16, 52, 96, 29, 96, 46, 29, 120, 128, 61, 132, 3, 1, 167, 255, 223, 28, 172]
abbrev dktX8_cutOnes_1 : List UInt8 := dkwX8_cutOnes_1 ++ []
def dkwX8_cutOnes_0 : List UInt8 := [3, 61, 3, 62, 29, 4, 96, 42, 180, 0, 7, 27, 3, 96, 46, 162, 0, 25, 28, 42, 180, 0, 7, 27]
abbrev dktX8_cutOnes_0 : List UInt8 := dkwX8_cutOnes_0 ++ dktX8_cutOnes_1
theorem dksX8_cutOnes_0 : cX8_cutOnes.data.toList.drop 0 = dktX8_cutOnes_0 := by decide +kernel
theorem dksX8_cutOnes_1 : cX8_cutOnes.data.toList.drop 24 = dktX8_cutOnes_1 := dk_seg dksX8_cutOnes_0 24 rfl rfl
theorem dX8_cutOnes_0 : decode cX8_cutOnes 0 = .ok (.iconst 0, 1) := dk_3 (dk_at dksX8_cutOnes_0 0 rfl rfl)
theorem dX8_cutOnes_1 : decode cX8_cutOnes 1 = .ok (.istore_n 2, 1) := dk_61 (dk_at dksX8_cutOnes_0 1 rfl rfl)
theorem dX8_cutOnes_2 : decode cX8_cutOnes 2 = .ok (.iconst 0, 1) := dk_3 (dk_at dksX8_cutOnes_0 2 rfl rfl)
theorem dX8_cutOnes_3 : decode cX8_cutOnes 3 = .ok (.istore_n 3, 1) := dk_62 (dk_at dksX8_cutOnes_0 3 rfl rfl)
theorem dX8_cutOnes_4 : decode cX8_cutOnes 4 = .ok (.iload_n 3, 1) := dk_29 (dk_at dksX8_cutOnes_0 4 rfl rfl)
theorem dX8_cutOnes_5 : decode cX8_cutOnes 5 = .ok (.iconst 1, 1) := dk_4 (dk_at dksX8_cutOnes_0 5 rfl rfl)
theorem dX8_cutOnes_6 : decode cX8_cutOnes 6 = .ok (.iadd, 1) := dk_96 (dk_at dksX8_cutOnes_0 6 rfl rfl)
theorem dX8_cutOnes_7 : decode cX8_cutOnes 7 = .ok (.aload_n 0, 1) := dk_42 (dk_at dksX8_cutOnes_0 7 rfl rfl)
theorem dX8_cutOnes_8 : decode cX8_cutOnes 8 = .ok (.getfield 7, 3) := dk_180 0 7 (dk_at dksX8_cutOnes_0 8 rfl rfl)
theorem dX8_cutOnes_11 : decode cX8_cutOnes 11 = .ok (.iload_n 1, 1) := dk_27 (dk_at dksX8_cutOnes_0 11 rfl rfl)
theorem dX8_cutOnes_12 : decode cX8_cutOnes 12 = .ok (.iconst 0, 1) := dk_3 (dk_at dksX8_cutOnes_0 12 rfl rfl)
theorem dX8_cutOnes_13 : decode cX8_cutOnes 13 = .ok (.iadd, 1) := dk_96 (dk_at dksX8_cutOnes_0 13 rfl rfl)
theorem dX8_cutOnes_14 : decode cX8_cutOnes 14 = .ok (.iaload, 1) := dk_46 (dk_at dksX8_cutOnes_0 14 rfl rfl)
theorem dX8_cutOnes_15 : decode cX8_cutOnes 15 = .ok (.if_icmp .ge 25, 3) := dk_162 0 25 (dk_at dksX8_cutOnes_0 15 rfl rfl)
theorem dX8_cutOnes_18 : decode cX8_cutOnes 18 = .ok (.iload_n 2, 1) := dk_28 (dk_at dksX8_cutOnes_0 18 rfl rfl)
theorem dX8_cutOnes_19 : decode cX8_cutOnes 19 = .ok (.aload_n 0, 1) := dk_42 (dk_at dksX8_cutOnes_0 19 rfl rfl)
theorem dX8_cutOnes_20 : decode cX8_cutOnes 20 = .ok (.getfield 7, 3) := dk_180 0 7 (dk_at dksX8_cutOnes_0 20 rfl rfl)
theorem dX8_cutOnes_23 : decode cX8_cutOnes 23 = .ok (.iload_n 1, 1) := dk_27 (dk_at dksX8_cutOnes_0 23 rfl rfl)
theorem dX8_cutOnes_24 : decode cX8_cutOnes 24 = .ok (.bipush 52, 2) := dk_16 52 (dk_at dksX8_cutOnes_1 0 rfl rfl)
theorem dX8_cutOnes_26 : decode cX8_cutOnes 26 = .ok (.iadd, 1) := dk_96 (dk_at dksX8_cutOnes_1 2 rfl rfl)
theorem dX8_cutOnes_27 : decode cX8_cutOnes 27 = .ok (.iload_n 3, 1) := dk_29 (dk_at dksX8_cutOnes_1 3 rfl rfl)
theorem dX8_cutOnes_28 : decode cX8_cutOnes 28 = .ok (.iadd, 1) := dk_96 (dk_at dksX8_cutOnes_1 4 rfl rfl)
theorem dX8_cutOnes_29 : decode cX8_cutOnes 29 = .ok (.iaload, 1) := dk_46 (dk_at dksX8_cutOnes_1 5 rfl rfl)
theorem dX8_cutOnes_30 : decode cX8_cutOnes 30 = .ok (.iload_n 3, 1) := dk_29 (dk_at dksX8_cutOnes_1 6 rfl rfl)
theorem dX8_cutOnes_31 : decode cX8_cutOnes 31 = .ok (.ishl, 1) := dk_120 (dk_at dksX8_cutOnes_1 7 rfl rfl)
theorem dX8_cutOnes_32 : decode cX8_cutOnes 32 = .ok (.ior, 1) := dk_128 (dk_at dksX8_cutOnes_1 8 rfl rfl)
theorem dX8_cutOnes_33 : decode cX8_cutOnes 33 = .ok (.istore_n 2, 1) := dk_61 (dk_at dksX8_cutOnes_1 9 rfl rfl)
theorem dX8_cutOnes_34 : decode cX8_cutOnes 34 = .ok (.iinc 3 1, 3) := dk_132 3 1 (dk_at dksX8_cutOnes_1 10 rfl rfl)
theorem dX8_cutOnes_37 : decode cX8_cutOnes 37 = .ok (.goto (-33), 3) := dk_167 255 223 (dk_at dksX8_cutOnes_1 13 rfl rfl)
theorem dX8_cutOnes_40 : decode cX8_cutOnes 40 = .ok (.iload_n 2, 1) := dk_28 (dk_at dksX8_cutOnes_1 16 rfl rfl)
theorem dX8_cutOnes_41 : decode cX8_cutOnes 41 = .ok (.ireturn, 1) := dk_172 (dk_at dksX8_cutOnes_1 17 rfl rfl)
abbrev cX8_tautOnes : ByteArray := prog_13_method_44_code
def yX8_tautOnes : MethodName := ⟨RX8, "tautOnes", "()I"⟩
def dkwX8_tautOnes_2 : List UInt8 := [172]
abbrev dktX8_tautOnes_2 : List UInt8 := dkwX8_tautOnes_2 ++ []
def dkwX8_tautOnes_1 : List UInt8 := [180, 0, 26, 28, 46, 158, 0, 9, 4, 28, 120, 167, 0, 4, 3, 128, 60, 132, 2, 1, 167, 255, 222, 27]
abbrev dktX8_tautOnes_1 : List UInt8 := dkwX8_tautOnes_1 ++ dktX8_tautOnes_2
def dkwX8_tautOnes_0 : List UInt8 := [42, 3, 182, 0, 103, 3, 60, 3, 61, 28, 4, 96, 42, 180, 0, 7, 3, 46, 162, 0, 28, 27, 42]
abbrev dktX8_tautOnes_0 : List UInt8 := dkwX8_tautOnes_0 ++ dktX8_tautOnes_1
theorem dksX8_tautOnes_0 : cX8_tautOnes.data.toList.drop 0 = dktX8_tautOnes_0 := by decide +kernel
theorem dksX8_tautOnes_1 : cX8_tautOnes.data.toList.drop 23 = dktX8_tautOnes_1 := dk_seg dksX8_tautOnes_0 23 rfl rfl
theorem dksX8_tautOnes_2 : cX8_tautOnes.data.toList.drop 47 = dktX8_tautOnes_2 := dk_seg dksX8_tautOnes_1 24 rfl rfl
theorem dX8_tautOnes_0 : decode cX8_tautOnes 0 = .ok (.aload_n 0, 1) := dk_42 (dk_at dksX8_tautOnes_0 0 rfl rfl)
theorem dX8_tautOnes_1 : decode cX8_tautOnes 1 = .ok (.iconst 0, 1) := dk_3 (dk_at dksX8_tautOnes_0 1 rfl rfl)
theorem dX8_tautOnes_2 : decode cX8_tautOnes 2 = .ok (.invokevirtual 103, 3) := dk_182 0 103 (dk_at dksX8_tautOnes_0 2 rfl rfl)
theorem dX8_tautOnes_5 : decode cX8_tautOnes 5 = .ok (.iconst 0, 1) := dk_3 (dk_at dksX8_tautOnes_0 5 rfl rfl)
theorem dX8_tautOnes_6 : decode cX8_tautOnes 6 = .ok (.istore_n 1, 1) := dk_60 (dk_at dksX8_tautOnes_0 6 rfl rfl)
theorem dX8_tautOnes_7 : decode cX8_tautOnes 7 = .ok (.iconst 0, 1) := dk_3 (dk_at dksX8_tautOnes_0 7 rfl rfl)
theorem dX8_tautOnes_8 : decode cX8_tautOnes 8 = .ok (.istore_n 2, 1) := dk_61 (dk_at dksX8_tautOnes_0 8 rfl rfl)
theorem dX8_tautOnes_9 : decode cX8_tautOnes 9 = .ok (.iload_n 2, 1) := dk_28 (dk_at dksX8_tautOnes_0 9 rfl rfl)
theorem dX8_tautOnes_10 : decode cX8_tautOnes 10 = .ok (.iconst 1, 1) := dk_4 (dk_at dksX8_tautOnes_0 10 rfl rfl)
theorem dX8_tautOnes_11 : decode cX8_tautOnes 11 = .ok (.iadd, 1) := dk_96 (dk_at dksX8_tautOnes_0 11 rfl rfl)
theorem dX8_tautOnes_12 : decode cX8_tautOnes 12 = .ok (.aload_n 0, 1) := dk_42 (dk_at dksX8_tautOnes_0 12 rfl rfl)
theorem dX8_tautOnes_13 : decode cX8_tautOnes 13 = .ok (.getfield 7, 3) := dk_180 0 7 (dk_at dksX8_tautOnes_0 13 rfl rfl)
theorem dX8_tautOnes_16 : decode cX8_tautOnes 16 = .ok (.iconst 0, 1) := dk_3 (dk_at dksX8_tautOnes_0 16 rfl rfl)
theorem dX8_tautOnes_17 : decode cX8_tautOnes 17 = .ok (.iaload, 1) := dk_46 (dk_at dksX8_tautOnes_0 17 rfl rfl)
theorem dX8_tautOnes_18 : decode cX8_tautOnes 18 = .ok (.if_icmp .ge 28, 3) := dk_162 0 28 (dk_at dksX8_tautOnes_0 18 rfl rfl)
theorem dX8_tautOnes_21 : decode cX8_tautOnes 21 = .ok (.iload_n 1, 1) := dk_27 (dk_at dksX8_tautOnes_0 21 rfl rfl)
theorem dX8_tautOnes_22 : decode cX8_tautOnes 22 = .ok (.aload_n 0, 1) := dk_42 (dk_at dksX8_tautOnes_0 22 rfl rfl)
theorem dX8_tautOnes_23 : decode cX8_tautOnes 23 = .ok (.getfield 26, 3) := dk_180 0 26 (dk_at dksX8_tautOnes_1 0 rfl rfl)
theorem dX8_tautOnes_26 : decode cX8_tautOnes 26 = .ok (.iload_n 2, 1) := dk_28 (dk_at dksX8_tautOnes_1 3 rfl rfl)
theorem dX8_tautOnes_27 : decode cX8_tautOnes 27 = .ok (.iaload, 1) := dk_46 (dk_at dksX8_tautOnes_1 4 rfl rfl)
theorem dX8_tautOnes_28 : decode cX8_tautOnes 28 = .ok (.ifCond .le 9, 3) := dk_158 0 9 (dk_at dksX8_tautOnes_1 5 rfl rfl)
theorem dX8_tautOnes_31 : decode cX8_tautOnes 31 = .ok (.iconst 1, 1) := dk_4 (dk_at dksX8_tautOnes_1 8 rfl rfl)
theorem dX8_tautOnes_32 : decode cX8_tautOnes 32 = .ok (.iload_n 2, 1) := dk_28 (dk_at dksX8_tautOnes_1 9 rfl rfl)
theorem dX8_tautOnes_33 : decode cX8_tautOnes 33 = .ok (.ishl, 1) := dk_120 (dk_at dksX8_tautOnes_1 10 rfl rfl)
theorem dX8_tautOnes_34 : decode cX8_tautOnes 34 = .ok (.goto 4, 3) := dk_167 0 4 (dk_at dksX8_tautOnes_1 11 rfl rfl)
theorem dX8_tautOnes_37 : decode cX8_tautOnes 37 = .ok (.iconst 0, 1) := dk_3 (dk_at dksX8_tautOnes_1 14 rfl rfl)
theorem dX8_tautOnes_38 : decode cX8_tautOnes 38 = .ok (.ior, 1) := dk_128 (dk_at dksX8_tautOnes_1 15 rfl rfl)
theorem dX8_tautOnes_39 : decode cX8_tautOnes 39 = .ok (.istore_n 1, 1) := dk_60 (dk_at dksX8_tautOnes_1 16 rfl rfl)
theorem dX8_tautOnes_40 : decode cX8_tautOnes 40 = .ok (.iinc 2 1, 3) := dk_132 2 1 (dk_at dksX8_tautOnes_1 17 rfl rfl)
theorem dX8_tautOnes_43 : decode cX8_tautOnes 43 = .ok (.goto (-34), 3) := dk_167 255 222 (dk_at dksX8_tautOnes_1 20 rfl rfl)
theorem dX8_tautOnes_46 : decode cX8_tautOnes 46 = .ok (.iload_n 1, 1) := dk_27 (dk_at dksX8_tautOnes_1 23 rfl rfl)
theorem dX8_tautOnes_47 : decode cX8_tautOnes 47 = .ok (.ireturn, 1) := dk_172 (dk_at dksX8_tautOnes_2 0 rfl rfl)
abbrev cX8_greatestCut : ByteArray := prog_13_method_45_code
def yX8_greatestCut : MethodName := ⟨RX8, "greatestCut", "(I)I"⟩
def dkwX8_greatestCut_1 : List UInt8 := [172]
abbrev dktX8_greatestCut_1 : List UInt8 := dkwX8_greatestCut_1 ++ []
def dkwX8_greatestCut_0 : List UInt8 := [42, 27, 182, 0, 103, 42, 27, 182, 0, 199, 61, 42, 180, 0, 26, 28, 46, 42, 180, 0, 29, 28, 46, 108]
abbrev dktX8_greatestCut_0 : List UInt8 := dkwX8_greatestCut_0 ++ dktX8_greatestCut_1
theorem dksX8_greatestCut_0 : cX8_greatestCut.data.toList.drop 0 = dktX8_greatestCut_0 := by decide +kernel
theorem dksX8_greatestCut_1 : cX8_greatestCut.data.toList.drop 24 = dktX8_greatestCut_1 := dk_seg dksX8_greatestCut_0 24 rfl rfl
theorem dX8_greatestCut_0 : decode cX8_greatestCut 0 = .ok (.aload_n 0, 1) := dk_42 (dk_at dksX8_greatestCut_0 0 rfl rfl)
theorem dX8_greatestCut_1 : decode cX8_greatestCut 1 = .ok (.iload_n 1, 1) := dk_27 (dk_at dksX8_greatestCut_0 1 rfl rfl)
theorem dX8_greatestCut_2 : decode cX8_greatestCut 2 = .ok (.invokevirtual 103, 3) := dk_182 0 103 (dk_at dksX8_greatestCut_0 2 rfl rfl)
theorem dX8_greatestCut_5 : decode cX8_greatestCut 5 = .ok (.aload_n 0, 1) := dk_42 (dk_at dksX8_greatestCut_0 5 rfl rfl)
theorem dX8_greatestCut_6 : decode cX8_greatestCut 6 = .ok (.iload_n 1, 1) := dk_27 (dk_at dksX8_greatestCut_0 6 rfl rfl)
theorem dX8_greatestCut_7 : decode cX8_greatestCut 7 = .ok (.invokevirtual 199, 3) := dk_182 0 199 (dk_at dksX8_greatestCut_0 7 rfl rfl)
theorem dX8_greatestCut_10 : decode cX8_greatestCut 10 = .ok (.istore_n 2, 1) := dk_61 (dk_at dksX8_greatestCut_0 10 rfl rfl)
theorem dX8_greatestCut_11 : decode cX8_greatestCut 11 = .ok (.aload_n 0, 1) := dk_42 (dk_at dksX8_greatestCut_0 11 rfl rfl)
theorem dX8_greatestCut_12 : decode cX8_greatestCut 12 = .ok (.getfield 26, 3) := dk_180 0 26 (dk_at dksX8_greatestCut_0 12 rfl rfl)
theorem dX8_greatestCut_15 : decode cX8_greatestCut 15 = .ok (.iload_n 2, 1) := dk_28 (dk_at dksX8_greatestCut_0 15 rfl rfl)
theorem dX8_greatestCut_16 : decode cX8_greatestCut 16 = .ok (.iaload, 1) := dk_46 (dk_at dksX8_greatestCut_0 16 rfl rfl)
theorem dX8_greatestCut_17 : decode cX8_greatestCut 17 = .ok (.aload_n 0, 1) := dk_42 (dk_at dksX8_greatestCut_0 17 rfl rfl)
theorem dX8_greatestCut_18 : decode cX8_greatestCut 18 = .ok (.getfield 29, 3) := dk_180 0 29 (dk_at dksX8_greatestCut_0 18 rfl rfl)
theorem dX8_greatestCut_21 : decode cX8_greatestCut 21 = .ok (.iload_n 2, 1) := dk_28 (dk_at dksX8_greatestCut_0 21 rfl rfl)
theorem dX8_greatestCut_22 : decode cX8_greatestCut 22 = .ok (.iaload, 1) := dk_46 (dk_at dksX8_greatestCut_0 22 rfl rfl)
theorem dX8_greatestCut_23 : decode cX8_greatestCut 23 = .ok (.idiv, 1) := dk_108 (dk_at dksX8_greatestCut_0 23 rfl rfl)
theorem dX8_greatestCut_24 : decode cX8_greatestCut 24 = .ok (.ireturn, 1) := dk_172 (dk_at dksX8_greatestCut_1 0 rfl rfl)
abbrev cX8_greatest : ByteArray := prog_13_method_13_code
def yX8_greatest : MethodName := ⟨RX8, "greatest", "(I)I"⟩
def dkwX8_greatest_2 : List UInt8 := [167, 0, 4, 28, 61, 132, 3, 1, 167, 255, 204, 28, 172]
abbrev dktX8_greatest_2 : List UInt8 := dkwX8_greatest_2 ++ []
def dkwX8_greatest_1 : List UInt8 := [42, 180, 0, 29, 28, 46, 104, 42, 180, 0, 26, 28, 46, 42, 180, 0, 29, 29, 46, 104, 164, 0, 7, 29]
abbrev dktX8_greatest_1 : List UInt8 := dkwX8_greatest_1 ++ dktX8_greatest_2
def dkwX8_greatest_0 : List UInt8 := [3, 61, 4, 62, 29, 4, 96, 42, 180, 0, 7, 27, 3, 96, 46, 162, 0, 44, 42, 180, 0, 26, 29, 46]
abbrev dktX8_greatest_0 : List UInt8 := dkwX8_greatest_0 ++ dktX8_greatest_1
theorem dksX8_greatest_0 : cX8_greatest.data.toList.drop 0 = dktX8_greatest_0 := by decide +kernel
theorem dksX8_greatest_1 : cX8_greatest.data.toList.drop 24 = dktX8_greatest_1 := dk_seg dksX8_greatest_0 24 rfl rfl
theorem dksX8_greatest_2 : cX8_greatest.data.toList.drop 48 = dktX8_greatest_2 := dk_seg dksX8_greatest_1 24 rfl rfl
theorem dX8_greatest_0 : decode cX8_greatest 0 = .ok (.iconst 0, 1) := dk_3 (dk_at dksX8_greatest_0 0 rfl rfl)
theorem dX8_greatest_1 : decode cX8_greatest 1 = .ok (.istore_n 2, 1) := dk_61 (dk_at dksX8_greatest_0 1 rfl rfl)
theorem dX8_greatest_2 : decode cX8_greatest 2 = .ok (.iconst 1, 1) := dk_4 (dk_at dksX8_greatest_0 2 rfl rfl)
theorem dX8_greatest_3 : decode cX8_greatest 3 = .ok (.istore_n 3, 1) := dk_62 (dk_at dksX8_greatest_0 3 rfl rfl)
theorem dX8_greatest_4 : decode cX8_greatest 4 = .ok (.iload_n 3, 1) := dk_29 (dk_at dksX8_greatest_0 4 rfl rfl)
theorem dX8_greatest_5 : decode cX8_greatest 5 = .ok (.iconst 1, 1) := dk_4 (dk_at dksX8_greatest_0 5 rfl rfl)
theorem dX8_greatest_6 : decode cX8_greatest 6 = .ok (.iadd, 1) := dk_96 (dk_at dksX8_greatest_0 6 rfl rfl)
theorem dX8_greatest_7 : decode cX8_greatest 7 = .ok (.aload_n 0, 1) := dk_42 (dk_at dksX8_greatest_0 7 rfl rfl)
theorem dX8_greatest_8 : decode cX8_greatest 8 = .ok (.getfield 7, 3) := dk_180 0 7 (dk_at dksX8_greatest_0 8 rfl rfl)
theorem dX8_greatest_11 : decode cX8_greatest 11 = .ok (.iload_n 1, 1) := dk_27 (dk_at dksX8_greatest_0 11 rfl rfl)
theorem dX8_greatest_12 : decode cX8_greatest 12 = .ok (.iconst 0, 1) := dk_3 (dk_at dksX8_greatest_0 12 rfl rfl)
theorem dX8_greatest_13 : decode cX8_greatest 13 = .ok (.iadd, 1) := dk_96 (dk_at dksX8_greatest_0 13 rfl rfl)
theorem dX8_greatest_14 : decode cX8_greatest 14 = .ok (.iaload, 1) := dk_46 (dk_at dksX8_greatest_0 14 rfl rfl)
theorem dX8_greatest_15 : decode cX8_greatest 15 = .ok (.if_icmp .ge 44, 3) := dk_162 0 44 (dk_at dksX8_greatest_0 15 rfl rfl)
theorem dX8_greatest_18 : decode cX8_greatest 18 = .ok (.aload_n 0, 1) := dk_42 (dk_at dksX8_greatest_0 18 rfl rfl)
theorem dX8_greatest_19 : decode cX8_greatest 19 = .ok (.getfield 26, 3) := dk_180 0 26 (dk_at dksX8_greatest_0 19 rfl rfl)
theorem dX8_greatest_22 : decode cX8_greatest 22 = .ok (.iload_n 3, 1) := dk_29 (dk_at dksX8_greatest_0 22 rfl rfl)
theorem dX8_greatest_23 : decode cX8_greatest 23 = .ok (.iaload, 1) := dk_46 (dk_at dksX8_greatest_0 23 rfl rfl)
theorem dX8_greatest_24 : decode cX8_greatest 24 = .ok (.aload_n 0, 1) := dk_42 (dk_at dksX8_greatest_1 0 rfl rfl)
theorem dX8_greatest_25 : decode cX8_greatest 25 = .ok (.getfield 29, 3) := dk_180 0 29 (dk_at dksX8_greatest_1 1 rfl rfl)
theorem dX8_greatest_28 : decode cX8_greatest 28 = .ok (.iload_n 2, 1) := dk_28 (dk_at dksX8_greatest_1 4 rfl rfl)
theorem dX8_greatest_29 : decode cX8_greatest 29 = .ok (.iaload, 1) := dk_46 (dk_at dksX8_greatest_1 5 rfl rfl)
theorem dX8_greatest_30 : decode cX8_greatest 30 = .ok (.imul, 1) := dk_104 (dk_at dksX8_greatest_1 6 rfl rfl)
theorem dX8_greatest_31 : decode cX8_greatest 31 = .ok (.aload_n 0, 1) := dk_42 (dk_at dksX8_greatest_1 7 rfl rfl)
theorem dX8_greatest_32 : decode cX8_greatest 32 = .ok (.getfield 26, 3) := dk_180 0 26 (dk_at dksX8_greatest_1 8 rfl rfl)
theorem dX8_greatest_35 : decode cX8_greatest 35 = .ok (.iload_n 2, 1) := dk_28 (dk_at dksX8_greatest_1 11 rfl rfl)
theorem dX8_greatest_36 : decode cX8_greatest 36 = .ok (.iaload, 1) := dk_46 (dk_at dksX8_greatest_1 12 rfl rfl)
theorem dX8_greatest_37 : decode cX8_greatest 37 = .ok (.aload_n 0, 1) := dk_42 (dk_at dksX8_greatest_1 13 rfl rfl)
theorem dX8_greatest_38 : decode cX8_greatest 38 = .ok (.getfield 29, 3) := dk_180 0 29 (dk_at dksX8_greatest_1 14 rfl rfl)
theorem dX8_greatest_41 : decode cX8_greatest 41 = .ok (.iload_n 3, 1) := dk_29 (dk_at dksX8_greatest_1 17 rfl rfl)
theorem dX8_greatest_42 : decode cX8_greatest 42 = .ok (.iaload, 1) := dk_46 (dk_at dksX8_greatest_1 18 rfl rfl)
theorem dX8_greatest_43 : decode cX8_greatest 43 = .ok (.imul, 1) := dk_104 (dk_at dksX8_greatest_1 19 rfl rfl)
theorem dX8_greatest_44 : decode cX8_greatest 44 = .ok (.if_icmp .le 7, 3) := dk_164 0 7 (dk_at dksX8_greatest_1 20 rfl rfl)
theorem dX8_greatest_47 : decode cX8_greatest 47 = .ok (.iload_n 3, 1) := dk_29 (dk_at dksX8_greatest_1 23 rfl rfl)
theorem dX8_greatest_48 : decode cX8_greatest 48 = .ok (.goto 4, 3) := dk_167 0 4 (dk_at dksX8_greatest_2 0 rfl rfl)
theorem dX8_greatest_51 : decode cX8_greatest 51 = .ok (.iload_n 2, 1) := dk_28 (dk_at dksX8_greatest_2 3 rfl rfl)
theorem dX8_greatest_52 : decode cX8_greatest 52 = .ok (.istore_n 2, 1) := dk_61 (dk_at dksX8_greatest_2 4 rfl rfl)
theorem dX8_greatest_53 : decode cX8_greatest 53 = .ok (.iinc 3 1, 3) := dk_132 3 1 (dk_at dksX8_greatest_2 5 rfl rfl)
theorem dX8_greatest_56 : decode cX8_greatest 56 = .ok (.goto (-52), 3) := dk_167 255 204 (dk_at dksX8_greatest_2 8 rfl rfl)
theorem dX8_greatest_59 : decode cX8_greatest 59 = .ok (.iload_n 2, 1) := dk_28 (dk_at dksX8_greatest_2 11 rfl rfl)
theorem dX8_greatest_60 : decode cX8_greatest 60 = .ok (.ireturn, 1) := dk_172 (dk_at dksX8_greatest_2 12 rfl rfl)
abbrev cX8_go : ByteArray := prog_13_method_49_code
def yX8_go : MethodName := ⟨RX8, "go", "(II)I"⟩
def dkwX8_go_2 : List UInt8 := [180, 0, 7, 16, 28, 27, 96, 92, 46, 28, 96, 79, 42, 3, 182, 0, 165, 42, 180, 0, 97, 172]
abbrev dktX8_go_2 : List UInt8 := dkwX8_go_2 ++ []
def dkwX8_go_1 : List UInt8 := [154, 0, 5, 2, 172, 42, 3, 27, 28, 182, 0, 216, 154, 0, 6, 16, 254, 172, 42, 182, 0, 219, 42]
abbrev dktX8_go_1 : List UInt8 := dkwX8_go_1 ++ dktX8_go_2
def dkwX8_go_0 : List UInt8 := [42, 27, 182, 0, 176, 153, 0, 21, 28, 133, 20, 0, 214, 20, 0, 172, 184, 0, 49, 153, 0, 7, 28]
abbrev dktX8_go_0 : List UInt8 := dkwX8_go_0 ++ dktX8_go_1
theorem dksX8_go_0 : cX8_go.data.toList.drop 0 = dktX8_go_0 := by decide +kernel
theorem dksX8_go_1 : cX8_go.data.toList.drop 23 = dktX8_go_1 := dk_seg dksX8_go_0 23 rfl rfl
theorem dksX8_go_2 : cX8_go.data.toList.drop 46 = dktX8_go_2 := dk_seg dksX8_go_1 23 rfl rfl
theorem dX8_go_0 : decode cX8_go 0 = .ok (.aload_n 0, 1) := dk_42 (dk_at dksX8_go_0 0 rfl rfl)
theorem dX8_go_1 : decode cX8_go 1 = .ok (.iload_n 1, 1) := dk_27 (dk_at dksX8_go_0 1 rfl rfl)
theorem dX8_go_2 : decode cX8_go 2 = .ok (.invokevirtual 176, 3) := dk_182 0 176 (dk_at dksX8_go_0 2 rfl rfl)
theorem dX8_go_5 : decode cX8_go 5 = .ok (.ifCond .eq 21, 3) := dk_153 0 21 (dk_at dksX8_go_0 5 rfl rfl)
theorem dX8_go_8 : decode cX8_go 8 = .ok (.iload_n 2, 1) := dk_28 (dk_at dksX8_go_0 8 rfl rfl)
theorem dX8_go_9 : decode cX8_go 9 = .ok (.i2l, 1) := dk_133 (dk_at dksX8_go_0 9 rfl rfl)
theorem dX8_go_10 : decode cX8_go 10 = .ok (.ldc2_w 214, 3) := dk_20 0 214 (dk_at dksX8_go_0 10 rfl rfl)
theorem dX8_go_13 : decode cX8_go 13 = .ok (.ldc2_w 172, 3) := dk_20 0 172 (dk_at dksX8_go_0 13 rfl rfl)
theorem dX8_go_16 : decode cX8_go 16 = .ok (.invokestatic 49, 3) := dk_184 0 49 (dk_at dksX8_go_0 16 rfl rfl)
theorem dX8_go_19 : decode cX8_go 19 = .ok (.ifCond .eq 7, 3) := dk_153 0 7 (dk_at dksX8_go_0 19 rfl rfl)
theorem dX8_go_22 : decode cX8_go 22 = .ok (.iload_n 2, 1) := dk_28 (dk_at dksX8_go_0 22 rfl rfl)
theorem dX8_go_23 : decode cX8_go 23 = .ok (.ifCond .ne 5, 3) := dk_154 0 5 (dk_at dksX8_go_1 0 rfl rfl)
theorem dX8_go_26 : decode cX8_go 26 = .ok (.iconst (-1), 1) := dk_2 (dk_at dksX8_go_1 3 rfl rfl)
theorem dX8_go_27 : decode cX8_go 27 = .ok (.ireturn, 1) := dk_172 (dk_at dksX8_go_1 4 rfl rfl)
theorem dX8_go_28 : decode cX8_go 28 = .ok (.aload_n 0, 1) := dk_42 (dk_at dksX8_go_1 5 rfl rfl)
theorem dX8_go_29 : decode cX8_go 29 = .ok (.iconst 0, 1) := dk_3 (dk_at dksX8_go_1 6 rfl rfl)
theorem dX8_go_30 : decode cX8_go 30 = .ok (.iload_n 1, 1) := dk_27 (dk_at dksX8_go_1 7 rfl rfl)
theorem dX8_go_31 : decode cX8_go 31 = .ok (.iload_n 2, 1) := dk_28 (dk_at dksX8_go_1 8 rfl rfl)
theorem dX8_go_32 : decode cX8_go 32 = .ok (.invokevirtual 216, 3) := dk_182 0 216 (dk_at dksX8_go_1 9 rfl rfl)
theorem dX8_go_35 : decode cX8_go 35 = .ok (.ifCond .ne 6, 3) := dk_154 0 6 (dk_at dksX8_go_1 12 rfl rfl)
theorem dX8_go_38 : decode cX8_go 38 = .ok (.bipush (-2), 2) := dk_16 254 (dk_at dksX8_go_1 15 rfl rfl)
theorem dX8_go_40 : decode cX8_go 40 = .ok (.ireturn, 1) := dk_172 (dk_at dksX8_go_1 17 rfl rfl)
theorem dX8_go_41 : decode cX8_go 41 = .ok (.aload_n 0, 1) := dk_42 (dk_at dksX8_go_1 18 rfl rfl)
theorem dX8_go_42 : decode cX8_go 42 = .ok (.invokevirtual 219, 3) := dk_182 0 219 (dk_at dksX8_go_1 19 rfl rfl)
theorem dX8_go_45 : decode cX8_go 45 = .ok (.aload_n 0, 1) := dk_42 (dk_at dksX8_go_1 22 rfl rfl)
theorem dX8_go_46 : decode cX8_go 46 = .ok (.getfield 7, 3) := dk_180 0 7 (dk_at dksX8_go_2 0 rfl rfl)
theorem dX8_go_49 : decode cX8_go 49 = .ok (.bipush 28, 2) := dk_16 28 (dk_at dksX8_go_2 3 rfl rfl)
theorem dX8_go_51 : decode cX8_go 51 = .ok (.iload_n 1, 1) := dk_27 (dk_at dksX8_go_2 5 rfl rfl)
theorem dX8_go_52 : decode cX8_go 52 = .ok (.iadd, 1) := dk_96 (dk_at dksX8_go_2 6 rfl rfl)
theorem dX8_go_53 : decode cX8_go 53 = .ok (.dup2, 1) := dk_92 (dk_at dksX8_go_2 7 rfl rfl)
theorem dX8_go_54 : decode cX8_go 54 = .ok (.iaload, 1) := dk_46 (dk_at dksX8_go_2 8 rfl rfl)
theorem dX8_go_55 : decode cX8_go 55 = .ok (.iload_n 2, 1) := dk_28 (dk_at dksX8_go_2 9 rfl rfl)
theorem dX8_go_56 : decode cX8_go 56 = .ok (.iadd, 1) := dk_96 (dk_at dksX8_go_2 10 rfl rfl)
theorem dX8_go_57 : decode cX8_go 57 = .ok (.iastore, 1) := dk_79 (dk_at dksX8_go_2 11 rfl rfl)
theorem dX8_go_58 : decode cX8_go 58 = .ok (.aload_n 0, 1) := dk_42 (dk_at dksX8_go_2 12 rfl rfl)
theorem dX8_go_59 : decode cX8_go 59 = .ok (.iconst 0, 1) := dk_3 (dk_at dksX8_go_2 13 rfl rfl)
theorem dX8_go_60 : decode cX8_go 60 = .ok (.invokevirtual 165, 3) := dk_182 0 165 (dk_at dksX8_go_2 14 rfl rfl)
theorem dX8_go_63 : decode cX8_go 63 = .ok (.aload_n 0, 1) := dk_42 (dk_at dksX8_go_2 17 rfl rfl)
theorem dX8_go_64 : decode cX8_go 64 = .ok (.getfield 97, 3) := dk_180 0 97 (dk_at dksX8_go_2 18 rfl rfl)
theorem dX8_go_67 : decode cX8_go 67 = .ok (.ireturn, 1) := dk_172 (dk_at dksX8_go_2 21 rfl rfl)
abbrev cX8_mayGo : ByteArray := prog_13_method_48_code
def yX8_mayGo : MethodName := ⟨RX8, "mayGo", "(III)Z"⟩
def dkwX8_mayGo_1 : List UInt8 := [20, 0, 172, 184, 0, 49, 153, 0, 7, 4, 167, 0, 4, 3, 172]
abbrev dktX8_mayGo_1 : List UInt8 := dkwX8_mayGo_1 ++ []
def dkwX8_mayGo_0 : List UInt8 := [42, 27, 28, 182, 0, 53, 153, 0, 31, 42, 180, 0, 7, 27, 16, 28, 96, 28, 96, 46, 29, 96, 133, 9]
abbrev dktX8_mayGo_0 : List UInt8 := dkwX8_mayGo_0 ++ dktX8_mayGo_1
theorem dksX8_mayGo_0 : cX8_mayGo.data.toList.drop 0 = dktX8_mayGo_0 := by decide +kernel
theorem dksX8_mayGo_1 : cX8_mayGo.data.toList.drop 24 = dktX8_mayGo_1 := dk_seg dksX8_mayGo_0 24 rfl rfl
theorem dX8_mayGo_0 : decode cX8_mayGo 0 = .ok (.aload_n 0, 1) := dk_42 (dk_at dksX8_mayGo_0 0 rfl rfl)
theorem dX8_mayGo_1 : decode cX8_mayGo 1 = .ok (.iload_n 1, 1) := dk_27 (dk_at dksX8_mayGo_0 1 rfl rfl)
theorem dX8_mayGo_2 : decode cX8_mayGo 2 = .ok (.iload_n 2, 1) := dk_28 (dk_at dksX8_mayGo_0 2 rfl rfl)
theorem dX8_mayGo_3 : decode cX8_mayGo 3 = .ok (.invokevirtual 53, 3) := dk_182 0 53 (dk_at dksX8_mayGo_0 3 rfl rfl)
theorem dX8_mayGo_6 : decode cX8_mayGo 6 = .ok (.ifCond .eq 31, 3) := dk_153 0 31 (dk_at dksX8_mayGo_0 6 rfl rfl)
theorem dX8_mayGo_9 : decode cX8_mayGo 9 = .ok (.aload_n 0, 1) := dk_42 (dk_at dksX8_mayGo_0 9 rfl rfl)
theorem dX8_mayGo_10 : decode cX8_mayGo 10 = .ok (.getfield 7, 3) := dk_180 0 7 (dk_at dksX8_mayGo_0 10 rfl rfl)
theorem dX8_mayGo_13 : decode cX8_mayGo 13 = .ok (.iload_n 1, 1) := dk_27 (dk_at dksX8_mayGo_0 13 rfl rfl)
theorem dX8_mayGo_14 : decode cX8_mayGo 14 = .ok (.bipush 28, 2) := dk_16 28 (dk_at dksX8_mayGo_0 14 rfl rfl)
theorem dX8_mayGo_16 : decode cX8_mayGo 16 = .ok (.iadd, 1) := dk_96 (dk_at dksX8_mayGo_0 16 rfl rfl)
theorem dX8_mayGo_17 : decode cX8_mayGo 17 = .ok (.iload_n 2, 1) := dk_28 (dk_at dksX8_mayGo_0 17 rfl rfl)
theorem dX8_mayGo_18 : decode cX8_mayGo 18 = .ok (.iadd, 1) := dk_96 (dk_at dksX8_mayGo_0 18 rfl rfl)
theorem dX8_mayGo_19 : decode cX8_mayGo 19 = .ok (.iaload, 1) := dk_46 (dk_at dksX8_mayGo_0 19 rfl rfl)
theorem dX8_mayGo_20 : decode cX8_mayGo 20 = .ok (.iload_n 3, 1) := dk_29 (dk_at dksX8_mayGo_0 20 rfl rfl)
theorem dX8_mayGo_21 : decode cX8_mayGo 21 = .ok (.iadd, 1) := dk_96 (dk_at dksX8_mayGo_0 21 rfl rfl)
theorem dX8_mayGo_22 : decode cX8_mayGo 22 = .ok (.i2l, 1) := dk_133 (dk_at dksX8_mayGo_0 22 rfl rfl)
theorem dX8_mayGo_23 : decode cX8_mayGo 23 = .ok (.lconst 0, 1) := dk_9 (dk_at dksX8_mayGo_0 23 rfl rfl)
theorem dX8_mayGo_24 : decode cX8_mayGo 24 = .ok (.ldc2_w 172, 3) := dk_20 0 172 (dk_at dksX8_mayGo_1 0 rfl rfl)
theorem dX8_mayGo_27 : decode cX8_mayGo 27 = .ok (.invokestatic 49, 3) := dk_184 0 49 (dk_at dksX8_mayGo_1 3 rfl rfl)
theorem dX8_mayGo_30 : decode cX8_mayGo 30 = .ok (.ifCond .eq 7, 3) := dk_153 0 7 (dk_at dksX8_mayGo_1 6 rfl rfl)
theorem dX8_mayGo_33 : decode cX8_mayGo 33 = .ok (.iconst 1, 1) := dk_4 (dk_at dksX8_mayGo_1 9 rfl rfl)
theorem dX8_mayGo_34 : decode cX8_mayGo 34 = .ok (.goto 4, 3) := dk_167 0 4 (dk_at dksX8_mayGo_1 10 rfl rfl)
theorem dX8_mayGo_37 : decode cX8_mayGo 37 = .ok (.iconst 0, 1) := dk_3 (dk_at dksX8_mayGo_1 13 rfl rfl)
theorem dX8_mayGo_38 : decode cX8_mayGo 38 = .ok (.ireturn, 1) := dk_172 (dk_at dksX8_mayGo_1 14 rfl rfl)
abbrev cX8_minds : ByteArray := prog_13_method_47_code
def yX8_minds : MethodName := ⟨RX8, "minds", "()V"⟩
def dkwX8_minds_4 : List UInt8 := [79, 132, 1, 1, 167, 255, 221, 42, 180, 0, 7, 16, 60, 92, 46, 4, 96, 79, 177]
abbrev dktX8_minds_4 : List UInt8 := dkwX8_minds_4 ++ []
def dkwX8_minds_3 : List UInt8 := [180, 0, 7, 16, 61, 16, 60, 42, 180, 0, 7, 16, 60, 46, 104, 96, 27, 96, 42, 180, 0, 7, 27, 46]
abbrev dktX8_minds_3 : List UInt8 := dkwX8_minds_3 ++ dktX8_minds_4
def dkwX8_minds_2 : List UInt8 := [167, 255, 225, 42, 180, 0, 7, 16, 60, 92, 46, 4, 100, 79, 3, 60, 27, 16, 60, 162, 0, 35, 42]
abbrev dktX8_minds_2 : List UInt8 := dkwX8_minds_2 ++ dktX8_minds_3
def dkwX8_minds_1 : List UInt8 := [180, 0, 7, 16, 61, 27, 96, 42, 180, 0, 7, 16, 61, 27, 96, 16, 60, 96, 46, 79, 132, 1, 1]
abbrev dktX8_minds_1 : List UInt8 := dkwX8_minds_1 ++ dktX8_minds_2
def dkwX8_minds_0 : List UInt8 := [42, 180, 0, 7, 16, 60, 46, 16, 8, 160, 0, 50, 3, 60, 27, 17, 1, 164, 162, 0, 30, 42]
abbrev dktX8_minds_0 : List UInt8 := dkwX8_minds_0 ++ dktX8_minds_1
theorem dksX8_minds_0 : cX8_minds.data.toList.drop 0 = dktX8_minds_0 := by decide +kernel
theorem dksX8_minds_1 : cX8_minds.data.toList.drop 22 = dktX8_minds_1 := dk_seg dksX8_minds_0 22 rfl rfl
theorem dksX8_minds_2 : cX8_minds.data.toList.drop 45 = dktX8_minds_2 := dk_seg dksX8_minds_1 23 rfl rfl
theorem dksX8_minds_3 : cX8_minds.data.toList.drop 68 = dktX8_minds_3 := dk_seg dksX8_minds_2 23 rfl rfl
theorem dksX8_minds_4 : cX8_minds.data.toList.drop 92 = dktX8_minds_4 := dk_seg dksX8_minds_3 24 rfl rfl
theorem dX8_minds_0 : decode cX8_minds 0 = .ok (.aload_n 0, 1) := dk_42 (dk_at dksX8_minds_0 0 rfl rfl)
theorem dX8_minds_1 : decode cX8_minds 1 = .ok (.getfield 7, 3) := dk_180 0 7 (dk_at dksX8_minds_0 1 rfl rfl)
theorem dX8_minds_4 : decode cX8_minds 4 = .ok (.bipush 60, 2) := dk_16 60 (dk_at dksX8_minds_0 4 rfl rfl)
theorem dX8_minds_6 : decode cX8_minds 6 = .ok (.iaload, 1) := dk_46 (dk_at dksX8_minds_0 6 rfl rfl)
theorem dX8_minds_7 : decode cX8_minds 7 = .ok (.bipush 8, 2) := dk_16 8 (dk_at dksX8_minds_0 7 rfl rfl)
theorem dX8_minds_9 : decode cX8_minds 9 = .ok (.if_icmp .ne 50, 3) := dk_160 0 50 (dk_at dksX8_minds_0 9 rfl rfl)
theorem dX8_minds_12 : decode cX8_minds 12 = .ok (.iconst 0, 1) := dk_3 (dk_at dksX8_minds_0 12 rfl rfl)
theorem dX8_minds_13 : decode cX8_minds 13 = .ok (.istore_n 1, 1) := dk_60 (dk_at dksX8_minds_0 13 rfl rfl)
theorem dX8_minds_14 : decode cX8_minds 14 = .ok (.iload_n 1, 1) := dk_27 (dk_at dksX8_minds_0 14 rfl rfl)
theorem dX8_minds_15 : decode cX8_minds 15 = .ok (.sipush 420, 3) := dk_17 1 164 (dk_at dksX8_minds_0 15 rfl rfl)
theorem dX8_minds_18 : decode cX8_minds 18 = .ok (.if_icmp .ge 30, 3) := dk_162 0 30 (dk_at dksX8_minds_0 18 rfl rfl)
theorem dX8_minds_21 : decode cX8_minds 21 = .ok (.aload_n 0, 1) := dk_42 (dk_at dksX8_minds_0 21 rfl rfl)
theorem dX8_minds_22 : decode cX8_minds 22 = .ok (.getfield 7, 3) := dk_180 0 7 (dk_at dksX8_minds_1 0 rfl rfl)
theorem dX8_minds_25 : decode cX8_minds 25 = .ok (.bipush 61, 2) := dk_16 61 (dk_at dksX8_minds_1 3 rfl rfl)
theorem dX8_minds_27 : decode cX8_minds 27 = .ok (.iload_n 1, 1) := dk_27 (dk_at dksX8_minds_1 5 rfl rfl)
theorem dX8_minds_28 : decode cX8_minds 28 = .ok (.iadd, 1) := dk_96 (dk_at dksX8_minds_1 6 rfl rfl)
theorem dX8_minds_29 : decode cX8_minds 29 = .ok (.aload_n 0, 1) := dk_42 (dk_at dksX8_minds_1 7 rfl rfl)
theorem dX8_minds_30 : decode cX8_minds 30 = .ok (.getfield 7, 3) := dk_180 0 7 (dk_at dksX8_minds_1 8 rfl rfl)
theorem dX8_minds_33 : decode cX8_minds 33 = .ok (.bipush 61, 2) := dk_16 61 (dk_at dksX8_minds_1 11 rfl rfl)
theorem dX8_minds_35 : decode cX8_minds 35 = .ok (.iload_n 1, 1) := dk_27 (dk_at dksX8_minds_1 13 rfl rfl)
theorem dX8_minds_36 : decode cX8_minds 36 = .ok (.iadd, 1) := dk_96 (dk_at dksX8_minds_1 14 rfl rfl)
theorem dX8_minds_37 : decode cX8_minds 37 = .ok (.bipush 60, 2) := dk_16 60 (dk_at dksX8_minds_1 15 rfl rfl)
theorem dX8_minds_39 : decode cX8_minds 39 = .ok (.iadd, 1) := dk_96 (dk_at dksX8_minds_1 17 rfl rfl)
theorem dX8_minds_40 : decode cX8_minds 40 = .ok (.iaload, 1) := dk_46 (dk_at dksX8_minds_1 18 rfl rfl)
theorem dX8_minds_41 : decode cX8_minds 41 = .ok (.iastore, 1) := dk_79 (dk_at dksX8_minds_1 19 rfl rfl)
theorem dX8_minds_42 : decode cX8_minds 42 = .ok (.iinc 1 1, 3) := dk_132 1 1 (dk_at dksX8_minds_1 20 rfl rfl)
theorem dX8_minds_45 : decode cX8_minds 45 = .ok (.goto (-31), 3) := dk_167 255 225 (dk_at dksX8_minds_2 0 rfl rfl)
theorem dX8_minds_48 : decode cX8_minds 48 = .ok (.aload_n 0, 1) := dk_42 (dk_at dksX8_minds_2 3 rfl rfl)
theorem dX8_minds_49 : decode cX8_minds 49 = .ok (.getfield 7, 3) := dk_180 0 7 (dk_at dksX8_minds_2 4 rfl rfl)
theorem dX8_minds_52 : decode cX8_minds 52 = .ok (.bipush 60, 2) := dk_16 60 (dk_at dksX8_minds_2 7 rfl rfl)
theorem dX8_minds_54 : decode cX8_minds 54 = .ok (.dup2, 1) := dk_92 (dk_at dksX8_minds_2 9 rfl rfl)
theorem dX8_minds_55 : decode cX8_minds 55 = .ok (.iaload, 1) := dk_46 (dk_at dksX8_minds_2 10 rfl rfl)
theorem dX8_minds_56 : decode cX8_minds 56 = .ok (.iconst 1, 1) := dk_4 (dk_at dksX8_minds_2 11 rfl rfl)
theorem dX8_minds_57 : decode cX8_minds 57 = .ok (.isub, 1) := dk_100 (dk_at dksX8_minds_2 12 rfl rfl)
theorem dX8_minds_58 : decode cX8_minds 58 = .ok (.iastore, 1) := dk_79 (dk_at dksX8_minds_2 13 rfl rfl)
theorem dX8_minds_59 : decode cX8_minds 59 = .ok (.iconst 0, 1) := dk_3 (dk_at dksX8_minds_2 14 rfl rfl)
theorem dX8_minds_60 : decode cX8_minds 60 = .ok (.istore_n 1, 1) := dk_60 (dk_at dksX8_minds_2 15 rfl rfl)
theorem dX8_minds_61 : decode cX8_minds 61 = .ok (.iload_n 1, 1) := dk_27 (dk_at dksX8_minds_2 16 rfl rfl)
theorem dX8_minds_62 : decode cX8_minds 62 = .ok (.bipush 60, 2) := dk_16 60 (dk_at dksX8_minds_2 17 rfl rfl)
theorem dX8_minds_64 : decode cX8_minds 64 = .ok (.if_icmp .ge 35, 3) := dk_162 0 35 (dk_at dksX8_minds_2 19 rfl rfl)
theorem dX8_minds_67 : decode cX8_minds 67 = .ok (.aload_n 0, 1) := dk_42 (dk_at dksX8_minds_2 22 rfl rfl)
theorem dX8_minds_68 : decode cX8_minds 68 = .ok (.getfield 7, 3) := dk_180 0 7 (dk_at dksX8_minds_3 0 rfl rfl)
theorem dX8_minds_71 : decode cX8_minds 71 = .ok (.bipush 61, 2) := dk_16 61 (dk_at dksX8_minds_3 3 rfl rfl)
theorem dX8_minds_73 : decode cX8_minds 73 = .ok (.bipush 60, 2) := dk_16 60 (dk_at dksX8_minds_3 5 rfl rfl)
theorem dX8_minds_75 : decode cX8_minds 75 = .ok (.aload_n 0, 1) := dk_42 (dk_at dksX8_minds_3 7 rfl rfl)
theorem dX8_minds_76 : decode cX8_minds 76 = .ok (.getfield 7, 3) := dk_180 0 7 (dk_at dksX8_minds_3 8 rfl rfl)
theorem dX8_minds_79 : decode cX8_minds 79 = .ok (.bipush 60, 2) := dk_16 60 (dk_at dksX8_minds_3 11 rfl rfl)
theorem dX8_minds_81 : decode cX8_minds 81 = .ok (.iaload, 1) := dk_46 (dk_at dksX8_minds_3 13 rfl rfl)
theorem dX8_minds_82 : decode cX8_minds 82 = .ok (.imul, 1) := dk_104 (dk_at dksX8_minds_3 14 rfl rfl)
theorem dX8_minds_83 : decode cX8_minds 83 = .ok (.iadd, 1) := dk_96 (dk_at dksX8_minds_3 15 rfl rfl)
theorem dX8_minds_84 : decode cX8_minds 84 = .ok (.iload_n 1, 1) := dk_27 (dk_at dksX8_minds_3 16 rfl rfl)
theorem dX8_minds_85 : decode cX8_minds 85 = .ok (.iadd, 1) := dk_96 (dk_at dksX8_minds_3 17 rfl rfl)
theorem dX8_minds_86 : decode cX8_minds 86 = .ok (.aload_n 0, 1) := dk_42 (dk_at dksX8_minds_3 18 rfl rfl)
theorem dX8_minds_87 : decode cX8_minds 87 = .ok (.getfield 7, 3) := dk_180 0 7 (dk_at dksX8_minds_3 19 rfl rfl)
theorem dX8_minds_90 : decode cX8_minds 90 = .ok (.iload_n 1, 1) := dk_27 (dk_at dksX8_minds_3 22 rfl rfl)
theorem dX8_minds_91 : decode cX8_minds 91 = .ok (.iaload, 1) := dk_46 (dk_at dksX8_minds_3 23 rfl rfl)
theorem dX8_minds_92 : decode cX8_minds 92 = .ok (.iastore, 1) := dk_79 (dk_at dksX8_minds_4 0 rfl rfl)
theorem dX8_minds_93 : decode cX8_minds 93 = .ok (.iinc 1 1, 3) := dk_132 1 1 (dk_at dksX8_minds_4 1 rfl rfl)
theorem dX8_minds_96 : decode cX8_minds 96 = .ok (.goto (-35), 3) := dk_167 255 221 (dk_at dksX8_minds_4 4 rfl rfl)
theorem dX8_minds_99 : decode cX8_minds 99 = .ok (.aload_n 0, 1) := dk_42 (dk_at dksX8_minds_4 7 rfl rfl)
theorem dX8_minds_100 : decode cX8_minds 100 = .ok (.getfield 7, 3) := dk_180 0 7 (dk_at dksX8_minds_4 8 rfl rfl)
theorem dX8_minds_103 : decode cX8_minds 103 = .ok (.bipush 60, 2) := dk_16 60 (dk_at dksX8_minds_4 11 rfl rfl)
theorem dX8_minds_105 : decode cX8_minds 105 = .ok (.dup2, 1) := dk_92 (dk_at dksX8_minds_4 13 rfl rfl)
theorem dX8_minds_106 : decode cX8_minds 106 = .ok (.iaload, 1) := dk_46 (dk_at dksX8_minds_4 14 rfl rfl)
theorem dX8_minds_107 : decode cX8_minds 107 = .ok (.iconst 1, 1) := dk_4 (dk_at dksX8_minds_4 15 rfl rfl)
theorem dX8_minds_108 : decode cX8_minds 108 = .ok (.iadd, 1) := dk_96 (dk_at dksX8_minds_4 16 rfl rfl)
theorem dX8_minds_109 : decode cX8_minds 109 = .ok (.iastore, 1) := dk_79 (dk_at dksX8_minds_4 17 rfl rfl)
theorem dX8_minds_110 : decode cX8_minds 110 = .ok (.return_, 1) := dk_177 (dk_at dksX8_minds_4 18 rfl rfl)
abbrev cX8_let : ByteArray := prog_13_method_50_code
def yX8_let : MethodName := ⟨RX8, "let", "(I)I"⟩
def dkwX8_let_1 : List UInt8 := [182, 0, 219, 42, 180, 0, 7, 16, 20, 27, 96, 3, 79, 42, 3, 182, 0, 165, 42, 180, 0, 97, 172]
abbrev dktX8_let_1 : List UInt8 := dkwX8_let_1 ++ []
def dkwX8_let_0 : List UInt8 := [42, 27, 182, 0, 176, 154, 0, 5, 2, 172, 42, 3, 27, 182, 0, 53, 154, 0, 6, 16, 254, 172, 42]
abbrev dktX8_let_0 : List UInt8 := dkwX8_let_0 ++ dktX8_let_1
theorem dksX8_let_0 : cX8_let.data.toList.drop 0 = dktX8_let_0 := by decide +kernel
theorem dksX8_let_1 : cX8_let.data.toList.drop 23 = dktX8_let_1 := dk_seg dksX8_let_0 23 rfl rfl
theorem dX8_let_0 : decode cX8_let 0 = .ok (.aload_n 0, 1) := dk_42 (dk_at dksX8_let_0 0 rfl rfl)
theorem dX8_let_1 : decode cX8_let 1 = .ok (.iload_n 1, 1) := dk_27 (dk_at dksX8_let_0 1 rfl rfl)
theorem dX8_let_2 : decode cX8_let 2 = .ok (.invokevirtual 176, 3) := dk_182 0 176 (dk_at dksX8_let_0 2 rfl rfl)
theorem dX8_let_5 : decode cX8_let 5 = .ok (.ifCond .ne 5, 3) := dk_154 0 5 (dk_at dksX8_let_0 5 rfl rfl)
theorem dX8_let_8 : decode cX8_let 8 = .ok (.iconst (-1), 1) := dk_2 (dk_at dksX8_let_0 8 rfl rfl)
theorem dX8_let_9 : decode cX8_let 9 = .ok (.ireturn, 1) := dk_172 (dk_at dksX8_let_0 9 rfl rfl)
theorem dX8_let_10 : decode cX8_let 10 = .ok (.aload_n 0, 1) := dk_42 (dk_at dksX8_let_0 10 rfl rfl)
theorem dX8_let_11 : decode cX8_let 11 = .ok (.iconst 0, 1) := dk_3 (dk_at dksX8_let_0 11 rfl rfl)
theorem dX8_let_12 : decode cX8_let 12 = .ok (.iload_n 1, 1) := dk_27 (dk_at dksX8_let_0 12 rfl rfl)
theorem dX8_let_13 : decode cX8_let 13 = .ok (.invokevirtual 53, 3) := dk_182 0 53 (dk_at dksX8_let_0 13 rfl rfl)
theorem dX8_let_16 : decode cX8_let 16 = .ok (.ifCond .ne 6, 3) := dk_154 0 6 (dk_at dksX8_let_0 16 rfl rfl)
theorem dX8_let_19 : decode cX8_let 19 = .ok (.bipush (-2), 2) := dk_16 254 (dk_at dksX8_let_0 19 rfl rfl)
theorem dX8_let_21 : decode cX8_let 21 = .ok (.ireturn, 1) := dk_172 (dk_at dksX8_let_0 21 rfl rfl)
theorem dX8_let_22 : decode cX8_let 22 = .ok (.aload_n 0, 1) := dk_42 (dk_at dksX8_let_0 22 rfl rfl)
theorem dX8_let_23 : decode cX8_let 23 = .ok (.invokevirtual 219, 3) := dk_182 0 219 (dk_at dksX8_let_1 0 rfl rfl)
theorem dX8_let_26 : decode cX8_let 26 = .ok (.aload_n 0, 1) := dk_42 (dk_at dksX8_let_1 3 rfl rfl)
theorem dX8_let_27 : decode cX8_let 27 = .ok (.getfield 7, 3) := dk_180 0 7 (dk_at dksX8_let_1 4 rfl rfl)
theorem dX8_let_30 : decode cX8_let 30 = .ok (.bipush 20, 2) := dk_16 20 (dk_at dksX8_let_1 7 rfl rfl)
theorem dX8_let_32 : decode cX8_let 32 = .ok (.iload_n 1, 1) := dk_27 (dk_at dksX8_let_1 9 rfl rfl)
theorem dX8_let_33 : decode cX8_let 33 = .ok (.iadd, 1) := dk_96 (dk_at dksX8_let_1 10 rfl rfl)
theorem dX8_let_34 : decode cX8_let 34 = .ok (.iconst 0, 1) := dk_3 (dk_at dksX8_let_1 11 rfl rfl)
theorem dX8_let_35 : decode cX8_let 35 = .ok (.iastore, 1) := dk_79 (dk_at dksX8_let_1 12 rfl rfl)
theorem dX8_let_36 : decode cX8_let 36 = .ok (.aload_n 0, 1) := dk_42 (dk_at dksX8_let_1 13 rfl rfl)
theorem dX8_let_37 : decode cX8_let 37 = .ok (.iconst 0, 1) := dk_3 (dk_at dksX8_let_1 14 rfl rfl)
theorem dX8_let_38 : decode cX8_let 38 = .ok (.invokevirtual 165, 3) := dk_182 0 165 (dk_at dksX8_let_1 15 rfl rfl)
theorem dX8_let_41 : decode cX8_let 41 = .ok (.aload_n 0, 1) := dk_42 (dk_at dksX8_let_1 18 rfl rfl)
theorem dX8_let_42 : decode cX8_let 42 = .ok (.getfield 97, 3) := dk_180 0 97 (dk_at dksX8_let_1 19 rfl rfl)
theorem dX8_let_45 : decode cX8_let 45 = .ok (.ireturn, 1) := dk_172 (dk_at dksX8_let_1 22 rfl rfl)
abbrev cX8_hold : ByteArray := prog_13_method_52_code
def yX8_hold : MethodName := ⟨RX8, "hold", "(I)I"⟩
def dkwX8_hold_1 : List UInt8 := [182, 0, 219, 42, 3, 27, 182, 0, 222, 42, 3, 182, 0, 165, 42, 180, 0, 97, 172]
abbrev dktX8_hold_1 : List UInt8 := dkwX8_hold_1 ++ []
def dkwX8_hold_0 : List UInt8 := [42, 27, 182, 0, 176, 154, 0, 5, 2, 172, 42, 3, 27, 182, 0, 53, 153, 0, 6, 16, 254, 172, 42]
abbrev dktX8_hold_0 : List UInt8 := dkwX8_hold_0 ++ dktX8_hold_1
theorem dksX8_hold_0 : cX8_hold.data.toList.drop 0 = dktX8_hold_0 := by decide +kernel
theorem dksX8_hold_1 : cX8_hold.data.toList.drop 23 = dktX8_hold_1 := dk_seg dksX8_hold_0 23 rfl rfl
theorem dX8_hold_0 : decode cX8_hold 0 = .ok (.aload_n 0, 1) := dk_42 (dk_at dksX8_hold_0 0 rfl rfl)
theorem dX8_hold_1 : decode cX8_hold 1 = .ok (.iload_n 1, 1) := dk_27 (dk_at dksX8_hold_0 1 rfl rfl)
theorem dX8_hold_2 : decode cX8_hold 2 = .ok (.invokevirtual 176, 3) := dk_182 0 176 (dk_at dksX8_hold_0 2 rfl rfl)
theorem dX8_hold_5 : decode cX8_hold 5 = .ok (.ifCond .ne 5, 3) := dk_154 0 5 (dk_at dksX8_hold_0 5 rfl rfl)
theorem dX8_hold_8 : decode cX8_hold 8 = .ok (.iconst (-1), 1) := dk_2 (dk_at dksX8_hold_0 8 rfl rfl)
theorem dX8_hold_9 : decode cX8_hold 9 = .ok (.ireturn, 1) := dk_172 (dk_at dksX8_hold_0 9 rfl rfl)
theorem dX8_hold_10 : decode cX8_hold 10 = .ok (.aload_n 0, 1) := dk_42 (dk_at dksX8_hold_0 10 rfl rfl)
theorem dX8_hold_11 : decode cX8_hold 11 = .ok (.iconst 0, 1) := dk_3 (dk_at dksX8_hold_0 11 rfl rfl)
theorem dX8_hold_12 : decode cX8_hold 12 = .ok (.iload_n 1, 1) := dk_27 (dk_at dksX8_hold_0 12 rfl rfl)
theorem dX8_hold_13 : decode cX8_hold 13 = .ok (.invokevirtual 53, 3) := dk_182 0 53 (dk_at dksX8_hold_0 13 rfl rfl)
theorem dX8_hold_16 : decode cX8_hold 16 = .ok (.ifCond .eq 6, 3) := dk_153 0 6 (dk_at dksX8_hold_0 16 rfl rfl)
theorem dX8_hold_19 : decode cX8_hold 19 = .ok (.bipush (-2), 2) := dk_16 254 (dk_at dksX8_hold_0 19 rfl rfl)
theorem dX8_hold_21 : decode cX8_hold 21 = .ok (.ireturn, 1) := dk_172 (dk_at dksX8_hold_0 21 rfl rfl)
theorem dX8_hold_22 : decode cX8_hold 22 = .ok (.aload_n 0, 1) := dk_42 (dk_at dksX8_hold_0 22 rfl rfl)
theorem dX8_hold_23 : decode cX8_hold 23 = .ok (.invokevirtual 219, 3) := dk_182 0 219 (dk_at dksX8_hold_1 0 rfl rfl)
theorem dX8_hold_26 : decode cX8_hold 26 = .ok (.aload_n 0, 1) := dk_42 (dk_at dksX8_hold_1 3 rfl rfl)
theorem dX8_hold_27 : decode cX8_hold 27 = .ok (.iconst 0, 1) := dk_3 (dk_at dksX8_hold_1 4 rfl rfl)
theorem dX8_hold_28 : decode cX8_hold 28 = .ok (.iload_n 1, 1) := dk_27 (dk_at dksX8_hold_1 5 rfl rfl)
theorem dX8_hold_29 : decode cX8_hold 29 = .ok (.invokevirtual 222, 3) := dk_182 0 222 (dk_at dksX8_hold_1 6 rfl rfl)
theorem dX8_hold_32 : decode cX8_hold 32 = .ok (.aload_n 0, 1) := dk_42 (dk_at dksX8_hold_1 9 rfl rfl)
theorem dX8_hold_33 : decode cX8_hold 33 = .ok (.iconst 0, 1) := dk_3 (dk_at dksX8_hold_1 10 rfl rfl)
theorem dX8_hold_34 : decode cX8_hold 34 = .ok (.invokevirtual 165, 3) := dk_182 0 165 (dk_at dksX8_hold_1 11 rfl rfl)
theorem dX8_hold_37 : decode cX8_hold 37 = .ok (.aload_n 0, 1) := dk_42 (dk_at dksX8_hold_1 14 rfl rfl)
theorem dX8_hold_38 : decode cX8_hold 38 = .ok (.getfield 97, 3) := dk_180 0 97 (dk_at dksX8_hold_1 15 rfl rfl)
theorem dX8_hold_41 : decode cX8_hold 41 = .ok (.ireturn, 1) := dk_172 (dk_at dksX8_hold_1 18 rfl rfl)
abbrev cX8_takesHold : ByteArray := prog_13_method_51_code
def yX8_takesHold : MethodName := ⟨RX8, "takesHold", "(II)V"⟩
def dkwX8_takesHold_2 : List UInt8 := [96, 4, 79, 177]
abbrev dktX8_takesHold_2 : List UInt8 := dkwX8_takesHold_2 ++ []
def dkwX8_takesHold_1 : List UInt8 := [28, 96, 29, 16, 99, 164, 0, 8, 16, 99, 167, 0, 4, 29, 79, 42, 180, 0, 7, 27, 16, 20, 96, 28]
abbrev dktX8_takesHold_1 : List UInt8 := dkwX8_takesHold_1 ++ dktX8_takesHold_2
def dkwX8_takesHold_0 : List UInt8 := [42, 27, 28, 182, 0, 188, 42, 180, 0, 83, 42, 180, 0, 87, 108, 62, 42, 180, 0, 7, 27, 16, 28, 96]
abbrev dktX8_takesHold_0 : List UInt8 := dkwX8_takesHold_0 ++ dktX8_takesHold_1
theorem dksX8_takesHold_0 : cX8_takesHold.data.toList.drop 0 = dktX8_takesHold_0 := by decide +kernel
theorem dksX8_takesHold_1 : cX8_takesHold.data.toList.drop 24 = dktX8_takesHold_1 := dk_seg dksX8_takesHold_0 24 rfl rfl
theorem dksX8_takesHold_2 : cX8_takesHold.data.toList.drop 48 = dktX8_takesHold_2 := dk_seg dksX8_takesHold_1 24 rfl rfl
theorem dX8_takesHold_0 : decode cX8_takesHold 0 = .ok (.aload_n 0, 1) := dk_42 (dk_at dksX8_takesHold_0 0 rfl rfl)
theorem dX8_takesHold_1 : decode cX8_takesHold 1 = .ok (.iload_n 1, 1) := dk_27 (dk_at dksX8_takesHold_0 1 rfl rfl)
theorem dX8_takesHold_2 : decode cX8_takesHold 2 = .ok (.iload_n 2, 1) := dk_28 (dk_at dksX8_takesHold_0 2 rfl rfl)
theorem dX8_takesHold_3 : decode cX8_takesHold 3 = .ok (.invokevirtual 188, 3) := dk_182 0 188 (dk_at dksX8_takesHold_0 3 rfl rfl)
theorem dX8_takesHold_6 : decode cX8_takesHold 6 = .ok (.aload_n 0, 1) := dk_42 (dk_at dksX8_takesHold_0 6 rfl rfl)
theorem dX8_takesHold_7 : decode cX8_takesHold 7 = .ok (.getfield 83, 3) := dk_180 0 83 (dk_at dksX8_takesHold_0 7 rfl rfl)
theorem dX8_takesHold_10 : decode cX8_takesHold 10 = .ok (.aload_n 0, 1) := dk_42 (dk_at dksX8_takesHold_0 10 rfl rfl)
theorem dX8_takesHold_11 : decode cX8_takesHold 11 = .ok (.getfield 87, 3) := dk_180 0 87 (dk_at dksX8_takesHold_0 11 rfl rfl)
theorem dX8_takesHold_14 : decode cX8_takesHold 14 = .ok (.idiv, 1) := dk_108 (dk_at dksX8_takesHold_0 14 rfl rfl)
theorem dX8_takesHold_15 : decode cX8_takesHold 15 = .ok (.istore_n 3, 1) := dk_62 (dk_at dksX8_takesHold_0 15 rfl rfl)
theorem dX8_takesHold_16 : decode cX8_takesHold 16 = .ok (.aload_n 0, 1) := dk_42 (dk_at dksX8_takesHold_0 16 rfl rfl)
theorem dX8_takesHold_17 : decode cX8_takesHold 17 = .ok (.getfield 7, 3) := dk_180 0 7 (dk_at dksX8_takesHold_0 17 rfl rfl)
theorem dX8_takesHold_20 : decode cX8_takesHold 20 = .ok (.iload_n 1, 1) := dk_27 (dk_at dksX8_takesHold_0 20 rfl rfl)
theorem dX8_takesHold_21 : decode cX8_takesHold 21 = .ok (.bipush 28, 2) := dk_16 28 (dk_at dksX8_takesHold_0 21 rfl rfl)
theorem dX8_takesHold_23 : decode cX8_takesHold 23 = .ok (.iadd, 1) := dk_96 (dk_at dksX8_takesHold_0 23 rfl rfl)
theorem dX8_takesHold_24 : decode cX8_takesHold 24 = .ok (.iload_n 2, 1) := dk_28 (dk_at dksX8_takesHold_1 0 rfl rfl)
theorem dX8_takesHold_25 : decode cX8_takesHold 25 = .ok (.iadd, 1) := dk_96 (dk_at dksX8_takesHold_1 1 rfl rfl)
theorem dX8_takesHold_26 : decode cX8_takesHold 26 = .ok (.iload_n 3, 1) := dk_29 (dk_at dksX8_takesHold_1 2 rfl rfl)
theorem dX8_takesHold_27 : decode cX8_takesHold 27 = .ok (.bipush 99, 2) := dk_16 99 (dk_at dksX8_takesHold_1 3 rfl rfl)
theorem dX8_takesHold_29 : decode cX8_takesHold 29 = .ok (.if_icmp .le 8, 3) := dk_164 0 8 (dk_at dksX8_takesHold_1 5 rfl rfl)
theorem dX8_takesHold_32 : decode cX8_takesHold 32 = .ok (.bipush 99, 2) := dk_16 99 (dk_at dksX8_takesHold_1 8 rfl rfl)
theorem dX8_takesHold_34 : decode cX8_takesHold 34 = .ok (.goto 4, 3) := dk_167 0 4 (dk_at dksX8_takesHold_1 10 rfl rfl)
theorem dX8_takesHold_37 : decode cX8_takesHold 37 = .ok (.iload_n 3, 1) := dk_29 (dk_at dksX8_takesHold_1 13 rfl rfl)
theorem dX8_takesHold_38 : decode cX8_takesHold 38 = .ok (.iastore, 1) := dk_79 (dk_at dksX8_takesHold_1 14 rfl rfl)
theorem dX8_takesHold_39 : decode cX8_takesHold 39 = .ok (.aload_n 0, 1) := dk_42 (dk_at dksX8_takesHold_1 15 rfl rfl)
theorem dX8_takesHold_40 : decode cX8_takesHold 40 = .ok (.getfield 7, 3) := dk_180 0 7 (dk_at dksX8_takesHold_1 16 rfl rfl)
theorem dX8_takesHold_43 : decode cX8_takesHold 43 = .ok (.iload_n 1, 1) := dk_27 (dk_at dksX8_takesHold_1 19 rfl rfl)
theorem dX8_takesHold_44 : decode cX8_takesHold 44 = .ok (.bipush 20, 2) := dk_16 20 (dk_at dksX8_takesHold_1 20 rfl rfl)
theorem dX8_takesHold_46 : decode cX8_takesHold 46 = .ok (.iadd, 1) := dk_96 (dk_at dksX8_takesHold_1 22 rfl rfl)
theorem dX8_takesHold_47 : decode cX8_takesHold 47 = .ok (.iload_n 2, 1) := dk_28 (dk_at dksX8_takesHold_1 23 rfl rfl)
theorem dX8_takesHold_48 : decode cX8_takesHold 48 = .ok (.iadd, 1) := dk_96 (dk_at dksX8_takesHold_2 0 rfl rfl)
theorem dX8_takesHold_49 : decode cX8_takesHold 49 = .ok (.iconst 1, 1) := dk_4 (dk_at dksX8_takesHold_2 1 rfl rfl)
theorem dX8_takesHold_50 : decode cX8_takesHold 50 = .ok (.iastore, 1) := dk_79 (dk_at dksX8_takesHold_2 2 rfl rfl)
theorem dX8_takesHold_51 : decode cX8_takesHold 51 = .ok (.return_, 1) := dk_177 (dk_at dksX8_takesHold_2 3 rfl rfl)
abbrev cX8_sew : ByteArray := prog_13_method_53_code
def yX8_sew : MethodName := ⟨RX8, "sew", "(I)I"⟩
def dkwX8_sew_2 : List UInt8 := [172]
abbrev dktX8_sew_2 : List UInt8 := dkwX8_sew_2 ++ []
def dkwX8_sew_1 : List UInt8 := [172, 42, 182, 0, 219, 42, 180, 0, 7, 16, 52, 27, 96, 3, 79, 42, 3, 182, 0, 165, 42, 180, 0, 97]
abbrev dktX8_sew_1 : List UInt8 := dkwX8_sew_1 ++ dktX8_sew_2
def dkwX8_sew_0 : List UInt8 := [42, 27, 182, 0, 194, 154, 0, 5, 2, 172, 42, 180, 0, 7, 16, 52, 27, 96, 46, 154, 0, 6, 16, 254]
abbrev dktX8_sew_0 : List UInt8 := dkwX8_sew_0 ++ dktX8_sew_1
theorem dksX8_sew_0 : cX8_sew.data.toList.drop 0 = dktX8_sew_0 := by decide +kernel
theorem dksX8_sew_1 : cX8_sew.data.toList.drop 24 = dktX8_sew_1 := dk_seg dksX8_sew_0 24 rfl rfl
theorem dksX8_sew_2 : cX8_sew.data.toList.drop 48 = dktX8_sew_2 := dk_seg dksX8_sew_1 24 rfl rfl
theorem dX8_sew_0 : decode cX8_sew 0 = .ok (.aload_n 0, 1) := dk_42 (dk_at dksX8_sew_0 0 rfl rfl)
theorem dX8_sew_1 : decode cX8_sew 1 = .ok (.iload_n 1, 1) := dk_27 (dk_at dksX8_sew_0 1 rfl rfl)
theorem dX8_sew_2 : decode cX8_sew 2 = .ok (.invokevirtual 194, 3) := dk_182 0 194 (dk_at dksX8_sew_0 2 rfl rfl)
theorem dX8_sew_5 : decode cX8_sew 5 = .ok (.ifCond .ne 5, 3) := dk_154 0 5 (dk_at dksX8_sew_0 5 rfl rfl)
theorem dX8_sew_8 : decode cX8_sew 8 = .ok (.iconst (-1), 1) := dk_2 (dk_at dksX8_sew_0 8 rfl rfl)
theorem dX8_sew_9 : decode cX8_sew 9 = .ok (.ireturn, 1) := dk_172 (dk_at dksX8_sew_0 9 rfl rfl)
theorem dX8_sew_10 : decode cX8_sew 10 = .ok (.aload_n 0, 1) := dk_42 (dk_at dksX8_sew_0 10 rfl rfl)
theorem dX8_sew_11 : decode cX8_sew 11 = .ok (.getfield 7, 3) := dk_180 0 7 (dk_at dksX8_sew_0 11 rfl rfl)
theorem dX8_sew_14 : decode cX8_sew 14 = .ok (.bipush 52, 2) := dk_16 52 (dk_at dksX8_sew_0 14 rfl rfl)
theorem dX8_sew_16 : decode cX8_sew 16 = .ok (.iload_n 1, 1) := dk_27 (dk_at dksX8_sew_0 16 rfl rfl)
theorem dX8_sew_17 : decode cX8_sew 17 = .ok (.iadd, 1) := dk_96 (dk_at dksX8_sew_0 17 rfl rfl)
theorem dX8_sew_18 : decode cX8_sew 18 = .ok (.iaload, 1) := dk_46 (dk_at dksX8_sew_0 18 rfl rfl)
theorem dX8_sew_19 : decode cX8_sew 19 = .ok (.ifCond .ne 6, 3) := dk_154 0 6 (dk_at dksX8_sew_0 19 rfl rfl)
theorem dX8_sew_22 : decode cX8_sew 22 = .ok (.bipush (-2), 2) := dk_16 254 (dk_at dksX8_sew_0 22 rfl rfl)
theorem dX8_sew_24 : decode cX8_sew 24 = .ok (.ireturn, 1) := dk_172 (dk_at dksX8_sew_1 0 rfl rfl)
theorem dX8_sew_25 : decode cX8_sew 25 = .ok (.aload_n 0, 1) := dk_42 (dk_at dksX8_sew_1 1 rfl rfl)
theorem dX8_sew_26 : decode cX8_sew 26 = .ok (.invokevirtual 219, 3) := dk_182 0 219 (dk_at dksX8_sew_1 2 rfl rfl)
theorem dX8_sew_29 : decode cX8_sew 29 = .ok (.aload_n 0, 1) := dk_42 (dk_at dksX8_sew_1 5 rfl rfl)
theorem dX8_sew_30 : decode cX8_sew 30 = .ok (.getfield 7, 3) := dk_180 0 7 (dk_at dksX8_sew_1 6 rfl rfl)
theorem dX8_sew_33 : decode cX8_sew 33 = .ok (.bipush 52, 2) := dk_16 52 (dk_at dksX8_sew_1 9 rfl rfl)
theorem dX8_sew_35 : decode cX8_sew 35 = .ok (.iload_n 1, 1) := dk_27 (dk_at dksX8_sew_1 11 rfl rfl)
theorem dX8_sew_36 : decode cX8_sew 36 = .ok (.iadd, 1) := dk_96 (dk_at dksX8_sew_1 12 rfl rfl)
theorem dX8_sew_37 : decode cX8_sew 37 = .ok (.iconst 0, 1) := dk_3 (dk_at dksX8_sew_1 13 rfl rfl)
theorem dX8_sew_38 : decode cX8_sew 38 = .ok (.iastore, 1) := dk_79 (dk_at dksX8_sew_1 14 rfl rfl)
theorem dX8_sew_39 : decode cX8_sew 39 = .ok (.aload_n 0, 1) := dk_42 (dk_at dksX8_sew_1 15 rfl rfl)
theorem dX8_sew_40 : decode cX8_sew 40 = .ok (.iconst 0, 1) := dk_3 (dk_at dksX8_sew_1 16 rfl rfl)
theorem dX8_sew_41 : decode cX8_sew 41 = .ok (.invokevirtual 165, 3) := dk_182 0 165 (dk_at dksX8_sew_1 17 rfl rfl)
theorem dX8_sew_44 : decode cX8_sew 44 = .ok (.aload_n 0, 1) := dk_42 (dk_at dksX8_sew_1 20 rfl rfl)
theorem dX8_sew_45 : decode cX8_sew 45 = .ok (.getfield 97, 3) := dk_180 0 97 (dk_at dksX8_sew_1 21 rfl rfl)
theorem dX8_sew_48 : decode cX8_sew 48 = .ok (.ireturn, 1) := dk_172 (dk_at dksX8_sew_2 0 rfl rfl)
abbrev cX8_bears : ByteArray := prog_13_method_54_code
def yX8_bears : MethodName := ⟨RX8, "bears", "(I)I"⟩
def dkwX8_bears_1 : List UInt8 := [160, 0, 6, 16, 254, 172, 42, 182, 0, 219, 42, 180, 0, 7, 4, 27, 79, 42, 3, 182, 0, 165, 28, 172]
abbrev dktX8_bears_1 : List UInt8 := dkwX8_bears_1 ++ []
def dkwX8_bears_0 : List UInt8 := [27, 133, 10, 20, 0, 225, 184, 0, 49, 154, 0, 5, 2, 172, 42, 180, 0, 7, 4, 46, 61, 28, 27]
abbrev dktX8_bears_0 : List UInt8 := dkwX8_bears_0 ++ dktX8_bears_1
theorem dksX8_bears_0 : cX8_bears.data.toList.drop 0 = dktX8_bears_0 := by decide +kernel
theorem dksX8_bears_1 : cX8_bears.data.toList.drop 23 = dktX8_bears_1 := dk_seg dksX8_bears_0 23 rfl rfl
theorem dX8_bears_0 : decode cX8_bears 0 = .ok (.iload_n 1, 1) := dk_27 (dk_at dksX8_bears_0 0 rfl rfl)
theorem dX8_bears_1 : decode cX8_bears 1 = .ok (.i2l, 1) := dk_133 (dk_at dksX8_bears_0 1 rfl rfl)
theorem dX8_bears_2 : decode cX8_bears 2 = .ok (.lconst 1, 1) := dk_10 (dk_at dksX8_bears_0 2 rfl rfl)
theorem dX8_bears_3 : decode cX8_bears 3 = .ok (.ldc2_w 225, 3) := dk_20 0 225 (dk_at dksX8_bears_0 3 rfl rfl)
theorem dX8_bears_6 : decode cX8_bears 6 = .ok (.invokestatic 49, 3) := dk_184 0 49 (dk_at dksX8_bears_0 6 rfl rfl)
theorem dX8_bears_9 : decode cX8_bears 9 = .ok (.ifCond .ne 5, 3) := dk_154 0 5 (dk_at dksX8_bears_0 9 rfl rfl)
theorem dX8_bears_12 : decode cX8_bears 12 = .ok (.iconst (-1), 1) := dk_2 (dk_at dksX8_bears_0 12 rfl rfl)
theorem dX8_bears_13 : decode cX8_bears 13 = .ok (.ireturn, 1) := dk_172 (dk_at dksX8_bears_0 13 rfl rfl)
theorem dX8_bears_14 : decode cX8_bears 14 = .ok (.aload_n 0, 1) := dk_42 (dk_at dksX8_bears_0 14 rfl rfl)
theorem dX8_bears_15 : decode cX8_bears 15 = .ok (.getfield 7, 3) := dk_180 0 7 (dk_at dksX8_bears_0 15 rfl rfl)
theorem dX8_bears_18 : decode cX8_bears 18 = .ok (.iconst 1, 1) := dk_4 (dk_at dksX8_bears_0 18 rfl rfl)
theorem dX8_bears_19 : decode cX8_bears 19 = .ok (.iaload, 1) := dk_46 (dk_at dksX8_bears_0 19 rfl rfl)
theorem dX8_bears_20 : decode cX8_bears 20 = .ok (.istore_n 2, 1) := dk_61 (dk_at dksX8_bears_0 20 rfl rfl)
theorem dX8_bears_21 : decode cX8_bears 21 = .ok (.iload_n 2, 1) := dk_28 (dk_at dksX8_bears_0 21 rfl rfl)
theorem dX8_bears_22 : decode cX8_bears 22 = .ok (.iload_n 1, 1) := dk_27 (dk_at dksX8_bears_0 22 rfl rfl)
theorem dX8_bears_23 : decode cX8_bears 23 = .ok (.if_icmp .ne 6, 3) := dk_160 0 6 (dk_at dksX8_bears_1 0 rfl rfl)
theorem dX8_bears_26 : decode cX8_bears 26 = .ok (.bipush (-2), 2) := dk_16 254 (dk_at dksX8_bears_1 3 rfl rfl)
theorem dX8_bears_28 : decode cX8_bears 28 = .ok (.ireturn, 1) := dk_172 (dk_at dksX8_bears_1 5 rfl rfl)
theorem dX8_bears_29 : decode cX8_bears 29 = .ok (.aload_n 0, 1) := dk_42 (dk_at dksX8_bears_1 6 rfl rfl)
theorem dX8_bears_30 : decode cX8_bears 30 = .ok (.invokevirtual 219, 3) := dk_182 0 219 (dk_at dksX8_bears_1 7 rfl rfl)
theorem dX8_bears_33 : decode cX8_bears 33 = .ok (.aload_n 0, 1) := dk_42 (dk_at dksX8_bears_1 10 rfl rfl)
theorem dX8_bears_34 : decode cX8_bears 34 = .ok (.getfield 7, 3) := dk_180 0 7 (dk_at dksX8_bears_1 11 rfl rfl)
theorem dX8_bears_37 : decode cX8_bears 37 = .ok (.iconst 1, 1) := dk_4 (dk_at dksX8_bears_1 14 rfl rfl)
theorem dX8_bears_38 : decode cX8_bears 38 = .ok (.iload_n 1, 1) := dk_27 (dk_at dksX8_bears_1 15 rfl rfl)
theorem dX8_bears_39 : decode cX8_bears 39 = .ok (.iastore, 1) := dk_79 (dk_at dksX8_bears_1 16 rfl rfl)
theorem dX8_bears_40 : decode cX8_bears 40 = .ok (.aload_n 0, 1) := dk_42 (dk_at dksX8_bears_1 17 rfl rfl)
theorem dX8_bears_41 : decode cX8_bears 41 = .ok (.iconst 0, 1) := dk_3 (dk_at dksX8_bears_1 18 rfl rfl)
theorem dX8_bears_42 : decode cX8_bears 42 = .ok (.invokevirtual 165, 3) := dk_182 0 165 (dk_at dksX8_bears_1 19 rfl rfl)
theorem dX8_bears_45 : decode cX8_bears 45 = .ok (.iload_n 2, 1) := dk_28 (dk_at dksX8_bears_1 22 rfl rfl)
theorem dX8_bears_46 : decode cX8_bears 46 = .ok (.ireturn, 1) := dk_172 (dk_at dksX8_bears_1 23 rfl rfl)
abbrev cX8_hours : ByteArray := prog_13_method_56_code
def yX8_hours : MethodName := ⟨RX8, "hours", "(I)I"⟩
def dkwX8_hours_1 : List UInt8 := [182, 0, 219, 42, 3, 182, 0, 229, 28, 42, 180, 0, 97, 96, 61, 132, 3, 1, 167, 255, 232, 28, 172]
abbrev dktX8_hours_1 : List UInt8 := dkwX8_hours_1 ++ []
def dkwX8_hours_0 : List UInt8 := [27, 133, 10, 20, 0, 227, 184, 0, 49, 154, 0, 5, 2, 172, 3, 61, 3, 62, 29, 27, 162, 0, 25, 42]
abbrev dktX8_hours_0 : List UInt8 := dkwX8_hours_0 ++ dktX8_hours_1
theorem dksX8_hours_0 : cX8_hours.data.toList.drop 0 = dktX8_hours_0 := by decide +kernel
theorem dksX8_hours_1 : cX8_hours.data.toList.drop 24 = dktX8_hours_1 := dk_seg dksX8_hours_0 24 rfl rfl
theorem dX8_hours_0 : decode cX8_hours 0 = .ok (.iload_n 1, 1) := dk_27 (dk_at dksX8_hours_0 0 rfl rfl)
theorem dX8_hours_1 : decode cX8_hours 1 = .ok (.i2l, 1) := dk_133 (dk_at dksX8_hours_0 1 rfl rfl)
theorem dX8_hours_2 : decode cX8_hours 2 = .ok (.lconst 1, 1) := dk_10 (dk_at dksX8_hours_0 2 rfl rfl)
theorem dX8_hours_3 : decode cX8_hours 3 = .ok (.ldc2_w 227, 3) := dk_20 0 227 (dk_at dksX8_hours_0 3 rfl rfl)
theorem dX8_hours_6 : decode cX8_hours 6 = .ok (.invokestatic 49, 3) := dk_184 0 49 (dk_at dksX8_hours_0 6 rfl rfl)
theorem dX8_hours_9 : decode cX8_hours 9 = .ok (.ifCond .ne 5, 3) := dk_154 0 5 (dk_at dksX8_hours_0 9 rfl rfl)
theorem dX8_hours_12 : decode cX8_hours 12 = .ok (.iconst (-1), 1) := dk_2 (dk_at dksX8_hours_0 12 rfl rfl)
theorem dX8_hours_13 : decode cX8_hours 13 = .ok (.ireturn, 1) := dk_172 (dk_at dksX8_hours_0 13 rfl rfl)
theorem dX8_hours_14 : decode cX8_hours 14 = .ok (.iconst 0, 1) := dk_3 (dk_at dksX8_hours_0 14 rfl rfl)
theorem dX8_hours_15 : decode cX8_hours 15 = .ok (.istore_n 2, 1) := dk_61 (dk_at dksX8_hours_0 15 rfl rfl)
theorem dX8_hours_16 : decode cX8_hours 16 = .ok (.iconst 0, 1) := dk_3 (dk_at dksX8_hours_0 16 rfl rfl)
theorem dX8_hours_17 : decode cX8_hours 17 = .ok (.istore_n 3, 1) := dk_62 (dk_at dksX8_hours_0 17 rfl rfl)
theorem dX8_hours_18 : decode cX8_hours 18 = .ok (.iload_n 3, 1) := dk_29 (dk_at dksX8_hours_0 18 rfl rfl)
theorem dX8_hours_19 : decode cX8_hours 19 = .ok (.iload_n 1, 1) := dk_27 (dk_at dksX8_hours_0 19 rfl rfl)
theorem dX8_hours_20 : decode cX8_hours 20 = .ok (.if_icmp .ge 25, 3) := dk_162 0 25 (dk_at dksX8_hours_0 20 rfl rfl)
theorem dX8_hours_23 : decode cX8_hours 23 = .ok (.aload_n 0, 1) := dk_42 (dk_at dksX8_hours_0 23 rfl rfl)
theorem dX8_hours_24 : decode cX8_hours 24 = .ok (.invokevirtual 219, 3) := dk_182 0 219 (dk_at dksX8_hours_1 0 rfl rfl)
theorem dX8_hours_27 : decode cX8_hours 27 = .ok (.aload_n 0, 1) := dk_42 (dk_at dksX8_hours_1 3 rfl rfl)
theorem dX8_hours_28 : decode cX8_hours 28 = .ok (.iconst 0, 1) := dk_3 (dk_at dksX8_hours_1 4 rfl rfl)
theorem dX8_hours_29 : decode cX8_hours 29 = .ok (.invokevirtual 229, 3) := dk_182 0 229 (dk_at dksX8_hours_1 5 rfl rfl)
theorem dX8_hours_32 : decode cX8_hours 32 = .ok (.iload_n 2, 1) := dk_28 (dk_at dksX8_hours_1 8 rfl rfl)
theorem dX8_hours_33 : decode cX8_hours 33 = .ok (.aload_n 0, 1) := dk_42 (dk_at dksX8_hours_1 9 rfl rfl)
theorem dX8_hours_34 : decode cX8_hours 34 = .ok (.getfield 97, 3) := dk_180 0 97 (dk_at dksX8_hours_1 10 rfl rfl)
theorem dX8_hours_37 : decode cX8_hours 37 = .ok (.iadd, 1) := dk_96 (dk_at dksX8_hours_1 13 rfl rfl)
theorem dX8_hours_38 : decode cX8_hours 38 = .ok (.istore_n 2, 1) := dk_61 (dk_at dksX8_hours_1 14 rfl rfl)
theorem dX8_hours_39 : decode cX8_hours 39 = .ok (.iinc 3 1, 3) := dk_132 3 1 (dk_at dksX8_hours_1 15 rfl rfl)
theorem dX8_hours_42 : decode cX8_hours 42 = .ok (.goto (-24), 3) := dk_167 255 232 (dk_at dksX8_hours_1 18 rfl rfl)
theorem dX8_hours_45 : decode cX8_hours 45 = .ok (.iload_n 2, 1) := dk_28 (dk_at dksX8_hours_1 21 rfl rfl)
theorem dX8_hours_46 : decode cX8_hours 46 = .ok (.ireturn, 1) := dk_172 (dk_at dksX8_hours_1 22 rfl rfl)
abbrev cX8_hourOf : ByteArray := prog_13_method_55_code
def yX8_hourOf : MethodName := ⟨RX8, "hourOf", "(I)V"⟩
def dkwX8_hourOf_1 : List UInt8 := [182, 0, 165, 177]
abbrev dktX8_hourOf_1 : List UInt8 := dkwX8_hourOf_1 ++ []
def dkwX8_hourOf_0 : List UInt8 := [42, 180, 0, 7, 27, 5, 96, 42, 180, 0, 7, 27, 5, 96, 46, 4, 96, 16, 24, 112, 79, 42, 27]
abbrev dktX8_hourOf_0 : List UInt8 := dkwX8_hourOf_0 ++ dktX8_hourOf_1
theorem dksX8_hourOf_0 : cX8_hourOf.data.toList.drop 0 = dktX8_hourOf_0 := by decide +kernel
theorem dksX8_hourOf_1 : cX8_hourOf.data.toList.drop 23 = dktX8_hourOf_1 := dk_seg dksX8_hourOf_0 23 rfl rfl
theorem dX8_hourOf_0 : decode cX8_hourOf 0 = .ok (.aload_n 0, 1) := dk_42 (dk_at dksX8_hourOf_0 0 rfl rfl)
theorem dX8_hourOf_1 : decode cX8_hourOf 1 = .ok (.getfield 7, 3) := dk_180 0 7 (dk_at dksX8_hourOf_0 1 rfl rfl)
theorem dX8_hourOf_4 : decode cX8_hourOf 4 = .ok (.iload_n 1, 1) := dk_27 (dk_at dksX8_hourOf_0 4 rfl rfl)
theorem dX8_hourOf_5 : decode cX8_hourOf 5 = .ok (.iconst 2, 1) := dk_5 (dk_at dksX8_hourOf_0 5 rfl rfl)
theorem dX8_hourOf_6 : decode cX8_hourOf 6 = .ok (.iadd, 1) := dk_96 (dk_at dksX8_hourOf_0 6 rfl rfl)
theorem dX8_hourOf_7 : decode cX8_hourOf 7 = .ok (.aload_n 0, 1) := dk_42 (dk_at dksX8_hourOf_0 7 rfl rfl)
theorem dX8_hourOf_8 : decode cX8_hourOf 8 = .ok (.getfield 7, 3) := dk_180 0 7 (dk_at dksX8_hourOf_0 8 rfl rfl)
theorem dX8_hourOf_11 : decode cX8_hourOf 11 = .ok (.iload_n 1, 1) := dk_27 (dk_at dksX8_hourOf_0 11 rfl rfl)
theorem dX8_hourOf_12 : decode cX8_hourOf 12 = .ok (.iconst 2, 1) := dk_5 (dk_at dksX8_hourOf_0 12 rfl rfl)
theorem dX8_hourOf_13 : decode cX8_hourOf 13 = .ok (.iadd, 1) := dk_96 (dk_at dksX8_hourOf_0 13 rfl rfl)
theorem dX8_hourOf_14 : decode cX8_hourOf 14 = .ok (.iaload, 1) := dk_46 (dk_at dksX8_hourOf_0 14 rfl rfl)
theorem dX8_hourOf_15 : decode cX8_hourOf 15 = .ok (.iconst 1, 1) := dk_4 (dk_at dksX8_hourOf_0 15 rfl rfl)
theorem dX8_hourOf_16 : decode cX8_hourOf 16 = .ok (.iadd, 1) := dk_96 (dk_at dksX8_hourOf_0 16 rfl rfl)
theorem dX8_hourOf_17 : decode cX8_hourOf 17 = .ok (.bipush 24, 2) := dk_16 24 (dk_at dksX8_hourOf_0 17 rfl rfl)
theorem dX8_hourOf_19 : decode cX8_hourOf 19 = .ok (.irem, 1) := dk_112 (dk_at dksX8_hourOf_0 19 rfl rfl)
theorem dX8_hourOf_20 : decode cX8_hourOf 20 = .ok (.iastore, 1) := dk_79 (dk_at dksX8_hourOf_0 20 rfl rfl)
theorem dX8_hourOf_21 : decode cX8_hourOf 21 = .ok (.aload_n 0, 1) := dk_42 (dk_at dksX8_hourOf_0 21 rfl rfl)
theorem dX8_hourOf_22 : decode cX8_hourOf 22 = .ok (.iload_n 1, 1) := dk_27 (dk_at dksX8_hourOf_0 22 rfl rfl)
theorem dX8_hourOf_23 : decode cX8_hourOf 23 = .ok (.invokevirtual 165, 3) := dk_182 0 165 (dk_at dksX8_hourOf_1 0 rfl rfl)
theorem dX8_hourOf_26 : decode cX8_hourOf 26 = .ok (.return_, 1) := dk_177 (dk_at dksX8_hourOf_1 3 rfl rfl)
abbrev cX8_springs : ByteArray := prog_13_method_59_code
def yX8_springs : MethodName := ⟨RX8, "springs", "(I)I"⟩
def dkwX8_springs_1 : List UInt8 := [182, 0, 219, 42, 182, 0, 237, 132, 2, 1, 167, 255, 240, 42, 3, 182, 0, 202, 184, 0, 240, 172]
abbrev dktX8_springs_1 : List UInt8 := dkwX8_springs_1 ++ []
def dkwX8_springs_0 : List UInt8 := [27, 133, 10, 20, 0, 235, 184, 0, 49, 154, 0, 5, 2, 172, 3, 61, 28, 27, 162, 0, 17, 42]
abbrev dktX8_springs_0 : List UInt8 := dkwX8_springs_0 ++ dktX8_springs_1
theorem dksX8_springs_0 : cX8_springs.data.toList.drop 0 = dktX8_springs_0 := by decide +kernel
theorem dksX8_springs_1 : cX8_springs.data.toList.drop 22 = dktX8_springs_1 := dk_seg dksX8_springs_0 22 rfl rfl
theorem dX8_springs_0 : decode cX8_springs 0 = .ok (.iload_n 1, 1) := dk_27 (dk_at dksX8_springs_0 0 rfl rfl)
theorem dX8_springs_1 : decode cX8_springs 1 = .ok (.i2l, 1) := dk_133 (dk_at dksX8_springs_0 1 rfl rfl)
theorem dX8_springs_2 : decode cX8_springs 2 = .ok (.lconst 1, 1) := dk_10 (dk_at dksX8_springs_0 2 rfl rfl)
theorem dX8_springs_3 : decode cX8_springs 3 = .ok (.ldc2_w 235, 3) := dk_20 0 235 (dk_at dksX8_springs_0 3 rfl rfl)
theorem dX8_springs_6 : decode cX8_springs 6 = .ok (.invokestatic 49, 3) := dk_184 0 49 (dk_at dksX8_springs_0 6 rfl rfl)
theorem dX8_springs_9 : decode cX8_springs 9 = .ok (.ifCond .ne 5, 3) := dk_154 0 5 (dk_at dksX8_springs_0 9 rfl rfl)
theorem dX8_springs_12 : decode cX8_springs 12 = .ok (.iconst (-1), 1) := dk_2 (dk_at dksX8_springs_0 12 rfl rfl)
theorem dX8_springs_13 : decode cX8_springs 13 = .ok (.ireturn, 1) := dk_172 (dk_at dksX8_springs_0 13 rfl rfl)
theorem dX8_springs_14 : decode cX8_springs 14 = .ok (.iconst 0, 1) := dk_3 (dk_at dksX8_springs_0 14 rfl rfl)
theorem dX8_springs_15 : decode cX8_springs 15 = .ok (.istore_n 2, 1) := dk_61 (dk_at dksX8_springs_0 15 rfl rfl)
theorem dX8_springs_16 : decode cX8_springs 16 = .ok (.iload_n 2, 1) := dk_28 (dk_at dksX8_springs_0 16 rfl rfl)
theorem dX8_springs_17 : decode cX8_springs 17 = .ok (.iload_n 1, 1) := dk_27 (dk_at dksX8_springs_0 17 rfl rfl)
theorem dX8_springs_18 : decode cX8_springs 18 = .ok (.if_icmp .ge 17, 3) := dk_162 0 17 (dk_at dksX8_springs_0 18 rfl rfl)
theorem dX8_springs_21 : decode cX8_springs 21 = .ok (.aload_n 0, 1) := dk_42 (dk_at dksX8_springs_0 21 rfl rfl)
theorem dX8_springs_22 : decode cX8_springs 22 = .ok (.invokevirtual 219, 3) := dk_182 0 219 (dk_at dksX8_springs_1 0 rfl rfl)
theorem dX8_springs_25 : decode cX8_springs 25 = .ok (.aload_n 0, 1) := dk_42 (dk_at dksX8_springs_1 3 rfl rfl)
theorem dX8_springs_26 : decode cX8_springs 26 = .ok (.invokevirtual 237, 3) := dk_182 0 237 (dk_at dksX8_springs_1 4 rfl rfl)
theorem dX8_springs_29 : decode cX8_springs 29 = .ok (.iinc 2 1, 3) := dk_132 2 1 (dk_at dksX8_springs_1 7 rfl rfl)
theorem dX8_springs_32 : decode cX8_springs 32 = .ok (.goto (-16), 3) := dk_167 255 240 (dk_at dksX8_springs_1 10 rfl rfl)
theorem dX8_springs_35 : decode cX8_springs 35 = .ok (.aload_n 0, 1) := dk_42 (dk_at dksX8_springs_1 13 rfl rfl)
theorem dX8_springs_36 : decode cX8_springs 36 = .ok (.iconst 0, 1) := dk_3 (dk_at dksX8_springs_1 14 rfl rfl)
theorem dX8_springs_37 : decode cX8_springs 37 = .ok (.invokevirtual 202, 3) := dk_182 0 202 (dk_at dksX8_springs_1 15 rfl rfl)
theorem dX8_springs_40 : decode cX8_springs 40 = .ok (.invokestatic 240, 3) := dk_184 0 240 (dk_at dksX8_springs_1 18 rfl rfl)
theorem dX8_springs_43 : decode cX8_springs 43 = .ok (.ireturn, 1) := dk_172 (dk_at dksX8_springs_1 21 rfl rfl)
abbrev cX8_springsOnce : ByteArray := prog_13_method_57_code
def yX8_springsOnce : MethodName := ⟨RX8, "springsOnce", "()V"⟩
def dkwX8_springsOnce_4 : List UInt8 := [96, 92, 46, 29, 96, 79, 42, 3, 182, 0, 165, 177]
abbrev dktX8_springsOnce_4 : List UInt8 := dkwX8_springsOnce_4 ++ []
def dkwX8_springsOnce_3 : List UInt8 := [28, 182, 0, 222, 167, 0, 26, 42, 3, 28, 29, 182, 0, 216, 153, 0, 16, 42, 180, 0, 7, 16, 28, 28]
abbrev dktX8_springsOnce_3 : List UInt8 := dkwX8_springsOnce_3 ++ dktX8_springsOnce_4
def dkwX8_springsOnce_2 : List UInt8 := [122, 4, 126, 4, 160, 0, 7, 4, 167, 0, 4, 2, 62, 42, 3, 28, 182, 0, 53, 154, 0, 12, 42, 3]
abbrev dktX8_springsOnce_2 : List UInt8 := dkwX8_springsOnce_2 ++ dktX8_springsOnce_3
def dkwX8_springsOnce_1 : List UInt8 := [42, 180, 0, 7, 3, 46, 158, 0, 77, 27, 18, 234, 108, 42, 180, 0, 7, 3, 46, 112, 61, 27, 16, 9]
abbrev dktX8_springsOnce_1 : List UInt8 := dkwX8_springsOnce_1 ++ dktX8_springsOnce_2
def dkwX8_springsOnce_0 : List UInt8 := [42, 180, 0, 7, 6, 46, 18, 232, 104, 17, 48, 57, 96, 18, 233, 126, 60, 42, 180, 0, 7, 6, 27, 79]
abbrev dktX8_springsOnce_0 : List UInt8 := dkwX8_springsOnce_0 ++ dktX8_springsOnce_1
theorem dksX8_springsOnce_0 : cX8_springsOnce.data.toList.drop 0 = dktX8_springsOnce_0 := by decide +kernel
theorem dksX8_springsOnce_1 : cX8_springsOnce.data.toList.drop 24 = dktX8_springsOnce_1 := dk_seg dksX8_springsOnce_0 24 rfl rfl
theorem dksX8_springsOnce_2 : cX8_springsOnce.data.toList.drop 48 = dktX8_springsOnce_2 := dk_seg dksX8_springsOnce_1 24 rfl rfl
theorem dksX8_springsOnce_3 : cX8_springsOnce.data.toList.drop 72 = dktX8_springsOnce_3 := dk_seg dksX8_springsOnce_2 24 rfl rfl
theorem dksX8_springsOnce_4 : cX8_springsOnce.data.toList.drop 96 = dktX8_springsOnce_4 := dk_seg dksX8_springsOnce_3 24 rfl rfl
theorem dX8_springsOnce_0 : decode cX8_springsOnce 0 = .ok (.aload_n 0, 1) := dk_42 (dk_at dksX8_springsOnce_0 0 rfl rfl)
theorem dX8_springsOnce_1 : decode cX8_springsOnce 1 = .ok (.getfield 7, 3) := dk_180 0 7 (dk_at dksX8_springsOnce_0 1 rfl rfl)
theorem dX8_springsOnce_4 : decode cX8_springsOnce 4 = .ok (.iconst 3, 1) := dk_6 (dk_at dksX8_springsOnce_0 4 rfl rfl)
theorem dX8_springsOnce_5 : decode cX8_springsOnce 5 = .ok (.iaload, 1) := dk_46 (dk_at dksX8_springsOnce_0 5 rfl rfl)
theorem dX8_springsOnce_6 : decode cX8_springsOnce 6 = .ok (.ldc 232, 2) := dk_18 232 (dk_at dksX8_springsOnce_0 6 rfl rfl)
theorem dX8_springsOnce_8 : decode cX8_springsOnce 8 = .ok (.imul, 1) := dk_104 (dk_at dksX8_springsOnce_0 8 rfl rfl)
theorem dX8_springsOnce_9 : decode cX8_springsOnce 9 = .ok (.sipush 12345, 3) := dk_17 48 57 (dk_at dksX8_springsOnce_0 9 rfl rfl)
theorem dX8_springsOnce_12 : decode cX8_springsOnce 12 = .ok (.iadd, 1) := dk_96 (dk_at dksX8_springsOnce_0 12 rfl rfl)
theorem dX8_springsOnce_13 : decode cX8_springsOnce 13 = .ok (.ldc 233, 2) := dk_18 233 (dk_at dksX8_springsOnce_0 13 rfl rfl)
theorem dX8_springsOnce_15 : decode cX8_springsOnce 15 = .ok (.iand, 1) := dk_126 (dk_at dksX8_springsOnce_0 15 rfl rfl)
theorem dX8_springsOnce_16 : decode cX8_springsOnce 16 = .ok (.istore_n 1, 1) := dk_60 (dk_at dksX8_springsOnce_0 16 rfl rfl)
theorem dX8_springsOnce_17 : decode cX8_springsOnce 17 = .ok (.aload_n 0, 1) := dk_42 (dk_at dksX8_springsOnce_0 17 rfl rfl)
theorem dX8_springsOnce_18 : decode cX8_springsOnce 18 = .ok (.getfield 7, 3) := dk_180 0 7 (dk_at dksX8_springsOnce_0 18 rfl rfl)
theorem dX8_springsOnce_21 : decode cX8_springsOnce 21 = .ok (.iconst 3, 1) := dk_6 (dk_at dksX8_springsOnce_0 21 rfl rfl)
theorem dX8_springsOnce_22 : decode cX8_springsOnce 22 = .ok (.iload_n 1, 1) := dk_27 (dk_at dksX8_springsOnce_0 22 rfl rfl)
theorem dX8_springsOnce_23 : decode cX8_springsOnce 23 = .ok (.iastore, 1) := dk_79 (dk_at dksX8_springsOnce_0 23 rfl rfl)
theorem dX8_springsOnce_24 : decode cX8_springsOnce 24 = .ok (.aload_n 0, 1) := dk_42 (dk_at dksX8_springsOnce_1 0 rfl rfl)
theorem dX8_springsOnce_25 : decode cX8_springsOnce 25 = .ok (.getfield 7, 3) := dk_180 0 7 (dk_at dksX8_springsOnce_1 1 rfl rfl)
theorem dX8_springsOnce_28 : decode cX8_springsOnce 28 = .ok (.iconst 0, 1) := dk_3 (dk_at dksX8_springsOnce_1 4 rfl rfl)
theorem dX8_springsOnce_29 : decode cX8_springsOnce 29 = .ok (.iaload, 1) := dk_46 (dk_at dksX8_springsOnce_1 5 rfl rfl)
theorem dX8_springsOnce_30 : decode cX8_springsOnce 30 = .ok (.ifCond .le 77, 3) := dk_158 0 77 (dk_at dksX8_springsOnce_1 6 rfl rfl)
theorem dX8_springsOnce_33 : decode cX8_springsOnce 33 = .ok (.iload_n 1, 1) := dk_27 (dk_at dksX8_springsOnce_1 9 rfl rfl)
theorem dX8_springsOnce_34 : decode cX8_springsOnce 34 = .ok (.ldc 234, 2) := dk_18 234 (dk_at dksX8_springsOnce_1 10 rfl rfl)
theorem dX8_springsOnce_36 : decode cX8_springsOnce 36 = .ok (.idiv, 1) := dk_108 (dk_at dksX8_springsOnce_1 12 rfl rfl)
theorem dX8_springsOnce_37 : decode cX8_springsOnce 37 = .ok (.aload_n 0, 1) := dk_42 (dk_at dksX8_springsOnce_1 13 rfl rfl)
theorem dX8_springsOnce_38 : decode cX8_springsOnce 38 = .ok (.getfield 7, 3) := dk_180 0 7 (dk_at dksX8_springsOnce_1 14 rfl rfl)
theorem dX8_springsOnce_41 : decode cX8_springsOnce 41 = .ok (.iconst 0, 1) := dk_3 (dk_at dksX8_springsOnce_1 17 rfl rfl)
theorem dX8_springsOnce_42 : decode cX8_springsOnce 42 = .ok (.iaload, 1) := dk_46 (dk_at dksX8_springsOnce_1 18 rfl rfl)
theorem dX8_springsOnce_43 : decode cX8_springsOnce 43 = .ok (.irem, 1) := dk_112 (dk_at dksX8_springsOnce_1 19 rfl rfl)
theorem dX8_springsOnce_44 : decode cX8_springsOnce 44 = .ok (.istore_n 2, 1) := dk_61 (dk_at dksX8_springsOnce_1 20 rfl rfl)
theorem dX8_springsOnce_45 : decode cX8_springsOnce 45 = .ok (.iload_n 1, 1) := dk_27 (dk_at dksX8_springsOnce_1 21 rfl rfl)
theorem dX8_springsOnce_46 : decode cX8_springsOnce 46 = .ok (.bipush 9, 2) := dk_16 9 (dk_at dksX8_springsOnce_1 22 rfl rfl)
theorem dX8_springsOnce_48 : decode cX8_springsOnce 48 = .ok (.ishr, 1) := dk_122 (dk_at dksX8_springsOnce_2 0 rfl rfl)
theorem dX8_springsOnce_49 : decode cX8_springsOnce 49 = .ok (.iconst 1, 1) := dk_4 (dk_at dksX8_springsOnce_2 1 rfl rfl)
theorem dX8_springsOnce_50 : decode cX8_springsOnce 50 = .ok (.iand, 1) := dk_126 (dk_at dksX8_springsOnce_2 2 rfl rfl)
theorem dX8_springsOnce_51 : decode cX8_springsOnce 51 = .ok (.iconst 1, 1) := dk_4 (dk_at dksX8_springsOnce_2 3 rfl rfl)
theorem dX8_springsOnce_52 : decode cX8_springsOnce 52 = .ok (.if_icmp .ne 7, 3) := dk_160 0 7 (dk_at dksX8_springsOnce_2 4 rfl rfl)
theorem dX8_springsOnce_55 : decode cX8_springsOnce 55 = .ok (.iconst 1, 1) := dk_4 (dk_at dksX8_springsOnce_2 7 rfl rfl)
theorem dX8_springsOnce_56 : decode cX8_springsOnce 56 = .ok (.goto 4, 3) := dk_167 0 4 (dk_at dksX8_springsOnce_2 8 rfl rfl)
theorem dX8_springsOnce_59 : decode cX8_springsOnce 59 = .ok (.iconst (-1), 1) := dk_2 (dk_at dksX8_springsOnce_2 11 rfl rfl)
theorem dX8_springsOnce_60 : decode cX8_springsOnce 60 = .ok (.istore_n 3, 1) := dk_62 (dk_at dksX8_springsOnce_2 12 rfl rfl)
theorem dX8_springsOnce_61 : decode cX8_springsOnce 61 = .ok (.aload_n 0, 1) := dk_42 (dk_at dksX8_springsOnce_2 13 rfl rfl)
theorem dX8_springsOnce_62 : decode cX8_springsOnce 62 = .ok (.iconst 0, 1) := dk_3 (dk_at dksX8_springsOnce_2 14 rfl rfl)
theorem dX8_springsOnce_63 : decode cX8_springsOnce 63 = .ok (.iload_n 2, 1) := dk_28 (dk_at dksX8_springsOnce_2 15 rfl rfl)
theorem dX8_springsOnce_64 : decode cX8_springsOnce 64 = .ok (.invokevirtual 53, 3) := dk_182 0 53 (dk_at dksX8_springsOnce_2 16 rfl rfl)
theorem dX8_springsOnce_67 : decode cX8_springsOnce 67 = .ok (.ifCond .ne 12, 3) := dk_154 0 12 (dk_at dksX8_springsOnce_2 19 rfl rfl)
theorem dX8_springsOnce_70 : decode cX8_springsOnce 70 = .ok (.aload_n 0, 1) := dk_42 (dk_at dksX8_springsOnce_2 22 rfl rfl)
theorem dX8_springsOnce_71 : decode cX8_springsOnce 71 = .ok (.iconst 0, 1) := dk_3 (dk_at dksX8_springsOnce_2 23 rfl rfl)
theorem dX8_springsOnce_72 : decode cX8_springsOnce 72 = .ok (.iload_n 2, 1) := dk_28 (dk_at dksX8_springsOnce_3 0 rfl rfl)
theorem dX8_springsOnce_73 : decode cX8_springsOnce 73 = .ok (.invokevirtual 222, 3) := dk_182 0 222 (dk_at dksX8_springsOnce_3 1 rfl rfl)
theorem dX8_springsOnce_76 : decode cX8_springsOnce 76 = .ok (.goto 26, 3) := dk_167 0 26 (dk_at dksX8_springsOnce_3 4 rfl rfl)
theorem dX8_springsOnce_79 : decode cX8_springsOnce 79 = .ok (.aload_n 0, 1) := dk_42 (dk_at dksX8_springsOnce_3 7 rfl rfl)
theorem dX8_springsOnce_80 : decode cX8_springsOnce 80 = .ok (.iconst 0, 1) := dk_3 (dk_at dksX8_springsOnce_3 8 rfl rfl)
theorem dX8_springsOnce_81 : decode cX8_springsOnce 81 = .ok (.iload_n 2, 1) := dk_28 (dk_at dksX8_springsOnce_3 9 rfl rfl)
theorem dX8_springsOnce_82 : decode cX8_springsOnce 82 = .ok (.iload_n 3, 1) := dk_29 (dk_at dksX8_springsOnce_3 10 rfl rfl)
theorem dX8_springsOnce_83 : decode cX8_springsOnce 83 = .ok (.invokevirtual 216, 3) := dk_182 0 216 (dk_at dksX8_springsOnce_3 11 rfl rfl)
theorem dX8_springsOnce_86 : decode cX8_springsOnce 86 = .ok (.ifCond .eq 16, 3) := dk_153 0 16 (dk_at dksX8_springsOnce_3 14 rfl rfl)
theorem dX8_springsOnce_89 : decode cX8_springsOnce 89 = .ok (.aload_n 0, 1) := dk_42 (dk_at dksX8_springsOnce_3 17 rfl rfl)
theorem dX8_springsOnce_90 : decode cX8_springsOnce 90 = .ok (.getfield 7, 3) := dk_180 0 7 (dk_at dksX8_springsOnce_3 18 rfl rfl)
theorem dX8_springsOnce_93 : decode cX8_springsOnce 93 = .ok (.bipush 28, 2) := dk_16 28 (dk_at dksX8_springsOnce_3 21 rfl rfl)
theorem dX8_springsOnce_95 : decode cX8_springsOnce 95 = .ok (.iload_n 2, 1) := dk_28 (dk_at dksX8_springsOnce_3 23 rfl rfl)
theorem dX8_springsOnce_96 : decode cX8_springsOnce 96 = .ok (.iadd, 1) := dk_96 (dk_at dksX8_springsOnce_4 0 rfl rfl)
theorem dX8_springsOnce_97 : decode cX8_springsOnce 97 = .ok (.dup2, 1) := dk_92 (dk_at dksX8_springsOnce_4 1 rfl rfl)
theorem dX8_springsOnce_98 : decode cX8_springsOnce 98 = .ok (.iaload, 1) := dk_46 (dk_at dksX8_springsOnce_4 2 rfl rfl)
theorem dX8_springsOnce_99 : decode cX8_springsOnce 99 = .ok (.iload_n 3, 1) := dk_29 (dk_at dksX8_springsOnce_4 3 rfl rfl)
theorem dX8_springsOnce_100 : decode cX8_springsOnce 100 = .ok (.iadd, 1) := dk_96 (dk_at dksX8_springsOnce_4 4 rfl rfl)
theorem dX8_springsOnce_101 : decode cX8_springsOnce 101 = .ok (.iastore, 1) := dk_79 (dk_at dksX8_springsOnce_4 5 rfl rfl)
theorem dX8_springsOnce_102 : decode cX8_springsOnce 102 = .ok (.aload_n 0, 1) := dk_42 (dk_at dksX8_springsOnce_4 6 rfl rfl)
theorem dX8_springsOnce_103 : decode cX8_springsOnce 103 = .ok (.iconst 0, 1) := dk_3 (dk_at dksX8_springsOnce_4 7 rfl rfl)
theorem dX8_springsOnce_104 : decode cX8_springsOnce 104 = .ok (.invokevirtual 165, 3) := dk_182 0 165 (dk_at dksX8_springsOnce_4 8 rfl rfl)
theorem dX8_springsOnce_107 : decode cX8_springsOnce 107 = .ok (.return_, 1) := dk_177 (dk_at dksX8_springsOnce_4 11 rfl rfl)
abbrev cX8_ones : ByteArray := prog_13_method_58_code
def yX8_ones : MethodName := ⟨RX8, "ones", "(I)I"⟩
def dkwX8_ones_1 : List UInt8 := [27, 172]
abbrev dktX8_ones_1 : List UInt8 := dkwX8_ones_1 ++ []
def dkwX8_ones_0 : List UInt8 := [3, 60, 3, 61, 28, 16, 8, 162, 0, 17, 27, 26, 28, 122, 4, 126, 96, 60, 132, 2, 1, 167, 255, 239]
abbrev dktX8_ones_0 : List UInt8 := dkwX8_ones_0 ++ dktX8_ones_1
theorem dksX8_ones_0 : cX8_ones.data.toList.drop 0 = dktX8_ones_0 := by decide +kernel
theorem dksX8_ones_1 : cX8_ones.data.toList.drop 24 = dktX8_ones_1 := dk_seg dksX8_ones_0 24 rfl rfl
theorem dX8_ones_0 : decode cX8_ones 0 = .ok (.iconst 0, 1) := dk_3 (dk_at dksX8_ones_0 0 rfl rfl)
theorem dX8_ones_1 : decode cX8_ones 1 = .ok (.istore_n 1, 1) := dk_60 (dk_at dksX8_ones_0 1 rfl rfl)
theorem dX8_ones_2 : decode cX8_ones 2 = .ok (.iconst 0, 1) := dk_3 (dk_at dksX8_ones_0 2 rfl rfl)
theorem dX8_ones_3 : decode cX8_ones 3 = .ok (.istore_n 2, 1) := dk_61 (dk_at dksX8_ones_0 3 rfl rfl)
theorem dX8_ones_4 : decode cX8_ones 4 = .ok (.iload_n 2, 1) := dk_28 (dk_at dksX8_ones_0 4 rfl rfl)
theorem dX8_ones_5 : decode cX8_ones 5 = .ok (.bipush 8, 2) := dk_16 8 (dk_at dksX8_ones_0 5 rfl rfl)
theorem dX8_ones_7 : decode cX8_ones 7 = .ok (.if_icmp .ge 17, 3) := dk_162 0 17 (dk_at dksX8_ones_0 7 rfl rfl)
theorem dX8_ones_10 : decode cX8_ones 10 = .ok (.iload_n 1, 1) := dk_27 (dk_at dksX8_ones_0 10 rfl rfl)
theorem dX8_ones_11 : decode cX8_ones 11 = .ok (.iload_n 0, 1) := dk_26 (dk_at dksX8_ones_0 11 rfl rfl)
theorem dX8_ones_12 : decode cX8_ones 12 = .ok (.iload_n 2, 1) := dk_28 (dk_at dksX8_ones_0 12 rfl rfl)
theorem dX8_ones_13 : decode cX8_ones 13 = .ok (.ishr, 1) := dk_122 (dk_at dksX8_ones_0 13 rfl rfl)
theorem dX8_ones_14 : decode cX8_ones 14 = .ok (.iconst 1, 1) := dk_4 (dk_at dksX8_ones_0 14 rfl rfl)
theorem dX8_ones_15 : decode cX8_ones 15 = .ok (.iand, 1) := dk_126 (dk_at dksX8_ones_0 15 rfl rfl)
theorem dX8_ones_16 : decode cX8_ones 16 = .ok (.iadd, 1) := dk_96 (dk_at dksX8_ones_0 16 rfl rfl)
theorem dX8_ones_17 : decode cX8_ones 17 = .ok (.istore_n 1, 1) := dk_60 (dk_at dksX8_ones_0 17 rfl rfl)
theorem dX8_ones_18 : decode cX8_ones 18 = .ok (.iinc 2 1, 3) := dk_132 2 1 (dk_at dksX8_ones_0 18 rfl rfl)
theorem dX8_ones_21 : decode cX8_ones 21 = .ok (.goto (-17), 3) := dk_167 255 239 (dk_at dksX8_ones_0 21 rfl rfl)
theorem dX8_ones_24 : decode cX8_ones 24 = .ok (.iload_n 1, 1) := dk_27 (dk_at dksX8_ones_1 0 rfl rfl)
theorem dX8_ones_25 : decode cX8_ones 25 = .ok (.ireturn, 1) := dk_172 (dk_at dksX8_ones_1 1 rfl rfl)
abbrev cX8_undo : ByteArray := prog_13_method_60_code
def yX8_undo : MethodName := ⟨RX8, "undo", "()I"⟩
def dkwX8_undo_3 : List UInt8 := [46, 172]
abbrev dktX8_undo_3 : List UInt8 := dkwX8_undo_3 ++ []
def dkwX8_undo_2 : List UInt8 := [180, 0, 7, 16, 60, 46, 104, 96, 27, 96, 46, 79, 132, 1, 1, 167, 255, 221, 42, 180, 0, 7, 16, 60]
abbrev dktX8_undo_2 : List UInt8 := dkwX8_undo_2 ++ dktX8_undo_3
def dkwX8_undo_1 : List UInt8 := [3, 60, 27, 16, 60, 162, 0, 35, 42, 180, 0, 7, 27, 42, 180, 0, 7, 16, 61, 16, 60, 42]
abbrev dktX8_undo_1 : List UInt8 := dkwX8_undo_1 ++ dktX8_undo_2
def dkwX8_undo_0 : List UInt8 := [42, 180, 0, 7, 16, 60, 46, 154, 0, 6, 16, 252, 172, 42, 180, 0, 7, 16, 60, 92, 46, 4, 100, 79]
abbrev dktX8_undo_0 : List UInt8 := dkwX8_undo_0 ++ dktX8_undo_1
theorem dksX8_undo_0 : cX8_undo.data.toList.drop 0 = dktX8_undo_0 := by decide +kernel
theorem dksX8_undo_1 : cX8_undo.data.toList.drop 24 = dktX8_undo_1 := dk_seg dksX8_undo_0 24 rfl rfl
theorem dksX8_undo_2 : cX8_undo.data.toList.drop 46 = dktX8_undo_2 := dk_seg dksX8_undo_1 22 rfl rfl
theorem dksX8_undo_3 : cX8_undo.data.toList.drop 70 = dktX8_undo_3 := dk_seg dksX8_undo_2 24 rfl rfl
theorem dX8_undo_0 : decode cX8_undo 0 = .ok (.aload_n 0, 1) := dk_42 (dk_at dksX8_undo_0 0 rfl rfl)
theorem dX8_undo_1 : decode cX8_undo 1 = .ok (.getfield 7, 3) := dk_180 0 7 (dk_at dksX8_undo_0 1 rfl rfl)
theorem dX8_undo_4 : decode cX8_undo 4 = .ok (.bipush 60, 2) := dk_16 60 (dk_at dksX8_undo_0 4 rfl rfl)
theorem dX8_undo_6 : decode cX8_undo 6 = .ok (.iaload, 1) := dk_46 (dk_at dksX8_undo_0 6 rfl rfl)
theorem dX8_undo_7 : decode cX8_undo 7 = .ok (.ifCond .ne 6, 3) := dk_154 0 6 (dk_at dksX8_undo_0 7 rfl rfl)
theorem dX8_undo_10 : decode cX8_undo 10 = .ok (.bipush (-4), 2) := dk_16 252 (dk_at dksX8_undo_0 10 rfl rfl)
theorem dX8_undo_12 : decode cX8_undo 12 = .ok (.ireturn, 1) := dk_172 (dk_at dksX8_undo_0 12 rfl rfl)
theorem dX8_undo_13 : decode cX8_undo 13 = .ok (.aload_n 0, 1) := dk_42 (dk_at dksX8_undo_0 13 rfl rfl)
theorem dX8_undo_14 : decode cX8_undo 14 = .ok (.getfield 7, 3) := dk_180 0 7 (dk_at dksX8_undo_0 14 rfl rfl)
theorem dX8_undo_17 : decode cX8_undo 17 = .ok (.bipush 60, 2) := dk_16 60 (dk_at dksX8_undo_0 17 rfl rfl)
theorem dX8_undo_19 : decode cX8_undo 19 = .ok (.dup2, 1) := dk_92 (dk_at dksX8_undo_0 19 rfl rfl)
theorem dX8_undo_20 : decode cX8_undo 20 = .ok (.iaload, 1) := dk_46 (dk_at dksX8_undo_0 20 rfl rfl)
theorem dX8_undo_21 : decode cX8_undo 21 = .ok (.iconst 1, 1) := dk_4 (dk_at dksX8_undo_0 21 rfl rfl)
theorem dX8_undo_22 : decode cX8_undo 22 = .ok (.isub, 1) := dk_100 (dk_at dksX8_undo_0 22 rfl rfl)
theorem dX8_undo_23 : decode cX8_undo 23 = .ok (.iastore, 1) := dk_79 (dk_at dksX8_undo_0 23 rfl rfl)
theorem dX8_undo_24 : decode cX8_undo 24 = .ok (.iconst 0, 1) := dk_3 (dk_at dksX8_undo_1 0 rfl rfl)
theorem dX8_undo_25 : decode cX8_undo 25 = .ok (.istore_n 1, 1) := dk_60 (dk_at dksX8_undo_1 1 rfl rfl)
theorem dX8_undo_26 : decode cX8_undo 26 = .ok (.iload_n 1, 1) := dk_27 (dk_at dksX8_undo_1 2 rfl rfl)
theorem dX8_undo_27 : decode cX8_undo 27 = .ok (.bipush 60, 2) := dk_16 60 (dk_at dksX8_undo_1 3 rfl rfl)
theorem dX8_undo_29 : decode cX8_undo 29 = .ok (.if_icmp .ge 35, 3) := dk_162 0 35 (dk_at dksX8_undo_1 5 rfl rfl)
theorem dX8_undo_32 : decode cX8_undo 32 = .ok (.aload_n 0, 1) := dk_42 (dk_at dksX8_undo_1 8 rfl rfl)
theorem dX8_undo_33 : decode cX8_undo 33 = .ok (.getfield 7, 3) := dk_180 0 7 (dk_at dksX8_undo_1 9 rfl rfl)
theorem dX8_undo_36 : decode cX8_undo 36 = .ok (.iload_n 1, 1) := dk_27 (dk_at dksX8_undo_1 12 rfl rfl)
theorem dX8_undo_37 : decode cX8_undo 37 = .ok (.aload_n 0, 1) := dk_42 (dk_at dksX8_undo_1 13 rfl rfl)
theorem dX8_undo_38 : decode cX8_undo 38 = .ok (.getfield 7, 3) := dk_180 0 7 (dk_at dksX8_undo_1 14 rfl rfl)
theorem dX8_undo_41 : decode cX8_undo 41 = .ok (.bipush 61, 2) := dk_16 61 (dk_at dksX8_undo_1 17 rfl rfl)
theorem dX8_undo_43 : decode cX8_undo 43 = .ok (.bipush 60, 2) := dk_16 60 (dk_at dksX8_undo_1 19 rfl rfl)
theorem dX8_undo_45 : decode cX8_undo 45 = .ok (.aload_n 0, 1) := dk_42 (dk_at dksX8_undo_1 21 rfl rfl)
theorem dX8_undo_46 : decode cX8_undo 46 = .ok (.getfield 7, 3) := dk_180 0 7 (dk_at dksX8_undo_2 0 rfl rfl)
theorem dX8_undo_49 : decode cX8_undo 49 = .ok (.bipush 60, 2) := dk_16 60 (dk_at dksX8_undo_2 3 rfl rfl)
theorem dX8_undo_51 : decode cX8_undo 51 = .ok (.iaload, 1) := dk_46 (dk_at dksX8_undo_2 5 rfl rfl)
theorem dX8_undo_52 : decode cX8_undo 52 = .ok (.imul, 1) := dk_104 (dk_at dksX8_undo_2 6 rfl rfl)
theorem dX8_undo_53 : decode cX8_undo 53 = .ok (.iadd, 1) := dk_96 (dk_at dksX8_undo_2 7 rfl rfl)
theorem dX8_undo_54 : decode cX8_undo 54 = .ok (.iload_n 1, 1) := dk_27 (dk_at dksX8_undo_2 8 rfl rfl)
theorem dX8_undo_55 : decode cX8_undo 55 = .ok (.iadd, 1) := dk_96 (dk_at dksX8_undo_2 9 rfl rfl)
theorem dX8_undo_56 : decode cX8_undo 56 = .ok (.iaload, 1) := dk_46 (dk_at dksX8_undo_2 10 rfl rfl)
theorem dX8_undo_57 : decode cX8_undo 57 = .ok (.iastore, 1) := dk_79 (dk_at dksX8_undo_2 11 rfl rfl)
theorem dX8_undo_58 : decode cX8_undo 58 = .ok (.iinc 1 1, 3) := dk_132 1 1 (dk_at dksX8_undo_2 12 rfl rfl)
theorem dX8_undo_61 : decode cX8_undo 61 = .ok (.goto (-35), 3) := dk_167 255 221 (dk_at dksX8_undo_2 15 rfl rfl)
theorem dX8_undo_64 : decode cX8_undo 64 = .ok (.aload_n 0, 1) := dk_42 (dk_at dksX8_undo_2 18 rfl rfl)
theorem dX8_undo_65 : decode cX8_undo 65 = .ok (.getfield 7, 3) := dk_180 0 7 (dk_at dksX8_undo_2 19 rfl rfl)
theorem dX8_undo_68 : decode cX8_undo 68 = .ok (.bipush 60, 2) := dk_16 60 (dk_at dksX8_undo_2 22 rfl rfl)
theorem dX8_undo_70 : decode cX8_undo 70 = .ok (.iaload, 1) := dk_46 (dk_at dksX8_undo_3 0 rfl rfl)
theorem dX8_undo_71 : decode cX8_undo 71 = .ok (.ireturn, 1) := dk_172 (dk_at dksX8_undo_3 1 rfl rfl)
abbrev cX8_seed : ByteArray := prog_13_method_61_code
def yX8_seed : MethodName := ⟨RX8, "seed", "(I)I"⟩
def dkwX8_seed_0 : List UInt8 := [27, 156, 0, 5, 2, 172, 42, 180, 0, 7, 6, 46, 61, 42, 180, 0, 7, 6, 27, 79, 28, 172]
abbrev dktX8_seed_0 : List UInt8 := dkwX8_seed_0 ++ []
theorem dksX8_seed_0 : cX8_seed.data.toList.drop 0 = dktX8_seed_0 := by decide +kernel
theorem dX8_seed_0 : decode cX8_seed 0 = .ok (.iload_n 1, 1) := dk_27 (dk_at dksX8_seed_0 0 rfl rfl)
theorem dX8_seed_1 : decode cX8_seed 1 = .ok (.ifCond .ge 5, 3) := dk_156 0 5 (dk_at dksX8_seed_0 1 rfl rfl)
theorem dX8_seed_4 : decode cX8_seed 4 = .ok (.iconst (-1), 1) := dk_2 (dk_at dksX8_seed_0 4 rfl rfl)
theorem dX8_seed_5 : decode cX8_seed 5 = .ok (.ireturn, 1) := dk_172 (dk_at dksX8_seed_0 5 rfl rfl)
theorem dX8_seed_6 : decode cX8_seed 6 = .ok (.aload_n 0, 1) := dk_42 (dk_at dksX8_seed_0 6 rfl rfl)
theorem dX8_seed_7 : decode cX8_seed 7 = .ok (.getfield 7, 3) := dk_180 0 7 (dk_at dksX8_seed_0 7 rfl rfl)
theorem dX8_seed_10 : decode cX8_seed 10 = .ok (.iconst 3, 1) := dk_6 (dk_at dksX8_seed_0 10 rfl rfl)
theorem dX8_seed_11 : decode cX8_seed 11 = .ok (.iaload, 1) := dk_46 (dk_at dksX8_seed_0 11 rfl rfl)
theorem dX8_seed_12 : decode cX8_seed 12 = .ok (.istore_n 2, 1) := dk_61 (dk_at dksX8_seed_0 12 rfl rfl)
theorem dX8_seed_13 : decode cX8_seed 13 = .ok (.aload_n 0, 1) := dk_42 (dk_at dksX8_seed_0 13 rfl rfl)
theorem dX8_seed_14 : decode cX8_seed 14 = .ok (.getfield 7, 3) := dk_180 0 7 (dk_at dksX8_seed_0 14 rfl rfl)
theorem dX8_seed_17 : decode cX8_seed 17 = .ok (.iconst 3, 1) := dk_6 (dk_at dksX8_seed_0 17 rfl rfl)
theorem dX8_seed_18 : decode cX8_seed 18 = .ok (.iload_n 1, 1) := dk_27 (dk_at dksX8_seed_0 18 rfl rfl)
theorem dX8_seed_19 : decode cX8_seed 19 = .ok (.iastore, 1) := dk_79 (dk_at dksX8_seed_0 19 rfl rfl)
theorem dX8_seed_20 : decode cX8_seed 20 = .ok (.iload_n 2, 1) := dk_28 (dk_at dksX8_seed_0 20 rfl rfl)
theorem dX8_seed_21 : decode cX8_seed 21 = .ok (.ireturn, 1) := dk_172 (dk_at dksX8_seed_0 21 rfl rfl)
abbrev cX8_far : ByteArray := prog_13_method_63_code
def yX8_far : MethodName := ⟨RX8, "far", "(II)I"⟩
def dkwX8_far_4 : List UInt8 := [180, 0, 100, 96, 158, 0, 6, 21, 4, 172, 132, 4, 1, 167, 255, 193, 21, 4, 172]
abbrev dktX8_far_4 : List UInt8 := dkwX8_far_4 ++ []
def dkwX8_far_3 : List UInt8 := [27, 96, 92, 46, 29, 21, 4, 4, 96, 104, 96, 79, 42, 17, 4, 58, 182, 0, 165, 42, 180, 0, 97, 42]
abbrev dktX8_far_3 : List UInt8 := dkwX8_far_3 ++ dktX8_far_4
def dkwX8_far_2 : List UInt8 := [27, 29, 21, 4, 4, 96, 104, 182, 0, 216, 153, 0, 54, 42, 182, 0, 243, 42, 180, 0, 7, 17, 4, 86]
abbrev dktX8_far_2 : List UInt8 := dkwX8_far_2 ++ dktX8_far_3
def dkwX8_far_1 : List UInt8 := [182, 0, 53, 154, 0, 6, 16, 254, 172, 28, 154, 0, 7, 2, 167, 0, 4, 4, 62, 3, 54, 4, 42, 3]
abbrev dktX8_far_1 : List UInt8 := dkwX8_far_1 ++ dktX8_far_2
def dkwX8_far_0 : List UInt8 := [42, 27, 182, 0, 176, 153, 0, 13, 28, 133, 9, 10, 184, 0, 49, 154, 0, 5, 2, 172, 42, 3, 27]
abbrev dktX8_far_0 : List UInt8 := dkwX8_far_0 ++ dktX8_far_1
theorem dksX8_far_0 : cX8_far.data.toList.drop 0 = dktX8_far_0 := by decide +kernel
theorem dksX8_far_1 : cX8_far.data.toList.drop 23 = dktX8_far_1 := dk_seg dksX8_far_0 23 rfl rfl
theorem dksX8_far_2 : cX8_far.data.toList.drop 47 = dktX8_far_2 := dk_seg dksX8_far_1 24 rfl rfl
theorem dksX8_far_3 : cX8_far.data.toList.drop 71 = dktX8_far_3 := dk_seg dksX8_far_2 24 rfl rfl
theorem dksX8_far_4 : cX8_far.data.toList.drop 95 = dktX8_far_4 := dk_seg dksX8_far_3 24 rfl rfl
theorem dX8_far_0 : decode cX8_far 0 = .ok (.aload_n 0, 1) := dk_42 (dk_at dksX8_far_0 0 rfl rfl)
theorem dX8_far_1 : decode cX8_far 1 = .ok (.iload_n 1, 1) := dk_27 (dk_at dksX8_far_0 1 rfl rfl)
theorem dX8_far_2 : decode cX8_far 2 = .ok (.invokevirtual 176, 3) := dk_182 0 176 (dk_at dksX8_far_0 2 rfl rfl)
theorem dX8_far_5 : decode cX8_far 5 = .ok (.ifCond .eq 13, 3) := dk_153 0 13 (dk_at dksX8_far_0 5 rfl rfl)
theorem dX8_far_8 : decode cX8_far 8 = .ok (.iload_n 2, 1) := dk_28 (dk_at dksX8_far_0 8 rfl rfl)
theorem dX8_far_9 : decode cX8_far 9 = .ok (.i2l, 1) := dk_133 (dk_at dksX8_far_0 9 rfl rfl)
theorem dX8_far_10 : decode cX8_far 10 = .ok (.lconst 0, 1) := dk_9 (dk_at dksX8_far_0 10 rfl rfl)
theorem dX8_far_11 : decode cX8_far 11 = .ok (.lconst 1, 1) := dk_10 (dk_at dksX8_far_0 11 rfl rfl)
theorem dX8_far_12 : decode cX8_far 12 = .ok (.invokestatic 49, 3) := dk_184 0 49 (dk_at dksX8_far_0 12 rfl rfl)
theorem dX8_far_15 : decode cX8_far 15 = .ok (.ifCond .ne 5, 3) := dk_154 0 5 (dk_at dksX8_far_0 15 rfl rfl)
theorem dX8_far_18 : decode cX8_far 18 = .ok (.iconst (-1), 1) := dk_2 (dk_at dksX8_far_0 18 rfl rfl)
theorem dX8_far_19 : decode cX8_far 19 = .ok (.ireturn, 1) := dk_172 (dk_at dksX8_far_0 19 rfl rfl)
theorem dX8_far_20 : decode cX8_far 20 = .ok (.aload_n 0, 1) := dk_42 (dk_at dksX8_far_0 20 rfl rfl)
theorem dX8_far_21 : decode cX8_far 21 = .ok (.iconst 0, 1) := dk_3 (dk_at dksX8_far_0 21 rfl rfl)
theorem dX8_far_22 : decode cX8_far 22 = .ok (.iload_n 1, 1) := dk_27 (dk_at dksX8_far_0 22 rfl rfl)
theorem dX8_far_23 : decode cX8_far 23 = .ok (.invokevirtual 53, 3) := dk_182 0 53 (dk_at dksX8_far_1 0 rfl rfl)
theorem dX8_far_26 : decode cX8_far 26 = .ok (.ifCond .ne 6, 3) := dk_154 0 6 (dk_at dksX8_far_1 3 rfl rfl)
theorem dX8_far_29 : decode cX8_far 29 = .ok (.bipush (-2), 2) := dk_16 254 (dk_at dksX8_far_1 6 rfl rfl)
theorem dX8_far_31 : decode cX8_far 31 = .ok (.ireturn, 1) := dk_172 (dk_at dksX8_far_1 8 rfl rfl)
theorem dX8_far_32 : decode cX8_far 32 = .ok (.iload_n 2, 1) := dk_28 (dk_at dksX8_far_1 9 rfl rfl)
theorem dX8_far_33 : decode cX8_far 33 = .ok (.ifCond .ne 7, 3) := dk_154 0 7 (dk_at dksX8_far_1 10 rfl rfl)
theorem dX8_far_36 : decode cX8_far 36 = .ok (.iconst (-1), 1) := dk_2 (dk_at dksX8_far_1 13 rfl rfl)
theorem dX8_far_37 : decode cX8_far 37 = .ok (.goto 4, 3) := dk_167 0 4 (dk_at dksX8_far_1 14 rfl rfl)
theorem dX8_far_40 : decode cX8_far 40 = .ok (.iconst 1, 1) := dk_4 (dk_at dksX8_far_1 17 rfl rfl)
theorem dX8_far_41 : decode cX8_far 41 = .ok (.istore_n 3, 1) := dk_62 (dk_at dksX8_far_1 18 rfl rfl)
theorem dX8_far_42 : decode cX8_far 42 = .ok (.iconst 0, 1) := dk_3 (dk_at dksX8_far_1 19 rfl rfl)
theorem dX8_far_43 : decode cX8_far 43 = .ok (.istore 4, 2) := dk_54 4 (dk_at dksX8_far_1 20 rfl rfl)
theorem dX8_far_45 : decode cX8_far 45 = .ok (.aload_n 0, 1) := dk_42 (dk_at dksX8_far_1 22 rfl rfl)
theorem dX8_far_46 : decode cX8_far 46 = .ok (.iconst 0, 1) := dk_3 (dk_at dksX8_far_1 23 rfl rfl)
theorem dX8_far_47 : decode cX8_far 47 = .ok (.iload_n 1, 1) := dk_27 (dk_at dksX8_far_2 0 rfl rfl)
theorem dX8_far_48 : decode cX8_far 48 = .ok (.iload_n 3, 1) := dk_29 (dk_at dksX8_far_2 1 rfl rfl)
theorem dX8_far_49 : decode cX8_far 49 = .ok (.iload 4, 2) := dk_21 4 (dk_at dksX8_far_2 2 rfl rfl)
theorem dX8_far_51 : decode cX8_far 51 = .ok (.iconst 1, 1) := dk_4 (dk_at dksX8_far_2 4 rfl rfl)
theorem dX8_far_52 : decode cX8_far 52 = .ok (.iadd, 1) := dk_96 (dk_at dksX8_far_2 5 rfl rfl)
theorem dX8_far_53 : decode cX8_far 53 = .ok (.imul, 1) := dk_104 (dk_at dksX8_far_2 6 rfl rfl)
theorem dX8_far_54 : decode cX8_far 54 = .ok (.invokevirtual 216, 3) := dk_182 0 216 (dk_at dksX8_far_2 7 rfl rfl)
theorem dX8_far_57 : decode cX8_far 57 = .ok (.ifCond .eq 54, 3) := dk_153 0 54 (dk_at dksX8_far_2 10 rfl rfl)
theorem dX8_far_60 : decode cX8_far 60 = .ok (.aload_n 0, 1) := dk_42 (dk_at dksX8_far_2 13 rfl rfl)
theorem dX8_far_61 : decode cX8_far 61 = .ok (.invokevirtual 243, 3) := dk_182 0 243 (dk_at dksX8_far_2 14 rfl rfl)
theorem dX8_far_64 : decode cX8_far 64 = .ok (.aload_n 0, 1) := dk_42 (dk_at dksX8_far_2 17 rfl rfl)
theorem dX8_far_65 : decode cX8_far 65 = .ok (.getfield 7, 3) := dk_180 0 7 (dk_at dksX8_far_2 18 rfl rfl)
theorem dX8_far_68 : decode cX8_far 68 = .ok (.sipush 1110, 3) := dk_17 4 86 (dk_at dksX8_far_2 21 rfl rfl)
theorem dX8_far_71 : decode cX8_far 71 = .ok (.iload_n 1, 1) := dk_27 (dk_at dksX8_far_3 0 rfl rfl)
theorem dX8_far_72 : decode cX8_far 72 = .ok (.iadd, 1) := dk_96 (dk_at dksX8_far_3 1 rfl rfl)
theorem dX8_far_73 : decode cX8_far 73 = .ok (.dup2, 1) := dk_92 (dk_at dksX8_far_3 2 rfl rfl)
theorem dX8_far_74 : decode cX8_far 74 = .ok (.iaload, 1) := dk_46 (dk_at dksX8_far_3 3 rfl rfl)
theorem dX8_far_75 : decode cX8_far 75 = .ok (.iload_n 3, 1) := dk_29 (dk_at dksX8_far_3 4 rfl rfl)
theorem dX8_far_76 : decode cX8_far 76 = .ok (.iload 4, 2) := dk_21 4 (dk_at dksX8_far_3 5 rfl rfl)
theorem dX8_far_78 : decode cX8_far 78 = .ok (.iconst 1, 1) := dk_4 (dk_at dksX8_far_3 7 rfl rfl)
theorem dX8_far_79 : decode cX8_far 79 = .ok (.iadd, 1) := dk_96 (dk_at dksX8_far_3 8 rfl rfl)
theorem dX8_far_80 : decode cX8_far 80 = .ok (.imul, 1) := dk_104 (dk_at dksX8_far_3 9 rfl rfl)
theorem dX8_far_81 : decode cX8_far 81 = .ok (.iadd, 1) := dk_96 (dk_at dksX8_far_3 10 rfl rfl)
theorem dX8_far_82 : decode cX8_far 82 = .ok (.iastore, 1) := dk_79 (dk_at dksX8_far_3 11 rfl rfl)
theorem dX8_far_83 : decode cX8_far 83 = .ok (.aload_n 0, 1) := dk_42 (dk_at dksX8_far_3 12 rfl rfl)
theorem dX8_far_84 : decode cX8_far 84 = .ok (.sipush 1082, 3) := dk_17 4 58 (dk_at dksX8_far_3 13 rfl rfl)
theorem dX8_far_87 : decode cX8_far 87 = .ok (.invokevirtual 165, 3) := dk_182 0 165 (dk_at dksX8_far_3 16 rfl rfl)
theorem dX8_far_90 : decode cX8_far 90 = .ok (.aload_n 0, 1) := dk_42 (dk_at dksX8_far_3 19 rfl rfl)
theorem dX8_far_91 : decode cX8_far 91 = .ok (.getfield 97, 3) := dk_180 0 97 (dk_at dksX8_far_3 20 rfl rfl)
theorem dX8_far_94 : decode cX8_far 94 = .ok (.aload_n 0, 1) := dk_42 (dk_at dksX8_far_3 23 rfl rfl)
theorem dX8_far_95 : decode cX8_far 95 = .ok (.getfield 100, 3) := dk_180 0 100 (dk_at dksX8_far_4 0 rfl rfl)
theorem dX8_far_98 : decode cX8_far 98 = .ok (.iadd, 1) := dk_96 (dk_at dksX8_far_4 3 rfl rfl)
theorem dX8_far_99 : decode cX8_far 99 = .ok (.ifCond .le 6, 3) := dk_158 0 6 (dk_at dksX8_far_4 4 rfl rfl)
theorem dX8_far_102 : decode cX8_far 102 = .ok (.iload 4, 2) := dk_21 4 (dk_at dksX8_far_4 7 rfl rfl)
theorem dX8_far_104 : decode cX8_far 104 = .ok (.ireturn, 1) := dk_172 (dk_at dksX8_far_4 9 rfl rfl)
theorem dX8_far_105 : decode cX8_far 105 = .ok (.iinc 4 1, 3) := dk_132 4 1 (dk_at dksX8_far_4 10 rfl rfl)
theorem dX8_far_108 : decode cX8_far 108 = .ok (.goto (-63), 3) := dk_167 255 193 (dk_at dksX8_far_4 13 rfl rfl)
theorem dX8_far_111 : decode cX8_far 111 = .ok (.iload 4, 2) := dk_21 4 (dk_at dksX8_far_4 16 rfl rfl)
theorem dX8_far_113 : decode cX8_far 113 = .ok (.ireturn, 1) := dk_172 (dk_at dksX8_far_4 18 rfl rfl)
abbrev cX8_tries : ByteArray := prog_13_method_62_code
def yX8_tries : MethodName := ⟨RX8, "tries", "()V"⟩
def dkwX8_tries_1 : List UInt8 := [132, 1, 1, 167, 255, 231, 177]
abbrev dktX8_tries_1 : List UInt8 := dkwX8_tries_1 ++ []
def dkwX8_tries_0 : List UInt8 := [3, 60, 27, 16, 60, 162, 0, 25, 42, 180, 0, 7, 17, 4, 58, 27, 96, 42, 180, 0, 7, 27, 46, 79]
abbrev dktX8_tries_0 : List UInt8 := dkwX8_tries_0 ++ dktX8_tries_1
theorem dksX8_tries_0 : cX8_tries.data.toList.drop 0 = dktX8_tries_0 := by decide +kernel
theorem dksX8_tries_1 : cX8_tries.data.toList.drop 24 = dktX8_tries_1 := dk_seg dksX8_tries_0 24 rfl rfl
theorem dX8_tries_0 : decode cX8_tries 0 = .ok (.iconst 0, 1) := dk_3 (dk_at dksX8_tries_0 0 rfl rfl)
theorem dX8_tries_1 : decode cX8_tries 1 = .ok (.istore_n 1, 1) := dk_60 (dk_at dksX8_tries_0 1 rfl rfl)
theorem dX8_tries_2 : decode cX8_tries 2 = .ok (.iload_n 1, 1) := dk_27 (dk_at dksX8_tries_0 2 rfl rfl)
theorem dX8_tries_3 : decode cX8_tries 3 = .ok (.bipush 60, 2) := dk_16 60 (dk_at dksX8_tries_0 3 rfl rfl)
theorem dX8_tries_5 : decode cX8_tries 5 = .ok (.if_icmp .ge 25, 3) := dk_162 0 25 (dk_at dksX8_tries_0 5 rfl rfl)
theorem dX8_tries_8 : decode cX8_tries 8 = .ok (.aload_n 0, 1) := dk_42 (dk_at dksX8_tries_0 8 rfl rfl)
theorem dX8_tries_9 : decode cX8_tries 9 = .ok (.getfield 7, 3) := dk_180 0 7 (dk_at dksX8_tries_0 9 rfl rfl)
theorem dX8_tries_12 : decode cX8_tries 12 = .ok (.sipush 1082, 3) := dk_17 4 58 (dk_at dksX8_tries_0 12 rfl rfl)
theorem dX8_tries_15 : decode cX8_tries 15 = .ok (.iload_n 1, 1) := dk_27 (dk_at dksX8_tries_0 15 rfl rfl)
theorem dX8_tries_16 : decode cX8_tries 16 = .ok (.iadd, 1) := dk_96 (dk_at dksX8_tries_0 16 rfl rfl)
theorem dX8_tries_17 : decode cX8_tries 17 = .ok (.aload_n 0, 1) := dk_42 (dk_at dksX8_tries_0 17 rfl rfl)
theorem dX8_tries_18 : decode cX8_tries 18 = .ok (.getfield 7, 3) := dk_180 0 7 (dk_at dksX8_tries_0 18 rfl rfl)
theorem dX8_tries_21 : decode cX8_tries 21 = .ok (.iload_n 1, 1) := dk_27 (dk_at dksX8_tries_0 21 rfl rfl)
theorem dX8_tries_22 : decode cX8_tries 22 = .ok (.iaload, 1) := dk_46 (dk_at dksX8_tries_0 22 rfl rfl)
theorem dX8_tries_23 : decode cX8_tries 23 = .ok (.iastore, 1) := dk_79 (dk_at dksX8_tries_0 23 rfl rfl)
theorem dX8_tries_24 : decode cX8_tries 24 = .ok (.iinc 1 1, 3) := dk_132 1 1 (dk_at dksX8_tries_1 0 rfl rfl)
theorem dX8_tries_27 : decode cX8_tries 27 = .ok (.goto (-25), 3) := dk_167 255 231 (dk_at dksX8_tries_1 3 rfl rfl)
theorem dX8_tries_30 : decode cX8_tries 30 = .ok (.return_, 1) := dk_177 (dk_at dksX8_tries_1 6 rfl rfl)
abbrev cX8_fall : ByteArray := prog_13_method_64_code
def yX8_fall : MethodName := ⟨RX8, "fall", "(II)I"⟩
def dkwX8_fall_3 : List UInt8 := [180, 0, 32, 28, 46, 167, 0, 5, 16, 252, 172]
abbrev dktX8_fall_3 : List UInt8 := dkwX8_fall_3 ++ []
def dkwX8_fall_2 : List UInt8 := [182, 0, 165, 28, 2, 160, 0, 10, 42, 180, 0, 97, 167, 0, 22, 28, 42, 180, 0, 97, 162, 0, 12, 42]
abbrev dktX8_fall_2 : List UInt8 := dkwX8_fall_2 ++ dktX8_fall_3
def dkwX8_fall_1 : List UInt8 := [16, 254, 172, 42, 182, 0, 243, 42, 180, 0, 7, 17, 4, 78, 27, 96, 3, 79, 42, 17, 4, 58]
abbrev dktX8_fall_1 : List UInt8 := dkwX8_fall_1 ++ dktX8_fall_2
def dkwX8_fall_0 : List UInt8 := [42, 27, 182, 0, 176, 153, 0, 8, 28, 2, 162, 0, 5, 2, 172, 42, 3, 27, 182, 0, 53, 154, 0, 6]
abbrev dktX8_fall_0 : List UInt8 := dkwX8_fall_0 ++ dktX8_fall_1
theorem dksX8_fall_0 : cX8_fall.data.toList.drop 0 = dktX8_fall_0 := by decide +kernel
theorem dksX8_fall_1 : cX8_fall.data.toList.drop 24 = dktX8_fall_1 := dk_seg dksX8_fall_0 24 rfl rfl
theorem dksX8_fall_2 : cX8_fall.data.toList.drop 46 = dktX8_fall_2 := dk_seg dksX8_fall_1 22 rfl rfl
theorem dksX8_fall_3 : cX8_fall.data.toList.drop 70 = dktX8_fall_3 := dk_seg dksX8_fall_2 24 rfl rfl
theorem dX8_fall_0 : decode cX8_fall 0 = .ok (.aload_n 0, 1) := dk_42 (dk_at dksX8_fall_0 0 rfl rfl)
theorem dX8_fall_1 : decode cX8_fall 1 = .ok (.iload_n 1, 1) := dk_27 (dk_at dksX8_fall_0 1 rfl rfl)
theorem dX8_fall_2 : decode cX8_fall 2 = .ok (.invokevirtual 176, 3) := dk_182 0 176 (dk_at dksX8_fall_0 2 rfl rfl)
theorem dX8_fall_5 : decode cX8_fall 5 = .ok (.ifCond .eq 8, 3) := dk_153 0 8 (dk_at dksX8_fall_0 5 rfl rfl)
theorem dX8_fall_8 : decode cX8_fall 8 = .ok (.iload_n 2, 1) := dk_28 (dk_at dksX8_fall_0 8 rfl rfl)
theorem dX8_fall_9 : decode cX8_fall 9 = .ok (.iconst (-1), 1) := dk_2 (dk_at dksX8_fall_0 9 rfl rfl)
theorem dX8_fall_10 : decode cX8_fall 10 = .ok (.if_icmp .ge 5, 3) := dk_162 0 5 (dk_at dksX8_fall_0 10 rfl rfl)
theorem dX8_fall_13 : decode cX8_fall 13 = .ok (.iconst (-1), 1) := dk_2 (dk_at dksX8_fall_0 13 rfl rfl)
theorem dX8_fall_14 : decode cX8_fall 14 = .ok (.ireturn, 1) := dk_172 (dk_at dksX8_fall_0 14 rfl rfl)
theorem dX8_fall_15 : decode cX8_fall 15 = .ok (.aload_n 0, 1) := dk_42 (dk_at dksX8_fall_0 15 rfl rfl)
theorem dX8_fall_16 : decode cX8_fall 16 = .ok (.iconst 0, 1) := dk_3 (dk_at dksX8_fall_0 16 rfl rfl)
theorem dX8_fall_17 : decode cX8_fall 17 = .ok (.iload_n 1, 1) := dk_27 (dk_at dksX8_fall_0 17 rfl rfl)
theorem dX8_fall_18 : decode cX8_fall 18 = .ok (.invokevirtual 53, 3) := dk_182 0 53 (dk_at dksX8_fall_0 18 rfl rfl)
theorem dX8_fall_21 : decode cX8_fall 21 = .ok (.ifCond .ne 6, 3) := dk_154 0 6 (dk_at dksX8_fall_0 21 rfl rfl)
theorem dX8_fall_24 : decode cX8_fall 24 = .ok (.bipush (-2), 2) := dk_16 254 (dk_at dksX8_fall_1 0 rfl rfl)
theorem dX8_fall_26 : decode cX8_fall 26 = .ok (.ireturn, 1) := dk_172 (dk_at dksX8_fall_1 2 rfl rfl)
theorem dX8_fall_27 : decode cX8_fall 27 = .ok (.aload_n 0, 1) := dk_42 (dk_at dksX8_fall_1 3 rfl rfl)
theorem dX8_fall_28 : decode cX8_fall 28 = .ok (.invokevirtual 243, 3) := dk_182 0 243 (dk_at dksX8_fall_1 4 rfl rfl)
theorem dX8_fall_31 : decode cX8_fall 31 = .ok (.aload_n 0, 1) := dk_42 (dk_at dksX8_fall_1 7 rfl rfl)
theorem dX8_fall_32 : decode cX8_fall 32 = .ok (.getfield 7, 3) := dk_180 0 7 (dk_at dksX8_fall_1 8 rfl rfl)
theorem dX8_fall_35 : decode cX8_fall 35 = .ok (.sipush 1102, 3) := dk_17 4 78 (dk_at dksX8_fall_1 11 rfl rfl)
theorem dX8_fall_38 : decode cX8_fall 38 = .ok (.iload_n 1, 1) := dk_27 (dk_at dksX8_fall_1 14 rfl rfl)
theorem dX8_fall_39 : decode cX8_fall 39 = .ok (.iadd, 1) := dk_96 (dk_at dksX8_fall_1 15 rfl rfl)
theorem dX8_fall_40 : decode cX8_fall 40 = .ok (.iconst 0, 1) := dk_3 (dk_at dksX8_fall_1 16 rfl rfl)
theorem dX8_fall_41 : decode cX8_fall 41 = .ok (.iastore, 1) := dk_79 (dk_at dksX8_fall_1 17 rfl rfl)
theorem dX8_fall_42 : decode cX8_fall 42 = .ok (.aload_n 0, 1) := dk_42 (dk_at dksX8_fall_1 18 rfl rfl)
theorem dX8_fall_43 : decode cX8_fall 43 = .ok (.sipush 1082, 3) := dk_17 4 58 (dk_at dksX8_fall_1 19 rfl rfl)
theorem dX8_fall_46 : decode cX8_fall 46 = .ok (.invokevirtual 165, 3) := dk_182 0 165 (dk_at dksX8_fall_2 0 rfl rfl)
theorem dX8_fall_49 : decode cX8_fall 49 = .ok (.iload_n 2, 1) := dk_28 (dk_at dksX8_fall_2 3 rfl rfl)
theorem dX8_fall_50 : decode cX8_fall 50 = .ok (.iconst (-1), 1) := dk_2 (dk_at dksX8_fall_2 4 rfl rfl)
theorem dX8_fall_51 : decode cX8_fall 51 = .ok (.if_icmp .ne 10, 3) := dk_160 0 10 (dk_at dksX8_fall_2 5 rfl rfl)
theorem dX8_fall_54 : decode cX8_fall 54 = .ok (.aload_n 0, 1) := dk_42 (dk_at dksX8_fall_2 8 rfl rfl)
theorem dX8_fall_55 : decode cX8_fall 55 = .ok (.getfield 97, 3) := dk_180 0 97 (dk_at dksX8_fall_2 9 rfl rfl)
theorem dX8_fall_58 : decode cX8_fall 58 = .ok (.goto 22, 3) := dk_167 0 22 (dk_at dksX8_fall_2 12 rfl rfl)
theorem dX8_fall_61 : decode cX8_fall 61 = .ok (.iload_n 2, 1) := dk_28 (dk_at dksX8_fall_2 15 rfl rfl)
theorem dX8_fall_62 : decode cX8_fall 62 = .ok (.aload_n 0, 1) := dk_42 (dk_at dksX8_fall_2 16 rfl rfl)
theorem dX8_fall_63 : decode cX8_fall 63 = .ok (.getfield 97, 3) := dk_180 0 97 (dk_at dksX8_fall_2 17 rfl rfl)
theorem dX8_fall_66 : decode cX8_fall 66 = .ok (.if_icmp .ge 12, 3) := dk_162 0 12 (dk_at dksX8_fall_2 20 rfl rfl)
theorem dX8_fall_69 : decode cX8_fall 69 = .ok (.aload_n 0, 1) := dk_42 (dk_at dksX8_fall_2 23 rfl rfl)
theorem dX8_fall_70 : decode cX8_fall 70 = .ok (.getfield 32, 3) := dk_180 0 32 (dk_at dksX8_fall_3 0 rfl rfl)
theorem dX8_fall_73 : decode cX8_fall 73 = .ok (.iload_n 2, 1) := dk_28 (dk_at dksX8_fall_3 3 rfl rfl)
theorem dX8_fall_74 : decode cX8_fall 74 = .ok (.iaload, 1) := dk_46 (dk_at dksX8_fall_3 4 rfl rfl)
theorem dX8_fall_75 : decode cX8_fall 75 = .ok (.goto 5, 3) := dk_167 0 5 (dk_at dksX8_fall_3 5 rfl rfl)
theorem dX8_fall_78 : decode cX8_fall 78 = .ok (.bipush (-4), 2) := dk_16 252 (dk_at dksX8_fall_3 8 rfl rfl)
theorem dX8_fall_80 : decode cX8_fall 80 = .ok (.ireturn, 1) := dk_172 (dk_at dksX8_fall_3 10 rfl rfl)
abbrev cX8_tie : ByteArray := prog_13_method_65_code
def yX8_tie : MethodName := ⟨RX8, "tie", "(II)I"⟩
def dkwX8_tie_8 : List UInt8 := [184, 0, 191, 172]
abbrev dktX8_tie_8 : List UInt8 := dkwX8_tie_8 ++ []
def dkwX8_tie_7 : List UInt8 := [54, 5, 132, 6, 1, 167, 255, 118, 28, 154, 0, 7, 29, 167, 0, 13, 21, 4, 21, 5, 28, 4, 100]
abbrev dktX8_tie_7 : List UInt8 := dkwX8_tie_7 ++ dktX8_tie_8
def dkwX8_tie_6 : List UInt8 := [167, 0, 5, 21, 4, 54, 4, 21, 8, 153, 0, 13, 42, 180, 0, 29, 21, 7, 46, 167, 0, 5, 21, 5]
abbrev dktX8_tie_6 : List UInt8 := dkwX8_tie_6 ++ dktX8_tie_7
def dkwX8_tie_5 : List UInt8 := [21, 8, 153, 0, 8, 21, 6, 167, 0, 4, 29, 62, 21, 8, 153, 0, 13, 42, 180, 0, 26, 21, 7, 46]
abbrev dktX8_tie_5 : List UInt8 := dkwX8_tie_5 ++ dktX8_tie_6
def dkwX8_tie_4 : List UInt8 := [21, 5, 104, 21, 4, 42, 180, 0, 29, 21, 7, 46, 104, 162, 0, 7, 4, 167, 0, 4, 3, 54, 8]
abbrev dktX8_tie_4 : List UInt8 := dkwX8_tie_4 ++ dktX8_tie_5
def dkwX8_tie_3 : List UInt8 := [182, 0, 103, 42, 17, 4, 58, 182, 0, 199, 54, 7, 21, 5, 153, 0, 26, 42, 180, 0, 26, 21, 7, 46]
abbrev dktX8_tie_3 : List UInt8 := dkwX8_tie_3 ++ dktX8_tie_4
def dkwX8_tie_2 : List UInt8 := [17, 4, 78, 27, 96, 4, 79, 42, 180, 0, 7, 17, 4, 86, 27, 96, 21, 6, 79, 42, 17, 4, 58]
abbrev dktX8_tie_2 : List UInt8 := dkwX8_tie_2 ++ dktX8_tie_3
def dkwX8_tie_1 : List UInt8 := [4, 54, 4, 3, 54, 5, 3, 54, 6, 21, 6, 16, 99, 163, 0, 137, 42, 182, 0, 243, 42, 180, 0, 7]
abbrev dktX8_tie_1 : List UInt8 := dkwX8_tie_1 ++ dktX8_tie_2
def dkwX8_tie_0 : List UInt8 := [42, 27, 182, 0, 176, 153, 0, 15, 28, 133, 9, 20, 0, 197, 184, 0, 49, 154, 0, 5, 2, 172, 3, 62]
abbrev dktX8_tie_0 : List UInt8 := dkwX8_tie_0 ++ dktX8_tie_1
theorem dksX8_tie_0 : cX8_tie.data.toList.drop 0 = dktX8_tie_0 := by decide +kernel
theorem dksX8_tie_1 : cX8_tie.data.toList.drop 24 = dktX8_tie_1 := dk_seg dksX8_tie_0 24 rfl rfl
theorem dksX8_tie_2 : cX8_tie.data.toList.drop 48 = dktX8_tie_2 := dk_seg dksX8_tie_1 24 rfl rfl
theorem dksX8_tie_3 : cX8_tie.data.toList.drop 71 = dktX8_tie_3 := dk_seg dksX8_tie_2 23 rfl rfl
theorem dksX8_tie_4 : cX8_tie.data.toList.drop 95 = dktX8_tie_4 := dk_seg dksX8_tie_3 24 rfl rfl
theorem dksX8_tie_5 : cX8_tie.data.toList.drop 118 = dktX8_tie_5 := dk_seg dksX8_tie_4 23 rfl rfl
theorem dksX8_tie_6 : cX8_tie.data.toList.drop 142 = dktX8_tie_6 := dk_seg dksX8_tie_5 24 rfl rfl
theorem dksX8_tie_7 : cX8_tie.data.toList.drop 166 = dktX8_tie_7 := dk_seg dksX8_tie_6 24 rfl rfl
theorem dksX8_tie_8 : cX8_tie.data.toList.drop 189 = dktX8_tie_8 := dk_seg dksX8_tie_7 23 rfl rfl
theorem dX8_tie_0 : decode cX8_tie 0 = .ok (.aload_n 0, 1) := dk_42 (dk_at dksX8_tie_0 0 rfl rfl)
theorem dX8_tie_1 : decode cX8_tie 1 = .ok (.iload_n 1, 1) := dk_27 (dk_at dksX8_tie_0 1 rfl rfl)
theorem dX8_tie_2 : decode cX8_tie 2 = .ok (.invokevirtual 176, 3) := dk_182 0 176 (dk_at dksX8_tie_0 2 rfl rfl)
theorem dX8_tie_5 : decode cX8_tie 5 = .ok (.ifCond .eq 15, 3) := dk_153 0 15 (dk_at dksX8_tie_0 5 rfl rfl)
theorem dX8_tie_8 : decode cX8_tie 8 = .ok (.iload_n 2, 1) := dk_28 (dk_at dksX8_tie_0 8 rfl rfl)
theorem dX8_tie_9 : decode cX8_tie 9 = .ok (.i2l, 1) := dk_133 (dk_at dksX8_tie_0 9 rfl rfl)
theorem dX8_tie_10 : decode cX8_tie 10 = .ok (.lconst 0, 1) := dk_9 (dk_at dksX8_tie_0 10 rfl rfl)
theorem dX8_tie_11 : decode cX8_tie 11 = .ok (.ldc2_w 197, 3) := dk_20 0 197 (dk_at dksX8_tie_0 11 rfl rfl)
theorem dX8_tie_14 : decode cX8_tie 14 = .ok (.invokestatic 49, 3) := dk_184 0 49 (dk_at dksX8_tie_0 14 rfl rfl)
theorem dX8_tie_17 : decode cX8_tie 17 = .ok (.ifCond .ne 5, 3) := dk_154 0 5 (dk_at dksX8_tie_0 17 rfl rfl)
theorem dX8_tie_20 : decode cX8_tie 20 = .ok (.iconst (-1), 1) := dk_2 (dk_at dksX8_tie_0 20 rfl rfl)
theorem dX8_tie_21 : decode cX8_tie 21 = .ok (.ireturn, 1) := dk_172 (dk_at dksX8_tie_0 21 rfl rfl)
theorem dX8_tie_22 : decode cX8_tie 22 = .ok (.iconst 0, 1) := dk_3 (dk_at dksX8_tie_0 22 rfl rfl)
theorem dX8_tie_23 : decode cX8_tie 23 = .ok (.istore_n 3, 1) := dk_62 (dk_at dksX8_tie_0 23 rfl rfl)
theorem dX8_tie_24 : decode cX8_tie 24 = .ok (.iconst 1, 1) := dk_4 (dk_at dksX8_tie_1 0 rfl rfl)
theorem dX8_tie_25 : decode cX8_tie 25 = .ok (.istore 4, 2) := dk_54 4 (dk_at dksX8_tie_1 1 rfl rfl)
theorem dX8_tie_27 : decode cX8_tie 27 = .ok (.iconst 0, 1) := dk_3 (dk_at dksX8_tie_1 3 rfl rfl)
theorem dX8_tie_28 : decode cX8_tie 28 = .ok (.istore 5, 2) := dk_54 5 (dk_at dksX8_tie_1 4 rfl rfl)
theorem dX8_tie_30 : decode cX8_tie 30 = .ok (.iconst 0, 1) := dk_3 (dk_at dksX8_tie_1 6 rfl rfl)
theorem dX8_tie_31 : decode cX8_tie 31 = .ok (.istore 6, 2) := dk_54 6 (dk_at dksX8_tie_1 7 rfl rfl)
theorem dX8_tie_33 : decode cX8_tie 33 = .ok (.iload 6, 2) := dk_21 6 (dk_at dksX8_tie_1 9 rfl rfl)
theorem dX8_tie_35 : decode cX8_tie 35 = .ok (.bipush 99, 2) := dk_16 99 (dk_at dksX8_tie_1 11 rfl rfl)
theorem dX8_tie_37 : decode cX8_tie 37 = .ok (.if_icmp .gt 137, 3) := dk_163 0 137 (dk_at dksX8_tie_1 13 rfl rfl)
theorem dX8_tie_40 : decode cX8_tie 40 = .ok (.aload_n 0, 1) := dk_42 (dk_at dksX8_tie_1 16 rfl rfl)
theorem dX8_tie_41 : decode cX8_tie 41 = .ok (.invokevirtual 243, 3) := dk_182 0 243 (dk_at dksX8_tie_1 17 rfl rfl)
theorem dX8_tie_44 : decode cX8_tie 44 = .ok (.aload_n 0, 1) := dk_42 (dk_at dksX8_tie_1 20 rfl rfl)
theorem dX8_tie_45 : decode cX8_tie 45 = .ok (.getfield 7, 3) := dk_180 0 7 (dk_at dksX8_tie_1 21 rfl rfl)
theorem dX8_tie_48 : decode cX8_tie 48 = .ok (.sipush 1102, 3) := dk_17 4 78 (dk_at dksX8_tie_2 0 rfl rfl)
theorem dX8_tie_51 : decode cX8_tie 51 = .ok (.iload_n 1, 1) := dk_27 (dk_at dksX8_tie_2 3 rfl rfl)
theorem dX8_tie_52 : decode cX8_tie 52 = .ok (.iadd, 1) := dk_96 (dk_at dksX8_tie_2 4 rfl rfl)
theorem dX8_tie_53 : decode cX8_tie 53 = .ok (.iconst 1, 1) := dk_4 (dk_at dksX8_tie_2 5 rfl rfl)
theorem dX8_tie_54 : decode cX8_tie 54 = .ok (.iastore, 1) := dk_79 (dk_at dksX8_tie_2 6 rfl rfl)
theorem dX8_tie_55 : decode cX8_tie 55 = .ok (.aload_n 0, 1) := dk_42 (dk_at dksX8_tie_2 7 rfl rfl)
theorem dX8_tie_56 : decode cX8_tie 56 = .ok (.getfield 7, 3) := dk_180 0 7 (dk_at dksX8_tie_2 8 rfl rfl)
theorem dX8_tie_59 : decode cX8_tie 59 = .ok (.sipush 1110, 3) := dk_17 4 86 (dk_at dksX8_tie_2 11 rfl rfl)
theorem dX8_tie_62 : decode cX8_tie 62 = .ok (.iload_n 1, 1) := dk_27 (dk_at dksX8_tie_2 14 rfl rfl)
theorem dX8_tie_63 : decode cX8_tie 63 = .ok (.iadd, 1) := dk_96 (dk_at dksX8_tie_2 15 rfl rfl)
theorem dX8_tie_64 : decode cX8_tie 64 = .ok (.iload 6, 2) := dk_21 6 (dk_at dksX8_tie_2 16 rfl rfl)
theorem dX8_tie_66 : decode cX8_tie 66 = .ok (.iastore, 1) := dk_79 (dk_at dksX8_tie_2 18 rfl rfl)
theorem dX8_tie_67 : decode cX8_tie 67 = .ok (.aload_n 0, 1) := dk_42 (dk_at dksX8_tie_2 19 rfl rfl)
theorem dX8_tie_68 : decode cX8_tie 68 = .ok (.sipush 1082, 3) := dk_17 4 58 (dk_at dksX8_tie_2 20 rfl rfl)
theorem dX8_tie_71 : decode cX8_tie 71 = .ok (.invokevirtual 103, 3) := dk_182 0 103 (dk_at dksX8_tie_3 0 rfl rfl)
theorem dX8_tie_74 : decode cX8_tie 74 = .ok (.aload_n 0, 1) := dk_42 (dk_at dksX8_tie_3 3 rfl rfl)
theorem dX8_tie_75 : decode cX8_tie 75 = .ok (.sipush 1082, 3) := dk_17 4 58 (dk_at dksX8_tie_3 4 rfl rfl)
theorem dX8_tie_78 : decode cX8_tie 78 = .ok (.invokevirtual 199, 3) := dk_182 0 199 (dk_at dksX8_tie_3 7 rfl rfl)
theorem dX8_tie_81 : decode cX8_tie 81 = .ok (.istore 7, 2) := dk_54 7 (dk_at dksX8_tie_3 10 rfl rfl)
theorem dX8_tie_83 : decode cX8_tie 83 = .ok (.iload 5, 2) := dk_21 5 (dk_at dksX8_tie_3 12 rfl rfl)
theorem dX8_tie_85 : decode cX8_tie 85 = .ok (.ifCond .eq 26, 3) := dk_153 0 26 (dk_at dksX8_tie_3 14 rfl rfl)
theorem dX8_tie_88 : decode cX8_tie 88 = .ok (.aload_n 0, 1) := dk_42 (dk_at dksX8_tie_3 17 rfl rfl)
theorem dX8_tie_89 : decode cX8_tie 89 = .ok (.getfield 26, 3) := dk_180 0 26 (dk_at dksX8_tie_3 18 rfl rfl)
theorem dX8_tie_92 : decode cX8_tie 92 = .ok (.iload 7, 2) := dk_21 7 (dk_at dksX8_tie_3 21 rfl rfl)
theorem dX8_tie_94 : decode cX8_tie 94 = .ok (.iaload, 1) := dk_46 (dk_at dksX8_tie_3 23 rfl rfl)
theorem dX8_tie_95 : decode cX8_tie 95 = .ok (.iload 5, 2) := dk_21 5 (dk_at dksX8_tie_4 0 rfl rfl)
theorem dX8_tie_97 : decode cX8_tie 97 = .ok (.imul, 1) := dk_104 (dk_at dksX8_tie_4 2 rfl rfl)
theorem dX8_tie_98 : decode cX8_tie 98 = .ok (.iload 4, 2) := dk_21 4 (dk_at dksX8_tie_4 3 rfl rfl)
theorem dX8_tie_100 : decode cX8_tie 100 = .ok (.aload_n 0, 1) := dk_42 (dk_at dksX8_tie_4 5 rfl rfl)
theorem dX8_tie_101 : decode cX8_tie 101 = .ok (.getfield 29, 3) := dk_180 0 29 (dk_at dksX8_tie_4 6 rfl rfl)
theorem dX8_tie_104 : decode cX8_tie 104 = .ok (.iload 7, 2) := dk_21 7 (dk_at dksX8_tie_4 9 rfl rfl)
theorem dX8_tie_106 : decode cX8_tie 106 = .ok (.iaload, 1) := dk_46 (dk_at dksX8_tie_4 11 rfl rfl)
theorem dX8_tie_107 : decode cX8_tie 107 = .ok (.imul, 1) := dk_104 (dk_at dksX8_tie_4 12 rfl rfl)
theorem dX8_tie_108 : decode cX8_tie 108 = .ok (.if_icmp .ge 7, 3) := dk_162 0 7 (dk_at dksX8_tie_4 13 rfl rfl)
theorem dX8_tie_111 : decode cX8_tie 111 = .ok (.iconst 1, 1) := dk_4 (dk_at dksX8_tie_4 16 rfl rfl)
theorem dX8_tie_112 : decode cX8_tie 112 = .ok (.goto 4, 3) := dk_167 0 4 (dk_at dksX8_tie_4 17 rfl rfl)
theorem dX8_tie_115 : decode cX8_tie 115 = .ok (.iconst 0, 1) := dk_3 (dk_at dksX8_tie_4 20 rfl rfl)
theorem dX8_tie_116 : decode cX8_tie 116 = .ok (.istore 8, 2) := dk_54 8 (dk_at dksX8_tie_4 21 rfl rfl)
theorem dX8_tie_118 : decode cX8_tie 118 = .ok (.iload 8, 2) := dk_21 8 (dk_at dksX8_tie_5 0 rfl rfl)
theorem dX8_tie_120 : decode cX8_tie 120 = .ok (.ifCond .eq 8, 3) := dk_153 0 8 (dk_at dksX8_tie_5 2 rfl rfl)
theorem dX8_tie_123 : decode cX8_tie 123 = .ok (.iload 6, 2) := dk_21 6 (dk_at dksX8_tie_5 5 rfl rfl)
theorem dX8_tie_125 : decode cX8_tie 125 = .ok (.goto 4, 3) := dk_167 0 4 (dk_at dksX8_tie_5 7 rfl rfl)
theorem dX8_tie_128 : decode cX8_tie 128 = .ok (.iload_n 3, 1) := dk_29 (dk_at dksX8_tie_5 10 rfl rfl)
theorem dX8_tie_129 : decode cX8_tie 129 = .ok (.istore_n 3, 1) := dk_62 (dk_at dksX8_tie_5 11 rfl rfl)
theorem dX8_tie_130 : decode cX8_tie 130 = .ok (.iload 8, 2) := dk_21 8 (dk_at dksX8_tie_5 12 rfl rfl)
theorem dX8_tie_132 : decode cX8_tie 132 = .ok (.ifCond .eq 13, 3) := dk_153 0 13 (dk_at dksX8_tie_5 14 rfl rfl)
theorem dX8_tie_135 : decode cX8_tie 135 = .ok (.aload_n 0, 1) := dk_42 (dk_at dksX8_tie_5 17 rfl rfl)
theorem dX8_tie_136 : decode cX8_tie 136 = .ok (.getfield 26, 3) := dk_180 0 26 (dk_at dksX8_tie_5 18 rfl rfl)
theorem dX8_tie_139 : decode cX8_tie 139 = .ok (.iload 7, 2) := dk_21 7 (dk_at dksX8_tie_5 21 rfl rfl)
theorem dX8_tie_141 : decode cX8_tie 141 = .ok (.iaload, 1) := dk_46 (dk_at dksX8_tie_5 23 rfl rfl)
theorem dX8_tie_142 : decode cX8_tie 142 = .ok (.goto 5, 3) := dk_167 0 5 (dk_at dksX8_tie_6 0 rfl rfl)
theorem dX8_tie_145 : decode cX8_tie 145 = .ok (.iload 4, 2) := dk_21 4 (dk_at dksX8_tie_6 3 rfl rfl)
theorem dX8_tie_147 : decode cX8_tie 147 = .ok (.istore 4, 2) := dk_54 4 (dk_at dksX8_tie_6 5 rfl rfl)
theorem dX8_tie_149 : decode cX8_tie 149 = .ok (.iload 8, 2) := dk_21 8 (dk_at dksX8_tie_6 7 rfl rfl)
theorem dX8_tie_151 : decode cX8_tie 151 = .ok (.ifCond .eq 13, 3) := dk_153 0 13 (dk_at dksX8_tie_6 9 rfl rfl)
theorem dX8_tie_154 : decode cX8_tie 154 = .ok (.aload_n 0, 1) := dk_42 (dk_at dksX8_tie_6 12 rfl rfl)
theorem dX8_tie_155 : decode cX8_tie 155 = .ok (.getfield 29, 3) := dk_180 0 29 (dk_at dksX8_tie_6 13 rfl rfl)
theorem dX8_tie_158 : decode cX8_tie 158 = .ok (.iload 7, 2) := dk_21 7 (dk_at dksX8_tie_6 16 rfl rfl)
theorem dX8_tie_160 : decode cX8_tie 160 = .ok (.iaload, 1) := dk_46 (dk_at dksX8_tie_6 18 rfl rfl)
theorem dX8_tie_161 : decode cX8_tie 161 = .ok (.goto 5, 3) := dk_167 0 5 (dk_at dksX8_tie_6 19 rfl rfl)
theorem dX8_tie_164 : decode cX8_tie 164 = .ok (.iload 5, 2) := dk_21 5 (dk_at dksX8_tie_6 22 rfl rfl)
theorem dX8_tie_166 : decode cX8_tie 166 = .ok (.istore 5, 2) := dk_54 5 (dk_at dksX8_tie_7 0 rfl rfl)
theorem dX8_tie_168 : decode cX8_tie 168 = .ok (.iinc 6 1, 3) := dk_132 6 1 (dk_at dksX8_tie_7 2 rfl rfl)
theorem dX8_tie_171 : decode cX8_tie 171 = .ok (.goto (-138), 3) := dk_167 255 118 (dk_at dksX8_tie_7 5 rfl rfl)
theorem dX8_tie_174 : decode cX8_tie 174 = .ok (.iload_n 2, 1) := dk_28 (dk_at dksX8_tie_7 8 rfl rfl)
theorem dX8_tie_175 : decode cX8_tie 175 = .ok (.ifCond .ne 7, 3) := dk_154 0 7 (dk_at dksX8_tie_7 9 rfl rfl)
theorem dX8_tie_178 : decode cX8_tie 178 = .ok (.iload_n 3, 1) := dk_29 (dk_at dksX8_tie_7 12 rfl rfl)
theorem dX8_tie_179 : decode cX8_tie 179 = .ok (.goto 13, 3) := dk_167 0 13 (dk_at dksX8_tie_7 13 rfl rfl)
theorem dX8_tie_182 : decode cX8_tie 182 = .ok (.iload 4, 2) := dk_21 4 (dk_at dksX8_tie_7 16 rfl rfl)
theorem dX8_tie_184 : decode cX8_tie 184 = .ok (.iload 5, 2) := dk_21 5 (dk_at dksX8_tie_7 18 rfl rfl)
theorem dX8_tie_186 : decode cX8_tie 186 = .ok (.iload_n 2, 1) := dk_28 (dk_at dksX8_tie_7 20 rfl rfl)
theorem dX8_tie_187 : decode cX8_tie 187 = .ok (.iconst 1, 1) := dk_4 (dk_at dksX8_tie_7 21 rfl rfl)
theorem dX8_tie_188 : decode cX8_tie 188 = .ok (.isub, 1) := dk_100 (dk_at dksX8_tie_7 22 rfl rfl)
theorem dX8_tie_189 : decode cX8_tie 189 = .ok (.invokestatic 191, 3) := dk_184 0 191 (dk_at dksX8_tie_8 0 rfl rfl)
theorem dX8_tie_192 : decode cX8_tie 192 = .ok (.ireturn, 1) := dk_172 (dk_at dksX8_tie_8 3 rfl rfl)
abbrev cX8_when : ByteArray := prog_13_method_66_code
def yX8_when : MethodName := ⟨RX8, "when", "()I"⟩
def dkwX8_when_1 : List UInt8 := [180, 0, 100, 96, 158, 0, 5, 27, 172, 132, 1, 1, 167, 255, 226, 16, 252, 172]
abbrev dktX8_when_1 : List UInt8 := dkwX8_when_1 ++ []
def dkwX8_when_0 : List UInt8 := [42, 182, 0, 243, 4, 60, 27, 16, 24, 163, 0, 30, 42, 17, 4, 58, 182, 0, 229, 42, 180, 0, 97, 42]
abbrev dktX8_when_0 : List UInt8 := dkwX8_when_0 ++ dktX8_when_1
theorem dksX8_when_0 : cX8_when.data.toList.drop 0 = dktX8_when_0 := by decide +kernel
theorem dksX8_when_1 : cX8_when.data.toList.drop 24 = dktX8_when_1 := dk_seg dksX8_when_0 24 rfl rfl
theorem dX8_when_0 : decode cX8_when 0 = .ok (.aload_n 0, 1) := dk_42 (dk_at dksX8_when_0 0 rfl rfl)
theorem dX8_when_1 : decode cX8_when 1 = .ok (.invokevirtual 243, 3) := dk_182 0 243 (dk_at dksX8_when_0 1 rfl rfl)
theorem dX8_when_4 : decode cX8_when 4 = .ok (.iconst 1, 1) := dk_4 (dk_at dksX8_when_0 4 rfl rfl)
theorem dX8_when_5 : decode cX8_when 5 = .ok (.istore_n 1, 1) := dk_60 (dk_at dksX8_when_0 5 rfl rfl)
theorem dX8_when_6 : decode cX8_when 6 = .ok (.iload_n 1, 1) := dk_27 (dk_at dksX8_when_0 6 rfl rfl)
theorem dX8_when_7 : decode cX8_when 7 = .ok (.bipush 24, 2) := dk_16 24 (dk_at dksX8_when_0 7 rfl rfl)
theorem dX8_when_9 : decode cX8_when 9 = .ok (.if_icmp .gt 30, 3) := dk_163 0 30 (dk_at dksX8_when_0 9 rfl rfl)
theorem dX8_when_12 : decode cX8_when 12 = .ok (.aload_n 0, 1) := dk_42 (dk_at dksX8_when_0 12 rfl rfl)
theorem dX8_when_13 : decode cX8_when 13 = .ok (.sipush 1082, 3) := dk_17 4 58 (dk_at dksX8_when_0 13 rfl rfl)
theorem dX8_when_16 : decode cX8_when 16 = .ok (.invokevirtual 229, 3) := dk_182 0 229 (dk_at dksX8_when_0 16 rfl rfl)
theorem dX8_when_19 : decode cX8_when 19 = .ok (.aload_n 0, 1) := dk_42 (dk_at dksX8_when_0 19 rfl rfl)
theorem dX8_when_20 : decode cX8_when 20 = .ok (.getfield 97, 3) := dk_180 0 97 (dk_at dksX8_when_0 20 rfl rfl)
theorem dX8_when_23 : decode cX8_when 23 = .ok (.aload_n 0, 1) := dk_42 (dk_at dksX8_when_0 23 rfl rfl)
theorem dX8_when_24 : decode cX8_when 24 = .ok (.getfield 100, 3) := dk_180 0 100 (dk_at dksX8_when_1 0 rfl rfl)
theorem dX8_when_27 : decode cX8_when 27 = .ok (.iadd, 1) := dk_96 (dk_at dksX8_when_1 3 rfl rfl)
theorem dX8_when_28 : decode cX8_when 28 = .ok (.ifCond .le 5, 3) := dk_158 0 5 (dk_at dksX8_when_1 4 rfl rfl)
theorem dX8_when_31 : decode cX8_when 31 = .ok (.iload_n 1, 1) := dk_27 (dk_at dksX8_when_1 7 rfl rfl)
theorem dX8_when_32 : decode cX8_when 32 = .ok (.ireturn, 1) := dk_172 (dk_at dksX8_when_1 8 rfl rfl)
theorem dX8_when_33 : decode cX8_when 33 = .ok (.iinc 1 1, 3) := dk_132 1 1 (dk_at dksX8_when_1 9 rfl rfl)
theorem dX8_when_36 : decode cX8_when 36 = .ok (.goto (-30), 3) := dk_167 255 226 (dk_at dksX8_when_1 12 rfl rfl)
theorem dX8_when_39 : decode cX8_when 39 = .ok (.bipush (-4), 2) := dk_16 252 (dk_at dksX8_when_1 15 rfl rfl)
theorem dX8_when_41 : decode cX8_when 41 = .ok (.ireturn, 1) := dk_172 (dk_at dksX8_when_1 17 rfl rfl)
abbrev cX8_odds : ByteArray := prog_13_method_67_code
def yX8_odds : MethodName := ⟨RX8, "odds", "(II)I"⟩
def dkwX8_odds_9 : List UInt8 := [21, 4, 21, 5, 28, 184, 0, 191, 172]
abbrev dktX8_odds_9 : List UInt8 := dkwX8_odds_9 ++ []
def dkwX8_odds_8 : List UInt8 := [42, 180, 0, 100, 96, 154, 0, 8, 21, 7, 167, 0, 4, 3, 96, 54, 4, 132, 6, 1, 167, 255, 109]
abbrev dktX8_odds_8 : List UInt8 := dkwX8_odds_8 ++ dktX8_odds_9
def dkwX8_odds_7 : List UInt8 := [21, 8, 96, 46, 79, 132, 8, 1, 167, 255, 170, 42, 17, 4, 58, 182, 0, 165, 21, 4, 42, 180, 0, 97]
abbrev dktX8_odds_7 : List UInt8 := dkwX8_odds_7 ++ dktX8_odds_8
def dkwX8_odds_6 : List UInt8 := [21, 8, 96, 21, 6, 21, 8, 184, 0, 248, 153, 0, 7, 3, 167, 0, 14, 42, 180, 0, 7, 17, 4, 78]
abbrev dktX8_odds_6 : List UInt8 := dkwX8_odds_6 ++ dktX8_odds_7
def dkwX8_odds_5 : List UInt8 := [184, 0, 248, 153, 0, 7, 27, 167, 0, 7, 16, 10, 27, 100, 104, 54, 7, 42, 180, 0, 7, 17, 4, 78]
abbrev dktX8_odds_5 : List UInt8 := dkwX8_odds_5 ++ dktX8_odds_6
def dkwX8_odds_4 : List UInt8 := [46, 162, 0, 81, 21, 7, 29, 21, 8, 184, 0, 248, 154, 0, 7, 4, 167, 0, 21, 21, 6, 21, 8]
abbrev dktX8_odds_4 : List UInt8 := dkwX8_odds_4 ++ dktX8_odds_5
def dkwX8_odds_3 : List UInt8 := [29, 2, 130, 126, 154, 0, 132, 4, 54, 7, 42, 182, 0, 243, 3, 54, 8, 21, 8, 42, 180, 0, 7, 3]
abbrev dktX8_odds_3 : List UInt8 := dkwX8_odds_3 ++ dktX8_odds_4
def dkwX8_odds_2 : List UInt8 := [21, 5, 16, 10, 104, 54, 5, 132, 6, 1, 167, 255, 237, 3, 54, 6, 21, 6, 29, 163, 0, 147, 21, 6]
abbrev dktX8_odds_2 : List UInt8 := dkwX8_odds_2 ++ dktX8_odds_3
def dkwX8_odds_1 : List UInt8 := [42, 3, 182, 0, 202, 62, 3, 54, 4, 4, 54, 5, 3, 54, 6, 21, 6, 29, 184, 0, 240, 162, 0, 16]
abbrev dktX8_odds_1 : List UInt8 := dkwX8_odds_1 ++ dktX8_odds_2
def dkwX8_odds_0 : List UInt8 := [27, 133, 9, 20, 0, 246, 184, 0, 49, 153, 0, 13, 28, 133, 9, 10, 184, 0, 49, 154, 0, 5, 2, 172]
abbrev dktX8_odds_0 : List UInt8 := dkwX8_odds_0 ++ dktX8_odds_1
theorem dksX8_odds_0 : cX8_odds.data.toList.drop 0 = dktX8_odds_0 := by decide +kernel
theorem dksX8_odds_1 : cX8_odds.data.toList.drop 24 = dktX8_odds_1 := dk_seg dksX8_odds_0 24 rfl rfl
theorem dksX8_odds_2 : cX8_odds.data.toList.drop 48 = dktX8_odds_2 := dk_seg dksX8_odds_1 24 rfl rfl
theorem dksX8_odds_3 : cX8_odds.data.toList.drop 72 = dktX8_odds_3 := dk_seg dksX8_odds_2 24 rfl rfl
theorem dksX8_odds_4 : cX8_odds.data.toList.drop 96 = dktX8_odds_4 := dk_seg dksX8_odds_3 24 rfl rfl
theorem dksX8_odds_5 : cX8_odds.data.toList.drop 119 = dktX8_odds_5 := dk_seg dksX8_odds_4 23 rfl rfl
theorem dksX8_odds_6 : cX8_odds.data.toList.drop 143 = dktX8_odds_6 := dk_seg dksX8_odds_5 24 rfl rfl
theorem dksX8_odds_7 : cX8_odds.data.toList.drop 167 = dktX8_odds_7 := dk_seg dksX8_odds_6 24 rfl rfl
theorem dksX8_odds_8 : cX8_odds.data.toList.drop 191 = dktX8_odds_8 := dk_seg dksX8_odds_7 24 rfl rfl
theorem dksX8_odds_9 : cX8_odds.data.toList.drop 214 = dktX8_odds_9 := dk_seg dksX8_odds_8 23 rfl rfl
theorem dX8_odds_0 : decode cX8_odds 0 = .ok (.iload_n 1, 1) := dk_27 (dk_at dksX8_odds_0 0 rfl rfl)
theorem dX8_odds_1 : decode cX8_odds 1 = .ok (.i2l, 1) := dk_133 (dk_at dksX8_odds_0 1 rfl rfl)
theorem dX8_odds_2 : decode cX8_odds 2 = .ok (.lconst 0, 1) := dk_9 (dk_at dksX8_odds_0 2 rfl rfl)
theorem dX8_odds_3 : decode cX8_odds 3 = .ok (.ldc2_w 246, 3) := dk_20 0 246 (dk_at dksX8_odds_0 3 rfl rfl)
theorem dX8_odds_6 : decode cX8_odds 6 = .ok (.invokestatic 49, 3) := dk_184 0 49 (dk_at dksX8_odds_0 6 rfl rfl)
theorem dX8_odds_9 : decode cX8_odds 9 = .ok (.ifCond .eq 13, 3) := dk_153 0 13 (dk_at dksX8_odds_0 9 rfl rfl)
theorem dX8_odds_12 : decode cX8_odds 12 = .ok (.iload_n 2, 1) := dk_28 (dk_at dksX8_odds_0 12 rfl rfl)
theorem dX8_odds_13 : decode cX8_odds 13 = .ok (.i2l, 1) := dk_133 (dk_at dksX8_odds_0 13 rfl rfl)
theorem dX8_odds_14 : decode cX8_odds 14 = .ok (.lconst 0, 1) := dk_9 (dk_at dksX8_odds_0 14 rfl rfl)
theorem dX8_odds_15 : decode cX8_odds 15 = .ok (.lconst 1, 1) := dk_10 (dk_at dksX8_odds_0 15 rfl rfl)
theorem dX8_odds_16 : decode cX8_odds 16 = .ok (.invokestatic 49, 3) := dk_184 0 49 (dk_at dksX8_odds_0 16 rfl rfl)
theorem dX8_odds_19 : decode cX8_odds 19 = .ok (.ifCond .ne 5, 3) := dk_154 0 5 (dk_at dksX8_odds_0 19 rfl rfl)
theorem dX8_odds_22 : decode cX8_odds 22 = .ok (.iconst (-1), 1) := dk_2 (dk_at dksX8_odds_0 22 rfl rfl)
theorem dX8_odds_23 : decode cX8_odds 23 = .ok (.ireturn, 1) := dk_172 (dk_at dksX8_odds_0 23 rfl rfl)
theorem dX8_odds_24 : decode cX8_odds 24 = .ok (.aload_n 0, 1) := dk_42 (dk_at dksX8_odds_1 0 rfl rfl)
theorem dX8_odds_25 : decode cX8_odds 25 = .ok (.iconst 0, 1) := dk_3 (dk_at dksX8_odds_1 1 rfl rfl)
theorem dX8_odds_26 : decode cX8_odds 26 = .ok (.invokevirtual 202, 3) := dk_182 0 202 (dk_at dksX8_odds_1 2 rfl rfl)
theorem dX8_odds_29 : decode cX8_odds 29 = .ok (.istore_n 3, 1) := dk_62 (dk_at dksX8_odds_1 5 rfl rfl)
theorem dX8_odds_30 : decode cX8_odds 30 = .ok (.iconst 0, 1) := dk_3 (dk_at dksX8_odds_1 6 rfl rfl)
theorem dX8_odds_31 : decode cX8_odds 31 = .ok (.istore 4, 2) := dk_54 4 (dk_at dksX8_odds_1 7 rfl rfl)
theorem dX8_odds_33 : decode cX8_odds 33 = .ok (.iconst 1, 1) := dk_4 (dk_at dksX8_odds_1 9 rfl rfl)
theorem dX8_odds_34 : decode cX8_odds 34 = .ok (.istore 5, 2) := dk_54 5 (dk_at dksX8_odds_1 10 rfl rfl)
theorem dX8_odds_36 : decode cX8_odds 36 = .ok (.iconst 0, 1) := dk_3 (dk_at dksX8_odds_1 12 rfl rfl)
theorem dX8_odds_37 : decode cX8_odds 37 = .ok (.istore 6, 2) := dk_54 6 (dk_at dksX8_odds_1 13 rfl rfl)
theorem dX8_odds_39 : decode cX8_odds 39 = .ok (.iload 6, 2) := dk_21 6 (dk_at dksX8_odds_1 15 rfl rfl)
theorem dX8_odds_41 : decode cX8_odds 41 = .ok (.iload_n 3, 1) := dk_29 (dk_at dksX8_odds_1 17 rfl rfl)
theorem dX8_odds_42 : decode cX8_odds 42 = .ok (.invokestatic 240, 3) := dk_184 0 240 (dk_at dksX8_odds_1 18 rfl rfl)
theorem dX8_odds_45 : decode cX8_odds 45 = .ok (.if_icmp .ge 16, 3) := dk_162 0 16 (dk_at dksX8_odds_1 21 rfl rfl)
theorem dX8_odds_48 : decode cX8_odds 48 = .ok (.iload 5, 2) := dk_21 5 (dk_at dksX8_odds_2 0 rfl rfl)
theorem dX8_odds_50 : decode cX8_odds 50 = .ok (.bipush 10, 2) := dk_16 10 (dk_at dksX8_odds_2 2 rfl rfl)
theorem dX8_odds_52 : decode cX8_odds 52 = .ok (.imul, 1) := dk_104 (dk_at dksX8_odds_2 4 rfl rfl)
theorem dX8_odds_53 : decode cX8_odds 53 = .ok (.istore 5, 2) := dk_54 5 (dk_at dksX8_odds_2 5 rfl rfl)
theorem dX8_odds_55 : decode cX8_odds 55 = .ok (.iinc 6 1, 3) := dk_132 6 1 (dk_at dksX8_odds_2 7 rfl rfl)
theorem dX8_odds_58 : decode cX8_odds 58 = .ok (.goto (-19), 3) := dk_167 255 237 (dk_at dksX8_odds_2 10 rfl rfl)
theorem dX8_odds_61 : decode cX8_odds 61 = .ok (.iconst 0, 1) := dk_3 (dk_at dksX8_odds_2 13 rfl rfl)
theorem dX8_odds_62 : decode cX8_odds 62 = .ok (.istore 6, 2) := dk_54 6 (dk_at dksX8_odds_2 14 rfl rfl)
theorem dX8_odds_64 : decode cX8_odds 64 = .ok (.iload 6, 2) := dk_21 6 (dk_at dksX8_odds_2 16 rfl rfl)
theorem dX8_odds_66 : decode cX8_odds 66 = .ok (.iload_n 3, 1) := dk_29 (dk_at dksX8_odds_2 18 rfl rfl)
theorem dX8_odds_67 : decode cX8_odds 67 = .ok (.if_icmp .gt 147, 3) := dk_163 0 147 (dk_at dksX8_odds_2 19 rfl rfl)
theorem dX8_odds_70 : decode cX8_odds 70 = .ok (.iload 6, 2) := dk_21 6 (dk_at dksX8_odds_2 22 rfl rfl)
theorem dX8_odds_72 : decode cX8_odds 72 = .ok (.iload_n 3, 1) := dk_29 (dk_at dksX8_odds_3 0 rfl rfl)
theorem dX8_odds_73 : decode cX8_odds 73 = .ok (.iconst (-1), 1) := dk_2 (dk_at dksX8_odds_3 1 rfl rfl)
theorem dX8_odds_74 : decode cX8_odds 74 = .ok (.ixor, 1) := dk_130 (dk_at dksX8_odds_3 2 rfl rfl)
theorem dX8_odds_75 : decode cX8_odds 75 = .ok (.iand, 1) := dk_126 (dk_at dksX8_odds_3 3 rfl rfl)
theorem dX8_odds_76 : decode cX8_odds 76 = .ok (.ifCond .ne 132, 3) := dk_154 0 132 (dk_at dksX8_odds_3 4 rfl rfl)
theorem dX8_odds_79 : decode cX8_odds 79 = .ok (.iconst 1, 1) := dk_4 (dk_at dksX8_odds_3 7 rfl rfl)
theorem dX8_odds_80 : decode cX8_odds 80 = .ok (.istore 7, 2) := dk_54 7 (dk_at dksX8_odds_3 8 rfl rfl)
theorem dX8_odds_82 : decode cX8_odds 82 = .ok (.aload_n 0, 1) := dk_42 (dk_at dksX8_odds_3 10 rfl rfl)
theorem dX8_odds_83 : decode cX8_odds 83 = .ok (.invokevirtual 243, 3) := dk_182 0 243 (dk_at dksX8_odds_3 11 rfl rfl)
theorem dX8_odds_86 : decode cX8_odds 86 = .ok (.iconst 0, 1) := dk_3 (dk_at dksX8_odds_3 14 rfl rfl)
theorem dX8_odds_87 : decode cX8_odds 87 = .ok (.istore 8, 2) := dk_54 8 (dk_at dksX8_odds_3 15 rfl rfl)
theorem dX8_odds_89 : decode cX8_odds 89 = .ok (.iload 8, 2) := dk_21 8 (dk_at dksX8_odds_3 17 rfl rfl)
theorem dX8_odds_91 : decode cX8_odds 91 = .ok (.aload_n 0, 1) := dk_42 (dk_at dksX8_odds_3 19 rfl rfl)
theorem dX8_odds_92 : decode cX8_odds 92 = .ok (.getfield 7, 3) := dk_180 0 7 (dk_at dksX8_odds_3 20 rfl rfl)
theorem dX8_odds_95 : decode cX8_odds 95 = .ok (.iconst 0, 1) := dk_3 (dk_at dksX8_odds_3 23 rfl rfl)
theorem dX8_odds_96 : decode cX8_odds 96 = .ok (.iaload, 1) := dk_46 (dk_at dksX8_odds_4 0 rfl rfl)
theorem dX8_odds_97 : decode cX8_odds 97 = .ok (.if_icmp .ge 81, 3) := dk_162 0 81 (dk_at dksX8_odds_4 1 rfl rfl)
theorem dX8_odds_100 : decode cX8_odds 100 = .ok (.iload 7, 2) := dk_21 7 (dk_at dksX8_odds_4 4 rfl rfl)
theorem dX8_odds_102 : decode cX8_odds 102 = .ok (.iload_n 3, 1) := dk_29 (dk_at dksX8_odds_4 6 rfl rfl)
theorem dX8_odds_103 : decode cX8_odds 103 = .ok (.iload 8, 2) := dk_21 8 (dk_at dksX8_odds_4 7 rfl rfl)
theorem dX8_odds_105 : decode cX8_odds 105 = .ok (.invokestatic 248, 3) := dk_184 0 248 (dk_at dksX8_odds_4 9 rfl rfl)
theorem dX8_odds_108 : decode cX8_odds 108 = .ok (.ifCond .ne 7, 3) := dk_154 0 7 (dk_at dksX8_odds_4 12 rfl rfl)
theorem dX8_odds_111 : decode cX8_odds 111 = .ok (.iconst 1, 1) := dk_4 (dk_at dksX8_odds_4 15 rfl rfl)
theorem dX8_odds_112 : decode cX8_odds 112 = .ok (.goto 21, 3) := dk_167 0 21 (dk_at dksX8_odds_4 16 rfl rfl)
theorem dX8_odds_115 : decode cX8_odds 115 = .ok (.iload 6, 2) := dk_21 6 (dk_at dksX8_odds_4 19 rfl rfl)
theorem dX8_odds_117 : decode cX8_odds 117 = .ok (.iload 8, 2) := dk_21 8 (dk_at dksX8_odds_4 21 rfl rfl)
theorem dX8_odds_119 : decode cX8_odds 119 = .ok (.invokestatic 248, 3) := dk_184 0 248 (dk_at dksX8_odds_5 0 rfl rfl)
theorem dX8_odds_122 : decode cX8_odds 122 = .ok (.ifCond .eq 7, 3) := dk_153 0 7 (dk_at dksX8_odds_5 3 rfl rfl)
theorem dX8_odds_125 : decode cX8_odds 125 = .ok (.iload_n 1, 1) := dk_27 (dk_at dksX8_odds_5 6 rfl rfl)
theorem dX8_odds_126 : decode cX8_odds 126 = .ok (.goto 7, 3) := dk_167 0 7 (dk_at dksX8_odds_5 7 rfl rfl)
theorem dX8_odds_129 : decode cX8_odds 129 = .ok (.bipush 10, 2) := dk_16 10 (dk_at dksX8_odds_5 10 rfl rfl)
theorem dX8_odds_131 : decode cX8_odds 131 = .ok (.iload_n 1, 1) := dk_27 (dk_at dksX8_odds_5 12 rfl rfl)
theorem dX8_odds_132 : decode cX8_odds 132 = .ok (.isub, 1) := dk_100 (dk_at dksX8_odds_5 13 rfl rfl)
theorem dX8_odds_133 : decode cX8_odds 133 = .ok (.imul, 1) := dk_104 (dk_at dksX8_odds_5 14 rfl rfl)
theorem dX8_odds_134 : decode cX8_odds 134 = .ok (.istore 7, 2) := dk_54 7 (dk_at dksX8_odds_5 15 rfl rfl)
theorem dX8_odds_136 : decode cX8_odds 136 = .ok (.aload_n 0, 1) := dk_42 (dk_at dksX8_odds_5 17 rfl rfl)
theorem dX8_odds_137 : decode cX8_odds 137 = .ok (.getfield 7, 3) := dk_180 0 7 (dk_at dksX8_odds_5 18 rfl rfl)
theorem dX8_odds_140 : decode cX8_odds 140 = .ok (.sipush 1102, 3) := dk_17 4 78 (dk_at dksX8_odds_5 21 rfl rfl)
theorem dX8_odds_143 : decode cX8_odds 143 = .ok (.iload 8, 2) := dk_21 8 (dk_at dksX8_odds_6 0 rfl rfl)
theorem dX8_odds_145 : decode cX8_odds 145 = .ok (.iadd, 1) := dk_96 (dk_at dksX8_odds_6 2 rfl rfl)
theorem dX8_odds_146 : decode cX8_odds 146 = .ok (.iload 6, 2) := dk_21 6 (dk_at dksX8_odds_6 3 rfl rfl)
theorem dX8_odds_148 : decode cX8_odds 148 = .ok (.iload 8, 2) := dk_21 8 (dk_at dksX8_odds_6 5 rfl rfl)
theorem dX8_odds_150 : decode cX8_odds 150 = .ok (.invokestatic 248, 3) := dk_184 0 248 (dk_at dksX8_odds_6 7 rfl rfl)
theorem dX8_odds_153 : decode cX8_odds 153 = .ok (.ifCond .eq 7, 3) := dk_153 0 7 (dk_at dksX8_odds_6 10 rfl rfl)
theorem dX8_odds_156 : decode cX8_odds 156 = .ok (.iconst 0, 1) := dk_3 (dk_at dksX8_odds_6 13 rfl rfl)
theorem dX8_odds_157 : decode cX8_odds 157 = .ok (.goto 14, 3) := dk_167 0 14 (dk_at dksX8_odds_6 14 rfl rfl)
theorem dX8_odds_160 : decode cX8_odds 160 = .ok (.aload_n 0, 1) := dk_42 (dk_at dksX8_odds_6 17 rfl rfl)
theorem dX8_odds_161 : decode cX8_odds 161 = .ok (.getfield 7, 3) := dk_180 0 7 (dk_at dksX8_odds_6 18 rfl rfl)
theorem dX8_odds_164 : decode cX8_odds 164 = .ok (.sipush 1102, 3) := dk_17 4 78 (dk_at dksX8_odds_6 21 rfl rfl)
theorem dX8_odds_167 : decode cX8_odds 167 = .ok (.iload 8, 2) := dk_21 8 (dk_at dksX8_odds_7 0 rfl rfl)
theorem dX8_odds_169 : decode cX8_odds 169 = .ok (.iadd, 1) := dk_96 (dk_at dksX8_odds_7 2 rfl rfl)
theorem dX8_odds_170 : decode cX8_odds 170 = .ok (.iaload, 1) := dk_46 (dk_at dksX8_odds_7 3 rfl rfl)
theorem dX8_odds_171 : decode cX8_odds 171 = .ok (.iastore, 1) := dk_79 (dk_at dksX8_odds_7 4 rfl rfl)
theorem dX8_odds_172 : decode cX8_odds 172 = .ok (.iinc 8 1, 3) := dk_132 8 1 (dk_at dksX8_odds_7 5 rfl rfl)
theorem dX8_odds_175 : decode cX8_odds 175 = .ok (.goto (-86), 3) := dk_167 255 170 (dk_at dksX8_odds_7 8 rfl rfl)
theorem dX8_odds_178 : decode cX8_odds 178 = .ok (.aload_n 0, 1) := dk_42 (dk_at dksX8_odds_7 11 rfl rfl)
theorem dX8_odds_179 : decode cX8_odds 179 = .ok (.sipush 1082, 3) := dk_17 4 58 (dk_at dksX8_odds_7 12 rfl rfl)
theorem dX8_odds_182 : decode cX8_odds 182 = .ok (.invokevirtual 165, 3) := dk_182 0 165 (dk_at dksX8_odds_7 15 rfl rfl)
theorem dX8_odds_185 : decode cX8_odds 185 = .ok (.iload 4, 2) := dk_21 4 (dk_at dksX8_odds_7 18 rfl rfl)
theorem dX8_odds_187 : decode cX8_odds 187 = .ok (.aload_n 0, 1) := dk_42 (dk_at dksX8_odds_7 20 rfl rfl)
theorem dX8_odds_188 : decode cX8_odds 188 = .ok (.getfield 97, 3) := dk_180 0 97 (dk_at dksX8_odds_7 21 rfl rfl)
theorem dX8_odds_191 : decode cX8_odds 191 = .ok (.aload_n 0, 1) := dk_42 (dk_at dksX8_odds_8 0 rfl rfl)
theorem dX8_odds_192 : decode cX8_odds 192 = .ok (.getfield 100, 3) := dk_180 0 100 (dk_at dksX8_odds_8 1 rfl rfl)
theorem dX8_odds_195 : decode cX8_odds 195 = .ok (.iadd, 1) := dk_96 (dk_at dksX8_odds_8 4 rfl rfl)
theorem dX8_odds_196 : decode cX8_odds 196 = .ok (.ifCond .ne 8, 3) := dk_154 0 8 (dk_at dksX8_odds_8 5 rfl rfl)
theorem dX8_odds_199 : decode cX8_odds 199 = .ok (.iload 7, 2) := dk_21 7 (dk_at dksX8_odds_8 8 rfl rfl)
theorem dX8_odds_201 : decode cX8_odds 201 = .ok (.goto 4, 3) := dk_167 0 4 (dk_at dksX8_odds_8 10 rfl rfl)
theorem dX8_odds_204 : decode cX8_odds 204 = .ok (.iconst 0, 1) := dk_3 (dk_at dksX8_odds_8 13 rfl rfl)
theorem dX8_odds_205 : decode cX8_odds 205 = .ok (.iadd, 1) := dk_96 (dk_at dksX8_odds_8 14 rfl rfl)
theorem dX8_odds_206 : decode cX8_odds 206 = .ok (.istore 4, 2) := dk_54 4 (dk_at dksX8_odds_8 15 rfl rfl)
theorem dX8_odds_208 : decode cX8_odds 208 = .ok (.iinc 6 1, 3) := dk_132 6 1 (dk_at dksX8_odds_8 17 rfl rfl)
theorem dX8_odds_211 : decode cX8_odds 211 = .ok (.goto (-147), 3) := dk_167 255 109 (dk_at dksX8_odds_8 20 rfl rfl)
theorem dX8_odds_214 : decode cX8_odds 214 = .ok (.iload 4, 2) := dk_21 4 (dk_at dksX8_odds_9 0 rfl rfl)
theorem dX8_odds_216 : decode cX8_odds 216 = .ok (.iload 5, 2) := dk_21 5 (dk_at dksX8_odds_9 2 rfl rfl)
theorem dX8_odds_218 : decode cX8_odds 218 = .ok (.iload_n 2, 1) := dk_28 (dk_at dksX8_odds_9 4 rfl rfl)
theorem dX8_odds_219 : decode cX8_odds 219 = .ok (.invokestatic 191, 3) := dk_184 0 191 (dk_at dksX8_odds_9 5 rfl rfl)
theorem dX8_odds_222 : decode cX8_odds 222 = .ok (.ireturn, 1) := dk_172 (dk_at dksX8_odds_9 8 rfl rfl)
abbrev cX8_has : ByteArray := prog_13_method_4_code
def yX8_has : MethodName := ⟨RX8, "has", "(II)Z"⟩
def dkwX8_has_0 : List UInt8 := [26, 27, 122, 4, 126, 4, 160, 0, 7, 4, 167, 0, 4, 3, 172]
abbrev dktX8_has_0 : List UInt8 := dkwX8_has_0 ++ []
theorem dksX8_has_0 : cX8_has.data.toList.drop 0 = dktX8_has_0 := by decide +kernel
theorem dX8_has_0 : decode cX8_has 0 = .ok (.iload_n 0, 1) := dk_26 (dk_at dksX8_has_0 0 rfl rfl)
theorem dX8_has_1 : decode cX8_has 1 = .ok (.iload_n 1, 1) := dk_27 (dk_at dksX8_has_0 1 rfl rfl)
theorem dX8_has_2 : decode cX8_has 2 = .ok (.ishr, 1) := dk_122 (dk_at dksX8_has_0 2 rfl rfl)
theorem dX8_has_3 : decode cX8_has 3 = .ok (.iconst 1, 1) := dk_4 (dk_at dksX8_has_0 3 rfl rfl)
theorem dX8_has_4 : decode cX8_has 4 = .ok (.iand, 1) := dk_126 (dk_at dksX8_has_0 4 rfl rfl)
theorem dX8_has_5 : decode cX8_has 5 = .ok (.iconst 1, 1) := dk_4 (dk_at dksX8_has_0 5 rfl rfl)
theorem dX8_has_6 : decode cX8_has 6 = .ok (.if_icmp .ne 7, 3) := dk_160 0 7 (dk_at dksX8_has_0 6 rfl rfl)
theorem dX8_has_9 : decode cX8_has 9 = .ok (.iconst 1, 1) := dk_4 (dk_at dksX8_has_0 9 rfl rfl)
theorem dX8_has_10 : decode cX8_has 10 = .ok (.goto 4, 3) := dk_167 0 4 (dk_at dksX8_has_0 10 rfl rfl)
theorem dX8_has_13 : decode cX8_has 13 = .ok (.iconst 0, 1) := dk_3 (dk_at dksX8_has_0 13 rfl rfl)
theorem dX8_has_14 : decode cX8_has 14 = .ok (.ireturn, 1) := dk_172 (dk_at dksX8_has_0 14 rfl rfl)
abbrev cX8_war : ByteArray := prog_13_method_72_code
def yX8_war : MethodName := ⟨RX8, "war", "(II)I"⟩
def dkwX8_war_7 : List UInt8 := [184, 0, 191, 172]
abbrev dktX8_war_7 : List UInt8 := dkwX8_war_7 ++ []
def dkwX8_war_6 : List UInt8 := [167, 255, 229, 132, 5, 255, 167, 255, 206, 42, 180, 0, 38, 3, 46, 42, 180, 0, 41, 3, 46, 28]
abbrev dktX8_war_6 : List UInt8 := dkwX8_war_6 ++ dktX8_war_7
def dkwX8_war_5 : List UInt8 := [162, 0, 27, 42, 21, 6, 21, 5, 5, 112, 154, 0, 7, 4, 167, 0, 4, 3, 182, 1, 6, 132, 6, 1]
abbrev dktX8_war_5 : List UInt8 := dkwX8_war_5 ++ dktX8_war_6
def dkwX8_war_4 : List UInt8 := [54, 5, 21, 5, 155, 0, 51, 21, 4, 158, 0, 46, 29, 6, 108, 62, 3, 54, 6, 21, 6, 29]
abbrev dktX8_war_4 : List UInt8 := dkwX8_war_4 ++ dktX8_war_5
def dkwX8_war_3 : List UInt8 := [27, 182, 1, 3, 153, 0, 7, 4, 167, 0, 4, 3, 96, 54, 4, 132, 5, 1, 167, 255, 227, 27, 4, 100]
abbrev dktX8_war_3 : List UInt8 := dkwX8_war_3 ++ dktX8_war_4
def dkwX8_war_2 : List UInt8 := [62, 132, 4, 1, 167, 255, 243, 3, 54, 4, 3, 54, 5, 21, 5, 29, 162, 0, 29, 21, 4, 42, 21, 5]
abbrev dktX8_war_2 : List UInt8 := dkwX8_war_2 ++ dktX8_war_3
def dkwX8_war_1 : List UInt8 := [42, 3, 182, 0, 202, 154, 0, 5, 28, 172, 4, 62, 3, 54, 4, 21, 4, 27, 162, 0, 13, 29, 6, 104]
abbrev dktX8_war_1 : List UInt8 := dkwX8_war_1 ++ dktX8_war_2
def dkwX8_war_0 : List UInt8 := [27, 133, 9, 20, 1, 1, 184, 0, 49, 153, 0, 13, 28, 133, 9, 10, 184, 0, 49, 154, 0, 5, 2, 172]
abbrev dktX8_war_0 : List UInt8 := dkwX8_war_0 ++ dktX8_war_1
theorem dksX8_war_0 : cX8_war.data.toList.drop 0 = dktX8_war_0 := by decide +kernel
theorem dksX8_war_1 : cX8_war.data.toList.drop 24 = dktX8_war_1 := dk_seg dksX8_war_0 24 rfl rfl
theorem dksX8_war_2 : cX8_war.data.toList.drop 48 = dktX8_war_2 := dk_seg dksX8_war_1 24 rfl rfl
theorem dksX8_war_3 : cX8_war.data.toList.drop 72 = dktX8_war_3 := dk_seg dksX8_war_2 24 rfl rfl
theorem dksX8_war_4 : cX8_war.data.toList.drop 96 = dktX8_war_4 := dk_seg dksX8_war_3 24 rfl rfl
theorem dksX8_war_5 : cX8_war.data.toList.drop 118 = dktX8_war_5 := dk_seg dksX8_war_4 22 rfl rfl
theorem dksX8_war_6 : cX8_war.data.toList.drop 142 = dktX8_war_6 := dk_seg dksX8_war_5 24 rfl rfl
theorem dksX8_war_7 : cX8_war.data.toList.drop 164 = dktX8_war_7 := dk_seg dksX8_war_6 22 rfl rfl
theorem dX8_war_0 : decode cX8_war 0 = .ok (.iload_n 1, 1) := dk_27 (dk_at dksX8_war_0 0 rfl rfl)
theorem dX8_war_1 : decode cX8_war 1 = .ok (.i2l, 1) := dk_133 (dk_at dksX8_war_0 1 rfl rfl)
theorem dX8_war_2 : decode cX8_war 2 = .ok (.lconst 0, 1) := dk_9 (dk_at dksX8_war_0 2 rfl rfl)
theorem dX8_war_3 : decode cX8_war 3 = .ok (.ldc2_w 257, 3) := dk_20 1 1 (dk_at dksX8_war_0 3 rfl rfl)
theorem dX8_war_6 : decode cX8_war 6 = .ok (.invokestatic 49, 3) := dk_184 0 49 (dk_at dksX8_war_0 6 rfl rfl)
theorem dX8_war_9 : decode cX8_war 9 = .ok (.ifCond .eq 13, 3) := dk_153 0 13 (dk_at dksX8_war_0 9 rfl rfl)
theorem dX8_war_12 : decode cX8_war 12 = .ok (.iload_n 2, 1) := dk_28 (dk_at dksX8_war_0 12 rfl rfl)
theorem dX8_war_13 : decode cX8_war 13 = .ok (.i2l, 1) := dk_133 (dk_at dksX8_war_0 13 rfl rfl)
theorem dX8_war_14 : decode cX8_war 14 = .ok (.lconst 0, 1) := dk_9 (dk_at dksX8_war_0 14 rfl rfl)
theorem dX8_war_15 : decode cX8_war 15 = .ok (.lconst 1, 1) := dk_10 (dk_at dksX8_war_0 15 rfl rfl)
theorem dX8_war_16 : decode cX8_war 16 = .ok (.invokestatic 49, 3) := dk_184 0 49 (dk_at dksX8_war_0 16 rfl rfl)
theorem dX8_war_19 : decode cX8_war 19 = .ok (.ifCond .ne 5, 3) := dk_154 0 5 (dk_at dksX8_war_0 19 rfl rfl)
theorem dX8_war_22 : decode cX8_war 22 = .ok (.iconst (-1), 1) := dk_2 (dk_at dksX8_war_0 22 rfl rfl)
theorem dX8_war_23 : decode cX8_war 23 = .ok (.ireturn, 1) := dk_172 (dk_at dksX8_war_0 23 rfl rfl)
theorem dX8_war_24 : decode cX8_war 24 = .ok (.aload_n 0, 1) := dk_42 (dk_at dksX8_war_1 0 rfl rfl)
theorem dX8_war_25 : decode cX8_war 25 = .ok (.iconst 0, 1) := dk_3 (dk_at dksX8_war_1 1 rfl rfl)
theorem dX8_war_26 : decode cX8_war 26 = .ok (.invokevirtual 202, 3) := dk_182 0 202 (dk_at dksX8_war_1 2 rfl rfl)
theorem dX8_war_29 : decode cX8_war 29 = .ok (.ifCond .ne 5, 3) := dk_154 0 5 (dk_at dksX8_war_1 5 rfl rfl)
theorem dX8_war_32 : decode cX8_war 32 = .ok (.iload_n 2, 1) := dk_28 (dk_at dksX8_war_1 8 rfl rfl)
theorem dX8_war_33 : decode cX8_war 33 = .ok (.ireturn, 1) := dk_172 (dk_at dksX8_war_1 9 rfl rfl)
theorem dX8_war_34 : decode cX8_war 34 = .ok (.iconst 1, 1) := dk_4 (dk_at dksX8_war_1 10 rfl rfl)
theorem dX8_war_35 : decode cX8_war 35 = .ok (.istore_n 3, 1) := dk_62 (dk_at dksX8_war_1 11 rfl rfl)
theorem dX8_war_36 : decode cX8_war 36 = .ok (.iconst 0, 1) := dk_3 (dk_at dksX8_war_1 12 rfl rfl)
theorem dX8_war_37 : decode cX8_war 37 = .ok (.istore 4, 2) := dk_54 4 (dk_at dksX8_war_1 13 rfl rfl)
theorem dX8_war_39 : decode cX8_war 39 = .ok (.iload 4, 2) := dk_21 4 (dk_at dksX8_war_1 15 rfl rfl)
theorem dX8_war_41 : decode cX8_war 41 = .ok (.iload_n 1, 1) := dk_27 (dk_at dksX8_war_1 17 rfl rfl)
theorem dX8_war_42 : decode cX8_war 42 = .ok (.if_icmp .ge 13, 3) := dk_162 0 13 (dk_at dksX8_war_1 18 rfl rfl)
theorem dX8_war_45 : decode cX8_war 45 = .ok (.iload_n 3, 1) := dk_29 (dk_at dksX8_war_1 21 rfl rfl)
theorem dX8_war_46 : decode cX8_war 46 = .ok (.iconst 3, 1) := dk_6 (dk_at dksX8_war_1 22 rfl rfl)
theorem dX8_war_47 : decode cX8_war 47 = .ok (.imul, 1) := dk_104 (dk_at dksX8_war_1 23 rfl rfl)
theorem dX8_war_48 : decode cX8_war 48 = .ok (.istore_n 3, 1) := dk_62 (dk_at dksX8_war_2 0 rfl rfl)
theorem dX8_war_49 : decode cX8_war 49 = .ok (.iinc 4 1, 3) := dk_132 4 1 (dk_at dksX8_war_2 1 rfl rfl)
theorem dX8_war_52 : decode cX8_war 52 = .ok (.goto (-13), 3) := dk_167 255 243 (dk_at dksX8_war_2 4 rfl rfl)
theorem dX8_war_55 : decode cX8_war 55 = .ok (.iconst 0, 1) := dk_3 (dk_at dksX8_war_2 7 rfl rfl)
theorem dX8_war_56 : decode cX8_war 56 = .ok (.istore 4, 2) := dk_54 4 (dk_at dksX8_war_2 8 rfl rfl)
theorem dX8_war_58 : decode cX8_war 58 = .ok (.iconst 0, 1) := dk_3 (dk_at dksX8_war_2 10 rfl rfl)
theorem dX8_war_59 : decode cX8_war 59 = .ok (.istore 5, 2) := dk_54 5 (dk_at dksX8_war_2 11 rfl rfl)
theorem dX8_war_61 : decode cX8_war 61 = .ok (.iload 5, 2) := dk_21 5 (dk_at dksX8_war_2 13 rfl rfl)
theorem dX8_war_63 : decode cX8_war 63 = .ok (.iload_n 3, 1) := dk_29 (dk_at dksX8_war_2 15 rfl rfl)
theorem dX8_war_64 : decode cX8_war 64 = .ok (.if_icmp .ge 29, 3) := dk_162 0 29 (dk_at dksX8_war_2 16 rfl rfl)
theorem dX8_war_67 : decode cX8_war 67 = .ok (.iload 4, 2) := dk_21 4 (dk_at dksX8_war_2 19 rfl rfl)
theorem dX8_war_69 : decode cX8_war 69 = .ok (.aload_n 0, 1) := dk_42 (dk_at dksX8_war_2 21 rfl rfl)
theorem dX8_war_70 : decode cX8_war 70 = .ok (.iload 5, 2) := dk_21 5 (dk_at dksX8_war_2 22 rfl rfl)
theorem dX8_war_72 : decode cX8_war 72 = .ok (.iload_n 1, 1) := dk_27 (dk_at dksX8_war_3 0 rfl rfl)
theorem dX8_war_73 : decode cX8_war 73 = .ok (.invokevirtual 259, 3) := dk_182 1 3 (dk_at dksX8_war_3 1 rfl rfl)
theorem dX8_war_76 : decode cX8_war 76 = .ok (.ifCond .eq 7, 3) := dk_153 0 7 (dk_at dksX8_war_3 4 rfl rfl)
theorem dX8_war_79 : decode cX8_war 79 = .ok (.iconst 1, 1) := dk_4 (dk_at dksX8_war_3 7 rfl rfl)
theorem dX8_war_80 : decode cX8_war 80 = .ok (.goto 4, 3) := dk_167 0 4 (dk_at dksX8_war_3 8 rfl rfl)
theorem dX8_war_83 : decode cX8_war 83 = .ok (.iconst 0, 1) := dk_3 (dk_at dksX8_war_3 11 rfl rfl)
theorem dX8_war_84 : decode cX8_war 84 = .ok (.iadd, 1) := dk_96 (dk_at dksX8_war_3 12 rfl rfl)
theorem dX8_war_85 : decode cX8_war 85 = .ok (.istore 4, 2) := dk_54 4 (dk_at dksX8_war_3 13 rfl rfl)
theorem dX8_war_87 : decode cX8_war 87 = .ok (.iinc 5 1, 3) := dk_132 5 1 (dk_at dksX8_war_3 15 rfl rfl)
theorem dX8_war_90 : decode cX8_war 90 = .ok (.goto (-29), 3) := dk_167 255 227 (dk_at dksX8_war_3 18 rfl rfl)
theorem dX8_war_93 : decode cX8_war 93 = .ok (.iload_n 1, 1) := dk_27 (dk_at dksX8_war_3 21 rfl rfl)
theorem dX8_war_94 : decode cX8_war 94 = .ok (.iconst 1, 1) := dk_4 (dk_at dksX8_war_3 22 rfl rfl)
theorem dX8_war_95 : decode cX8_war 95 = .ok (.isub, 1) := dk_100 (dk_at dksX8_war_3 23 rfl rfl)
theorem dX8_war_96 : decode cX8_war 96 = .ok (.istore 5, 2) := dk_54 5 (dk_at dksX8_war_4 0 rfl rfl)
theorem dX8_war_98 : decode cX8_war 98 = .ok (.iload 5, 2) := dk_21 5 (dk_at dksX8_war_4 2 rfl rfl)
theorem dX8_war_100 : decode cX8_war 100 = .ok (.ifCond .lt 51, 3) := dk_155 0 51 (dk_at dksX8_war_4 4 rfl rfl)
theorem dX8_war_103 : decode cX8_war 103 = .ok (.iload 4, 2) := dk_21 4 (dk_at dksX8_war_4 7 rfl rfl)
theorem dX8_war_105 : decode cX8_war 105 = .ok (.ifCond .le 46, 3) := dk_158 0 46 (dk_at dksX8_war_4 9 rfl rfl)
theorem dX8_war_108 : decode cX8_war 108 = .ok (.iload_n 3, 1) := dk_29 (dk_at dksX8_war_4 12 rfl rfl)
theorem dX8_war_109 : decode cX8_war 109 = .ok (.iconst 3, 1) := dk_6 (dk_at dksX8_war_4 13 rfl rfl)
theorem dX8_war_110 : decode cX8_war 110 = .ok (.idiv, 1) := dk_108 (dk_at dksX8_war_4 14 rfl rfl)
theorem dX8_war_111 : decode cX8_war 111 = .ok (.istore_n 3, 1) := dk_62 (dk_at dksX8_war_4 15 rfl rfl)
theorem dX8_war_112 : decode cX8_war 112 = .ok (.iconst 0, 1) := dk_3 (dk_at dksX8_war_4 16 rfl rfl)
theorem dX8_war_113 : decode cX8_war 113 = .ok (.istore 6, 2) := dk_54 6 (dk_at dksX8_war_4 17 rfl rfl)
theorem dX8_war_115 : decode cX8_war 115 = .ok (.iload 6, 2) := dk_21 6 (dk_at dksX8_war_4 19 rfl rfl)
theorem dX8_war_117 : decode cX8_war 117 = .ok (.iload_n 3, 1) := dk_29 (dk_at dksX8_war_4 21 rfl rfl)
theorem dX8_war_118 : decode cX8_war 118 = .ok (.if_icmp .ge 27, 3) := dk_162 0 27 (dk_at dksX8_war_5 0 rfl rfl)
theorem dX8_war_121 : decode cX8_war 121 = .ok (.aload_n 0, 1) := dk_42 (dk_at dksX8_war_5 3 rfl rfl)
theorem dX8_war_122 : decode cX8_war 122 = .ok (.iload 6, 2) := dk_21 6 (dk_at dksX8_war_5 4 rfl rfl)
theorem dX8_war_124 : decode cX8_war 124 = .ok (.iload 5, 2) := dk_21 5 (dk_at dksX8_war_5 6 rfl rfl)
theorem dX8_war_126 : decode cX8_war 126 = .ok (.iconst 2, 1) := dk_5 (dk_at dksX8_war_5 8 rfl rfl)
theorem dX8_war_127 : decode cX8_war 127 = .ok (.irem, 1) := dk_112 (dk_at dksX8_war_5 9 rfl rfl)
theorem dX8_war_128 : decode cX8_war 128 = .ok (.ifCond .ne 7, 3) := dk_154 0 7 (dk_at dksX8_war_5 10 rfl rfl)
theorem dX8_war_131 : decode cX8_war 131 = .ok (.iconst 1, 1) := dk_4 (dk_at dksX8_war_5 13 rfl rfl)
theorem dX8_war_132 : decode cX8_war 132 = .ok (.goto 4, 3) := dk_167 0 4 (dk_at dksX8_war_5 14 rfl rfl)
theorem dX8_war_135 : decode cX8_war 135 = .ok (.iconst 0, 1) := dk_3 (dk_at dksX8_war_5 17 rfl rfl)
theorem dX8_war_136 : decode cX8_war 136 = .ok (.invokevirtual 262, 3) := dk_182 1 6 (dk_at dksX8_war_5 18 rfl rfl)
theorem dX8_war_139 : decode cX8_war 139 = .ok (.iinc 6 1, 3) := dk_132 6 1 (dk_at dksX8_war_5 21 rfl rfl)
theorem dX8_war_142 : decode cX8_war 142 = .ok (.goto (-27), 3) := dk_167 255 229 (dk_at dksX8_war_6 0 rfl rfl)
theorem dX8_war_145 : decode cX8_war 145 = .ok (.iinc 5 (-1), 3) := dk_132 5 255 (dk_at dksX8_war_6 3 rfl rfl)
theorem dX8_war_148 : decode cX8_war 148 = .ok (.goto (-50), 3) := dk_167 255 206 (dk_at dksX8_war_6 6 rfl rfl)
theorem dX8_war_151 : decode cX8_war 151 = .ok (.aload_n 0, 1) := dk_42 (dk_at dksX8_war_6 9 rfl rfl)
theorem dX8_war_152 : decode cX8_war 152 = .ok (.getfield 38, 3) := dk_180 0 38 (dk_at dksX8_war_6 10 rfl rfl)
theorem dX8_war_155 : decode cX8_war 155 = .ok (.iconst 0, 1) := dk_3 (dk_at dksX8_war_6 13 rfl rfl)
theorem dX8_war_156 : decode cX8_war 156 = .ok (.iaload, 1) := dk_46 (dk_at dksX8_war_6 14 rfl rfl)
theorem dX8_war_157 : decode cX8_war 157 = .ok (.aload_n 0, 1) := dk_42 (dk_at dksX8_war_6 15 rfl rfl)
theorem dX8_war_158 : decode cX8_war 158 = .ok (.getfield 41, 3) := dk_180 0 41 (dk_at dksX8_war_6 16 rfl rfl)
theorem dX8_war_161 : decode cX8_war 161 = .ok (.iconst 0, 1) := dk_3 (dk_at dksX8_war_6 19 rfl rfl)
theorem dX8_war_162 : decode cX8_war 162 = .ok (.iaload, 1) := dk_46 (dk_at dksX8_war_6 20 rfl rfl)
theorem dX8_war_163 : decode cX8_war 163 = .ok (.iload_n 2, 1) := dk_28 (dk_at dksX8_war_6 21 rfl rfl)
theorem dX8_war_164 : decode cX8_war 164 = .ok (.invokestatic 191, 3) := dk_184 0 191 (dk_at dksX8_war_7 0 rfl rfl)
theorem dX8_war_167 : decode cX8_war 167 = .ok (.ireturn, 1) := dk_172 (dk_at dksX8_war_7 3 rfl rfl)
abbrev cX8_plays : ByteArray := prog_13_method_68_code
def yX8_plays : MethodName := ⟨RX8, "plays", "(II)Z"⟩
def dkwX8_plays_8 : List UInt8 := [3, 79, 21, 5, 172]
abbrev dktX8_plays_8 : List UInt8 := dkwX8_plays_8 ++ []
def dkwX8_plays_7 : List UInt8 := [21, 6, 46, 79, 42, 180, 0, 41, 27, 21, 5, 153, 0, 13, 42, 180, 0, 29, 21, 6, 46, 167, 0, 4]
abbrev dktX8_plays_7 : List UInt8 := dkwX8_plays_7 ++ dktX8_plays_8
def dkwX8_plays_6 : List UInt8 := [17, 4, 58, 182, 0, 103, 42, 17, 4, 58, 182, 0, 199, 54, 6, 42, 180, 0, 38, 27, 42, 180, 0, 26]
abbrev dktX8_plays_6 : List UInt8 := dkwX8_plays_6 ++ dktX8_plays_7
def dkwX8_plays_5 : List UInt8 := [42, 180, 0, 7, 17, 4, 86, 21, 7, 96, 92, 46, 21, 8, 96, 79, 132, 6, 1, 167, 255, 156, 42]
abbrev dktX8_plays_5 : List UInt8 := dkwX8_plays_5 ++ dktX8_plays_6
def dkwX8_plays_4 : List UInt8 := [153, 0, 21, 42, 17, 4, 58, 21, 7, 21, 8, 182, 0, 216, 153, 0, 7, 4, 167, 0, 4, 3, 54, 5]
abbrev dktX8_plays_4 : List UInt8 := dkwX8_plays_4 ++ dktX8_plays_5
def dkwX8_plays_3 : List UInt8 := [29, 21, 4, 112, 62, 21, 4, 4, 160, 0, 7, 4, 167, 0, 7, 21, 4, 6, 108, 54, 4, 21, 5]
abbrev dktX8_plays_3 : List UInt8 := dkwX8_plays_3 ++ dktX8_plays_4
def dkwX8_plays_2 : List UInt8 := [154, 0, 10, 42, 182, 0, 251, 167, 0, 7, 42, 182, 0, 254, 54, 7, 29, 21, 4, 108, 4, 100, 54, 8]
abbrev dktX8_plays_2 : List UInt8 := dkwX8_plays_2 ++ dktX8_plays_3
def dkwX8_plays_1 : List UInt8 := [132, 5, 1, 167, 255, 241, 4, 54, 5, 3, 54, 6, 21, 6, 28, 162, 0, 100, 21, 6, 5, 112]
abbrev dktX8_plays_1 : List UInt8 := dkwX8_plays_1 ++ dktX8_plays_2
def dkwX8_plays_0 : List UInt8 := [42, 182, 0, 243, 27, 62, 4, 54, 4, 4, 54, 5, 21, 5, 28, 162, 0, 15, 21, 4, 6, 104, 54, 4]
abbrev dktX8_plays_0 : List UInt8 := dkwX8_plays_0 ++ dktX8_plays_1
theorem dksX8_plays_0 : cX8_plays.data.toList.drop 0 = dktX8_plays_0 := by decide +kernel
theorem dksX8_plays_1 : cX8_plays.data.toList.drop 24 = dktX8_plays_1 := dk_seg dksX8_plays_0 24 rfl rfl
theorem dksX8_plays_2 : cX8_plays.data.toList.drop 46 = dktX8_plays_2 := dk_seg dksX8_plays_1 22 rfl rfl
theorem dksX8_plays_3 : cX8_plays.data.toList.drop 70 = dktX8_plays_3 := dk_seg dksX8_plays_2 24 rfl rfl
theorem dksX8_plays_4 : cX8_plays.data.toList.drop 93 = dktX8_plays_4 := dk_seg dksX8_plays_3 23 rfl rfl
theorem dksX8_plays_5 : cX8_plays.data.toList.drop 117 = dktX8_plays_5 := dk_seg dksX8_plays_4 24 rfl rfl
theorem dksX8_plays_6 : cX8_plays.data.toList.drop 140 = dktX8_plays_6 := dk_seg dksX8_plays_5 23 rfl rfl
theorem dksX8_plays_7 : cX8_plays.data.toList.drop 164 = dktX8_plays_7 := dk_seg dksX8_plays_6 24 rfl rfl
theorem dksX8_plays_8 : cX8_plays.data.toList.drop 188 = dktX8_plays_8 := dk_seg dksX8_plays_7 24 rfl rfl
theorem dX8_plays_0 : decode cX8_plays 0 = .ok (.aload_n 0, 1) := dk_42 (dk_at dksX8_plays_0 0 rfl rfl)
theorem dX8_plays_1 : decode cX8_plays 1 = .ok (.invokevirtual 243, 3) := dk_182 0 243 (dk_at dksX8_plays_0 1 rfl rfl)
theorem dX8_plays_4 : decode cX8_plays 4 = .ok (.iload_n 1, 1) := dk_27 (dk_at dksX8_plays_0 4 rfl rfl)
theorem dX8_plays_5 : decode cX8_plays 5 = .ok (.istore_n 3, 1) := dk_62 (dk_at dksX8_plays_0 5 rfl rfl)
theorem dX8_plays_6 : decode cX8_plays 6 = .ok (.iconst 1, 1) := dk_4 (dk_at dksX8_plays_0 6 rfl rfl)
theorem dX8_plays_7 : decode cX8_plays 7 = .ok (.istore 4, 2) := dk_54 4 (dk_at dksX8_plays_0 7 rfl rfl)
theorem dX8_plays_9 : decode cX8_plays 9 = .ok (.iconst 1, 1) := dk_4 (dk_at dksX8_plays_0 9 rfl rfl)
theorem dX8_plays_10 : decode cX8_plays 10 = .ok (.istore 5, 2) := dk_54 5 (dk_at dksX8_plays_0 10 rfl rfl)
theorem dX8_plays_12 : decode cX8_plays 12 = .ok (.iload 5, 2) := dk_21 5 (dk_at dksX8_plays_0 12 rfl rfl)
theorem dX8_plays_14 : decode cX8_plays 14 = .ok (.iload_n 2, 1) := dk_28 (dk_at dksX8_plays_0 14 rfl rfl)
theorem dX8_plays_15 : decode cX8_plays 15 = .ok (.if_icmp .ge 15, 3) := dk_162 0 15 (dk_at dksX8_plays_0 15 rfl rfl)
theorem dX8_plays_18 : decode cX8_plays 18 = .ok (.iload 4, 2) := dk_21 4 (dk_at dksX8_plays_0 18 rfl rfl)
theorem dX8_plays_20 : decode cX8_plays 20 = .ok (.iconst 3, 1) := dk_6 (dk_at dksX8_plays_0 20 rfl rfl)
theorem dX8_plays_21 : decode cX8_plays 21 = .ok (.imul, 1) := dk_104 (dk_at dksX8_plays_0 21 rfl rfl)
theorem dX8_plays_22 : decode cX8_plays 22 = .ok (.istore 4, 2) := dk_54 4 (dk_at dksX8_plays_0 22 rfl rfl)
theorem dX8_plays_24 : decode cX8_plays 24 = .ok (.iinc 5 1, 3) := dk_132 5 1 (dk_at dksX8_plays_1 0 rfl rfl)
theorem dX8_plays_27 : decode cX8_plays 27 = .ok (.goto (-15), 3) := dk_167 255 241 (dk_at dksX8_plays_1 3 rfl rfl)
theorem dX8_plays_30 : decode cX8_plays 30 = .ok (.iconst 1, 1) := dk_4 (dk_at dksX8_plays_1 6 rfl rfl)
theorem dX8_plays_31 : decode cX8_plays 31 = .ok (.istore 5, 2) := dk_54 5 (dk_at dksX8_plays_1 7 rfl rfl)
theorem dX8_plays_33 : decode cX8_plays 33 = .ok (.iconst 0, 1) := dk_3 (dk_at dksX8_plays_1 9 rfl rfl)
theorem dX8_plays_34 : decode cX8_plays 34 = .ok (.istore 6, 2) := dk_54 6 (dk_at dksX8_plays_1 10 rfl rfl)
theorem dX8_plays_36 : decode cX8_plays 36 = .ok (.iload 6, 2) := dk_21 6 (dk_at dksX8_plays_1 12 rfl rfl)
theorem dX8_plays_38 : decode cX8_plays 38 = .ok (.iload_n 2, 1) := dk_28 (dk_at dksX8_plays_1 14 rfl rfl)
theorem dX8_plays_39 : decode cX8_plays 39 = .ok (.if_icmp .ge 100, 3) := dk_162 0 100 (dk_at dksX8_plays_1 15 rfl rfl)
theorem dX8_plays_42 : decode cX8_plays 42 = .ok (.iload 6, 2) := dk_21 6 (dk_at dksX8_plays_1 18 rfl rfl)
theorem dX8_plays_44 : decode cX8_plays 44 = .ok (.iconst 2, 1) := dk_5 (dk_at dksX8_plays_1 20 rfl rfl)
theorem dX8_plays_45 : decode cX8_plays 45 = .ok (.irem, 1) := dk_112 (dk_at dksX8_plays_1 21 rfl rfl)
theorem dX8_plays_46 : decode cX8_plays 46 = .ok (.ifCond .ne 10, 3) := dk_154 0 10 (dk_at dksX8_plays_2 0 rfl rfl)
theorem dX8_plays_49 : decode cX8_plays 49 = .ok (.aload_n 0, 1) := dk_42 (dk_at dksX8_plays_2 3 rfl rfl)
theorem dX8_plays_50 : decode cX8_plays 50 = .ok (.invokevirtual 251, 3) := dk_182 0 251 (dk_at dksX8_plays_2 4 rfl rfl)
theorem dX8_plays_53 : decode cX8_plays 53 = .ok (.goto 7, 3) := dk_167 0 7 (dk_at dksX8_plays_2 7 rfl rfl)
theorem dX8_plays_56 : decode cX8_plays 56 = .ok (.aload_n 0, 1) := dk_42 (dk_at dksX8_plays_2 10 rfl rfl)
theorem dX8_plays_57 : decode cX8_plays 57 = .ok (.invokevirtual 254, 3) := dk_182 0 254 (dk_at dksX8_plays_2 11 rfl rfl)
theorem dX8_plays_60 : decode cX8_plays 60 = .ok (.istore 7, 2) := dk_54 7 (dk_at dksX8_plays_2 14 rfl rfl)
theorem dX8_plays_62 : decode cX8_plays 62 = .ok (.iload_n 3, 1) := dk_29 (dk_at dksX8_plays_2 16 rfl rfl)
theorem dX8_plays_63 : decode cX8_plays 63 = .ok (.iload 4, 2) := dk_21 4 (dk_at dksX8_plays_2 17 rfl rfl)
theorem dX8_plays_65 : decode cX8_plays 65 = .ok (.idiv, 1) := dk_108 (dk_at dksX8_plays_2 19 rfl rfl)
theorem dX8_plays_66 : decode cX8_plays 66 = .ok (.iconst 1, 1) := dk_4 (dk_at dksX8_plays_2 20 rfl rfl)
theorem dX8_plays_67 : decode cX8_plays 67 = .ok (.isub, 1) := dk_100 (dk_at dksX8_plays_2 21 rfl rfl)
theorem dX8_plays_68 : decode cX8_plays 68 = .ok (.istore 8, 2) := dk_54 8 (dk_at dksX8_plays_2 22 rfl rfl)
theorem dX8_plays_70 : decode cX8_plays 70 = .ok (.iload_n 3, 1) := dk_29 (dk_at dksX8_plays_3 0 rfl rfl)
theorem dX8_plays_71 : decode cX8_plays 71 = .ok (.iload 4, 2) := dk_21 4 (dk_at dksX8_plays_3 1 rfl rfl)
theorem dX8_plays_73 : decode cX8_plays 73 = .ok (.irem, 1) := dk_112 (dk_at dksX8_plays_3 3 rfl rfl)
theorem dX8_plays_74 : decode cX8_plays 74 = .ok (.istore_n 3, 1) := dk_62 (dk_at dksX8_plays_3 4 rfl rfl)
theorem dX8_plays_75 : decode cX8_plays 75 = .ok (.iload 4, 2) := dk_21 4 (dk_at dksX8_plays_3 5 rfl rfl)
theorem dX8_plays_77 : decode cX8_plays 77 = .ok (.iconst 1, 1) := dk_4 (dk_at dksX8_plays_3 7 rfl rfl)
theorem dX8_plays_78 : decode cX8_plays 78 = .ok (.if_icmp .ne 7, 3) := dk_160 0 7 (dk_at dksX8_plays_3 8 rfl rfl)
theorem dX8_plays_81 : decode cX8_plays 81 = .ok (.iconst 1, 1) := dk_4 (dk_at dksX8_plays_3 11 rfl rfl)
theorem dX8_plays_82 : decode cX8_plays 82 = .ok (.goto 7, 3) := dk_167 0 7 (dk_at dksX8_plays_3 12 rfl rfl)
theorem dX8_plays_85 : decode cX8_plays 85 = .ok (.iload 4, 2) := dk_21 4 (dk_at dksX8_plays_3 15 rfl rfl)
theorem dX8_plays_87 : decode cX8_plays 87 = .ok (.iconst 3, 1) := dk_6 (dk_at dksX8_plays_3 17 rfl rfl)
theorem dX8_plays_88 : decode cX8_plays 88 = .ok (.idiv, 1) := dk_108 (dk_at dksX8_plays_3 18 rfl rfl)
theorem dX8_plays_89 : decode cX8_plays 89 = .ok (.istore 4, 2) := dk_54 4 (dk_at dksX8_plays_3 19 rfl rfl)
theorem dX8_plays_91 : decode cX8_plays 91 = .ok (.iload 5, 2) := dk_21 5 (dk_at dksX8_plays_3 21 rfl rfl)
theorem dX8_plays_93 : decode cX8_plays 93 = .ok (.ifCond .eq 21, 3) := dk_153 0 21 (dk_at dksX8_plays_4 0 rfl rfl)
theorem dX8_plays_96 : decode cX8_plays 96 = .ok (.aload_n 0, 1) := dk_42 (dk_at dksX8_plays_4 3 rfl rfl)
theorem dX8_plays_97 : decode cX8_plays 97 = .ok (.sipush 1082, 3) := dk_17 4 58 (dk_at dksX8_plays_4 4 rfl rfl)
theorem dX8_plays_100 : decode cX8_plays 100 = .ok (.iload 7, 2) := dk_21 7 (dk_at dksX8_plays_4 7 rfl rfl)
theorem dX8_plays_102 : decode cX8_plays 102 = .ok (.iload 8, 2) := dk_21 8 (dk_at dksX8_plays_4 9 rfl rfl)
theorem dX8_plays_104 : decode cX8_plays 104 = .ok (.invokevirtual 216, 3) := dk_182 0 216 (dk_at dksX8_plays_4 11 rfl rfl)
theorem dX8_plays_107 : decode cX8_plays 107 = .ok (.ifCond .eq 7, 3) := dk_153 0 7 (dk_at dksX8_plays_4 14 rfl rfl)
theorem dX8_plays_110 : decode cX8_plays 110 = .ok (.iconst 1, 1) := dk_4 (dk_at dksX8_plays_4 17 rfl rfl)
theorem dX8_plays_111 : decode cX8_plays 111 = .ok (.goto 4, 3) := dk_167 0 4 (dk_at dksX8_plays_4 18 rfl rfl)
theorem dX8_plays_114 : decode cX8_plays 114 = .ok (.iconst 0, 1) := dk_3 (dk_at dksX8_plays_4 21 rfl rfl)
theorem dX8_plays_115 : decode cX8_plays 115 = .ok (.istore 5, 2) := dk_54 5 (dk_at dksX8_plays_4 22 rfl rfl)
theorem dX8_plays_117 : decode cX8_plays 117 = .ok (.aload_n 0, 1) := dk_42 (dk_at dksX8_plays_5 0 rfl rfl)
theorem dX8_plays_118 : decode cX8_plays 118 = .ok (.getfield 7, 3) := dk_180 0 7 (dk_at dksX8_plays_5 1 rfl rfl)
theorem dX8_plays_121 : decode cX8_plays 121 = .ok (.sipush 1110, 3) := dk_17 4 86 (dk_at dksX8_plays_5 4 rfl rfl)
theorem dX8_plays_124 : decode cX8_plays 124 = .ok (.iload 7, 2) := dk_21 7 (dk_at dksX8_plays_5 7 rfl rfl)
theorem dX8_plays_126 : decode cX8_plays 126 = .ok (.iadd, 1) := dk_96 (dk_at dksX8_plays_5 9 rfl rfl)
theorem dX8_plays_127 : decode cX8_plays 127 = .ok (.dup2, 1) := dk_92 (dk_at dksX8_plays_5 10 rfl rfl)
theorem dX8_plays_128 : decode cX8_plays 128 = .ok (.iaload, 1) := dk_46 (dk_at dksX8_plays_5 11 rfl rfl)
theorem dX8_plays_129 : decode cX8_plays 129 = .ok (.iload 8, 2) := dk_21 8 (dk_at dksX8_plays_5 12 rfl rfl)
theorem dX8_plays_131 : decode cX8_plays 131 = .ok (.iadd, 1) := dk_96 (dk_at dksX8_plays_5 14 rfl rfl)
theorem dX8_plays_132 : decode cX8_plays 132 = .ok (.iastore, 1) := dk_79 (dk_at dksX8_plays_5 15 rfl rfl)
theorem dX8_plays_133 : decode cX8_plays 133 = .ok (.iinc 6 1, 3) := dk_132 6 1 (dk_at dksX8_plays_5 16 rfl rfl)
theorem dX8_plays_136 : decode cX8_plays 136 = .ok (.goto (-100), 3) := dk_167 255 156 (dk_at dksX8_plays_5 19 rfl rfl)
theorem dX8_plays_139 : decode cX8_plays 139 = .ok (.aload_n 0, 1) := dk_42 (dk_at dksX8_plays_5 22 rfl rfl)
theorem dX8_plays_140 : decode cX8_plays 140 = .ok (.sipush 1082, 3) := dk_17 4 58 (dk_at dksX8_plays_6 0 rfl rfl)
theorem dX8_plays_143 : decode cX8_plays 143 = .ok (.invokevirtual 103, 3) := dk_182 0 103 (dk_at dksX8_plays_6 3 rfl rfl)
theorem dX8_plays_146 : decode cX8_plays 146 = .ok (.aload_n 0, 1) := dk_42 (dk_at dksX8_plays_6 6 rfl rfl)
theorem dX8_plays_147 : decode cX8_plays 147 = .ok (.sipush 1082, 3) := dk_17 4 58 (dk_at dksX8_plays_6 7 rfl rfl)
theorem dX8_plays_150 : decode cX8_plays 150 = .ok (.invokevirtual 199, 3) := dk_182 0 199 (dk_at dksX8_plays_6 10 rfl rfl)
theorem dX8_plays_153 : decode cX8_plays 153 = .ok (.istore 6, 2) := dk_54 6 (dk_at dksX8_plays_6 13 rfl rfl)
theorem dX8_plays_155 : decode cX8_plays 155 = .ok (.aload_n 0, 1) := dk_42 (dk_at dksX8_plays_6 15 rfl rfl)
theorem dX8_plays_156 : decode cX8_plays 156 = .ok (.getfield 38, 3) := dk_180 0 38 (dk_at dksX8_plays_6 16 rfl rfl)
theorem dX8_plays_159 : decode cX8_plays 159 = .ok (.iload_n 1, 1) := dk_27 (dk_at dksX8_plays_6 19 rfl rfl)
theorem dX8_plays_160 : decode cX8_plays 160 = .ok (.aload_n 0, 1) := dk_42 (dk_at dksX8_plays_6 20 rfl rfl)
theorem dX8_plays_161 : decode cX8_plays 161 = .ok (.getfield 26, 3) := dk_180 0 26 (dk_at dksX8_plays_6 21 rfl rfl)
theorem dX8_plays_164 : decode cX8_plays 164 = .ok (.iload 6, 2) := dk_21 6 (dk_at dksX8_plays_7 0 rfl rfl)
theorem dX8_plays_166 : decode cX8_plays 166 = .ok (.iaload, 1) := dk_46 (dk_at dksX8_plays_7 2 rfl rfl)
theorem dX8_plays_167 : decode cX8_plays 167 = .ok (.iastore, 1) := dk_79 (dk_at dksX8_plays_7 3 rfl rfl)
theorem dX8_plays_168 : decode cX8_plays 168 = .ok (.aload_n 0, 1) := dk_42 (dk_at dksX8_plays_7 4 rfl rfl)
theorem dX8_plays_169 : decode cX8_plays 169 = .ok (.getfield 41, 3) := dk_180 0 41 (dk_at dksX8_plays_7 5 rfl rfl)
theorem dX8_plays_172 : decode cX8_plays 172 = .ok (.iload_n 1, 1) := dk_27 (dk_at dksX8_plays_7 8 rfl rfl)
theorem dX8_plays_173 : decode cX8_plays 173 = .ok (.iload 5, 2) := dk_21 5 (dk_at dksX8_plays_7 9 rfl rfl)
theorem dX8_plays_175 : decode cX8_plays 175 = .ok (.ifCond .eq 13, 3) := dk_153 0 13 (dk_at dksX8_plays_7 11 rfl rfl)
theorem dX8_plays_178 : decode cX8_plays 178 = .ok (.aload_n 0, 1) := dk_42 (dk_at dksX8_plays_7 14 rfl rfl)
theorem dX8_plays_179 : decode cX8_plays 179 = .ok (.getfield 29, 3) := dk_180 0 29 (dk_at dksX8_plays_7 15 rfl rfl)
theorem dX8_plays_182 : decode cX8_plays 182 = .ok (.iload 6, 2) := dk_21 6 (dk_at dksX8_plays_7 18 rfl rfl)
theorem dX8_plays_184 : decode cX8_plays 184 = .ok (.iaload, 1) := dk_46 (dk_at dksX8_plays_7 20 rfl rfl)
theorem dX8_plays_185 : decode cX8_plays 185 = .ok (.goto 4, 3) := dk_167 0 4 (dk_at dksX8_plays_7 21 rfl rfl)
theorem dX8_plays_188 : decode cX8_plays 188 = .ok (.iconst 0, 1) := dk_3 (dk_at dksX8_plays_8 0 rfl rfl)
theorem dX8_plays_189 : decode cX8_plays 189 = .ok (.iastore, 1) := dk_79 (dk_at dksX8_plays_8 1 rfl rfl)
theorem dX8_plays_190 : decode cX8_plays 190 = .ok (.iload 5, 2) := dk_21 5 (dk_at dksX8_plays_8 2 rfl rfl)
theorem dX8_plays_192 : decode cX8_plays 192 = .ok (.ireturn, 1) := dk_172 (dk_at dksX8_plays_8 4 rfl rfl)
abbrev cX8_firstHolding : ByteArray := prog_13_method_69_code
def yX8_firstHolding : MethodName := ⟨RX8, "firstHolding", "()I"⟩
def dkwX8_firstHolding_0 : List UInt8 := [3, 60, 42, 3, 27, 182, 0, 53, 154, 0, 9, 132, 1, 1, 167, 255, 244, 27, 172]
abbrev dktX8_firstHolding_0 : List UInt8 := dkwX8_firstHolding_0 ++ []
theorem dksX8_firstHolding_0 : cX8_firstHolding.data.toList.drop 0 = dktX8_firstHolding_0 := by decide +kernel
theorem dX8_firstHolding_0 : decode cX8_firstHolding 0 = .ok (.iconst 0, 1) := dk_3 (dk_at dksX8_firstHolding_0 0 rfl rfl)
theorem dX8_firstHolding_1 : decode cX8_firstHolding 1 = .ok (.istore_n 1, 1) := dk_60 (dk_at dksX8_firstHolding_0 1 rfl rfl)
theorem dX8_firstHolding_2 : decode cX8_firstHolding 2 = .ok (.aload_n 0, 1) := dk_42 (dk_at dksX8_firstHolding_0 2 rfl rfl)
theorem dX8_firstHolding_3 : decode cX8_firstHolding 3 = .ok (.iconst 0, 1) := dk_3 (dk_at dksX8_firstHolding_0 3 rfl rfl)
theorem dX8_firstHolding_4 : decode cX8_firstHolding 4 = .ok (.iload_n 1, 1) := dk_27 (dk_at dksX8_firstHolding_0 4 rfl rfl)
theorem dX8_firstHolding_5 : decode cX8_firstHolding 5 = .ok (.invokevirtual 53, 3) := dk_182 0 53 (dk_at dksX8_firstHolding_0 5 rfl rfl)
theorem dX8_firstHolding_8 : decode cX8_firstHolding 8 = .ok (.ifCond .ne 9, 3) := dk_154 0 9 (dk_at dksX8_firstHolding_0 8 rfl rfl)
theorem dX8_firstHolding_11 : decode cX8_firstHolding 11 = .ok (.iinc 1 1, 3) := dk_132 1 1 (dk_at dksX8_firstHolding_0 11 rfl rfl)
theorem dX8_firstHolding_14 : decode cX8_firstHolding 14 = .ok (.goto (-12), 3) := dk_167 255 244 (dk_at dksX8_firstHolding_0 14 rfl rfl)
theorem dX8_firstHolding_17 : decode cX8_firstHolding 17 = .ok (.iload_n 1, 1) := dk_27 (dk_at dksX8_firstHolding_0 17 rfl rfl)
theorem dX8_firstHolding_18 : decode cX8_firstHolding 18 = .ok (.ireturn, 1) := dk_172 (dk_at dksX8_firstHolding_0 18 rfl rfl)
abbrev cX8_lastHolding : ByteArray := prog_13_method_70_code
def yX8_lastHolding : MethodName := ⟨RX8, "lastHolding", "()I"⟩
def dkwX8_lastHolding_1 : List UInt8 := [27, 172]
abbrev dktX8_lastHolding_1 : List UInt8 := dkwX8_lastHolding_1 ++ []
def dkwX8_lastHolding_0 : List UInt8 := [42, 180, 0, 7, 3, 46, 4, 100, 60, 42, 3, 27, 182, 0, 53, 154, 0, 9, 132, 1, 255, 167, 255, 244]
abbrev dktX8_lastHolding_0 : List UInt8 := dkwX8_lastHolding_0 ++ dktX8_lastHolding_1
theorem dksX8_lastHolding_0 : cX8_lastHolding.data.toList.drop 0 = dktX8_lastHolding_0 := by decide +kernel
theorem dksX8_lastHolding_1 : cX8_lastHolding.data.toList.drop 24 = dktX8_lastHolding_1 := dk_seg dksX8_lastHolding_0 24 rfl rfl
theorem dX8_lastHolding_0 : decode cX8_lastHolding 0 = .ok (.aload_n 0, 1) := dk_42 (dk_at dksX8_lastHolding_0 0 rfl rfl)
theorem dX8_lastHolding_1 : decode cX8_lastHolding 1 = .ok (.getfield 7, 3) := dk_180 0 7 (dk_at dksX8_lastHolding_0 1 rfl rfl)
theorem dX8_lastHolding_4 : decode cX8_lastHolding 4 = .ok (.iconst 0, 1) := dk_3 (dk_at dksX8_lastHolding_0 4 rfl rfl)
theorem dX8_lastHolding_5 : decode cX8_lastHolding 5 = .ok (.iaload, 1) := dk_46 (dk_at dksX8_lastHolding_0 5 rfl rfl)
theorem dX8_lastHolding_6 : decode cX8_lastHolding 6 = .ok (.iconst 1, 1) := dk_4 (dk_at dksX8_lastHolding_0 6 rfl rfl)
theorem dX8_lastHolding_7 : decode cX8_lastHolding 7 = .ok (.isub, 1) := dk_100 (dk_at dksX8_lastHolding_0 7 rfl rfl)
theorem dX8_lastHolding_8 : decode cX8_lastHolding 8 = .ok (.istore_n 1, 1) := dk_60 (dk_at dksX8_lastHolding_0 8 rfl rfl)
theorem dX8_lastHolding_9 : decode cX8_lastHolding 9 = .ok (.aload_n 0, 1) := dk_42 (dk_at dksX8_lastHolding_0 9 rfl rfl)
theorem dX8_lastHolding_10 : decode cX8_lastHolding 10 = .ok (.iconst 0, 1) := dk_3 (dk_at dksX8_lastHolding_0 10 rfl rfl)
theorem dX8_lastHolding_11 : decode cX8_lastHolding 11 = .ok (.iload_n 1, 1) := dk_27 (dk_at dksX8_lastHolding_0 11 rfl rfl)
theorem dX8_lastHolding_12 : decode cX8_lastHolding 12 = .ok (.invokevirtual 53, 3) := dk_182 0 53 (dk_at dksX8_lastHolding_0 12 rfl rfl)
theorem dX8_lastHolding_15 : decode cX8_lastHolding 15 = .ok (.ifCond .ne 9, 3) := dk_154 0 9 (dk_at dksX8_lastHolding_0 15 rfl rfl)
theorem dX8_lastHolding_18 : decode cX8_lastHolding 18 = .ok (.iinc 1 (-1), 3) := dk_132 1 255 (dk_at dksX8_lastHolding_0 18 rfl rfl)
theorem dX8_lastHolding_21 : decode cX8_lastHolding 21 = .ok (.goto (-12), 3) := dk_167 255 244 (dk_at dksX8_lastHolding_0 21 rfl rfl)
theorem dX8_lastHolding_24 : decode cX8_lastHolding 24 = .ok (.iload_n 1, 1) := dk_27 (dk_at dksX8_lastHolding_1 0 rfl rfl)
theorem dX8_lastHolding_25 : decode cX8_lastHolding 25 = .ok (.ireturn, 1) := dk_172 (dk_at dksX8_lastHolding_1 1 rfl rfl)
abbrev cX8_takesBest : ByteArray := prog_13_method_71_code
def yX8_takesBest : MethodName := ⟨RX8, "takesBest", "(IZ)V"⟩
def dkwX8_takesBest_6 : List UInt8 := [46, 79, 42, 180, 0, 41, 27, 29, 156, 0, 7, 3, 167, 0, 9, 42, 180, 0, 41, 29, 46, 79, 177]
abbrev dktX8_takesBest_6 : List UInt8 := dkwX8_takesBest_6 ++ []
def dkwX8_takesBest_5 : List UInt8 := [132, 4, 1, 167, 255, 144, 42, 180, 0, 38, 27, 29, 156, 0, 7, 3, 167, 0, 9, 42, 180, 0, 38, 29]
abbrev dktX8_takesBest_5 : List UInt8 := dkwX8_takesBest_5 ++ dktX8_takesBest_6
def dkwX8_takesBest_4 : List UInt8 := [158, 0, 7, 4, 167, 0, 4, 3, 54, 6, 21, 6, 153, 0, 8, 21, 4, 167, 0, 4, 29, 62]
abbrev dktX8_takesBest_4 : List UInt8 := dkwX8_takesBest_4 ++ dktX8_takesBest_5
def dkwX8_takesBest_3 : List UInt8 := [21, 4, 46, 158, 0, 28, 29, 155, 0, 20, 28, 153, 0, 11, 21, 5, 156, 0, 15, 167, 0, 8, 21, 5]
abbrev dktX8_takesBest_3 : List UInt8 := dkwX8_takesBest_3 ++ dktX8_takesBest_4
def dkwX8_takesBest_2 : List UInt8 := [29, 46, 104, 42, 180, 0, 38, 29, 46, 42, 180, 0, 41, 21, 4, 46, 104, 100, 54, 5, 42, 180, 0, 41]
abbrev dktX8_takesBest_2 : List UInt8 := dkwX8_takesBest_2 ++ dktX8_takesBest_3
def dkwX8_takesBest_1 : List UInt8 := [180, 0, 41, 21, 4, 46, 154, 0, 7, 3, 167, 0, 32, 42, 180, 0, 38, 21, 4, 46, 42, 180, 0, 41]
abbrev dktX8_takesBest_1 : List UInt8 := dkwX8_takesBest_1 ++ dktX8_takesBest_2
def dkwX8_takesBest_0 : List UInt8 := [2, 62, 6, 27, 104, 54, 4, 21, 4, 6, 27, 104, 6, 96, 162, 0, 108, 29, 155, 0, 13, 42]
abbrev dktX8_takesBest_0 : List UInt8 := dkwX8_takesBest_0 ++ dktX8_takesBest_1
theorem dksX8_takesBest_0 : cX8_takesBest.data.toList.drop 0 = dktX8_takesBest_0 := by decide +kernel
theorem dksX8_takesBest_1 : cX8_takesBest.data.toList.drop 22 = dktX8_takesBest_1 := dk_seg dksX8_takesBest_0 22 rfl rfl
theorem dksX8_takesBest_2 : cX8_takesBest.data.toList.drop 46 = dktX8_takesBest_2 := dk_seg dksX8_takesBest_1 24 rfl rfl
theorem dksX8_takesBest_3 : cX8_takesBest.data.toList.drop 70 = dktX8_takesBest_3 := dk_seg dksX8_takesBest_2 24 rfl rfl
theorem dksX8_takesBest_4 : cX8_takesBest.data.toList.drop 94 = dktX8_takesBest_4 := dk_seg dksX8_takesBest_3 24 rfl rfl
theorem dksX8_takesBest_5 : cX8_takesBest.data.toList.drop 116 = dktX8_takesBest_5 := dk_seg dksX8_takesBest_4 22 rfl rfl
theorem dksX8_takesBest_6 : cX8_takesBest.data.toList.drop 140 = dktX8_takesBest_6 := dk_seg dksX8_takesBest_5 24 rfl rfl
theorem dX8_takesBest_0 : decode cX8_takesBest 0 = .ok (.iconst (-1), 1) := dk_2 (dk_at dksX8_takesBest_0 0 rfl rfl)
theorem dX8_takesBest_1 : decode cX8_takesBest 1 = .ok (.istore_n 3, 1) := dk_62 (dk_at dksX8_takesBest_0 1 rfl rfl)
theorem dX8_takesBest_2 : decode cX8_takesBest 2 = .ok (.iconst 3, 1) := dk_6 (dk_at dksX8_takesBest_0 2 rfl rfl)
theorem dX8_takesBest_3 : decode cX8_takesBest 3 = .ok (.iload_n 1, 1) := dk_27 (dk_at dksX8_takesBest_0 3 rfl rfl)
theorem dX8_takesBest_4 : decode cX8_takesBest 4 = .ok (.imul, 1) := dk_104 (dk_at dksX8_takesBest_0 4 rfl rfl)
theorem dX8_takesBest_5 : decode cX8_takesBest 5 = .ok (.istore 4, 2) := dk_54 4 (dk_at dksX8_takesBest_0 5 rfl rfl)
theorem dX8_takesBest_7 : decode cX8_takesBest 7 = .ok (.iload 4, 2) := dk_21 4 (dk_at dksX8_takesBest_0 7 rfl rfl)
theorem dX8_takesBest_9 : decode cX8_takesBest 9 = .ok (.iconst 3, 1) := dk_6 (dk_at dksX8_takesBest_0 9 rfl rfl)
theorem dX8_takesBest_10 : decode cX8_takesBest 10 = .ok (.iload_n 1, 1) := dk_27 (dk_at dksX8_takesBest_0 10 rfl rfl)
theorem dX8_takesBest_11 : decode cX8_takesBest 11 = .ok (.imul, 1) := dk_104 (dk_at dksX8_takesBest_0 11 rfl rfl)
theorem dX8_takesBest_12 : decode cX8_takesBest 12 = .ok (.iconst 3, 1) := dk_6 (dk_at dksX8_takesBest_0 12 rfl rfl)
theorem dX8_takesBest_13 : decode cX8_takesBest 13 = .ok (.iadd, 1) := dk_96 (dk_at dksX8_takesBest_0 13 rfl rfl)
theorem dX8_takesBest_14 : decode cX8_takesBest 14 = .ok (.if_icmp .ge 108, 3) := dk_162 0 108 (dk_at dksX8_takesBest_0 14 rfl rfl)
theorem dX8_takesBest_17 : decode cX8_takesBest 17 = .ok (.iload_n 3, 1) := dk_29 (dk_at dksX8_takesBest_0 17 rfl rfl)
theorem dX8_takesBest_18 : decode cX8_takesBest 18 = .ok (.ifCond .lt 13, 3) := dk_155 0 13 (dk_at dksX8_takesBest_0 18 rfl rfl)
theorem dX8_takesBest_21 : decode cX8_takesBest 21 = .ok (.aload_n 0, 1) := dk_42 (dk_at dksX8_takesBest_0 21 rfl rfl)
theorem dX8_takesBest_22 : decode cX8_takesBest 22 = .ok (.getfield 41, 3) := dk_180 0 41 (dk_at dksX8_takesBest_1 0 rfl rfl)
theorem dX8_takesBest_25 : decode cX8_takesBest 25 = .ok (.iload 4, 2) := dk_21 4 (dk_at dksX8_takesBest_1 3 rfl rfl)
theorem dX8_takesBest_27 : decode cX8_takesBest 27 = .ok (.iaload, 1) := dk_46 (dk_at dksX8_takesBest_1 5 rfl rfl)
theorem dX8_takesBest_28 : decode cX8_takesBest 28 = .ok (.ifCond .ne 7, 3) := dk_154 0 7 (dk_at dksX8_takesBest_1 6 rfl rfl)
theorem dX8_takesBest_31 : decode cX8_takesBest 31 = .ok (.iconst 0, 1) := dk_3 (dk_at dksX8_takesBest_1 9 rfl rfl)
theorem dX8_takesBest_32 : decode cX8_takesBest 32 = .ok (.goto 32, 3) := dk_167 0 32 (dk_at dksX8_takesBest_1 10 rfl rfl)
theorem dX8_takesBest_35 : decode cX8_takesBest 35 = .ok (.aload_n 0, 1) := dk_42 (dk_at dksX8_takesBest_1 13 rfl rfl)
theorem dX8_takesBest_36 : decode cX8_takesBest 36 = .ok (.getfield 38, 3) := dk_180 0 38 (dk_at dksX8_takesBest_1 14 rfl rfl)
theorem dX8_takesBest_39 : decode cX8_takesBest 39 = .ok (.iload 4, 2) := dk_21 4 (dk_at dksX8_takesBest_1 17 rfl rfl)
theorem dX8_takesBest_41 : decode cX8_takesBest 41 = .ok (.iaload, 1) := dk_46 (dk_at dksX8_takesBest_1 19 rfl rfl)
theorem dX8_takesBest_42 : decode cX8_takesBest 42 = .ok (.aload_n 0, 1) := dk_42 (dk_at dksX8_takesBest_1 20 rfl rfl)
theorem dX8_takesBest_43 : decode cX8_takesBest 43 = .ok (.getfield 41, 3) := dk_180 0 41 (dk_at dksX8_takesBest_1 21 rfl rfl)
theorem dX8_takesBest_46 : decode cX8_takesBest 46 = .ok (.iload_n 3, 1) := dk_29 (dk_at dksX8_takesBest_2 0 rfl rfl)
theorem dX8_takesBest_47 : decode cX8_takesBest 47 = .ok (.iaload, 1) := dk_46 (dk_at dksX8_takesBest_2 1 rfl rfl)
theorem dX8_takesBest_48 : decode cX8_takesBest 48 = .ok (.imul, 1) := dk_104 (dk_at dksX8_takesBest_2 2 rfl rfl)
theorem dX8_takesBest_49 : decode cX8_takesBest 49 = .ok (.aload_n 0, 1) := dk_42 (dk_at dksX8_takesBest_2 3 rfl rfl)
theorem dX8_takesBest_50 : decode cX8_takesBest 50 = .ok (.getfield 38, 3) := dk_180 0 38 (dk_at dksX8_takesBest_2 4 rfl rfl)
theorem dX8_takesBest_53 : decode cX8_takesBest 53 = .ok (.iload_n 3, 1) := dk_29 (dk_at dksX8_takesBest_2 7 rfl rfl)
theorem dX8_takesBest_54 : decode cX8_takesBest 54 = .ok (.iaload, 1) := dk_46 (dk_at dksX8_takesBest_2 8 rfl rfl)
theorem dX8_takesBest_55 : decode cX8_takesBest 55 = .ok (.aload_n 0, 1) := dk_42 (dk_at dksX8_takesBest_2 9 rfl rfl)
theorem dX8_takesBest_56 : decode cX8_takesBest 56 = .ok (.getfield 41, 3) := dk_180 0 41 (dk_at dksX8_takesBest_2 10 rfl rfl)
theorem dX8_takesBest_59 : decode cX8_takesBest 59 = .ok (.iload 4, 2) := dk_21 4 (dk_at dksX8_takesBest_2 13 rfl rfl)
theorem dX8_takesBest_61 : decode cX8_takesBest 61 = .ok (.iaload, 1) := dk_46 (dk_at dksX8_takesBest_2 15 rfl rfl)
theorem dX8_takesBest_62 : decode cX8_takesBest 62 = .ok (.imul, 1) := dk_104 (dk_at dksX8_takesBest_2 16 rfl rfl)
theorem dX8_takesBest_63 : decode cX8_takesBest 63 = .ok (.isub, 1) := dk_100 (dk_at dksX8_takesBest_2 17 rfl rfl)
theorem dX8_takesBest_64 : decode cX8_takesBest 64 = .ok (.istore 5, 2) := dk_54 5 (dk_at dksX8_takesBest_2 18 rfl rfl)
theorem dX8_takesBest_66 : decode cX8_takesBest 66 = .ok (.aload_n 0, 1) := dk_42 (dk_at dksX8_takesBest_2 20 rfl rfl)
theorem dX8_takesBest_67 : decode cX8_takesBest 67 = .ok (.getfield 41, 3) := dk_180 0 41 (dk_at dksX8_takesBest_2 21 rfl rfl)
theorem dX8_takesBest_70 : decode cX8_takesBest 70 = .ok (.iload 4, 2) := dk_21 4 (dk_at dksX8_takesBest_3 0 rfl rfl)
theorem dX8_takesBest_72 : decode cX8_takesBest 72 = .ok (.iaload, 1) := dk_46 (dk_at dksX8_takesBest_3 2 rfl rfl)
theorem dX8_takesBest_73 : decode cX8_takesBest 73 = .ok (.ifCond .le 28, 3) := dk_158 0 28 (dk_at dksX8_takesBest_3 3 rfl rfl)
theorem dX8_takesBest_76 : decode cX8_takesBest 76 = .ok (.iload_n 3, 1) := dk_29 (dk_at dksX8_takesBest_3 6 rfl rfl)
theorem dX8_takesBest_77 : decode cX8_takesBest 77 = .ok (.ifCond .lt 20, 3) := dk_155 0 20 (dk_at dksX8_takesBest_3 7 rfl rfl)
theorem dX8_takesBest_80 : decode cX8_takesBest 80 = .ok (.iload_n 2, 1) := dk_28 (dk_at dksX8_takesBest_3 10 rfl rfl)
theorem dX8_takesBest_81 : decode cX8_takesBest 81 = .ok (.ifCond .eq 11, 3) := dk_153 0 11 (dk_at dksX8_takesBest_3 11 rfl rfl)
theorem dX8_takesBest_84 : decode cX8_takesBest 84 = .ok (.iload 5, 2) := dk_21 5 (dk_at dksX8_takesBest_3 14 rfl rfl)
theorem dX8_takesBest_86 : decode cX8_takesBest 86 = .ok (.ifCond .ge 15, 3) := dk_156 0 15 (dk_at dksX8_takesBest_3 16 rfl rfl)
theorem dX8_takesBest_89 : decode cX8_takesBest 89 = .ok (.goto 8, 3) := dk_167 0 8 (dk_at dksX8_takesBest_3 19 rfl rfl)
theorem dX8_takesBest_92 : decode cX8_takesBest 92 = .ok (.iload 5, 2) := dk_21 5 (dk_at dksX8_takesBest_3 22 rfl rfl)
theorem dX8_takesBest_94 : decode cX8_takesBest 94 = .ok (.ifCond .le 7, 3) := dk_158 0 7 (dk_at dksX8_takesBest_4 0 rfl rfl)
theorem dX8_takesBest_97 : decode cX8_takesBest 97 = .ok (.iconst 1, 1) := dk_4 (dk_at dksX8_takesBest_4 3 rfl rfl)
theorem dX8_takesBest_98 : decode cX8_takesBest 98 = .ok (.goto 4, 3) := dk_167 0 4 (dk_at dksX8_takesBest_4 4 rfl rfl)
theorem dX8_takesBest_101 : decode cX8_takesBest 101 = .ok (.iconst 0, 1) := dk_3 (dk_at dksX8_takesBest_4 7 rfl rfl)
theorem dX8_takesBest_102 : decode cX8_takesBest 102 = .ok (.istore 6, 2) := dk_54 6 (dk_at dksX8_takesBest_4 8 rfl rfl)
theorem dX8_takesBest_104 : decode cX8_takesBest 104 = .ok (.iload 6, 2) := dk_21 6 (dk_at dksX8_takesBest_4 10 rfl rfl)
theorem dX8_takesBest_106 : decode cX8_takesBest 106 = .ok (.ifCond .eq 8, 3) := dk_153 0 8 (dk_at dksX8_takesBest_4 12 rfl rfl)
theorem dX8_takesBest_109 : decode cX8_takesBest 109 = .ok (.iload 4, 2) := dk_21 4 (dk_at dksX8_takesBest_4 15 rfl rfl)
theorem dX8_takesBest_111 : decode cX8_takesBest 111 = .ok (.goto 4, 3) := dk_167 0 4 (dk_at dksX8_takesBest_4 17 rfl rfl)
theorem dX8_takesBest_114 : decode cX8_takesBest 114 = .ok (.iload_n 3, 1) := dk_29 (dk_at dksX8_takesBest_4 20 rfl rfl)
theorem dX8_takesBest_115 : decode cX8_takesBest 115 = .ok (.istore_n 3, 1) := dk_62 (dk_at dksX8_takesBest_4 21 rfl rfl)
theorem dX8_takesBest_116 : decode cX8_takesBest 116 = .ok (.iinc 4 1, 3) := dk_132 4 1 (dk_at dksX8_takesBest_5 0 rfl rfl)
theorem dX8_takesBest_119 : decode cX8_takesBest 119 = .ok (.goto (-112), 3) := dk_167 255 144 (dk_at dksX8_takesBest_5 3 rfl rfl)
theorem dX8_takesBest_122 : decode cX8_takesBest 122 = .ok (.aload_n 0, 1) := dk_42 (dk_at dksX8_takesBest_5 6 rfl rfl)
theorem dX8_takesBest_123 : decode cX8_takesBest 123 = .ok (.getfield 38, 3) := dk_180 0 38 (dk_at dksX8_takesBest_5 7 rfl rfl)
theorem dX8_takesBest_126 : decode cX8_takesBest 126 = .ok (.iload_n 1, 1) := dk_27 (dk_at dksX8_takesBest_5 10 rfl rfl)
theorem dX8_takesBest_127 : decode cX8_takesBest 127 = .ok (.iload_n 3, 1) := dk_29 (dk_at dksX8_takesBest_5 11 rfl rfl)
theorem dX8_takesBest_128 : decode cX8_takesBest 128 = .ok (.ifCond .ge 7, 3) := dk_156 0 7 (dk_at dksX8_takesBest_5 12 rfl rfl)
theorem dX8_takesBest_131 : decode cX8_takesBest 131 = .ok (.iconst 0, 1) := dk_3 (dk_at dksX8_takesBest_5 15 rfl rfl)
theorem dX8_takesBest_132 : decode cX8_takesBest 132 = .ok (.goto 9, 3) := dk_167 0 9 (dk_at dksX8_takesBest_5 16 rfl rfl)
theorem dX8_takesBest_135 : decode cX8_takesBest 135 = .ok (.aload_n 0, 1) := dk_42 (dk_at dksX8_takesBest_5 19 rfl rfl)
theorem dX8_takesBest_136 : decode cX8_takesBest 136 = .ok (.getfield 38, 3) := dk_180 0 38 (dk_at dksX8_takesBest_5 20 rfl rfl)
theorem dX8_takesBest_139 : decode cX8_takesBest 139 = .ok (.iload_n 3, 1) := dk_29 (dk_at dksX8_takesBest_5 23 rfl rfl)
theorem dX8_takesBest_140 : decode cX8_takesBest 140 = .ok (.iaload, 1) := dk_46 (dk_at dksX8_takesBest_6 0 rfl rfl)
theorem dX8_takesBest_141 : decode cX8_takesBest 141 = .ok (.iastore, 1) := dk_79 (dk_at dksX8_takesBest_6 1 rfl rfl)
theorem dX8_takesBest_142 : decode cX8_takesBest 142 = .ok (.aload_n 0, 1) := dk_42 (dk_at dksX8_takesBest_6 2 rfl rfl)
theorem dX8_takesBest_143 : decode cX8_takesBest 143 = .ok (.getfield 41, 3) := dk_180 0 41 (dk_at dksX8_takesBest_6 3 rfl rfl)
theorem dX8_takesBest_146 : decode cX8_takesBest 146 = .ok (.iload_n 1, 1) := dk_27 (dk_at dksX8_takesBest_6 6 rfl rfl)
theorem dX8_takesBest_147 : decode cX8_takesBest 147 = .ok (.iload_n 3, 1) := dk_29 (dk_at dksX8_takesBest_6 7 rfl rfl)
theorem dX8_takesBest_148 : decode cX8_takesBest 148 = .ok (.ifCond .ge 7, 3) := dk_156 0 7 (dk_at dksX8_takesBest_6 8 rfl rfl)
theorem dX8_takesBest_151 : decode cX8_takesBest 151 = .ok (.iconst 0, 1) := dk_3 (dk_at dksX8_takesBest_6 11 rfl rfl)
theorem dX8_takesBest_152 : decode cX8_takesBest 152 = .ok (.goto 9, 3) := dk_167 0 9 (dk_at dksX8_takesBest_6 12 rfl rfl)
theorem dX8_takesBest_155 : decode cX8_takesBest 155 = .ok (.aload_n 0, 1) := dk_42 (dk_at dksX8_takesBest_6 15 rfl rfl)
theorem dX8_takesBest_156 : decode cX8_takesBest 156 = .ok (.getfield 41, 3) := dk_180 0 41 (dk_at dksX8_takesBest_6 16 rfl rfl)
theorem dX8_takesBest_159 : decode cX8_takesBest 159 = .ok (.iload_n 3, 1) := dk_29 (dk_at dksX8_takesBest_6 19 rfl rfl)
theorem dX8_takesBest_160 : decode cX8_takesBest 160 = .ok (.iaload, 1) := dk_46 (dk_at dksX8_takesBest_6 20 rfl rfl)
theorem dX8_takesBest_161 : decode cX8_takesBest 161 = .ok (.iastore, 1) := dk_79 (dk_at dksX8_takesBest_6 21 rfl rfl)
theorem dX8_takesBest_162 : decode cX8_takesBest 162 = .ok (.return_, 1) := dk_177 (dk_at dksX8_takesBest_6 22 rfl rfl)
abbrev cX8_image : ByteArray := prog_13_method_73_code
def yX8_image : MethodName := ⟨RX8, "image", "()I"⟩
def dkwX8_image_1 : List UInt8 := [79, 132, 1, 1, 167, 255, 230, 42, 4, 181, 1, 10, 4, 172]
abbrev dktX8_image_1 : List UInt8 := dkwX8_image_1 ++ []
def dkwX8_image_0 : List UInt8 := [3, 60, 27, 17, 2, 29, 162, 0, 25, 42, 180, 0, 7, 17, 2, 29, 27, 96, 42, 180, 0, 7, 27, 46]
abbrev dktX8_image_0 : List UInt8 := dkwX8_image_0 ++ dktX8_image_1
theorem dksX8_image_0 : cX8_image.data.toList.drop 0 = dktX8_image_0 := by decide +kernel
theorem dksX8_image_1 : cX8_image.data.toList.drop 24 = dktX8_image_1 := dk_seg dksX8_image_0 24 rfl rfl
theorem dX8_image_0 : decode cX8_image 0 = .ok (.iconst 0, 1) := dk_3 (dk_at dksX8_image_0 0 rfl rfl)
theorem dX8_image_1 : decode cX8_image 1 = .ok (.istore_n 1, 1) := dk_60 (dk_at dksX8_image_0 1 rfl rfl)
theorem dX8_image_2 : decode cX8_image 2 = .ok (.iload_n 1, 1) := dk_27 (dk_at dksX8_image_0 2 rfl rfl)
theorem dX8_image_3 : decode cX8_image 3 = .ok (.sipush 541, 3) := dk_17 2 29 (dk_at dksX8_image_0 3 rfl rfl)
theorem dX8_image_6 : decode cX8_image 6 = .ok (.if_icmp .ge 25, 3) := dk_162 0 25 (dk_at dksX8_image_0 6 rfl rfl)
theorem dX8_image_9 : decode cX8_image 9 = .ok (.aload_n 0, 1) := dk_42 (dk_at dksX8_image_0 9 rfl rfl)
theorem dX8_image_10 : decode cX8_image 10 = .ok (.getfield 7, 3) := dk_180 0 7 (dk_at dksX8_image_0 10 rfl rfl)
theorem dX8_image_13 : decode cX8_image 13 = .ok (.sipush 541, 3) := dk_17 2 29 (dk_at dksX8_image_0 13 rfl rfl)
theorem dX8_image_16 : decode cX8_image 16 = .ok (.iload_n 1, 1) := dk_27 (dk_at dksX8_image_0 16 rfl rfl)
theorem dX8_image_17 : decode cX8_image 17 = .ok (.iadd, 1) := dk_96 (dk_at dksX8_image_0 17 rfl rfl)
theorem dX8_image_18 : decode cX8_image 18 = .ok (.aload_n 0, 1) := dk_42 (dk_at dksX8_image_0 18 rfl rfl)
theorem dX8_image_19 : decode cX8_image 19 = .ok (.getfield 7, 3) := dk_180 0 7 (dk_at dksX8_image_0 19 rfl rfl)
theorem dX8_image_22 : decode cX8_image 22 = .ok (.iload_n 1, 1) := dk_27 (dk_at dksX8_image_0 22 rfl rfl)
theorem dX8_image_23 : decode cX8_image 23 = .ok (.iaload, 1) := dk_46 (dk_at dksX8_image_0 23 rfl rfl)
theorem dX8_image_24 : decode cX8_image 24 = .ok (.iastore, 1) := dk_79 (dk_at dksX8_image_1 0 rfl rfl)
theorem dX8_image_25 : decode cX8_image 25 = .ok (.iinc 1 1, 3) := dk_132 1 1 (dk_at dksX8_image_1 1 rfl rfl)
theorem dX8_image_28 : decode cX8_image 28 = .ok (.goto (-26), 3) := dk_167 255 230 (dk_at dksX8_image_1 4 rfl rfl)
theorem dX8_image_31 : decode cX8_image 31 = .ok (.aload_n 0, 1) := dk_42 (dk_at dksX8_image_1 7 rfl rfl)
theorem dX8_image_32 : decode cX8_image 32 = .ok (.iconst 1, 1) := dk_4 (dk_at dksX8_image_1 8 rfl rfl)
theorem dX8_image_33 : decode cX8_image 33 = .ok (.putfield 266, 3) := dk_181 1 10 (dk_at dksX8_image_1 9 rfl rfl)
theorem dX8_image_36 : decode cX8_image 36 = .ok (.iconst 1, 1) := dk_4 (dk_at dksX8_image_1 12 rfl rfl)
theorem dX8_image_37 : decode cX8_image 37 = .ok (.ireturn, 1) := dk_172 (dk_at dksX8_image_1 13 rfl rfl)
abbrev cX8_restore : ByteArray := prog_13_method_74_code
def yX8_restore : MethodName := ⟨RX8, "restore", "()I"⟩
def dkwX8_restore_1 : List UInt8 := [42, 180, 0, 7, 17, 2, 29, 27, 96, 46, 79, 132, 1, 1, 167, 255, 230, 4, 172]
abbrev dktX8_restore_1 : List UInt8 := dkwX8_restore_1 ++ []
def dkwX8_restore_0 : List UInt8 := [42, 180, 1, 10, 154, 0, 6, 16, 252, 172, 3, 60, 27, 17, 2, 29, 162, 0, 25, 42, 180, 0, 7, 27]
abbrev dktX8_restore_0 : List UInt8 := dkwX8_restore_0 ++ dktX8_restore_1
theorem dksX8_restore_0 : cX8_restore.data.toList.drop 0 = dktX8_restore_0 := by decide +kernel
theorem dksX8_restore_1 : cX8_restore.data.toList.drop 24 = dktX8_restore_1 := dk_seg dksX8_restore_0 24 rfl rfl
theorem dX8_restore_0 : decode cX8_restore 0 = .ok (.aload_n 0, 1) := dk_42 (dk_at dksX8_restore_0 0 rfl rfl)
theorem dX8_restore_1 : decode cX8_restore 1 = .ok (.getfield 266, 3) := dk_180 1 10 (dk_at dksX8_restore_0 1 rfl rfl)
theorem dX8_restore_4 : decode cX8_restore 4 = .ok (.ifCond .ne 6, 3) := dk_154 0 6 (dk_at dksX8_restore_0 4 rfl rfl)
theorem dX8_restore_7 : decode cX8_restore 7 = .ok (.bipush (-4), 2) := dk_16 252 (dk_at dksX8_restore_0 7 rfl rfl)
theorem dX8_restore_9 : decode cX8_restore 9 = .ok (.ireturn, 1) := dk_172 (dk_at dksX8_restore_0 9 rfl rfl)
theorem dX8_restore_10 : decode cX8_restore 10 = .ok (.iconst 0, 1) := dk_3 (dk_at dksX8_restore_0 10 rfl rfl)
theorem dX8_restore_11 : decode cX8_restore 11 = .ok (.istore_n 1, 1) := dk_60 (dk_at dksX8_restore_0 11 rfl rfl)
theorem dX8_restore_12 : decode cX8_restore 12 = .ok (.iload_n 1, 1) := dk_27 (dk_at dksX8_restore_0 12 rfl rfl)
theorem dX8_restore_13 : decode cX8_restore 13 = .ok (.sipush 541, 3) := dk_17 2 29 (dk_at dksX8_restore_0 13 rfl rfl)
theorem dX8_restore_16 : decode cX8_restore 16 = .ok (.if_icmp .ge 25, 3) := dk_162 0 25 (dk_at dksX8_restore_0 16 rfl rfl)
theorem dX8_restore_19 : decode cX8_restore 19 = .ok (.aload_n 0, 1) := dk_42 (dk_at dksX8_restore_0 19 rfl rfl)
theorem dX8_restore_20 : decode cX8_restore 20 = .ok (.getfield 7, 3) := dk_180 0 7 (dk_at dksX8_restore_0 20 rfl rfl)
theorem dX8_restore_23 : decode cX8_restore 23 = .ok (.iload_n 1, 1) := dk_27 (dk_at dksX8_restore_0 23 rfl rfl)
theorem dX8_restore_24 : decode cX8_restore 24 = .ok (.aload_n 0, 1) := dk_42 (dk_at dksX8_restore_1 0 rfl rfl)
theorem dX8_restore_25 : decode cX8_restore 25 = .ok (.getfield 7, 3) := dk_180 0 7 (dk_at dksX8_restore_1 1 rfl rfl)
theorem dX8_restore_28 : decode cX8_restore 28 = .ok (.sipush 541, 3) := dk_17 2 29 (dk_at dksX8_restore_1 4 rfl rfl)
theorem dX8_restore_31 : decode cX8_restore 31 = .ok (.iload_n 1, 1) := dk_27 (dk_at dksX8_restore_1 7 rfl rfl)
theorem dX8_restore_32 : decode cX8_restore 32 = .ok (.iadd, 1) := dk_96 (dk_at dksX8_restore_1 8 rfl rfl)
theorem dX8_restore_33 : decode cX8_restore 33 = .ok (.iaload, 1) := dk_46 (dk_at dksX8_restore_1 9 rfl rfl)
theorem dX8_restore_34 : decode cX8_restore 34 = .ok (.iastore, 1) := dk_79 (dk_at dksX8_restore_1 10 rfl rfl)
theorem dX8_restore_35 : decode cX8_restore 35 = .ok (.iinc 1 1, 3) := dk_132 1 1 (dk_at dksX8_restore_1 11 rfl rfl)
theorem dX8_restore_38 : decode cX8_restore 38 = .ok (.goto (-26), 3) := dk_167 255 230 (dk_at dksX8_restore_1 14 rfl rfl)
theorem dX8_restore_41 : decode cX8_restore 41 = .ok (.iconst 1, 1) := dk_4 (dk_at dksX8_restore_1 17 rfl rfl)
theorem dX8_restore_42 : decode cX8_restore 42 = .ok (.ireturn, 1) := dk_172 (dk_at dksX8_restore_1 18 rfl rfl)
abbrev cX8_moved : ByteArray := prog_13_method_80_code
def yX8_moved : MethodName := ⟨RX8, "moved", "(IIIII)I"⟩
def dkwX8_moved_8 : List UInt8 := [160, 0, 8, 21, 8, 167, 0, 5, 21, 9, 172]
abbrev dktX8_moved_8 : List UInt8 := dkwX8_moved_8 ++ []
def dkwX8_moved_7 : List UInt8 := [96, 54, 7, 132, 10, 1, 167, 255, 169, 21, 5, 154, 0, 8, 21, 7, 167, 0, 16, 21, 5, 4]
abbrev dktX8_moved_7 : List UInt8 := dkwX8_moved_7 ++ dktX8_moved_8
def dkwX8_moved_6 : List UInt8 := [153, 0, 8, 21, 10, 167, 0, 5, 21, 9, 54, 9, 21, 7, 21, 11, 153, 0, 7, 4, 167, 0, 4, 3]
abbrev dktX8_moved_6 : List UInt8 := dkwX8_moved_6 ++ dktX8_moved_7
def dkwX8_moved_5 : List UInt8 := [54, 11, 21, 11, 153, 0, 13, 21, 7, 154, 0, 8, 21, 10, 167, 0, 5, 21, 8, 54, 8, 21, 11]
abbrev dktX8_moved_5 : List UInt8 := dkwX8_moved_5 ++ dktX8_moved_6
def dkwX8_moved_4 : List UInt8 := [42, 180, 0, 7, 17, 4, 86, 27, 96, 21, 10, 79, 42, 16, 24, 28, 104, 21, 4, 96, 182, 1, 27]
abbrev dktX8_moved_4 : List UInt8 := dkwX8_moved_4 ++ dktX8_moved_5
def dkwX8_moved_3 : List UInt8 := [54, 7, 16, 252, 54, 8, 16, 252, 54, 9, 3, 54, 10, 21, 10, 16, 99, 163, 0, 86, 42, 182, 0, 243]
abbrev dktX8_moved_3 : List UInt8 := dkwX8_moved_3 ++ dktX8_moved_4
def dkwX8_moved_2 : List UInt8 := [172, 42, 28, 29, 21, 4, 42, 182, 1, 14, 182, 1, 23, 54, 6, 21, 6, 156, 0, 6, 21, 6, 172, 3]
abbrev dktX8_moved_2 : List UInt8 := dkwX8_moved_2 ++ dktX8_moved_3
def dkwX8_moved_1 : List UInt8 := [133, 9, 20, 0, 197, 184, 0, 49, 154, 0, 5, 2, 172, 42, 3, 27, 182, 0, 53, 154, 0, 6, 16, 254]
abbrev dktX8_moved_1 : List UInt8 := dkwX8_moved_1 ++ dktX8_moved_2
def dkwX8_moved_0 : List UInt8 := [42, 27, 182, 0, 176, 153, 0, 30, 28, 184, 1, 17, 153, 0, 23, 29, 184, 1, 20, 153, 0, 16, 21, 5]
abbrev dktX8_moved_0 : List UInt8 := dkwX8_moved_0 ++ dktX8_moved_1
theorem dksX8_moved_0 : cX8_moved.data.toList.drop 0 = dktX8_moved_0 := by decide +kernel
theorem dksX8_moved_1 : cX8_moved.data.toList.drop 24 = dktX8_moved_1 := dk_seg dksX8_moved_0 24 rfl rfl
theorem dksX8_moved_2 : cX8_moved.data.toList.drop 48 = dktX8_moved_2 := dk_seg dksX8_moved_1 24 rfl rfl
theorem dksX8_moved_3 : cX8_moved.data.toList.drop 72 = dktX8_moved_3 := dk_seg dksX8_moved_2 24 rfl rfl
theorem dksX8_moved_4 : cX8_moved.data.toList.drop 96 = dktX8_moved_4 := dk_seg dksX8_moved_3 24 rfl rfl
theorem dksX8_moved_5 : cX8_moved.data.toList.drop 119 = dktX8_moved_5 := dk_seg dksX8_moved_4 23 rfl rfl
theorem dksX8_moved_6 : cX8_moved.data.toList.drop 142 = dktX8_moved_6 := dk_seg dksX8_moved_5 23 rfl rfl
theorem dksX8_moved_7 : cX8_moved.data.toList.drop 166 = dktX8_moved_7 := dk_seg dksX8_moved_6 24 rfl rfl
theorem dksX8_moved_8 : cX8_moved.data.toList.drop 188 = dktX8_moved_8 := dk_seg dksX8_moved_7 22 rfl rfl
theorem dX8_moved_0 : decode cX8_moved 0 = .ok (.aload_n 0, 1) := dk_42 (dk_at dksX8_moved_0 0 rfl rfl)
theorem dX8_moved_1 : decode cX8_moved 1 = .ok (.iload_n 1, 1) := dk_27 (dk_at dksX8_moved_0 1 rfl rfl)
theorem dX8_moved_2 : decode cX8_moved 2 = .ok (.invokevirtual 176, 3) := dk_182 0 176 (dk_at dksX8_moved_0 2 rfl rfl)
theorem dX8_moved_5 : decode cX8_moved 5 = .ok (.ifCond .eq 30, 3) := dk_153 0 30 (dk_at dksX8_moved_0 5 rfl rfl)
theorem dX8_moved_8 : decode cX8_moved 8 = .ok (.iload_n 2, 1) := dk_28 (dk_at dksX8_moved_0 8 rfl rfl)
theorem dX8_moved_9 : decode cX8_moved 9 = .ok (.invokestatic 273, 3) := dk_184 1 17 (dk_at dksX8_moved_0 9 rfl rfl)
theorem dX8_moved_12 : decode cX8_moved 12 = .ok (.ifCond .eq 23, 3) := dk_153 0 23 (dk_at dksX8_moved_0 12 rfl rfl)
theorem dX8_moved_15 : decode cX8_moved 15 = .ok (.iload_n 3, 1) := dk_29 (dk_at dksX8_moved_0 15 rfl rfl)
theorem dX8_moved_16 : decode cX8_moved 16 = .ok (.invokestatic 276, 3) := dk_184 1 20 (dk_at dksX8_moved_0 16 rfl rfl)
theorem dX8_moved_19 : decode cX8_moved 19 = .ok (.ifCond .eq 16, 3) := dk_153 0 16 (dk_at dksX8_moved_0 19 rfl rfl)
theorem dX8_moved_22 : decode cX8_moved 22 = .ok (.iload 5, 2) := dk_21 5 (dk_at dksX8_moved_0 22 rfl rfl)
theorem dX8_moved_24 : decode cX8_moved 24 = .ok (.i2l, 1) := dk_133 (dk_at dksX8_moved_1 0 rfl rfl)
theorem dX8_moved_25 : decode cX8_moved 25 = .ok (.lconst 0, 1) := dk_9 (dk_at dksX8_moved_1 1 rfl rfl)
theorem dX8_moved_26 : decode cX8_moved 26 = .ok (.ldc2_w 197, 3) := dk_20 0 197 (dk_at dksX8_moved_1 2 rfl rfl)
theorem dX8_moved_29 : decode cX8_moved 29 = .ok (.invokestatic 49, 3) := dk_184 0 49 (dk_at dksX8_moved_1 5 rfl rfl)
theorem dX8_moved_32 : decode cX8_moved 32 = .ok (.ifCond .ne 5, 3) := dk_154 0 5 (dk_at dksX8_moved_1 8 rfl rfl)
theorem dX8_moved_35 : decode cX8_moved 35 = .ok (.iconst (-1), 1) := dk_2 (dk_at dksX8_moved_1 11 rfl rfl)
theorem dX8_moved_36 : decode cX8_moved 36 = .ok (.ireturn, 1) := dk_172 (dk_at dksX8_moved_1 12 rfl rfl)
theorem dX8_moved_37 : decode cX8_moved 37 = .ok (.aload_n 0, 1) := dk_42 (dk_at dksX8_moved_1 13 rfl rfl)
theorem dX8_moved_38 : decode cX8_moved 38 = .ok (.iconst 0, 1) := dk_3 (dk_at dksX8_moved_1 14 rfl rfl)
theorem dX8_moved_39 : decode cX8_moved 39 = .ok (.iload_n 1, 1) := dk_27 (dk_at dksX8_moved_1 15 rfl rfl)
theorem dX8_moved_40 : decode cX8_moved 40 = .ok (.invokevirtual 53, 3) := dk_182 0 53 (dk_at dksX8_moved_1 16 rfl rfl)
theorem dX8_moved_43 : decode cX8_moved 43 = .ok (.ifCond .ne 6, 3) := dk_154 0 6 (dk_at dksX8_moved_1 19 rfl rfl)
theorem dX8_moved_46 : decode cX8_moved 46 = .ok (.bipush (-2), 2) := dk_16 254 (dk_at dksX8_moved_1 22 rfl rfl)
theorem dX8_moved_48 : decode cX8_moved 48 = .ok (.ireturn, 1) := dk_172 (dk_at dksX8_moved_2 0 rfl rfl)
theorem dX8_moved_49 : decode cX8_moved 49 = .ok (.aload_n 0, 1) := dk_42 (dk_at dksX8_moved_2 1 rfl rfl)
theorem dX8_moved_50 : decode cX8_moved 50 = .ok (.iload_n 2, 1) := dk_28 (dk_at dksX8_moved_2 2 rfl rfl)
theorem dX8_moved_51 : decode cX8_moved 51 = .ok (.iload_n 3, 1) := dk_29 (dk_at dksX8_moved_2 3 rfl rfl)
theorem dX8_moved_52 : decode cX8_moved 52 = .ok (.iload 4, 2) := dk_21 4 (dk_at dksX8_moved_2 4 rfl rfl)
theorem dX8_moved_54 : decode cX8_moved 54 = .ok (.aload_n 0, 1) := dk_42 (dk_at dksX8_moved_2 6 rfl rfl)
theorem dX8_moved_55 : decode cX8_moved 55 = .ok (.invokevirtual 270, 3) := dk_182 1 14 (dk_at dksX8_moved_2 7 rfl rfl)
theorem dX8_moved_58 : decode cX8_moved 58 = .ok (.invokevirtual 279, 3) := dk_182 1 23 (dk_at dksX8_moved_2 10 rfl rfl)
theorem dX8_moved_61 : decode cX8_moved 61 = .ok (.istore 6, 2) := dk_54 6 (dk_at dksX8_moved_2 13 rfl rfl)
theorem dX8_moved_63 : decode cX8_moved 63 = .ok (.iload 6, 2) := dk_21 6 (dk_at dksX8_moved_2 15 rfl rfl)
theorem dX8_moved_65 : decode cX8_moved 65 = .ok (.ifCond .ge 6, 3) := dk_156 0 6 (dk_at dksX8_moved_2 17 rfl rfl)
theorem dX8_moved_68 : decode cX8_moved 68 = .ok (.iload 6, 2) := dk_21 6 (dk_at dksX8_moved_2 20 rfl rfl)
theorem dX8_moved_70 : decode cX8_moved 70 = .ok (.ireturn, 1) := dk_172 (dk_at dksX8_moved_2 22 rfl rfl)
theorem dX8_moved_71 : decode cX8_moved 71 = .ok (.iconst 0, 1) := dk_3 (dk_at dksX8_moved_2 23 rfl rfl)
theorem dX8_moved_72 : decode cX8_moved 72 = .ok (.istore 7, 2) := dk_54 7 (dk_at dksX8_moved_3 0 rfl rfl)
theorem dX8_moved_74 : decode cX8_moved 74 = .ok (.bipush (-4), 2) := dk_16 252 (dk_at dksX8_moved_3 2 rfl rfl)
theorem dX8_moved_76 : decode cX8_moved 76 = .ok (.istore 8, 2) := dk_54 8 (dk_at dksX8_moved_3 4 rfl rfl)
theorem dX8_moved_78 : decode cX8_moved 78 = .ok (.bipush (-4), 2) := dk_16 252 (dk_at dksX8_moved_3 6 rfl rfl)
theorem dX8_moved_80 : decode cX8_moved 80 = .ok (.istore 9, 2) := dk_54 9 (dk_at dksX8_moved_3 8 rfl rfl)
theorem dX8_moved_82 : decode cX8_moved 82 = .ok (.iconst 0, 1) := dk_3 (dk_at dksX8_moved_3 10 rfl rfl)
theorem dX8_moved_83 : decode cX8_moved 83 = .ok (.istore 10, 2) := dk_54 10 (dk_at dksX8_moved_3 11 rfl rfl)
theorem dX8_moved_85 : decode cX8_moved 85 = .ok (.iload 10, 2) := dk_21 10 (dk_at dksX8_moved_3 13 rfl rfl)
theorem dX8_moved_87 : decode cX8_moved 87 = .ok (.bipush 99, 2) := dk_16 99 (dk_at dksX8_moved_3 15 rfl rfl)
theorem dX8_moved_89 : decode cX8_moved 89 = .ok (.if_icmp .gt 86, 3) := dk_163 0 86 (dk_at dksX8_moved_3 17 rfl rfl)
theorem dX8_moved_92 : decode cX8_moved 92 = .ok (.aload_n 0, 1) := dk_42 (dk_at dksX8_moved_3 20 rfl rfl)
theorem dX8_moved_93 : decode cX8_moved 93 = .ok (.invokevirtual 243, 3) := dk_182 0 243 (dk_at dksX8_moved_3 21 rfl rfl)
theorem dX8_moved_96 : decode cX8_moved 96 = .ok (.aload_n 0, 1) := dk_42 (dk_at dksX8_moved_4 0 rfl rfl)
theorem dX8_moved_97 : decode cX8_moved 97 = .ok (.getfield 7, 3) := dk_180 0 7 (dk_at dksX8_moved_4 1 rfl rfl)
theorem dX8_moved_100 : decode cX8_moved 100 = .ok (.sipush 1110, 3) := dk_17 4 86 (dk_at dksX8_moved_4 4 rfl rfl)
theorem dX8_moved_103 : decode cX8_moved 103 = .ok (.iload_n 1, 1) := dk_27 (dk_at dksX8_moved_4 7 rfl rfl)
theorem dX8_moved_104 : decode cX8_moved 104 = .ok (.iadd, 1) := dk_96 (dk_at dksX8_moved_4 8 rfl rfl)
theorem dX8_moved_105 : decode cX8_moved 105 = .ok (.iload 10, 2) := dk_21 10 (dk_at dksX8_moved_4 9 rfl rfl)
theorem dX8_moved_107 : decode cX8_moved 107 = .ok (.iastore, 1) := dk_79 (dk_at dksX8_moved_4 11 rfl rfl)
theorem dX8_moved_108 : decode cX8_moved 108 = .ok (.aload_n 0, 1) := dk_42 (dk_at dksX8_moved_4 12 rfl rfl)
theorem dX8_moved_109 : decode cX8_moved 109 = .ok (.bipush 24, 2) := dk_16 24 (dk_at dksX8_moved_4 13 rfl rfl)
theorem dX8_moved_111 : decode cX8_moved 111 = .ok (.iload_n 2, 1) := dk_28 (dk_at dksX8_moved_4 15 rfl rfl)
theorem dX8_moved_112 : decode cX8_moved 112 = .ok (.imul, 1) := dk_104 (dk_at dksX8_moved_4 16 rfl rfl)
theorem dX8_moved_113 : decode cX8_moved 113 = .ok (.iload 4, 2) := dk_21 4 (dk_at dksX8_moved_4 17 rfl rfl)
theorem dX8_moved_115 : decode cX8_moved 115 = .ok (.iadd, 1) := dk_96 (dk_at dksX8_moved_4 19 rfl rfl)
theorem dX8_moved_116 : decode cX8_moved 116 = .ok (.invokevirtual 283, 3) := dk_182 1 27 (dk_at dksX8_moved_4 20 rfl rfl)
theorem dX8_moved_119 : decode cX8_moved 119 = .ok (.istore 11, 2) := dk_54 11 (dk_at dksX8_moved_5 0 rfl rfl)
theorem dX8_moved_121 : decode cX8_moved 121 = .ok (.iload 11, 2) := dk_21 11 (dk_at dksX8_moved_5 2 rfl rfl)
theorem dX8_moved_123 : decode cX8_moved 123 = .ok (.ifCond .eq 13, 3) := dk_153 0 13 (dk_at dksX8_moved_5 4 rfl rfl)
theorem dX8_moved_126 : decode cX8_moved 126 = .ok (.iload 7, 2) := dk_21 7 (dk_at dksX8_moved_5 7 rfl rfl)
theorem dX8_moved_128 : decode cX8_moved 128 = .ok (.ifCond .ne 8, 3) := dk_154 0 8 (dk_at dksX8_moved_5 9 rfl rfl)
theorem dX8_moved_131 : decode cX8_moved 131 = .ok (.iload 10, 2) := dk_21 10 (dk_at dksX8_moved_5 12 rfl rfl)
theorem dX8_moved_133 : decode cX8_moved 133 = .ok (.goto 5, 3) := dk_167 0 5 (dk_at dksX8_moved_5 14 rfl rfl)
theorem dX8_moved_136 : decode cX8_moved 136 = .ok (.iload 8, 2) := dk_21 8 (dk_at dksX8_moved_5 17 rfl rfl)
theorem dX8_moved_138 : decode cX8_moved 138 = .ok (.istore 8, 2) := dk_54 8 (dk_at dksX8_moved_5 19 rfl rfl)
theorem dX8_moved_140 : decode cX8_moved 140 = .ok (.iload 11, 2) := dk_21 11 (dk_at dksX8_moved_5 21 rfl rfl)
theorem dX8_moved_142 : decode cX8_moved 142 = .ok (.ifCond .eq 8, 3) := dk_153 0 8 (dk_at dksX8_moved_6 0 rfl rfl)
theorem dX8_moved_145 : decode cX8_moved 145 = .ok (.iload 10, 2) := dk_21 10 (dk_at dksX8_moved_6 3 rfl rfl)
theorem dX8_moved_147 : decode cX8_moved 147 = .ok (.goto 5, 3) := dk_167 0 5 (dk_at dksX8_moved_6 5 rfl rfl)
theorem dX8_moved_150 : decode cX8_moved 150 = .ok (.iload 9, 2) := dk_21 9 (dk_at dksX8_moved_6 8 rfl rfl)
theorem dX8_moved_152 : decode cX8_moved 152 = .ok (.istore 9, 2) := dk_54 9 (dk_at dksX8_moved_6 10 rfl rfl)
theorem dX8_moved_154 : decode cX8_moved 154 = .ok (.iload 7, 2) := dk_21 7 (dk_at dksX8_moved_6 12 rfl rfl)
theorem dX8_moved_156 : decode cX8_moved 156 = .ok (.iload 11, 2) := dk_21 11 (dk_at dksX8_moved_6 14 rfl rfl)
theorem dX8_moved_158 : decode cX8_moved 158 = .ok (.ifCond .eq 7, 3) := dk_153 0 7 (dk_at dksX8_moved_6 16 rfl rfl)
theorem dX8_moved_161 : decode cX8_moved 161 = .ok (.iconst 1, 1) := dk_4 (dk_at dksX8_moved_6 19 rfl rfl)
theorem dX8_moved_162 : decode cX8_moved 162 = .ok (.goto 4, 3) := dk_167 0 4 (dk_at dksX8_moved_6 20 rfl rfl)
theorem dX8_moved_165 : decode cX8_moved 165 = .ok (.iconst 0, 1) := dk_3 (dk_at dksX8_moved_6 23 rfl rfl)
theorem dX8_moved_166 : decode cX8_moved 166 = .ok (.iadd, 1) := dk_96 (dk_at dksX8_moved_7 0 rfl rfl)
theorem dX8_moved_167 : decode cX8_moved 167 = .ok (.istore 7, 2) := dk_54 7 (dk_at dksX8_moved_7 1 rfl rfl)
theorem dX8_moved_169 : decode cX8_moved 169 = .ok (.iinc 10 1, 3) := dk_132 10 1 (dk_at dksX8_moved_7 3 rfl rfl)
theorem dX8_moved_172 : decode cX8_moved 172 = .ok (.goto (-87), 3) := dk_167 255 169 (dk_at dksX8_moved_7 6 rfl rfl)
theorem dX8_moved_175 : decode cX8_moved 175 = .ok (.iload 5, 2) := dk_21 5 (dk_at dksX8_moved_7 9 rfl rfl)
theorem dX8_moved_177 : decode cX8_moved 177 = .ok (.ifCond .ne 8, 3) := dk_154 0 8 (dk_at dksX8_moved_7 11 rfl rfl)
theorem dX8_moved_180 : decode cX8_moved 180 = .ok (.iload 7, 2) := dk_21 7 (dk_at dksX8_moved_7 14 rfl rfl)
theorem dX8_moved_182 : decode cX8_moved 182 = .ok (.goto 16, 3) := dk_167 0 16 (dk_at dksX8_moved_7 16 rfl rfl)
theorem dX8_moved_185 : decode cX8_moved 185 = .ok (.iload 5, 2) := dk_21 5 (dk_at dksX8_moved_7 19 rfl rfl)
theorem dX8_moved_187 : decode cX8_moved 187 = .ok (.iconst 1, 1) := dk_4 (dk_at dksX8_moved_7 21 rfl rfl)
theorem dX8_moved_188 : decode cX8_moved 188 = .ok (.if_icmp .ne 8, 3) := dk_160 0 8 (dk_at dksX8_moved_8 0 rfl rfl)
theorem dX8_moved_191 : decode cX8_moved 191 = .ok (.iload 8, 2) := dk_21 8 (dk_at dksX8_moved_8 3 rfl rfl)
theorem dX8_moved_193 : decode cX8_moved 193 = .ok (.goto 5, 3) := dk_167 0 5 (dk_at dksX8_moved_8 5 rfl rfl)
theorem dX8_moved_196 : decode cX8_moved 196 = .ok (.iload 9, 2) := dk_21 9 (dk_at dksX8_moved_8 8 rfl rfl)
theorem dX8_moved_198 : decode cX8_moved 198 = .ok (.ireturn, 1) := dk_172 (dk_at dksX8_moved_8 10 rfl rfl)
abbrev cX8_isRegister : ByteArray := prog_13_method_5_code
def yX8_isRegister : MethodName := ⟨RX8, "isRegister", "(I)Z"⟩
def dkwX8_isRegister_0 : List UInt8 := [26, 133, 9, 20, 0, 47, 184, 0, 49, 172]
abbrev dktX8_isRegister_0 : List UInt8 := dkwX8_isRegister_0 ++ []
theorem dksX8_isRegister_0 : cX8_isRegister.data.toList.drop 0 = dktX8_isRegister_0 := by decide +kernel
theorem dX8_isRegister_0 : decode cX8_isRegister 0 = .ok (.iload_n 0, 1) := dk_26 (dk_at dksX8_isRegister_0 0 rfl rfl)
theorem dX8_isRegister_1 : decode cX8_isRegister 1 = .ok (.i2l, 1) := dk_133 (dk_at dksX8_isRegister_0 1 rfl rfl)
theorem dX8_isRegister_2 : decode cX8_isRegister 2 = .ok (.lconst 0, 1) := dk_9 (dk_at dksX8_isRegister_0 2 rfl rfl)
theorem dX8_isRegister_3 : decode cX8_isRegister 3 = .ok (.ldc2_w 47, 3) := dk_20 0 47 (dk_at dksX8_isRegister_0 3 rfl rfl)
theorem dX8_isRegister_6 : decode cX8_isRegister 6 = .ok (.invokestatic 49, 3) := dk_184 0 49 (dk_at dksX8_isRegister_0 6 rfl rfl)
theorem dX8_isRegister_9 : decode cX8_isRegister 9 = .ok (.ireturn, 1) := dk_172 (dk_at dksX8_isRegister_0 9 rfl rfl)
abbrev cX8_isLane : ByteArray := prog_13_method_75_code
def yX8_isLane : MethodName := ⟨RX8, "isLane", "(I)Z"⟩
def dkwX8_isLane_0 : List UInt8 := [26, 133, 9, 20, 0, 47, 184, 0, 49, 172]
abbrev dktX8_isLane_0 : List UInt8 := dkwX8_isLane_0 ++ []
theorem dksX8_isLane_0 : cX8_isLane.data.toList.drop 0 = dktX8_isLane_0 := by decide +kernel
theorem dX8_isLane_0 : decode cX8_isLane 0 = .ok (.iload_n 0, 1) := dk_26 (dk_at dksX8_isLane_0 0 rfl rfl)
theorem dX8_isLane_1 : decode cX8_isLane 1 = .ok (.i2l, 1) := dk_133 (dk_at dksX8_isLane_0 1 rfl rfl)
theorem dX8_isLane_2 : decode cX8_isLane 2 = .ok (.lconst 0, 1) := dk_9 (dk_at dksX8_isLane_0 2 rfl rfl)
theorem dX8_isLane_3 : decode cX8_isLane 3 = .ok (.ldc2_w 47, 3) := dk_20 0 47 (dk_at dksX8_isLane_0 3 rfl rfl)
theorem dX8_isLane_6 : decode cX8_isLane 6 = .ok (.invokestatic 49, 3) := dk_184 0 49 (dk_at dksX8_isLane_0 6 rfl rfl)
theorem dX8_isLane_9 : decode cX8_isLane 9 = .ok (.ireturn, 1) := dk_172 (dk_at dksX8_isLane_0 9 rfl rfl)
abbrev cX8_seams : ByteArray := prog_13_method_78_code
def yX8_seams : MethodName := ⟨RX8, "seams", "()I"⟩
def dkwX8_seams_0 : List UInt8 := [42, 180, 0, 7, 3, 46, 4, 164, 0, 14, 42, 180, 0, 7, 3, 46, 4, 100, 167, 0, 4, 3, 172]
abbrev dktX8_seams_0 : List UInt8 := dkwX8_seams_0 ++ []
theorem dksX8_seams_0 : cX8_seams.data.toList.drop 0 = dktX8_seams_0 := by decide +kernel
theorem dX8_seams_0 : decode cX8_seams 0 = .ok (.aload_n 0, 1) := dk_42 (dk_at dksX8_seams_0 0 rfl rfl)
theorem dX8_seams_1 : decode cX8_seams 1 = .ok (.getfield 7, 3) := dk_180 0 7 (dk_at dksX8_seams_0 1 rfl rfl)
theorem dX8_seams_4 : decode cX8_seams 4 = .ok (.iconst 0, 1) := dk_3 (dk_at dksX8_seams_0 4 rfl rfl)
theorem dX8_seams_5 : decode cX8_seams 5 = .ok (.iaload, 1) := dk_46 (dk_at dksX8_seams_0 5 rfl rfl)
theorem dX8_seams_6 : decode cX8_seams 6 = .ok (.iconst 1, 1) := dk_4 (dk_at dksX8_seams_0 6 rfl rfl)
theorem dX8_seams_7 : decode cX8_seams 7 = .ok (.if_icmp .le 14, 3) := dk_164 0 14 (dk_at dksX8_seams_0 7 rfl rfl)
theorem dX8_seams_10 : decode cX8_seams 10 = .ok (.aload_n 0, 1) := dk_42 (dk_at dksX8_seams_0 10 rfl rfl)
theorem dX8_seams_11 : decode cX8_seams 11 = .ok (.getfield 7, 3) := dk_180 0 7 (dk_at dksX8_seams_0 11 rfl rfl)
theorem dX8_seams_14 : decode cX8_seams 14 = .ok (.iconst 0, 1) := dk_3 (dk_at dksX8_seams_0 14 rfl rfl)
theorem dX8_seams_15 : decode cX8_seams 15 = .ok (.iaload, 1) := dk_46 (dk_at dksX8_seams_0 15 rfl rfl)
theorem dX8_seams_16 : decode cX8_seams 16 = .ok (.iconst 1, 1) := dk_4 (dk_at dksX8_seams_0 16 rfl rfl)
theorem dX8_seams_17 : decode cX8_seams 17 = .ok (.isub, 1) := dk_100 (dk_at dksX8_seams_0 17 rfl rfl)
theorem dX8_seams_18 : decode cX8_seams 18 = .ok (.goto 4, 3) := dk_167 0 4 (dk_at dksX8_seams_0 18 rfl rfl)
theorem dX8_seams_21 : decode cX8_seams 21 = .ok (.iconst 0, 1) := dk_3 (dk_at dksX8_seams_0 21 rfl rfl)
theorem dX8_seams_22 : decode cX8_seams 22 = .ok (.ireturn, 1) := dk_172 (dk_at dksX8_seams_0 22 rfl rfl)
abbrev cX8_against : ByteArray := prog_13_method_76_code
def yX8_against : MethodName := ⟨RX8, "against", "(IIII)I"⟩
def dkwX8_against_2 : List UInt8 := [158, 0, 8, 16, 243, 167, 0, 4, 3, 172]
abbrev dktX8_against_2 : List UInt8 := dkwX8_against_2 ++ []
def dkwX8_against_1 : List UInt8 := [172, 29, 155, 0, 25, 21, 4, 155, 0, 20, 29, 133, 21, 4, 133, 97, 42, 180, 0, 19, 27, 46, 133, 148]
abbrev dktX8_against_1 : List UInt8 := dkwX8_against_1 ++ dktX8_against_2
def dkwX8_against_0 : List UInt8 := [42, 180, 0, 16, 27, 46, 156, 0, 6, 16, 245, 172, 42, 180, 0, 16, 27, 46, 28, 159, 0, 6, 16, 244]
abbrev dktX8_against_0 : List UInt8 := dkwX8_against_0 ++ dktX8_against_1
theorem dksX8_against_0 : cX8_against.data.toList.drop 0 = dktX8_against_0 := by decide +kernel
theorem dksX8_against_1 : cX8_against.data.toList.drop 24 = dktX8_against_1 := dk_seg dksX8_against_0 24 rfl rfl
theorem dksX8_against_2 : cX8_against.data.toList.drop 48 = dktX8_against_2 := dk_seg dksX8_against_1 24 rfl rfl
theorem dX8_against_0 : decode cX8_against 0 = .ok (.aload_n 0, 1) := dk_42 (dk_at dksX8_against_0 0 rfl rfl)
theorem dX8_against_1 : decode cX8_against 1 = .ok (.getfield 16, 3) := dk_180 0 16 (dk_at dksX8_against_0 1 rfl rfl)
theorem dX8_against_4 : decode cX8_against 4 = .ok (.iload_n 1, 1) := dk_27 (dk_at dksX8_against_0 4 rfl rfl)
theorem dX8_against_5 : decode cX8_against 5 = .ok (.iaload, 1) := dk_46 (dk_at dksX8_against_0 5 rfl rfl)
theorem dX8_against_6 : decode cX8_against 6 = .ok (.ifCond .ge 6, 3) := dk_156 0 6 (dk_at dksX8_against_0 6 rfl rfl)
theorem dX8_against_9 : decode cX8_against 9 = .ok (.bipush (-11), 2) := dk_16 245 (dk_at dksX8_against_0 9 rfl rfl)
theorem dX8_against_11 : decode cX8_against 11 = .ok (.ireturn, 1) := dk_172 (dk_at dksX8_against_0 11 rfl rfl)
theorem dX8_against_12 : decode cX8_against 12 = .ok (.aload_n 0, 1) := dk_42 (dk_at dksX8_against_0 12 rfl rfl)
theorem dX8_against_13 : decode cX8_against 13 = .ok (.getfield 16, 3) := dk_180 0 16 (dk_at dksX8_against_0 13 rfl rfl)
theorem dX8_against_16 : decode cX8_against 16 = .ok (.iload_n 1, 1) := dk_27 (dk_at dksX8_against_0 16 rfl rfl)
theorem dX8_against_17 : decode cX8_against 17 = .ok (.iaload, 1) := dk_46 (dk_at dksX8_against_0 17 rfl rfl)
theorem dX8_against_18 : decode cX8_against 18 = .ok (.iload_n 2, 1) := dk_28 (dk_at dksX8_against_0 18 rfl rfl)
theorem dX8_against_19 : decode cX8_against 19 = .ok (.if_icmp .eq 6, 3) := dk_159 0 6 (dk_at dksX8_against_0 19 rfl rfl)
theorem dX8_against_22 : decode cX8_against 22 = .ok (.bipush (-12), 2) := dk_16 244 (dk_at dksX8_against_0 22 rfl rfl)
theorem dX8_against_24 : decode cX8_against 24 = .ok (.ireturn, 1) := dk_172 (dk_at dksX8_against_1 0 rfl rfl)
theorem dX8_against_25 : decode cX8_against 25 = .ok (.iload_n 3, 1) := dk_29 (dk_at dksX8_against_1 1 rfl rfl)
theorem dX8_against_26 : decode cX8_against 26 = .ok (.ifCond .lt 25, 3) := dk_155 0 25 (dk_at dksX8_against_1 2 rfl rfl)
theorem dX8_against_29 : decode cX8_against 29 = .ok (.iload 4, 2) := dk_21 4 (dk_at dksX8_against_1 5 rfl rfl)
theorem dX8_against_31 : decode cX8_against 31 = .ok (.ifCond .lt 20, 3) := dk_155 0 20 (dk_at dksX8_against_1 7 rfl rfl)
theorem dX8_against_34 : decode cX8_against 34 = .ok (.iload_n 3, 1) := dk_29 (dk_at dksX8_against_1 10 rfl rfl)
theorem dX8_against_35 : decode cX8_against 35 = .ok (.i2l, 1) := dk_133 (dk_at dksX8_against_1 11 rfl rfl)
theorem dX8_against_36 : decode cX8_against 36 = .ok (.iload 4, 2) := dk_21 4 (dk_at dksX8_against_1 12 rfl rfl)
theorem dX8_against_38 : decode cX8_against 38 = .ok (.i2l, 1) := dk_133 (dk_at dksX8_against_1 14 rfl rfl)
theorem dX8_against_39 : decode cX8_against 39 = .ok (.ladd, 1) := dk_97 (dk_at dksX8_against_1 15 rfl rfl)
theorem dX8_against_40 : decode cX8_against 40 = .ok (.aload_n 0, 1) := dk_42 (dk_at dksX8_against_1 16 rfl rfl)
theorem dX8_against_41 : decode cX8_against 41 = .ok (.getfield 19, 3) := dk_180 0 19 (dk_at dksX8_against_1 17 rfl rfl)
theorem dX8_against_44 : decode cX8_against 44 = .ok (.iload_n 1, 1) := dk_27 (dk_at dksX8_against_1 20 rfl rfl)
theorem dX8_against_45 : decode cX8_against 45 = .ok (.iaload, 1) := dk_46 (dk_at dksX8_against_1 21 rfl rfl)
theorem dX8_against_46 : decode cX8_against 46 = .ok (.i2l, 1) := dk_133 (dk_at dksX8_against_1 22 rfl rfl)
theorem dX8_against_47 : decode cX8_against 47 = .ok (.lcmp, 1) := dk_148 (dk_at dksX8_against_1 23 rfl rfl)
theorem dX8_against_48 : decode cX8_against 48 = .ok (.ifCond .le 8, 3) := dk_158 0 8 (dk_at dksX8_against_2 0 rfl rfl)
theorem dX8_against_51 : decode cX8_against 51 = .ok (.bipush (-13), 2) := dk_16 243 (dk_at dksX8_against_2 3 rfl rfl)
theorem dX8_against_53 : decode cX8_against 53 = .ok (.goto 4, 3) := dk_167 0 4 (dk_at dksX8_against_2 5 rfl rfl)
theorem dX8_against_56 : decode cX8_against 56 = .ok (.iconst 0, 1) := dk_3 (dk_at dksX8_against_2 8 rfl rfl)
theorem dX8_against_57 : decode cX8_against 57 = .ok (.ireturn, 1) := dk_172 (dk_at dksX8_against_2 9 rfl rfl)
abbrev cX8_pullsSo : ByteArray := prog_13_method_79_code
def yX8_pullsSo : MethodName := ⟨RX8, "pullsSo", "(I)Z"⟩
def dkwX8_pullsSo_2 : List UInt8 := [154, 0, 7, 4, 167, 0, 4, 3, 61, 132, 3, 1, 167, 255, 209, 28, 172]
abbrev dktX8_pullsSo_2 : List UInt8 := dkwX8_pullsSo_2 ++ []
def dkwX8_pullsSo_1 : List UInt8 := [180, 0, 22, 27, 29, 96, 47, 42, 180, 0, 26, 29, 46, 42, 180, 0, 29, 29, 46, 108, 133, 148]
abbrev dktX8_pullsSo_1 : List UInt8 := dkwX8_pullsSo_1 ++ dktX8_pullsSo_2
def dkwX8_pullsSo_0 : List UInt8 := [42, 17, 4, 58, 182, 0, 103, 4, 61, 3, 62, 29, 42, 182, 1, 14, 162, 0, 45, 28, 153, 0, 33, 42]
abbrev dktX8_pullsSo_0 : List UInt8 := dkwX8_pullsSo_0 ++ dktX8_pullsSo_1
theorem dksX8_pullsSo_0 : cX8_pullsSo.data.toList.drop 0 = dktX8_pullsSo_0 := by decide +kernel
theorem dksX8_pullsSo_1 : cX8_pullsSo.data.toList.drop 24 = dktX8_pullsSo_1 := dk_seg dksX8_pullsSo_0 24 rfl rfl
theorem dksX8_pullsSo_2 : cX8_pullsSo.data.toList.drop 46 = dktX8_pullsSo_2 := dk_seg dksX8_pullsSo_1 22 rfl rfl
theorem dX8_pullsSo_0 : decode cX8_pullsSo 0 = .ok (.aload_n 0, 1) := dk_42 (dk_at dksX8_pullsSo_0 0 rfl rfl)
theorem dX8_pullsSo_1 : decode cX8_pullsSo 1 = .ok (.sipush 1082, 3) := dk_17 4 58 (dk_at dksX8_pullsSo_0 1 rfl rfl)
theorem dX8_pullsSo_4 : decode cX8_pullsSo 4 = .ok (.invokevirtual 103, 3) := dk_182 0 103 (dk_at dksX8_pullsSo_0 4 rfl rfl)
theorem dX8_pullsSo_7 : decode cX8_pullsSo 7 = .ok (.iconst 1, 1) := dk_4 (dk_at dksX8_pullsSo_0 7 rfl rfl)
theorem dX8_pullsSo_8 : decode cX8_pullsSo 8 = .ok (.istore_n 2, 1) := dk_61 (dk_at dksX8_pullsSo_0 8 rfl rfl)
theorem dX8_pullsSo_9 : decode cX8_pullsSo 9 = .ok (.iconst 0, 1) := dk_3 (dk_at dksX8_pullsSo_0 9 rfl rfl)
theorem dX8_pullsSo_10 : decode cX8_pullsSo 10 = .ok (.istore_n 3, 1) := dk_62 (dk_at dksX8_pullsSo_0 10 rfl rfl)
theorem dX8_pullsSo_11 : decode cX8_pullsSo 11 = .ok (.iload_n 3, 1) := dk_29 (dk_at dksX8_pullsSo_0 11 rfl rfl)
theorem dX8_pullsSo_12 : decode cX8_pullsSo 12 = .ok (.aload_n 0, 1) := dk_42 (dk_at dksX8_pullsSo_0 12 rfl rfl)
theorem dX8_pullsSo_13 : decode cX8_pullsSo 13 = .ok (.invokevirtual 270, 3) := dk_182 1 14 (dk_at dksX8_pullsSo_0 13 rfl rfl)
theorem dX8_pullsSo_16 : decode cX8_pullsSo 16 = .ok (.if_icmp .ge 45, 3) := dk_162 0 45 (dk_at dksX8_pullsSo_0 16 rfl rfl)
theorem dX8_pullsSo_19 : decode cX8_pullsSo 19 = .ok (.iload_n 2, 1) := dk_28 (dk_at dksX8_pullsSo_0 19 rfl rfl)
theorem dX8_pullsSo_20 : decode cX8_pullsSo 20 = .ok (.ifCond .eq 33, 3) := dk_153 0 33 (dk_at dksX8_pullsSo_0 20 rfl rfl)
theorem dX8_pullsSo_23 : decode cX8_pullsSo 23 = .ok (.aload_n 0, 1) := dk_42 (dk_at dksX8_pullsSo_0 23 rfl rfl)
theorem dX8_pullsSo_24 : decode cX8_pullsSo 24 = .ok (.getfield 22, 3) := dk_180 0 22 (dk_at dksX8_pullsSo_1 0 rfl rfl)
theorem dX8_pullsSo_27 : decode cX8_pullsSo 27 = .ok (.iload_n 1, 1) := dk_27 (dk_at dksX8_pullsSo_1 3 rfl rfl)
theorem dX8_pullsSo_28 : decode cX8_pullsSo 28 = .ok (.iload_n 3, 1) := dk_29 (dk_at dksX8_pullsSo_1 4 rfl rfl)
theorem dX8_pullsSo_29 : decode cX8_pullsSo 29 = .ok (.iadd, 1) := dk_96 (dk_at dksX8_pullsSo_1 5 rfl rfl)
theorem dX8_pullsSo_30 : decode cX8_pullsSo 30 = .ok (.laload, 1) := dk_47 (dk_at dksX8_pullsSo_1 6 rfl rfl)
theorem dX8_pullsSo_31 : decode cX8_pullsSo 31 = .ok (.aload_n 0, 1) := dk_42 (dk_at dksX8_pullsSo_1 7 rfl rfl)
theorem dX8_pullsSo_32 : decode cX8_pullsSo 32 = .ok (.getfield 26, 3) := dk_180 0 26 (dk_at dksX8_pullsSo_1 8 rfl rfl)
theorem dX8_pullsSo_35 : decode cX8_pullsSo 35 = .ok (.iload_n 3, 1) := dk_29 (dk_at dksX8_pullsSo_1 11 rfl rfl)
theorem dX8_pullsSo_36 : decode cX8_pullsSo 36 = .ok (.iaload, 1) := dk_46 (dk_at dksX8_pullsSo_1 12 rfl rfl)
theorem dX8_pullsSo_37 : decode cX8_pullsSo 37 = .ok (.aload_n 0, 1) := dk_42 (dk_at dksX8_pullsSo_1 13 rfl rfl)
theorem dX8_pullsSo_38 : decode cX8_pullsSo 38 = .ok (.getfield 29, 3) := dk_180 0 29 (dk_at dksX8_pullsSo_1 14 rfl rfl)
theorem dX8_pullsSo_41 : decode cX8_pullsSo 41 = .ok (.iload_n 3, 1) := dk_29 (dk_at dksX8_pullsSo_1 17 rfl rfl)
theorem dX8_pullsSo_42 : decode cX8_pullsSo 42 = .ok (.iaload, 1) := dk_46 (dk_at dksX8_pullsSo_1 18 rfl rfl)
theorem dX8_pullsSo_43 : decode cX8_pullsSo 43 = .ok (.idiv, 1) := dk_108 (dk_at dksX8_pullsSo_1 19 rfl rfl)
theorem dX8_pullsSo_44 : decode cX8_pullsSo 44 = .ok (.i2l, 1) := dk_133 (dk_at dksX8_pullsSo_1 20 rfl rfl)
theorem dX8_pullsSo_45 : decode cX8_pullsSo 45 = .ok (.lcmp, 1) := dk_148 (dk_at dksX8_pullsSo_1 21 rfl rfl)
theorem dX8_pullsSo_46 : decode cX8_pullsSo 46 = .ok (.ifCond .ne 7, 3) := dk_154 0 7 (dk_at dksX8_pullsSo_2 0 rfl rfl)
theorem dX8_pullsSo_49 : decode cX8_pullsSo 49 = .ok (.iconst 1, 1) := dk_4 (dk_at dksX8_pullsSo_2 3 rfl rfl)
theorem dX8_pullsSo_50 : decode cX8_pullsSo 50 = .ok (.goto 4, 3) := dk_167 0 4 (dk_at dksX8_pullsSo_2 4 rfl rfl)
theorem dX8_pullsSo_53 : decode cX8_pullsSo 53 = .ok (.iconst 0, 1) := dk_3 (dk_at dksX8_pullsSo_2 7 rfl rfl)
theorem dX8_pullsSo_54 : decode cX8_pullsSo 54 = .ok (.istore_n 2, 1) := dk_61 (dk_at dksX8_pullsSo_2 8 rfl rfl)
theorem dX8_pullsSo_55 : decode cX8_pullsSo 55 = .ok (.iinc 3 1, 3) := dk_132 3 1 (dk_at dksX8_pullsSo_2 9 rfl rfl)
theorem dX8_pullsSo_58 : decode cX8_pullsSo 58 = .ok (.goto (-47), 3) := dk_167 255 209 (dk_at dksX8_pullsSo_2 12 rfl rfl)
theorem dX8_pullsSo_61 : decode cX8_pullsSo 61 = .ok (.iload_n 2, 1) := dk_28 (dk_at dksX8_pullsSo_2 15 rfl rfl)
theorem dX8_pullsSo_62 : decode cX8_pullsSo 62 = .ok (.ireturn, 1) := dk_172 (dk_at dksX8_pullsSo_2 16 rfl rfl)
abbrev cX8_gives : ByteArray := prog_13_method_82_code
def yX8_gives : MethodName := ⟨RX8, "gives", "(IIIII)I"⟩
def dkwX8_gives_7 : List UInt8 := [167, 0, 5, 21, 8, 172]
abbrev dktX8_gives_7 : List UInt8 := dkwX8_gives_7 ++ []
def dkwX8_gives_6 : List UInt8 := [3, 96, 54, 7, 132, 10, 1, 167, 255, 188, 132, 9, 1, 167, 255, 172, 21, 5, 154, 0, 8, 21, 7]
abbrev dktX8_gives_6 : List UInt8 := dkwX8_gives_6 ++ dktX8_gives_7
def dkwX8_gives_5 : List UInt8 := [21, 9, 104, 21, 10, 96, 167, 0, 5, 21, 8, 54, 8, 21, 7, 21, 11, 153, 0, 7, 4, 167, 0, 4]
abbrev dktX8_gives_5 : List UInt8 := dkwX8_gives_5 ++ dktX8_gives_6
def dkwX8_gives_4 : List UInt8 := [27, 104, 29, 96, 21, 4, 182, 1, 30, 54, 11, 21, 11, 153, 0, 19, 21, 7, 154, 0, 14, 16, 10]
abbrev dktX8_gives_4 : List UInt8 := dkwX8_gives_4 ++ dktX8_gives_5
def dkwX8_gives_3 : List UInt8 := [21, 9, 16, 20, 163, 0, 83, 4, 54, 10, 21, 10, 16, 9, 163, 0, 67, 42, 21, 9, 21, 10, 16, 24]
abbrev dktX8_gives_3 : List UInt8 := dkwX8_gives_3 ++ dktX8_gives_4
def dkwX8_gives_2 : List UInt8 := [182, 1, 23, 54, 6, 21, 6, 156, 0, 6, 21, 6, 172, 3, 54, 7, 16, 252, 54, 8, 4, 54, 9]
abbrev dktX8_gives_2 : List UInt8 := dkwX8_gives_2 ++ dktX8_gives_3
def dkwX8_gives_1 : List UInt8 := [153, 0, 14, 21, 5, 133, 9, 10, 184, 0, 49, 154, 0, 5, 2, 172, 42, 27, 28, 29, 5, 21, 4, 104]
abbrev dktX8_gives_1 : List UInt8 := dkwX8_gives_1 ++ dktX8_gives_2
def dkwX8_gives_0 : List UInt8 := [27, 184, 1, 17, 153, 0, 34, 28, 184, 1, 20, 153, 0, 27, 21, 4, 133, 10, 20, 0, 246, 184, 0, 49]
abbrev dktX8_gives_0 : List UInt8 := dkwX8_gives_0 ++ dktX8_gives_1
theorem dksX8_gives_0 : cX8_gives.data.toList.drop 0 = dktX8_gives_0 := by decide +kernel
theorem dksX8_gives_1 : cX8_gives.data.toList.drop 24 = dktX8_gives_1 := dk_seg dksX8_gives_0 24 rfl rfl
theorem dksX8_gives_2 : cX8_gives.data.toList.drop 48 = dktX8_gives_2 := dk_seg dksX8_gives_1 24 rfl rfl
theorem dksX8_gives_3 : cX8_gives.data.toList.drop 71 = dktX8_gives_3 := dk_seg dksX8_gives_2 23 rfl rfl
theorem dksX8_gives_4 : cX8_gives.data.toList.drop 95 = dktX8_gives_4 := dk_seg dksX8_gives_3 24 rfl rfl
theorem dksX8_gives_5 : cX8_gives.data.toList.drop 118 = dktX8_gives_5 := dk_seg dksX8_gives_4 23 rfl rfl
theorem dksX8_gives_6 : cX8_gives.data.toList.drop 142 = dktX8_gives_6 := dk_seg dksX8_gives_5 24 rfl rfl
theorem dksX8_gives_7 : cX8_gives.data.toList.drop 165 = dktX8_gives_7 := dk_seg dksX8_gives_6 23 rfl rfl
theorem dX8_gives_0 : decode cX8_gives 0 = .ok (.iload_n 1, 1) := dk_27 (dk_at dksX8_gives_0 0 rfl rfl)
theorem dX8_gives_1 : decode cX8_gives 1 = .ok (.invokestatic 273, 3) := dk_184 1 17 (dk_at dksX8_gives_0 1 rfl rfl)
theorem dX8_gives_4 : decode cX8_gives 4 = .ok (.ifCond .eq 34, 3) := dk_153 0 34 (dk_at dksX8_gives_0 4 rfl rfl)
theorem dX8_gives_7 : decode cX8_gives 7 = .ok (.iload_n 2, 1) := dk_28 (dk_at dksX8_gives_0 7 rfl rfl)
theorem dX8_gives_8 : decode cX8_gives 8 = .ok (.invokestatic 276, 3) := dk_184 1 20 (dk_at dksX8_gives_0 8 rfl rfl)
theorem dX8_gives_11 : decode cX8_gives 11 = .ok (.ifCond .eq 27, 3) := dk_153 0 27 (dk_at dksX8_gives_0 11 rfl rfl)
theorem dX8_gives_14 : decode cX8_gives 14 = .ok (.iload 4, 2) := dk_21 4 (dk_at dksX8_gives_0 14 rfl rfl)
theorem dX8_gives_16 : decode cX8_gives 16 = .ok (.i2l, 1) := dk_133 (dk_at dksX8_gives_0 16 rfl rfl)
theorem dX8_gives_17 : decode cX8_gives 17 = .ok (.lconst 1, 1) := dk_10 (dk_at dksX8_gives_0 17 rfl rfl)
theorem dX8_gives_18 : decode cX8_gives 18 = .ok (.ldc2_w 246, 3) := dk_20 0 246 (dk_at dksX8_gives_0 18 rfl rfl)
theorem dX8_gives_21 : decode cX8_gives 21 = .ok (.invokestatic 49, 3) := dk_184 0 49 (dk_at dksX8_gives_0 21 rfl rfl)
theorem dX8_gives_24 : decode cX8_gives 24 = .ok (.ifCond .eq 14, 3) := dk_153 0 14 (dk_at dksX8_gives_1 0 rfl rfl)
theorem dX8_gives_27 : decode cX8_gives 27 = .ok (.iload 5, 2) := dk_21 5 (dk_at dksX8_gives_1 3 rfl rfl)
theorem dX8_gives_29 : decode cX8_gives 29 = .ok (.i2l, 1) := dk_133 (dk_at dksX8_gives_1 5 rfl rfl)
theorem dX8_gives_30 : decode cX8_gives 30 = .ok (.lconst 0, 1) := dk_9 (dk_at dksX8_gives_1 6 rfl rfl)
theorem dX8_gives_31 : decode cX8_gives 31 = .ok (.lconst 1, 1) := dk_10 (dk_at dksX8_gives_1 7 rfl rfl)
theorem dX8_gives_32 : decode cX8_gives 32 = .ok (.invokestatic 49, 3) := dk_184 0 49 (dk_at dksX8_gives_1 8 rfl rfl)
theorem dX8_gives_35 : decode cX8_gives 35 = .ok (.ifCond .ne 5, 3) := dk_154 0 5 (dk_at dksX8_gives_1 11 rfl rfl)
theorem dX8_gives_38 : decode cX8_gives 38 = .ok (.iconst (-1), 1) := dk_2 (dk_at dksX8_gives_1 14 rfl rfl)
theorem dX8_gives_39 : decode cX8_gives 39 = .ok (.ireturn, 1) := dk_172 (dk_at dksX8_gives_1 15 rfl rfl)
theorem dX8_gives_40 : decode cX8_gives 40 = .ok (.aload_n 0, 1) := dk_42 (dk_at dksX8_gives_1 16 rfl rfl)
theorem dX8_gives_41 : decode cX8_gives 41 = .ok (.iload_n 1, 1) := dk_27 (dk_at dksX8_gives_1 17 rfl rfl)
theorem dX8_gives_42 : decode cX8_gives 42 = .ok (.iload_n 2, 1) := dk_28 (dk_at dksX8_gives_1 18 rfl rfl)
theorem dX8_gives_43 : decode cX8_gives 43 = .ok (.iload_n 3, 1) := dk_29 (dk_at dksX8_gives_1 19 rfl rfl)
theorem dX8_gives_44 : decode cX8_gives 44 = .ok (.iconst 2, 1) := dk_5 (dk_at dksX8_gives_1 20 rfl rfl)
theorem dX8_gives_45 : decode cX8_gives 45 = .ok (.iload 4, 2) := dk_21 4 (dk_at dksX8_gives_1 21 rfl rfl)
theorem dX8_gives_47 : decode cX8_gives 47 = .ok (.imul, 1) := dk_104 (dk_at dksX8_gives_1 23 rfl rfl)
theorem dX8_gives_48 : decode cX8_gives 48 = .ok (.invokevirtual 279, 3) := dk_182 1 23 (dk_at dksX8_gives_2 0 rfl rfl)
theorem dX8_gives_51 : decode cX8_gives 51 = .ok (.istore 6, 2) := dk_54 6 (dk_at dksX8_gives_2 3 rfl rfl)
theorem dX8_gives_53 : decode cX8_gives 53 = .ok (.iload 6, 2) := dk_21 6 (dk_at dksX8_gives_2 5 rfl rfl)
theorem dX8_gives_55 : decode cX8_gives 55 = .ok (.ifCond .ge 6, 3) := dk_156 0 6 (dk_at dksX8_gives_2 7 rfl rfl)
theorem dX8_gives_58 : decode cX8_gives 58 = .ok (.iload 6, 2) := dk_21 6 (dk_at dksX8_gives_2 10 rfl rfl)
theorem dX8_gives_60 : decode cX8_gives 60 = .ok (.ireturn, 1) := dk_172 (dk_at dksX8_gives_2 12 rfl rfl)
theorem dX8_gives_61 : decode cX8_gives 61 = .ok (.iconst 0, 1) := dk_3 (dk_at dksX8_gives_2 13 rfl rfl)
theorem dX8_gives_62 : decode cX8_gives 62 = .ok (.istore 7, 2) := dk_54 7 (dk_at dksX8_gives_2 14 rfl rfl)
theorem dX8_gives_64 : decode cX8_gives 64 = .ok (.bipush (-4), 2) := dk_16 252 (dk_at dksX8_gives_2 16 rfl rfl)
theorem dX8_gives_66 : decode cX8_gives 66 = .ok (.istore 8, 2) := dk_54 8 (dk_at dksX8_gives_2 18 rfl rfl)
theorem dX8_gives_68 : decode cX8_gives 68 = .ok (.iconst 1, 1) := dk_4 (dk_at dksX8_gives_2 20 rfl rfl)
theorem dX8_gives_69 : decode cX8_gives 69 = .ok (.istore 9, 2) := dk_54 9 (dk_at dksX8_gives_2 21 rfl rfl)
theorem dX8_gives_71 : decode cX8_gives 71 = .ok (.iload 9, 2) := dk_21 9 (dk_at dksX8_gives_3 0 rfl rfl)
theorem dX8_gives_73 : decode cX8_gives 73 = .ok (.bipush 20, 2) := dk_16 20 (dk_at dksX8_gives_3 2 rfl rfl)
theorem dX8_gives_75 : decode cX8_gives 75 = .ok (.if_icmp .gt 83, 3) := dk_163 0 83 (dk_at dksX8_gives_3 4 rfl rfl)
theorem dX8_gives_78 : decode cX8_gives 78 = .ok (.iconst 1, 1) := dk_4 (dk_at dksX8_gives_3 7 rfl rfl)
theorem dX8_gives_79 : decode cX8_gives 79 = .ok (.istore 10, 2) := dk_54 10 (dk_at dksX8_gives_3 8 rfl rfl)
theorem dX8_gives_81 : decode cX8_gives 81 = .ok (.iload 10, 2) := dk_21 10 (dk_at dksX8_gives_3 10 rfl rfl)
theorem dX8_gives_83 : decode cX8_gives 83 = .ok (.bipush 9, 2) := dk_16 9 (dk_at dksX8_gives_3 12 rfl rfl)
theorem dX8_gives_85 : decode cX8_gives 85 = .ok (.if_icmp .gt 67, 3) := dk_163 0 67 (dk_at dksX8_gives_3 14 rfl rfl)
theorem dX8_gives_88 : decode cX8_gives 88 = .ok (.aload_n 0, 1) := dk_42 (dk_at dksX8_gives_3 17 rfl rfl)
theorem dX8_gives_89 : decode cX8_gives 89 = .ok (.iload 9, 2) := dk_21 9 (dk_at dksX8_gives_3 18 rfl rfl)
theorem dX8_gives_91 : decode cX8_gives 91 = .ok (.iload 10, 2) := dk_21 10 (dk_at dksX8_gives_3 20 rfl rfl)
theorem dX8_gives_93 : decode cX8_gives 93 = .ok (.bipush 24, 2) := dk_16 24 (dk_at dksX8_gives_3 22 rfl rfl)
theorem dX8_gives_95 : decode cX8_gives 95 = .ok (.iload_n 1, 1) := dk_27 (dk_at dksX8_gives_4 0 rfl rfl)
theorem dX8_gives_96 : decode cX8_gives 96 = .ok (.imul, 1) := dk_104 (dk_at dksX8_gives_4 1 rfl rfl)
theorem dX8_gives_97 : decode cX8_gives 97 = .ok (.iload_n 3, 1) := dk_29 (dk_at dksX8_gives_4 2 rfl rfl)
theorem dX8_gives_98 : decode cX8_gives 98 = .ok (.iadd, 1) := dk_96 (dk_at dksX8_gives_4 3 rfl rfl)
theorem dX8_gives_99 : decode cX8_gives 99 = .ok (.iload 4, 2) := dk_21 4 (dk_at dksX8_gives_4 4 rfl rfl)
theorem dX8_gives_101 : decode cX8_gives 101 = .ok (.invokevirtual 286, 3) := dk_182 1 30 (dk_at dksX8_gives_4 6 rfl rfl)
theorem dX8_gives_104 : decode cX8_gives 104 = .ok (.istore 11, 2) := dk_54 11 (dk_at dksX8_gives_4 9 rfl rfl)
theorem dX8_gives_106 : decode cX8_gives 106 = .ok (.iload 11, 2) := dk_21 11 (dk_at dksX8_gives_4 11 rfl rfl)
theorem dX8_gives_108 : decode cX8_gives 108 = .ok (.ifCond .eq 19, 3) := dk_153 0 19 (dk_at dksX8_gives_4 13 rfl rfl)
theorem dX8_gives_111 : decode cX8_gives 111 = .ok (.iload 7, 2) := dk_21 7 (dk_at dksX8_gives_4 16 rfl rfl)
theorem dX8_gives_113 : decode cX8_gives 113 = .ok (.ifCond .ne 14, 3) := dk_154 0 14 (dk_at dksX8_gives_4 18 rfl rfl)
theorem dX8_gives_116 : decode cX8_gives 116 = .ok (.bipush 10, 2) := dk_16 10 (dk_at dksX8_gives_4 21 rfl rfl)
theorem dX8_gives_118 : decode cX8_gives 118 = .ok (.iload 9, 2) := dk_21 9 (dk_at dksX8_gives_5 0 rfl rfl)
theorem dX8_gives_120 : decode cX8_gives 120 = .ok (.imul, 1) := dk_104 (dk_at dksX8_gives_5 2 rfl rfl)
theorem dX8_gives_121 : decode cX8_gives 121 = .ok (.iload 10, 2) := dk_21 10 (dk_at dksX8_gives_5 3 rfl rfl)
theorem dX8_gives_123 : decode cX8_gives 123 = .ok (.iadd, 1) := dk_96 (dk_at dksX8_gives_5 5 rfl rfl)
theorem dX8_gives_124 : decode cX8_gives 124 = .ok (.goto 5, 3) := dk_167 0 5 (dk_at dksX8_gives_5 6 rfl rfl)
theorem dX8_gives_127 : decode cX8_gives 127 = .ok (.iload 8, 2) := dk_21 8 (dk_at dksX8_gives_5 9 rfl rfl)
theorem dX8_gives_129 : decode cX8_gives 129 = .ok (.istore 8, 2) := dk_54 8 (dk_at dksX8_gives_5 11 rfl rfl)
theorem dX8_gives_131 : decode cX8_gives 131 = .ok (.iload 7, 2) := dk_21 7 (dk_at dksX8_gives_5 13 rfl rfl)
theorem dX8_gives_133 : decode cX8_gives 133 = .ok (.iload 11, 2) := dk_21 11 (dk_at dksX8_gives_5 15 rfl rfl)
theorem dX8_gives_135 : decode cX8_gives 135 = .ok (.ifCond .eq 7, 3) := dk_153 0 7 (dk_at dksX8_gives_5 17 rfl rfl)
theorem dX8_gives_138 : decode cX8_gives 138 = .ok (.iconst 1, 1) := dk_4 (dk_at dksX8_gives_5 20 rfl rfl)
theorem dX8_gives_139 : decode cX8_gives 139 = .ok (.goto 4, 3) := dk_167 0 4 (dk_at dksX8_gives_5 21 rfl rfl)
theorem dX8_gives_142 : decode cX8_gives 142 = .ok (.iconst 0, 1) := dk_3 (dk_at dksX8_gives_6 0 rfl rfl)
theorem dX8_gives_143 : decode cX8_gives 143 = .ok (.iadd, 1) := dk_96 (dk_at dksX8_gives_6 1 rfl rfl)
theorem dX8_gives_144 : decode cX8_gives 144 = .ok (.istore 7, 2) := dk_54 7 (dk_at dksX8_gives_6 2 rfl rfl)
theorem dX8_gives_146 : decode cX8_gives 146 = .ok (.iinc 10 1, 3) := dk_132 10 1 (dk_at dksX8_gives_6 4 rfl rfl)
theorem dX8_gives_149 : decode cX8_gives 149 = .ok (.goto (-68), 3) := dk_167 255 188 (dk_at dksX8_gives_6 7 rfl rfl)
theorem dX8_gives_152 : decode cX8_gives 152 = .ok (.iinc 9 1, 3) := dk_132 9 1 (dk_at dksX8_gives_6 10 rfl rfl)
theorem dX8_gives_155 : decode cX8_gives 155 = .ok (.goto (-84), 3) := dk_167 255 172 (dk_at dksX8_gives_6 13 rfl rfl)
theorem dX8_gives_158 : decode cX8_gives 158 = .ok (.iload 5, 2) := dk_21 5 (dk_at dksX8_gives_6 16 rfl rfl)
theorem dX8_gives_160 : decode cX8_gives 160 = .ok (.ifCond .ne 8, 3) := dk_154 0 8 (dk_at dksX8_gives_6 18 rfl rfl)
theorem dX8_gives_163 : decode cX8_gives 163 = .ok (.iload 7, 2) := dk_21 7 (dk_at dksX8_gives_6 21 rfl rfl)
theorem dX8_gives_165 : decode cX8_gives 165 = .ok (.goto 5, 3) := dk_167 0 5 (dk_at dksX8_gives_7 0 rfl rfl)
theorem dX8_gives_168 : decode cX8_gives 168 = .ok (.iload 8, 2) := dk_21 8 (dk_at dksX8_gives_7 3 rfl rfl)
theorem dX8_gives_170 : decode cX8_gives 170 = .ok (.ireturn, 1) := dk_172 (dk_at dksX8_gives_7 5 rfl rfl)
abbrev cX8_givesSo : ByteArray := prog_13_method_81_code
def yX8_givesSo : MethodName := ⟨RX8, "givesSo", "(IIII)Z"⟩
def dkwX8_givesSo_3 : List UInt8 := [22, 7, 148, 154, 0, 7, 4, 167, 0, 4, 3, 54, 5, 132, 6, 1, 167, 255, 175, 21, 5, 172]
abbrev dktX8_givesSo_3 : List UInt8 := dkwX8_givesSo_3 ++ []
def dkwX8_givesSo_2 : List UInt8 := [167, 0, 4, 9, 55, 7, 21, 5, 153, 0, 26, 42, 180, 0, 22, 29, 5, 21, 6, 104, 96, 4, 96, 47]
abbrev dktX8_givesSo_2 : List UInt8 := dkwX8_givesSo_2 ++ dktX8_givesSo_3
def dkwX8_givesSo_1 : List UInt8 := [27, 133, 148, 158, 0, 23, 42, 180, 0, 22, 29, 5, 21, 6, 104, 96, 47, 27, 133, 101, 28, 133, 109]
abbrev dktX8_givesSo_1 : List UInt8 := dkwX8_givesSo_1 ++ dktX8_givesSo_2
def dkwX8_givesSo_0 : List UInt8 := [4, 54, 5, 3, 54, 6, 21, 6, 21, 4, 162, 0, 80, 42, 180, 0, 22, 29, 5, 21, 6, 104, 96, 47]
abbrev dktX8_givesSo_0 : List UInt8 := dkwX8_givesSo_0 ++ dktX8_givesSo_1
theorem dksX8_givesSo_0 : cX8_givesSo.data.toList.drop 0 = dktX8_givesSo_0 := by decide +kernel
theorem dksX8_givesSo_1 : cX8_givesSo.data.toList.drop 24 = dktX8_givesSo_1 := dk_seg dksX8_givesSo_0 24 rfl rfl
theorem dksX8_givesSo_2 : cX8_givesSo.data.toList.drop 47 = dktX8_givesSo_2 := dk_seg dksX8_givesSo_1 23 rfl rfl
theorem dksX8_givesSo_3 : cX8_givesSo.data.toList.drop 71 = dktX8_givesSo_3 := dk_seg dksX8_givesSo_2 24 rfl rfl
theorem dX8_givesSo_0 : decode cX8_givesSo 0 = .ok (.iconst 1, 1) := dk_4 (dk_at dksX8_givesSo_0 0 rfl rfl)
theorem dX8_givesSo_1 : decode cX8_givesSo 1 = .ok (.istore 5, 2) := dk_54 5 (dk_at dksX8_givesSo_0 1 rfl rfl)
theorem dX8_givesSo_3 : decode cX8_givesSo 3 = .ok (.iconst 0, 1) := dk_3 (dk_at dksX8_givesSo_0 3 rfl rfl)
theorem dX8_givesSo_4 : decode cX8_givesSo 4 = .ok (.istore 6, 2) := dk_54 6 (dk_at dksX8_givesSo_0 4 rfl rfl)
theorem dX8_givesSo_6 : decode cX8_givesSo 6 = .ok (.iload 6, 2) := dk_21 6 (dk_at dksX8_givesSo_0 6 rfl rfl)
theorem dX8_givesSo_8 : decode cX8_givesSo 8 = .ok (.iload 4, 2) := dk_21 4 (dk_at dksX8_givesSo_0 8 rfl rfl)
theorem dX8_givesSo_10 : decode cX8_givesSo 10 = .ok (.if_icmp .ge 80, 3) := dk_162 0 80 (dk_at dksX8_givesSo_0 10 rfl rfl)
theorem dX8_givesSo_13 : decode cX8_givesSo 13 = .ok (.aload_n 0, 1) := dk_42 (dk_at dksX8_givesSo_0 13 rfl rfl)
theorem dX8_givesSo_14 : decode cX8_givesSo 14 = .ok (.getfield 22, 3) := dk_180 0 22 (dk_at dksX8_givesSo_0 14 rfl rfl)
theorem dX8_givesSo_17 : decode cX8_givesSo 17 = .ok (.iload_n 3, 1) := dk_29 (dk_at dksX8_givesSo_0 17 rfl rfl)
theorem dX8_givesSo_18 : decode cX8_givesSo 18 = .ok (.iconst 2, 1) := dk_5 (dk_at dksX8_givesSo_0 18 rfl rfl)
theorem dX8_givesSo_19 : decode cX8_givesSo 19 = .ok (.iload 6, 2) := dk_21 6 (dk_at dksX8_givesSo_0 19 rfl rfl)
theorem dX8_givesSo_21 : decode cX8_givesSo 21 = .ok (.imul, 1) := dk_104 (dk_at dksX8_givesSo_0 21 rfl rfl)
theorem dX8_givesSo_22 : decode cX8_givesSo 22 = .ok (.iadd, 1) := dk_96 (dk_at dksX8_givesSo_0 22 rfl rfl)
theorem dX8_givesSo_23 : decode cX8_givesSo 23 = .ok (.laload, 1) := dk_47 (dk_at dksX8_givesSo_0 23 rfl rfl)
theorem dX8_givesSo_24 : decode cX8_givesSo 24 = .ok (.iload_n 1, 1) := dk_27 (dk_at dksX8_givesSo_1 0 rfl rfl)
theorem dX8_givesSo_25 : decode cX8_givesSo 25 = .ok (.i2l, 1) := dk_133 (dk_at dksX8_givesSo_1 1 rfl rfl)
theorem dX8_givesSo_26 : decode cX8_givesSo 26 = .ok (.lcmp, 1) := dk_148 (dk_at dksX8_givesSo_1 2 rfl rfl)
theorem dX8_givesSo_27 : decode cX8_givesSo 27 = .ok (.ifCond .le 23, 3) := dk_158 0 23 (dk_at dksX8_givesSo_1 3 rfl rfl)
theorem dX8_givesSo_30 : decode cX8_givesSo 30 = .ok (.aload_n 0, 1) := dk_42 (dk_at dksX8_givesSo_1 6 rfl rfl)
theorem dX8_givesSo_31 : decode cX8_givesSo 31 = .ok (.getfield 22, 3) := dk_180 0 22 (dk_at dksX8_givesSo_1 7 rfl rfl)
theorem dX8_givesSo_34 : decode cX8_givesSo 34 = .ok (.iload_n 3, 1) := dk_29 (dk_at dksX8_givesSo_1 10 rfl rfl)
theorem dX8_givesSo_35 : decode cX8_givesSo 35 = .ok (.iconst 2, 1) := dk_5 (dk_at dksX8_givesSo_1 11 rfl rfl)
theorem dX8_givesSo_36 : decode cX8_givesSo 36 = .ok (.iload 6, 2) := dk_21 6 (dk_at dksX8_givesSo_1 12 rfl rfl)
theorem dX8_givesSo_38 : decode cX8_givesSo 38 = .ok (.imul, 1) := dk_104 (dk_at dksX8_givesSo_1 14 rfl rfl)
theorem dX8_givesSo_39 : decode cX8_givesSo 39 = .ok (.iadd, 1) := dk_96 (dk_at dksX8_givesSo_1 15 rfl rfl)
theorem dX8_givesSo_40 : decode cX8_givesSo 40 = .ok (.laload, 1) := dk_47 (dk_at dksX8_givesSo_1 16 rfl rfl)
theorem dX8_givesSo_41 : decode cX8_givesSo 41 = .ok (.iload_n 1, 1) := dk_27 (dk_at dksX8_givesSo_1 17 rfl rfl)
theorem dX8_givesSo_42 : decode cX8_givesSo 42 = .ok (.i2l, 1) := dk_133 (dk_at dksX8_givesSo_1 18 rfl rfl)
theorem dX8_givesSo_43 : decode cX8_givesSo 43 = .ok (.lsub, 1) := dk_101 (dk_at dksX8_givesSo_1 19 rfl rfl)
theorem dX8_givesSo_44 : decode cX8_givesSo 44 = .ok (.iload_n 2, 1) := dk_28 (dk_at dksX8_givesSo_1 20 rfl rfl)
theorem dX8_givesSo_45 : decode cX8_givesSo 45 = .ok (.i2l, 1) := dk_133 (dk_at dksX8_givesSo_1 21 rfl rfl)
theorem dX8_givesSo_46 : decode cX8_givesSo 46 = .ok (.ldiv, 1) := dk_109 (dk_at dksX8_givesSo_1 22 rfl rfl)
theorem dX8_givesSo_47 : decode cX8_givesSo 47 = .ok (.goto 4, 3) := dk_167 0 4 (dk_at dksX8_givesSo_2 0 rfl rfl)
theorem dX8_givesSo_50 : decode cX8_givesSo 50 = .ok (.lconst 0, 1) := dk_9 (dk_at dksX8_givesSo_2 3 rfl rfl)
theorem dX8_givesSo_51 : decode cX8_givesSo 51 = .ok (.lstore 7, 2) := dk_55 7 (dk_at dksX8_givesSo_2 4 rfl rfl)
theorem dX8_givesSo_53 : decode cX8_givesSo 53 = .ok (.iload 5, 2) := dk_21 5 (dk_at dksX8_givesSo_2 6 rfl rfl)
theorem dX8_givesSo_55 : decode cX8_givesSo 55 = .ok (.ifCond .eq 26, 3) := dk_153 0 26 (dk_at dksX8_givesSo_2 8 rfl rfl)
theorem dX8_givesSo_58 : decode cX8_givesSo 58 = .ok (.aload_n 0, 1) := dk_42 (dk_at dksX8_givesSo_2 11 rfl rfl)
theorem dX8_givesSo_59 : decode cX8_givesSo 59 = .ok (.getfield 22, 3) := dk_180 0 22 (dk_at dksX8_givesSo_2 12 rfl rfl)
theorem dX8_givesSo_62 : decode cX8_givesSo 62 = .ok (.iload_n 3, 1) := dk_29 (dk_at dksX8_givesSo_2 15 rfl rfl)
theorem dX8_givesSo_63 : decode cX8_givesSo 63 = .ok (.iconst 2, 1) := dk_5 (dk_at dksX8_givesSo_2 16 rfl rfl)
theorem dX8_givesSo_64 : decode cX8_givesSo 64 = .ok (.iload 6, 2) := dk_21 6 (dk_at dksX8_givesSo_2 17 rfl rfl)
theorem dX8_givesSo_66 : decode cX8_givesSo 66 = .ok (.imul, 1) := dk_104 (dk_at dksX8_givesSo_2 19 rfl rfl)
theorem dX8_givesSo_67 : decode cX8_givesSo 67 = .ok (.iadd, 1) := dk_96 (dk_at dksX8_givesSo_2 20 rfl rfl)
theorem dX8_givesSo_68 : decode cX8_givesSo 68 = .ok (.iconst 1, 1) := dk_4 (dk_at dksX8_givesSo_2 21 rfl rfl)
theorem dX8_givesSo_69 : decode cX8_givesSo 69 = .ok (.iadd, 1) := dk_96 (dk_at dksX8_givesSo_2 22 rfl rfl)
theorem dX8_givesSo_70 : decode cX8_givesSo 70 = .ok (.laload, 1) := dk_47 (dk_at dksX8_givesSo_2 23 rfl rfl)
theorem dX8_givesSo_71 : decode cX8_givesSo 71 = .ok (.lload 7, 2) := dk_22 7 (dk_at dksX8_givesSo_3 0 rfl rfl)
theorem dX8_givesSo_73 : decode cX8_givesSo 73 = .ok (.lcmp, 1) := dk_148 (dk_at dksX8_givesSo_3 2 rfl rfl)
theorem dX8_givesSo_74 : decode cX8_givesSo 74 = .ok (.ifCond .ne 7, 3) := dk_154 0 7 (dk_at dksX8_givesSo_3 3 rfl rfl)
theorem dX8_givesSo_77 : decode cX8_givesSo 77 = .ok (.iconst 1, 1) := dk_4 (dk_at dksX8_givesSo_3 6 rfl rfl)
theorem dX8_givesSo_78 : decode cX8_givesSo 78 = .ok (.goto 4, 3) := dk_167 0 4 (dk_at dksX8_givesSo_3 7 rfl rfl)
theorem dX8_givesSo_81 : decode cX8_givesSo 81 = .ok (.iconst 0, 1) := dk_3 (dk_at dksX8_givesSo_3 10 rfl rfl)
theorem dX8_givesSo_82 : decode cX8_givesSo 82 = .ok (.istore 5, 2) := dk_54 5 (dk_at dksX8_givesSo_3 11 rfl rfl)
theorem dX8_givesSo_84 : decode cX8_givesSo 84 = .ok (.iinc 6 1, 3) := dk_132 6 1 (dk_at dksX8_givesSo_3 13 rfl rfl)
theorem dX8_givesSo_87 : decode cX8_givesSo 87 = .ok (.goto (-81), 3) := dk_167 255 175 (dk_at dksX8_givesSo_3 16 rfl rfl)
theorem dX8_givesSo_90 : decode cX8_givesSo 90 = .ok (.iload 5, 2) := dk_21 5 (dk_at dksX8_givesSo_3 19 rfl rfl)
theorem dX8_givesSo_92 : decode cX8_givesSo 92 = .ok (.ireturn, 1) := dk_172 (dk_at dksX8_givesSo_3 21 rfl rfl)
abbrev cX8_log : ByteArray := prog_13_method_83_code
def yX8_log : MethodName := ⟨RX8, "log", "(IIII)I"⟩
def dkwX8_log_4 : List UInt8 := [167, 255, 217, 27, 172]
abbrev dktX8_log_4 : List UInt8 := dkwX8_log_4 ++ []
def dkwX8_log_3 : List UInt8 := [16, 24, 28, 104, 21, 4, 96, 21, 6, 96, 42, 17, 4, 58, 182, 0, 211, 133, 80, 132, 6, 1]
abbrev dktX8_log_3 : List UInt8 := dkwX8_log_3 ++ dktX8_log_4
def dkwX8_log_2 : List UInt8 := [42, 182, 0, 243, 3, 54, 6, 21, 6, 27, 162, 0, 39, 42, 17, 4, 58, 182, 0, 229, 42, 180, 0, 22]
abbrev dktX8_log_2 : List UInt8 := dkwX8_log_2 ++ dktX8_log_3
def dkwX8_log_1 : List UInt8 := [154, 0, 5, 2, 172, 42, 28, 29, 21, 4, 27, 182, 1, 23, 54, 5, 21, 5, 156, 0, 6, 21, 5, 172]
abbrev dktX8_log_1 : List UInt8 := dkwX8_log_1 ++ dktX8_log_2
def dkwX8_log_0 : List UInt8 := [27, 133, 10, 20, 0, 227, 184, 0, 49, 153, 0, 17, 28, 184, 1, 17, 153, 0, 10, 29, 184, 1, 20]
abbrev dktX8_log_0 : List UInt8 := dkwX8_log_0 ++ dktX8_log_1
theorem dksX8_log_0 : cX8_log.data.toList.drop 0 = dktX8_log_0 := by decide +kernel
theorem dksX8_log_1 : cX8_log.data.toList.drop 23 = dktX8_log_1 := dk_seg dksX8_log_0 23 rfl rfl
theorem dksX8_log_2 : cX8_log.data.toList.drop 47 = dktX8_log_2 := dk_seg dksX8_log_1 24 rfl rfl
theorem dksX8_log_3 : cX8_log.data.toList.drop 71 = dktX8_log_3 := dk_seg dksX8_log_2 24 rfl rfl
theorem dksX8_log_4 : cX8_log.data.toList.drop 93 = dktX8_log_4 := dk_seg dksX8_log_3 22 rfl rfl
theorem dX8_log_0 : decode cX8_log 0 = .ok (.iload_n 1, 1) := dk_27 (dk_at dksX8_log_0 0 rfl rfl)
theorem dX8_log_1 : decode cX8_log 1 = .ok (.i2l, 1) := dk_133 (dk_at dksX8_log_0 1 rfl rfl)
theorem dX8_log_2 : decode cX8_log 2 = .ok (.lconst 1, 1) := dk_10 (dk_at dksX8_log_0 2 rfl rfl)
theorem dX8_log_3 : decode cX8_log 3 = .ok (.ldc2_w 227, 3) := dk_20 0 227 (dk_at dksX8_log_0 3 rfl rfl)
theorem dX8_log_6 : decode cX8_log 6 = .ok (.invokestatic 49, 3) := dk_184 0 49 (dk_at dksX8_log_0 6 rfl rfl)
theorem dX8_log_9 : decode cX8_log 9 = .ok (.ifCond .eq 17, 3) := dk_153 0 17 (dk_at dksX8_log_0 9 rfl rfl)
theorem dX8_log_12 : decode cX8_log 12 = .ok (.iload_n 2, 1) := dk_28 (dk_at dksX8_log_0 12 rfl rfl)
theorem dX8_log_13 : decode cX8_log 13 = .ok (.invokestatic 273, 3) := dk_184 1 17 (dk_at dksX8_log_0 13 rfl rfl)
theorem dX8_log_16 : decode cX8_log 16 = .ok (.ifCond .eq 10, 3) := dk_153 0 10 (dk_at dksX8_log_0 16 rfl rfl)
theorem dX8_log_19 : decode cX8_log 19 = .ok (.iload_n 3, 1) := dk_29 (dk_at dksX8_log_0 19 rfl rfl)
theorem dX8_log_20 : decode cX8_log 20 = .ok (.invokestatic 276, 3) := dk_184 1 20 (dk_at dksX8_log_0 20 rfl rfl)
theorem dX8_log_23 : decode cX8_log 23 = .ok (.ifCond .ne 5, 3) := dk_154 0 5 (dk_at dksX8_log_1 0 rfl rfl)
theorem dX8_log_26 : decode cX8_log 26 = .ok (.iconst (-1), 1) := dk_2 (dk_at dksX8_log_1 3 rfl rfl)
theorem dX8_log_27 : decode cX8_log 27 = .ok (.ireturn, 1) := dk_172 (dk_at dksX8_log_1 4 rfl rfl)
theorem dX8_log_28 : decode cX8_log 28 = .ok (.aload_n 0, 1) := dk_42 (dk_at dksX8_log_1 5 rfl rfl)
theorem dX8_log_29 : decode cX8_log 29 = .ok (.iload_n 2, 1) := dk_28 (dk_at dksX8_log_1 6 rfl rfl)
theorem dX8_log_30 : decode cX8_log 30 = .ok (.iload_n 3, 1) := dk_29 (dk_at dksX8_log_1 7 rfl rfl)
theorem dX8_log_31 : decode cX8_log 31 = .ok (.iload 4, 2) := dk_21 4 (dk_at dksX8_log_1 8 rfl rfl)
theorem dX8_log_33 : decode cX8_log 33 = .ok (.iload_n 1, 1) := dk_27 (dk_at dksX8_log_1 10 rfl rfl)
theorem dX8_log_34 : decode cX8_log 34 = .ok (.invokevirtual 279, 3) := dk_182 1 23 (dk_at dksX8_log_1 11 rfl rfl)
theorem dX8_log_37 : decode cX8_log 37 = .ok (.istore 5, 2) := dk_54 5 (dk_at dksX8_log_1 14 rfl rfl)
theorem dX8_log_39 : decode cX8_log 39 = .ok (.iload 5, 2) := dk_21 5 (dk_at dksX8_log_1 16 rfl rfl)
theorem dX8_log_41 : decode cX8_log 41 = .ok (.ifCond .ge 6, 3) := dk_156 0 6 (dk_at dksX8_log_1 18 rfl rfl)
theorem dX8_log_44 : decode cX8_log 44 = .ok (.iload 5, 2) := dk_21 5 (dk_at dksX8_log_1 21 rfl rfl)
theorem dX8_log_46 : decode cX8_log 46 = .ok (.ireturn, 1) := dk_172 (dk_at dksX8_log_1 23 rfl rfl)
theorem dX8_log_47 : decode cX8_log 47 = .ok (.aload_n 0, 1) := dk_42 (dk_at dksX8_log_2 0 rfl rfl)
theorem dX8_log_48 : decode cX8_log 48 = .ok (.invokevirtual 243, 3) := dk_182 0 243 (dk_at dksX8_log_2 1 rfl rfl)
theorem dX8_log_51 : decode cX8_log 51 = .ok (.iconst 0, 1) := dk_3 (dk_at dksX8_log_2 4 rfl rfl)
theorem dX8_log_52 : decode cX8_log 52 = .ok (.istore 6, 2) := dk_54 6 (dk_at dksX8_log_2 5 rfl rfl)
theorem dX8_log_54 : decode cX8_log 54 = .ok (.iload 6, 2) := dk_21 6 (dk_at dksX8_log_2 7 rfl rfl)
theorem dX8_log_56 : decode cX8_log 56 = .ok (.iload_n 1, 1) := dk_27 (dk_at dksX8_log_2 9 rfl rfl)
theorem dX8_log_57 : decode cX8_log 57 = .ok (.if_icmp .ge 39, 3) := dk_162 0 39 (dk_at dksX8_log_2 10 rfl rfl)
theorem dX8_log_60 : decode cX8_log 60 = .ok (.aload_n 0, 1) := dk_42 (dk_at dksX8_log_2 13 rfl rfl)
theorem dX8_log_61 : decode cX8_log 61 = .ok (.sipush 1082, 3) := dk_17 4 58 (dk_at dksX8_log_2 14 rfl rfl)
theorem dX8_log_64 : decode cX8_log 64 = .ok (.invokevirtual 229, 3) := dk_182 0 229 (dk_at dksX8_log_2 17 rfl rfl)
theorem dX8_log_67 : decode cX8_log 67 = .ok (.aload_n 0, 1) := dk_42 (dk_at dksX8_log_2 20 rfl rfl)
theorem dX8_log_68 : decode cX8_log 68 = .ok (.getfield 22, 3) := dk_180 0 22 (dk_at dksX8_log_2 21 rfl rfl)
theorem dX8_log_71 : decode cX8_log 71 = .ok (.bipush 24, 2) := dk_16 24 (dk_at dksX8_log_3 0 rfl rfl)
theorem dX8_log_73 : decode cX8_log 73 = .ok (.iload_n 2, 1) := dk_28 (dk_at dksX8_log_3 2 rfl rfl)
theorem dX8_log_74 : decode cX8_log 74 = .ok (.imul, 1) := dk_104 (dk_at dksX8_log_3 3 rfl rfl)
theorem dX8_log_75 : decode cX8_log 75 = .ok (.iload 4, 2) := dk_21 4 (dk_at dksX8_log_3 4 rfl rfl)
theorem dX8_log_77 : decode cX8_log 77 = .ok (.iadd, 1) := dk_96 (dk_at dksX8_log_3 6 rfl rfl)
theorem dX8_log_78 : decode cX8_log 78 = .ok (.iload 6, 2) := dk_21 6 (dk_at dksX8_log_3 7 rfl rfl)
theorem dX8_log_80 : decode cX8_log 80 = .ok (.iadd, 1) := dk_96 (dk_at dksX8_log_3 9 rfl rfl)
theorem dX8_log_81 : decode cX8_log 81 = .ok (.aload_n 0, 1) := dk_42 (dk_at dksX8_log_3 10 rfl rfl)
theorem dX8_log_82 : decode cX8_log 82 = .ok (.sipush 1082, 3) := dk_17 4 58 (dk_at dksX8_log_3 11 rfl rfl)
theorem dX8_log_85 : decode cX8_log 85 = .ok (.invokevirtual 211, 3) := dk_182 0 211 (dk_at dksX8_log_3 14 rfl rfl)
theorem dX8_log_88 : decode cX8_log 88 = .ok (.i2l, 1) := dk_133 (dk_at dksX8_log_3 17 rfl rfl)
theorem dX8_log_89 : decode cX8_log 89 = .ok (.lastore, 1) := dk_80 (dk_at dksX8_log_3 18 rfl rfl)
theorem dX8_log_90 : decode cX8_log 90 = .ok (.iinc 6 1, 3) := dk_132 6 1 (dk_at dksX8_log_3 19 rfl rfl)
theorem dX8_log_93 : decode cX8_log 93 = .ok (.goto (-39), 3) := dk_167 255 217 (dk_at dksX8_log_4 0 rfl rfl)
theorem dX8_log_96 : decode cX8_log 96 = .ok (.iload_n 1, 1) := dk_27 (dk_at dksX8_log_4 3 rfl rfl)
theorem dX8_log_97 : decode cX8_log 97 = .ok (.ireturn, 1) := dk_172 (dk_at dksX8_log_4 4 rfl rfl)
abbrev cX8_sheet : ByteArray := prog_13_method_84_code
def yX8_sheet : MethodName := ⟨RX8, "sheet", "(III)I"⟩
def dkwX8_sheet_3 : List UInt8 := [167, 255, 233, 29, 172]
abbrev dktX8_sheet_3 : List UInt8 := dkwX8_sheet_3 ++ []
def dkwX8_sheet_2 : List UInt8 := [21, 4, 16, 24, 162, 0, 22, 42, 180, 0, 22, 16, 24, 27, 104, 21, 4, 96, 9, 80, 132, 4, 1]
abbrev dktX8_sheet_2 : List UInt8 := dkwX8_sheet_2 ++ dktX8_sheet_3
def dkwX8_sheet_1 : List UInt8 := [156, 0, 6, 16, 242, 172, 42, 180, 0, 16, 27, 28, 79, 42, 180, 0, 19, 27, 29, 79, 3, 54, 4]
abbrev dktX8_sheet_1 : List UInt8 := dkwX8_sheet_1 ++ dktX8_sheet_2
def dkwX8_sheet_0 : List UInt8 := [27, 184, 1, 17, 153, 0, 16, 28, 184, 1, 20, 153, 0, 9, 29, 16, 24, 164, 0, 5, 2, 172, 29]
abbrev dktX8_sheet_0 : List UInt8 := dkwX8_sheet_0 ++ dktX8_sheet_1
theorem dksX8_sheet_0 : cX8_sheet.data.toList.drop 0 = dktX8_sheet_0 := by decide +kernel
theorem dksX8_sheet_1 : cX8_sheet.data.toList.drop 23 = dktX8_sheet_1 := dk_seg dksX8_sheet_0 23 rfl rfl
theorem dksX8_sheet_2 : cX8_sheet.data.toList.drop 46 = dktX8_sheet_2 := dk_seg dksX8_sheet_1 23 rfl rfl
theorem dksX8_sheet_3 : cX8_sheet.data.toList.drop 69 = dktX8_sheet_3 := dk_seg dksX8_sheet_2 23 rfl rfl
theorem dX8_sheet_0 : decode cX8_sheet 0 = .ok (.iload_n 1, 1) := dk_27 (dk_at dksX8_sheet_0 0 rfl rfl)
theorem dX8_sheet_1 : decode cX8_sheet 1 = .ok (.invokestatic 273, 3) := dk_184 1 17 (dk_at dksX8_sheet_0 1 rfl rfl)
theorem dX8_sheet_4 : decode cX8_sheet 4 = .ok (.ifCond .eq 16, 3) := dk_153 0 16 (dk_at dksX8_sheet_0 4 rfl rfl)
theorem dX8_sheet_7 : decode cX8_sheet 7 = .ok (.iload_n 2, 1) := dk_28 (dk_at dksX8_sheet_0 7 rfl rfl)
theorem dX8_sheet_8 : decode cX8_sheet 8 = .ok (.invokestatic 276, 3) := dk_184 1 20 (dk_at dksX8_sheet_0 8 rfl rfl)
theorem dX8_sheet_11 : decode cX8_sheet 11 = .ok (.ifCond .eq 9, 3) := dk_153 0 9 (dk_at dksX8_sheet_0 11 rfl rfl)
theorem dX8_sheet_14 : decode cX8_sheet 14 = .ok (.iload_n 3, 1) := dk_29 (dk_at dksX8_sheet_0 14 rfl rfl)
theorem dX8_sheet_15 : decode cX8_sheet 15 = .ok (.bipush 24, 2) := dk_16 24 (dk_at dksX8_sheet_0 15 rfl rfl)
theorem dX8_sheet_17 : decode cX8_sheet 17 = .ok (.if_icmp .le 5, 3) := dk_164 0 5 (dk_at dksX8_sheet_0 17 rfl rfl)
theorem dX8_sheet_20 : decode cX8_sheet 20 = .ok (.iconst (-1), 1) := dk_2 (dk_at dksX8_sheet_0 20 rfl rfl)
theorem dX8_sheet_21 : decode cX8_sheet 21 = .ok (.ireturn, 1) := dk_172 (dk_at dksX8_sheet_0 21 rfl rfl)
theorem dX8_sheet_22 : decode cX8_sheet 22 = .ok (.iload_n 3, 1) := dk_29 (dk_at dksX8_sheet_0 22 rfl rfl)
theorem dX8_sheet_23 : decode cX8_sheet 23 = .ok (.ifCond .ge 6, 3) := dk_156 0 6 (dk_at dksX8_sheet_1 0 rfl rfl)
theorem dX8_sheet_26 : decode cX8_sheet 26 = .ok (.bipush (-14), 2) := dk_16 242 (dk_at dksX8_sheet_1 3 rfl rfl)
theorem dX8_sheet_28 : decode cX8_sheet 28 = .ok (.ireturn, 1) := dk_172 (dk_at dksX8_sheet_1 5 rfl rfl)
theorem dX8_sheet_29 : decode cX8_sheet 29 = .ok (.aload_n 0, 1) := dk_42 (dk_at dksX8_sheet_1 6 rfl rfl)
theorem dX8_sheet_30 : decode cX8_sheet 30 = .ok (.getfield 16, 3) := dk_180 0 16 (dk_at dksX8_sheet_1 7 rfl rfl)
theorem dX8_sheet_33 : decode cX8_sheet 33 = .ok (.iload_n 1, 1) := dk_27 (dk_at dksX8_sheet_1 10 rfl rfl)
theorem dX8_sheet_34 : decode cX8_sheet 34 = .ok (.iload_n 2, 1) := dk_28 (dk_at dksX8_sheet_1 11 rfl rfl)
theorem dX8_sheet_35 : decode cX8_sheet 35 = .ok (.iastore, 1) := dk_79 (dk_at dksX8_sheet_1 12 rfl rfl)
theorem dX8_sheet_36 : decode cX8_sheet 36 = .ok (.aload_n 0, 1) := dk_42 (dk_at dksX8_sheet_1 13 rfl rfl)
theorem dX8_sheet_37 : decode cX8_sheet 37 = .ok (.getfield 19, 3) := dk_180 0 19 (dk_at dksX8_sheet_1 14 rfl rfl)
theorem dX8_sheet_40 : decode cX8_sheet 40 = .ok (.iload_n 1, 1) := dk_27 (dk_at dksX8_sheet_1 17 rfl rfl)
theorem dX8_sheet_41 : decode cX8_sheet 41 = .ok (.iload_n 3, 1) := dk_29 (dk_at dksX8_sheet_1 18 rfl rfl)
theorem dX8_sheet_42 : decode cX8_sheet 42 = .ok (.iastore, 1) := dk_79 (dk_at dksX8_sheet_1 19 rfl rfl)
theorem dX8_sheet_43 : decode cX8_sheet 43 = .ok (.iconst 0, 1) := dk_3 (dk_at dksX8_sheet_1 20 rfl rfl)
theorem dX8_sheet_44 : decode cX8_sheet 44 = .ok (.istore 4, 2) := dk_54 4 (dk_at dksX8_sheet_1 21 rfl rfl)
theorem dX8_sheet_46 : decode cX8_sheet 46 = .ok (.iload 4, 2) := dk_21 4 (dk_at dksX8_sheet_2 0 rfl rfl)
theorem dX8_sheet_48 : decode cX8_sheet 48 = .ok (.bipush 24, 2) := dk_16 24 (dk_at dksX8_sheet_2 2 rfl rfl)
theorem dX8_sheet_50 : decode cX8_sheet 50 = .ok (.if_icmp .ge 22, 3) := dk_162 0 22 (dk_at dksX8_sheet_2 4 rfl rfl)
theorem dX8_sheet_53 : decode cX8_sheet 53 = .ok (.aload_n 0, 1) := dk_42 (dk_at dksX8_sheet_2 7 rfl rfl)
theorem dX8_sheet_54 : decode cX8_sheet 54 = .ok (.getfield 22, 3) := dk_180 0 22 (dk_at dksX8_sheet_2 8 rfl rfl)
theorem dX8_sheet_57 : decode cX8_sheet 57 = .ok (.bipush 24, 2) := dk_16 24 (dk_at dksX8_sheet_2 11 rfl rfl)
theorem dX8_sheet_59 : decode cX8_sheet 59 = .ok (.iload_n 1, 1) := dk_27 (dk_at dksX8_sheet_2 13 rfl rfl)
theorem dX8_sheet_60 : decode cX8_sheet 60 = .ok (.imul, 1) := dk_104 (dk_at dksX8_sheet_2 14 rfl rfl)
theorem dX8_sheet_61 : decode cX8_sheet 61 = .ok (.iload 4, 2) := dk_21 4 (dk_at dksX8_sheet_2 15 rfl rfl)
theorem dX8_sheet_63 : decode cX8_sheet 63 = .ok (.iadd, 1) := dk_96 (dk_at dksX8_sheet_2 17 rfl rfl)
theorem dX8_sheet_64 : decode cX8_sheet 64 = .ok (.lconst 0, 1) := dk_9 (dk_at dksX8_sheet_2 18 rfl rfl)
theorem dX8_sheet_65 : decode cX8_sheet 65 = .ok (.lastore, 1) := dk_80 (dk_at dksX8_sheet_2 19 rfl rfl)
theorem dX8_sheet_66 : decode cX8_sheet 66 = .ok (.iinc 4 1, 3) := dk_132 4 1 (dk_at dksX8_sheet_2 20 rfl rfl)
theorem dX8_sheet_69 : decode cX8_sheet 69 = .ok (.goto (-23), 3) := dk_167 255 233 (dk_at dksX8_sheet_3 0 rfl rfl)
theorem dX8_sheet_72 : decode cX8_sheet 72 = .ok (.iload_n 3, 1) := dk_29 (dk_at dksX8_sheet_3 3 rfl rfl)
theorem dX8_sheet_73 : decode cX8_sheet 73 = .ok (.ireturn, 1) := dk_172 (dk_at dksX8_sheet_3 4 rfl rfl)
abbrev cX8_drop : ByteArray := prog_13_method_85_code
def yX8_drop : MethodName := ⟨RX8, "drop", "(I)I"⟩
def dkwX8_drop_1 : List UInt8 := [180, 0, 16, 27, 2, 79, 42, 180, 0, 19, 27, 46, 172]
abbrev dktX8_drop_1 : List UInt8 := dkwX8_drop_1 ++ []
def dkwX8_drop_0 : List UInt8 := [27, 184, 1, 17, 154, 0, 5, 2, 172, 42, 180, 0, 16, 27, 46, 156, 0, 6, 16, 245, 172, 42]
abbrev dktX8_drop_0 : List UInt8 := dkwX8_drop_0 ++ dktX8_drop_1
theorem dksX8_drop_0 : cX8_drop.data.toList.drop 0 = dktX8_drop_0 := by decide +kernel
theorem dksX8_drop_1 : cX8_drop.data.toList.drop 22 = dktX8_drop_1 := dk_seg dksX8_drop_0 22 rfl rfl
theorem dX8_drop_0 : decode cX8_drop 0 = .ok (.iload_n 1, 1) := dk_27 (dk_at dksX8_drop_0 0 rfl rfl)
theorem dX8_drop_1 : decode cX8_drop 1 = .ok (.invokestatic 273, 3) := dk_184 1 17 (dk_at dksX8_drop_0 1 rfl rfl)
theorem dX8_drop_4 : decode cX8_drop 4 = .ok (.ifCond .ne 5, 3) := dk_154 0 5 (dk_at dksX8_drop_0 4 rfl rfl)
theorem dX8_drop_7 : decode cX8_drop 7 = .ok (.iconst (-1), 1) := dk_2 (dk_at dksX8_drop_0 7 rfl rfl)
theorem dX8_drop_8 : decode cX8_drop 8 = .ok (.ireturn, 1) := dk_172 (dk_at dksX8_drop_0 8 rfl rfl)
theorem dX8_drop_9 : decode cX8_drop 9 = .ok (.aload_n 0, 1) := dk_42 (dk_at dksX8_drop_0 9 rfl rfl)
theorem dX8_drop_10 : decode cX8_drop 10 = .ok (.getfield 16, 3) := dk_180 0 16 (dk_at dksX8_drop_0 10 rfl rfl)
theorem dX8_drop_13 : decode cX8_drop 13 = .ok (.iload_n 1, 1) := dk_27 (dk_at dksX8_drop_0 13 rfl rfl)
theorem dX8_drop_14 : decode cX8_drop 14 = .ok (.iaload, 1) := dk_46 (dk_at dksX8_drop_0 14 rfl rfl)
theorem dX8_drop_15 : decode cX8_drop 15 = .ok (.ifCond .ge 6, 3) := dk_156 0 6 (dk_at dksX8_drop_0 15 rfl rfl)
theorem dX8_drop_18 : decode cX8_drop 18 = .ok (.bipush (-11), 2) := dk_16 245 (dk_at dksX8_drop_0 18 rfl rfl)
theorem dX8_drop_20 : decode cX8_drop 20 = .ok (.ireturn, 1) := dk_172 (dk_at dksX8_drop_0 20 rfl rfl)
theorem dX8_drop_21 : decode cX8_drop 21 = .ok (.aload_n 0, 1) := dk_42 (dk_at dksX8_drop_0 21 rfl rfl)
theorem dX8_drop_22 : decode cX8_drop 22 = .ok (.getfield 16, 3) := dk_180 0 16 (dk_at dksX8_drop_1 0 rfl rfl)
theorem dX8_drop_25 : decode cX8_drop 25 = .ok (.iload_n 1, 1) := dk_27 (dk_at dksX8_drop_1 3 rfl rfl)
theorem dX8_drop_26 : decode cX8_drop 26 = .ok (.iconst (-1), 1) := dk_2 (dk_at dksX8_drop_1 4 rfl rfl)
theorem dX8_drop_27 : decode cX8_drop 27 = .ok (.iastore, 1) := dk_79 (dk_at dksX8_drop_1 5 rfl rfl)
theorem dX8_drop_28 : decode cX8_drop 28 = .ok (.aload_n 0, 1) := dk_42 (dk_at dksX8_drop_1 6 rfl rfl)
theorem dX8_drop_29 : decode cX8_drop 29 = .ok (.getfield 19, 3) := dk_180 0 19 (dk_at dksX8_drop_1 7 rfl rfl)
theorem dX8_drop_32 : decode cX8_drop 32 = .ok (.iload_n 1, 1) := dk_27 (dk_at dksX8_drop_1 10 rfl rfl)
theorem dX8_drop_33 : decode cX8_drop 33 = .ok (.iaload, 1) := dk_46 (dk_at dksX8_drop_1 11 rfl rfl)
theorem dX8_drop_34 : decode cX8_drop 34 = .ok (.ireturn, 1) := dk_172 (dk_at dksX8_drop_1 12 rfl rfl)
abbrev cX8_item : ByteArray := prog_13_method_86_code
def yX8_item : MethodName := ⟨RX8, "item", "(IIIJ)I"⟩
def dkwX8_item_2 : List UInt8 := [184, 1, 34, 80, 4, 172]
abbrev dktX8_item_2 : List UInt8 := dkwX8_item_2 ++ []
def dkwX8_item_1 : List UInt8 := [54, 6, 21, 6, 156, 0, 6, 21, 6, 172, 42, 180, 0, 22, 16, 24, 27, 104, 29, 96, 28, 22, 4]
abbrev dktX8_item_1 : List UInt8 := dkwX8_item_1 ++ dktX8_item_2
def dkwX8_item_0 : List UInt8 := [27, 184, 1, 17, 153, 0, 10, 28, 184, 1, 20, 154, 0, 5, 2, 172, 42, 27, 28, 29, 4, 182, 1, 23]
abbrev dktX8_item_0 : List UInt8 := dkwX8_item_0 ++ dktX8_item_1
theorem dksX8_item_0 : cX8_item.data.toList.drop 0 = dktX8_item_0 := by decide +kernel
theorem dksX8_item_1 : cX8_item.data.toList.drop 24 = dktX8_item_1 := dk_seg dksX8_item_0 24 rfl rfl
theorem dksX8_item_2 : cX8_item.data.toList.drop 47 = dktX8_item_2 := dk_seg dksX8_item_1 23 rfl rfl
theorem dX8_item_0 : decode cX8_item 0 = .ok (.iload_n 1, 1) := dk_27 (dk_at dksX8_item_0 0 rfl rfl)
theorem dX8_item_1 : decode cX8_item 1 = .ok (.invokestatic 273, 3) := dk_184 1 17 (dk_at dksX8_item_0 1 rfl rfl)
theorem dX8_item_4 : decode cX8_item 4 = .ok (.ifCond .eq 10, 3) := dk_153 0 10 (dk_at dksX8_item_0 4 rfl rfl)
theorem dX8_item_7 : decode cX8_item 7 = .ok (.iload_n 2, 1) := dk_28 (dk_at dksX8_item_0 7 rfl rfl)
theorem dX8_item_8 : decode cX8_item 8 = .ok (.invokestatic 276, 3) := dk_184 1 20 (dk_at dksX8_item_0 8 rfl rfl)
theorem dX8_item_11 : decode cX8_item 11 = .ok (.ifCond .ne 5, 3) := dk_154 0 5 (dk_at dksX8_item_0 11 rfl rfl)
theorem dX8_item_14 : decode cX8_item 14 = .ok (.iconst (-1), 1) := dk_2 (dk_at dksX8_item_0 14 rfl rfl)
theorem dX8_item_15 : decode cX8_item 15 = .ok (.ireturn, 1) := dk_172 (dk_at dksX8_item_0 15 rfl rfl)
theorem dX8_item_16 : decode cX8_item 16 = .ok (.aload_n 0, 1) := dk_42 (dk_at dksX8_item_0 16 rfl rfl)
theorem dX8_item_17 : decode cX8_item 17 = .ok (.iload_n 1, 1) := dk_27 (dk_at dksX8_item_0 17 rfl rfl)
theorem dX8_item_18 : decode cX8_item 18 = .ok (.iload_n 2, 1) := dk_28 (dk_at dksX8_item_0 18 rfl rfl)
theorem dX8_item_19 : decode cX8_item 19 = .ok (.iload_n 3, 1) := dk_29 (dk_at dksX8_item_0 19 rfl rfl)
theorem dX8_item_20 : decode cX8_item 20 = .ok (.iconst 1, 1) := dk_4 (dk_at dksX8_item_0 20 rfl rfl)
theorem dX8_item_21 : decode cX8_item 21 = .ok (.invokevirtual 279, 3) := dk_182 1 23 (dk_at dksX8_item_0 21 rfl rfl)
theorem dX8_item_24 : decode cX8_item 24 = .ok (.istore 6, 2) := dk_54 6 (dk_at dksX8_item_1 0 rfl rfl)
theorem dX8_item_26 : decode cX8_item 26 = .ok (.iload 6, 2) := dk_21 6 (dk_at dksX8_item_1 2 rfl rfl)
theorem dX8_item_28 : decode cX8_item 28 = .ok (.ifCond .ge 6, 3) := dk_156 0 6 (dk_at dksX8_item_1 4 rfl rfl)
theorem dX8_item_31 : decode cX8_item 31 = .ok (.iload 6, 2) := dk_21 6 (dk_at dksX8_item_1 7 rfl rfl)
theorem dX8_item_33 : decode cX8_item 33 = .ok (.ireturn, 1) := dk_172 (dk_at dksX8_item_1 9 rfl rfl)
theorem dX8_item_34 : decode cX8_item 34 = .ok (.aload_n 0, 1) := dk_42 (dk_at dksX8_item_1 10 rfl rfl)
theorem dX8_item_35 : decode cX8_item 35 = .ok (.getfield 22, 3) := dk_180 0 22 (dk_at dksX8_item_1 11 rfl rfl)
theorem dX8_item_38 : decode cX8_item 38 = .ok (.bipush 24, 2) := dk_16 24 (dk_at dksX8_item_1 14 rfl rfl)
theorem dX8_item_40 : decode cX8_item 40 = .ok (.iload_n 1, 1) := dk_27 (dk_at dksX8_item_1 16 rfl rfl)
theorem dX8_item_41 : decode cX8_item 41 = .ok (.imul, 1) := dk_104 (dk_at dksX8_item_1 17 rfl rfl)
theorem dX8_item_42 : decode cX8_item 42 = .ok (.iload_n 3, 1) := dk_29 (dk_at dksX8_item_1 18 rfl rfl)
theorem dX8_item_43 : decode cX8_item 43 = .ok (.iadd, 1) := dk_96 (dk_at dksX8_item_1 19 rfl rfl)
theorem dX8_item_44 : decode cX8_item 44 = .ok (.iload_n 2, 1) := dk_28 (dk_at dksX8_item_1 20 rfl rfl)
theorem dX8_item_45 : decode cX8_item 45 = .ok (.lload 4, 2) := dk_22 4 (dk_at dksX8_item_1 21 rfl rfl)
theorem dX8_item_47 : decode cX8_item 47 = .ok (.invokestatic 290, 3) := dk_184 1 34 (dk_at dksX8_item_2 0 rfl rfl)
theorem dX8_item_50 : decode cX8_item 50 = .ok (.lastore, 1) := dk_80 (dk_at dksX8_item_2 3 rfl rfl)
theorem dX8_item_51 : decode cX8_item 51 = .ok (.iconst 1, 1) := dk_4 (dk_at dksX8_item_2 4 rfl rfl)
theorem dX8_item_52 : decode cX8_item 52 = .ok (.ireturn, 1) := dk_172 (dk_at dksX8_item_2 5 rfl rfl)
abbrev cX8_cut : ByteArray := prog_13_method_77_code
def yX8_cut : MethodName := ⟨RX8, "cut", "(IJ)J"⟩
def dkwX8_cut_1 : List UInt8 := [5, 160, 0, 9, 31, 136, 133, 167, 0, 4, 31, 173]
abbrev dktX8_cut_1 : List UInt8 := dkwX8_cut_1 ++ []
def dkwX8_cut_0 : List UInt8 := [26, 154, 0, 10, 31, 136, 145, 133, 167, 0, 27, 26, 4, 160, 0, 10, 31, 136, 147, 133, 167, 0, 15, 26]
abbrev dktX8_cut_0 : List UInt8 := dkwX8_cut_0 ++ dktX8_cut_1
theorem dksX8_cut_0 : cX8_cut.data.toList.drop 0 = dktX8_cut_0 := by decide +kernel
theorem dksX8_cut_1 : cX8_cut.data.toList.drop 24 = dktX8_cut_1 := dk_seg dksX8_cut_0 24 rfl rfl
theorem dX8_cut_0 : decode cX8_cut 0 = .ok (.iload_n 0, 1) := dk_26 (dk_at dksX8_cut_0 0 rfl rfl)
theorem dX8_cut_1 : decode cX8_cut 1 = .ok (.ifCond .ne 10, 3) := dk_154 0 10 (dk_at dksX8_cut_0 1 rfl rfl)
theorem dX8_cut_4 : decode cX8_cut 4 = .ok (.lload_n 1, 1) := dk_31 (dk_at dksX8_cut_0 4 rfl rfl)
theorem dX8_cut_5 : decode cX8_cut 5 = .ok (.l2i, 1) := dk_136 (dk_at dksX8_cut_0 5 rfl rfl)
theorem dX8_cut_6 : decode cX8_cut 6 = .ok (.i2b, 1) := dk_145 (dk_at dksX8_cut_0 6 rfl rfl)
theorem dX8_cut_7 : decode cX8_cut 7 = .ok (.i2l, 1) := dk_133 (dk_at dksX8_cut_0 7 rfl rfl)
theorem dX8_cut_8 : decode cX8_cut 8 = .ok (.goto 27, 3) := dk_167 0 27 (dk_at dksX8_cut_0 8 rfl rfl)
theorem dX8_cut_11 : decode cX8_cut 11 = .ok (.iload_n 0, 1) := dk_26 (dk_at dksX8_cut_0 11 rfl rfl)
theorem dX8_cut_12 : decode cX8_cut 12 = .ok (.iconst 1, 1) := dk_4 (dk_at dksX8_cut_0 12 rfl rfl)
theorem dX8_cut_13 : decode cX8_cut 13 = .ok (.if_icmp .ne 10, 3) := dk_160 0 10 (dk_at dksX8_cut_0 13 rfl rfl)
theorem dX8_cut_16 : decode cX8_cut 16 = .ok (.lload_n 1, 1) := dk_31 (dk_at dksX8_cut_0 16 rfl rfl)
theorem dX8_cut_17 : decode cX8_cut 17 = .ok (.l2i, 1) := dk_136 (dk_at dksX8_cut_0 17 rfl rfl)
theorem dX8_cut_18 : decode cX8_cut 18 = .ok (.i2s, 1) := dk_147 (dk_at dksX8_cut_0 18 rfl rfl)
theorem dX8_cut_19 : decode cX8_cut 19 = .ok (.i2l, 1) := dk_133 (dk_at dksX8_cut_0 19 rfl rfl)
theorem dX8_cut_20 : decode cX8_cut 20 = .ok (.goto 15, 3) := dk_167 0 15 (dk_at dksX8_cut_0 20 rfl rfl)
theorem dX8_cut_23 : decode cX8_cut 23 = .ok (.iload_n 0, 1) := dk_26 (dk_at dksX8_cut_0 23 rfl rfl)
theorem dX8_cut_24 : decode cX8_cut 24 = .ok (.iconst 2, 1) := dk_5 (dk_at dksX8_cut_1 0 rfl rfl)
theorem dX8_cut_25 : decode cX8_cut 25 = .ok (.if_icmp .ne 9, 3) := dk_160 0 9 (dk_at dksX8_cut_1 1 rfl rfl)
theorem dX8_cut_28 : decode cX8_cut 28 = .ok (.lload_n 1, 1) := dk_31 (dk_at dksX8_cut_1 4 rfl rfl)
theorem dX8_cut_29 : decode cX8_cut 29 = .ok (.l2i, 1) := dk_136 (dk_at dksX8_cut_1 5 rfl rfl)
theorem dX8_cut_30 : decode cX8_cut 30 = .ok (.i2l, 1) := dk_133 (dk_at dksX8_cut_1 6 rfl rfl)
theorem dX8_cut_31 : decode cX8_cut 31 = .ok (.goto 4, 3) := dk_167 0 4 (dk_at dksX8_cut_1 7 rfl rfl)
theorem dX8_cut_34 : decode cX8_cut 34 = .ok (.lload_n 1, 1) := dk_31 (dk_at dksX8_cut_1 10 rfl rfl)
theorem dX8_cut_35 : decode cX8_cut 35 = .ok (.lreturn, 1) := dk_173 (dk_at dksX8_cut_1 11 rfl rfl)
abbrev cX8_copy : ByteArray := prog_13_method_87_code
def yX8_copy : MethodName := ⟨RX8, "copy", "(IIIII)I"⟩
def dkwX8_copy_7 : List UInt8 := [80, 132, 6, 1, 167, 255, 224, 21, 5, 172]
abbrev dktX8_copy_7 : List UInt8 := dkwX8_copy_7 ++ []
def dkwX8_copy_6 : List UInt8 := [162, 0, 31, 42, 180, 0, 22, 16, 24, 29, 104, 21, 4, 96, 21, 6, 96, 42, 180, 0, 44, 21, 6, 47]
abbrev dktX8_copy_6 : List UInt8 := dkwX8_copy_6 ++ dktX8_copy_7
def dkwX8_copy_5 : List UInt8 := [16, 24, 27, 104, 28, 96, 21, 6, 96, 47, 80, 132, 6, 1, 167, 255, 225, 3, 54, 6, 21, 6, 21, 5]
abbrev dktX8_copy_5 : List UInt8 := dkwX8_copy_5 ++ dktX8_copy_6
def dkwX8_copy_4 : List UInt8 := [16, 243, 172, 3, 54, 6, 21, 6, 21, 5, 162, 0, 30, 42, 180, 0, 44, 21, 6, 42, 180, 0, 22]
abbrev dktX8_copy_4 : List UInt8 := dkwX8_copy_4 ++ dktX8_copy_5
def dkwX8_copy_3 : List UInt8 := [182, 1, 23, 155, 0, 21, 42, 29, 42, 180, 0, 16, 29, 46, 21, 4, 21, 5, 182, 1, 23, 156, 0, 6]
abbrev dktX8_copy_3 : List UInt8 := dkwX8_copy_3 ++ dktX8_copy_4
def dkwX8_copy_2 : List UInt8 := [180, 0, 16, 29, 46, 159, 0, 6, 16, 244, 172, 42, 27, 42, 180, 0, 16, 27, 46, 28, 21, 5]
abbrev dktX8_copy_2 : List UInt8 := dkwX8_copy_2 ++ dktX8_copy_3
def dkwX8_copy_1 : List UInt8 := [155, 0, 12, 42, 180, 0, 16, 29, 46, 156, 0, 6, 16, 245, 172, 42, 180, 0, 16, 27, 46, 42]
abbrev dktX8_copy_1 : List UInt8 := dkwX8_copy_1 ++ dktX8_copy_2
def dkwX8_copy_0 : List UInt8 := [27, 184, 1, 17, 153, 0, 10, 29, 184, 1, 17, 154, 0, 5, 2, 172, 42, 180, 0, 16, 27, 46]
abbrev dktX8_copy_0 : List UInt8 := dkwX8_copy_0 ++ dktX8_copy_1
theorem dksX8_copy_0 : cX8_copy.data.toList.drop 0 = dktX8_copy_0 := by decide +kernel
theorem dksX8_copy_1 : cX8_copy.data.toList.drop 22 = dktX8_copy_1 := dk_seg dksX8_copy_0 22 rfl rfl
theorem dksX8_copy_2 : cX8_copy.data.toList.drop 44 = dktX8_copy_2 := dk_seg dksX8_copy_1 22 rfl rfl
theorem dksX8_copy_3 : cX8_copy.data.toList.drop 66 = dktX8_copy_3 := dk_seg dksX8_copy_2 22 rfl rfl
theorem dksX8_copy_4 : cX8_copy.data.toList.drop 90 = dktX8_copy_4 := dk_seg dksX8_copy_3 24 rfl rfl
theorem dksX8_copy_5 : cX8_copy.data.toList.drop 113 = dktX8_copy_5 := dk_seg dksX8_copy_4 23 rfl rfl
theorem dksX8_copy_6 : cX8_copy.data.toList.drop 137 = dktX8_copy_6 := dk_seg dksX8_copy_5 24 rfl rfl
theorem dksX8_copy_7 : cX8_copy.data.toList.drop 161 = dktX8_copy_7 := dk_seg dksX8_copy_6 24 rfl rfl
theorem dX8_copy_0 : decode cX8_copy 0 = .ok (.iload_n 1, 1) := dk_27 (dk_at dksX8_copy_0 0 rfl rfl)
theorem dX8_copy_1 : decode cX8_copy 1 = .ok (.invokestatic 273, 3) := dk_184 1 17 (dk_at dksX8_copy_0 1 rfl rfl)
theorem dX8_copy_4 : decode cX8_copy 4 = .ok (.ifCond .eq 10, 3) := dk_153 0 10 (dk_at dksX8_copy_0 4 rfl rfl)
theorem dX8_copy_7 : decode cX8_copy 7 = .ok (.iload_n 3, 1) := dk_29 (dk_at dksX8_copy_0 7 rfl rfl)
theorem dX8_copy_8 : decode cX8_copy 8 = .ok (.invokestatic 273, 3) := dk_184 1 17 (dk_at dksX8_copy_0 8 rfl rfl)
theorem dX8_copy_11 : decode cX8_copy 11 = .ok (.ifCond .ne 5, 3) := dk_154 0 5 (dk_at dksX8_copy_0 11 rfl rfl)
theorem dX8_copy_14 : decode cX8_copy 14 = .ok (.iconst (-1), 1) := dk_2 (dk_at dksX8_copy_0 14 rfl rfl)
theorem dX8_copy_15 : decode cX8_copy 15 = .ok (.ireturn, 1) := dk_172 (dk_at dksX8_copy_0 15 rfl rfl)
theorem dX8_copy_16 : decode cX8_copy 16 = .ok (.aload_n 0, 1) := dk_42 (dk_at dksX8_copy_0 16 rfl rfl)
theorem dX8_copy_17 : decode cX8_copy 17 = .ok (.getfield 16, 3) := dk_180 0 16 (dk_at dksX8_copy_0 17 rfl rfl)
theorem dX8_copy_20 : decode cX8_copy 20 = .ok (.iload_n 1, 1) := dk_27 (dk_at dksX8_copy_0 20 rfl rfl)
theorem dX8_copy_21 : decode cX8_copy 21 = .ok (.iaload, 1) := dk_46 (dk_at dksX8_copy_0 21 rfl rfl)
theorem dX8_copy_22 : decode cX8_copy 22 = .ok (.ifCond .lt 12, 3) := dk_155 0 12 (dk_at dksX8_copy_1 0 rfl rfl)
theorem dX8_copy_25 : decode cX8_copy 25 = .ok (.aload_n 0, 1) := dk_42 (dk_at dksX8_copy_1 3 rfl rfl)
theorem dX8_copy_26 : decode cX8_copy 26 = .ok (.getfield 16, 3) := dk_180 0 16 (dk_at dksX8_copy_1 4 rfl rfl)
theorem dX8_copy_29 : decode cX8_copy 29 = .ok (.iload_n 3, 1) := dk_29 (dk_at dksX8_copy_1 7 rfl rfl)
theorem dX8_copy_30 : decode cX8_copy 30 = .ok (.iaload, 1) := dk_46 (dk_at dksX8_copy_1 8 rfl rfl)
theorem dX8_copy_31 : decode cX8_copy 31 = .ok (.ifCond .ge 6, 3) := dk_156 0 6 (dk_at dksX8_copy_1 9 rfl rfl)
theorem dX8_copy_34 : decode cX8_copy 34 = .ok (.bipush (-11), 2) := dk_16 245 (dk_at dksX8_copy_1 12 rfl rfl)
theorem dX8_copy_36 : decode cX8_copy 36 = .ok (.ireturn, 1) := dk_172 (dk_at dksX8_copy_1 14 rfl rfl)
theorem dX8_copy_37 : decode cX8_copy 37 = .ok (.aload_n 0, 1) := dk_42 (dk_at dksX8_copy_1 15 rfl rfl)
theorem dX8_copy_38 : decode cX8_copy 38 = .ok (.getfield 16, 3) := dk_180 0 16 (dk_at dksX8_copy_1 16 rfl rfl)
theorem dX8_copy_41 : decode cX8_copy 41 = .ok (.iload_n 1, 1) := dk_27 (dk_at dksX8_copy_1 19 rfl rfl)
theorem dX8_copy_42 : decode cX8_copy 42 = .ok (.iaload, 1) := dk_46 (dk_at dksX8_copy_1 20 rfl rfl)
theorem dX8_copy_43 : decode cX8_copy 43 = .ok (.aload_n 0, 1) := dk_42 (dk_at dksX8_copy_1 21 rfl rfl)
theorem dX8_copy_44 : decode cX8_copy 44 = .ok (.getfield 16, 3) := dk_180 0 16 (dk_at dksX8_copy_2 0 rfl rfl)
theorem dX8_copy_47 : decode cX8_copy 47 = .ok (.iload_n 3, 1) := dk_29 (dk_at dksX8_copy_2 3 rfl rfl)
theorem dX8_copy_48 : decode cX8_copy 48 = .ok (.iaload, 1) := dk_46 (dk_at dksX8_copy_2 4 rfl rfl)
theorem dX8_copy_49 : decode cX8_copy 49 = .ok (.if_icmp .eq 6, 3) := dk_159 0 6 (dk_at dksX8_copy_2 5 rfl rfl)
theorem dX8_copy_52 : decode cX8_copy 52 = .ok (.bipush (-12), 2) := dk_16 244 (dk_at dksX8_copy_2 8 rfl rfl)
theorem dX8_copy_54 : decode cX8_copy 54 = .ok (.ireturn, 1) := dk_172 (dk_at dksX8_copy_2 10 rfl rfl)
theorem dX8_copy_55 : decode cX8_copy 55 = .ok (.aload_n 0, 1) := dk_42 (dk_at dksX8_copy_2 11 rfl rfl)
theorem dX8_copy_56 : decode cX8_copy 56 = .ok (.iload_n 1, 1) := dk_27 (dk_at dksX8_copy_2 12 rfl rfl)
theorem dX8_copy_57 : decode cX8_copy 57 = .ok (.aload_n 0, 1) := dk_42 (dk_at dksX8_copy_2 13 rfl rfl)
theorem dX8_copy_58 : decode cX8_copy 58 = .ok (.getfield 16, 3) := dk_180 0 16 (dk_at dksX8_copy_2 14 rfl rfl)
theorem dX8_copy_61 : decode cX8_copy 61 = .ok (.iload_n 1, 1) := dk_27 (dk_at dksX8_copy_2 17 rfl rfl)
theorem dX8_copy_62 : decode cX8_copy 62 = .ok (.iaload, 1) := dk_46 (dk_at dksX8_copy_2 18 rfl rfl)
theorem dX8_copy_63 : decode cX8_copy 63 = .ok (.iload_n 2, 1) := dk_28 (dk_at dksX8_copy_2 19 rfl rfl)
theorem dX8_copy_64 : decode cX8_copy 64 = .ok (.iload 5, 2) := dk_21 5 (dk_at dksX8_copy_2 20 rfl rfl)
theorem dX8_copy_66 : decode cX8_copy 66 = .ok (.invokevirtual 279, 3) := dk_182 1 23 (dk_at dksX8_copy_3 0 rfl rfl)
theorem dX8_copy_69 : decode cX8_copy 69 = .ok (.ifCond .lt 21, 3) := dk_155 0 21 (dk_at dksX8_copy_3 3 rfl rfl)
theorem dX8_copy_72 : decode cX8_copy 72 = .ok (.aload_n 0, 1) := dk_42 (dk_at dksX8_copy_3 6 rfl rfl)
theorem dX8_copy_73 : decode cX8_copy 73 = .ok (.iload_n 3, 1) := dk_29 (dk_at dksX8_copy_3 7 rfl rfl)
theorem dX8_copy_74 : decode cX8_copy 74 = .ok (.aload_n 0, 1) := dk_42 (dk_at dksX8_copy_3 8 rfl rfl)
theorem dX8_copy_75 : decode cX8_copy 75 = .ok (.getfield 16, 3) := dk_180 0 16 (dk_at dksX8_copy_3 9 rfl rfl)
theorem dX8_copy_78 : decode cX8_copy 78 = .ok (.iload_n 3, 1) := dk_29 (dk_at dksX8_copy_3 12 rfl rfl)
theorem dX8_copy_79 : decode cX8_copy 79 = .ok (.iaload, 1) := dk_46 (dk_at dksX8_copy_3 13 rfl rfl)
theorem dX8_copy_80 : decode cX8_copy 80 = .ok (.iload 4, 2) := dk_21 4 (dk_at dksX8_copy_3 14 rfl rfl)
theorem dX8_copy_82 : decode cX8_copy 82 = .ok (.iload 5, 2) := dk_21 5 (dk_at dksX8_copy_3 16 rfl rfl)
theorem dX8_copy_84 : decode cX8_copy 84 = .ok (.invokevirtual 279, 3) := dk_182 1 23 (dk_at dksX8_copy_3 18 rfl rfl)
theorem dX8_copy_87 : decode cX8_copy 87 = .ok (.ifCond .ge 6, 3) := dk_156 0 6 (dk_at dksX8_copy_3 21 rfl rfl)
theorem dX8_copy_90 : decode cX8_copy 90 = .ok (.bipush (-13), 2) := dk_16 243 (dk_at dksX8_copy_4 0 rfl rfl)
theorem dX8_copy_92 : decode cX8_copy 92 = .ok (.ireturn, 1) := dk_172 (dk_at dksX8_copy_4 2 rfl rfl)
theorem dX8_copy_93 : decode cX8_copy 93 = .ok (.iconst 0, 1) := dk_3 (dk_at dksX8_copy_4 3 rfl rfl)
theorem dX8_copy_94 : decode cX8_copy 94 = .ok (.istore 6, 2) := dk_54 6 (dk_at dksX8_copy_4 4 rfl rfl)
theorem dX8_copy_96 : decode cX8_copy 96 = .ok (.iload 6, 2) := dk_21 6 (dk_at dksX8_copy_4 6 rfl rfl)
theorem dX8_copy_98 : decode cX8_copy 98 = .ok (.iload 5, 2) := dk_21 5 (dk_at dksX8_copy_4 8 rfl rfl)
theorem dX8_copy_100 : decode cX8_copy 100 = .ok (.if_icmp .ge 30, 3) := dk_162 0 30 (dk_at dksX8_copy_4 10 rfl rfl)
theorem dX8_copy_103 : decode cX8_copy 103 = .ok (.aload_n 0, 1) := dk_42 (dk_at dksX8_copy_4 13 rfl rfl)
theorem dX8_copy_104 : decode cX8_copy 104 = .ok (.getfield 44, 3) := dk_180 0 44 (dk_at dksX8_copy_4 14 rfl rfl)
theorem dX8_copy_107 : decode cX8_copy 107 = .ok (.iload 6, 2) := dk_21 6 (dk_at dksX8_copy_4 17 rfl rfl)
theorem dX8_copy_109 : decode cX8_copy 109 = .ok (.aload_n 0, 1) := dk_42 (dk_at dksX8_copy_4 19 rfl rfl)
theorem dX8_copy_110 : decode cX8_copy 110 = .ok (.getfield 22, 3) := dk_180 0 22 (dk_at dksX8_copy_4 20 rfl rfl)
theorem dX8_copy_113 : decode cX8_copy 113 = .ok (.bipush 24, 2) := dk_16 24 (dk_at dksX8_copy_5 0 rfl rfl)
theorem dX8_copy_115 : decode cX8_copy 115 = .ok (.iload_n 1, 1) := dk_27 (dk_at dksX8_copy_5 2 rfl rfl)
theorem dX8_copy_116 : decode cX8_copy 116 = .ok (.imul, 1) := dk_104 (dk_at dksX8_copy_5 3 rfl rfl)
theorem dX8_copy_117 : decode cX8_copy 117 = .ok (.iload_n 2, 1) := dk_28 (dk_at dksX8_copy_5 4 rfl rfl)
theorem dX8_copy_118 : decode cX8_copy 118 = .ok (.iadd, 1) := dk_96 (dk_at dksX8_copy_5 5 rfl rfl)
theorem dX8_copy_119 : decode cX8_copy 119 = .ok (.iload 6, 2) := dk_21 6 (dk_at dksX8_copy_5 6 rfl rfl)
theorem dX8_copy_121 : decode cX8_copy 121 = .ok (.iadd, 1) := dk_96 (dk_at dksX8_copy_5 8 rfl rfl)
theorem dX8_copy_122 : decode cX8_copy 122 = .ok (.laload, 1) := dk_47 (dk_at dksX8_copy_5 9 rfl rfl)
theorem dX8_copy_123 : decode cX8_copy 123 = .ok (.lastore, 1) := dk_80 (dk_at dksX8_copy_5 10 rfl rfl)
theorem dX8_copy_124 : decode cX8_copy 124 = .ok (.iinc 6 1, 3) := dk_132 6 1 (dk_at dksX8_copy_5 11 rfl rfl)
theorem dX8_copy_127 : decode cX8_copy 127 = .ok (.goto (-31), 3) := dk_167 255 225 (dk_at dksX8_copy_5 14 rfl rfl)
theorem dX8_copy_130 : decode cX8_copy 130 = .ok (.iconst 0, 1) := dk_3 (dk_at dksX8_copy_5 17 rfl rfl)
theorem dX8_copy_131 : decode cX8_copy 131 = .ok (.istore 6, 2) := dk_54 6 (dk_at dksX8_copy_5 18 rfl rfl)
theorem dX8_copy_133 : decode cX8_copy 133 = .ok (.iload 6, 2) := dk_21 6 (dk_at dksX8_copy_5 20 rfl rfl)
theorem dX8_copy_135 : decode cX8_copy 135 = .ok (.iload 5, 2) := dk_21 5 (dk_at dksX8_copy_5 22 rfl rfl)
theorem dX8_copy_137 : decode cX8_copy 137 = .ok (.if_icmp .ge 31, 3) := dk_162 0 31 (dk_at dksX8_copy_6 0 rfl rfl)
theorem dX8_copy_140 : decode cX8_copy 140 = .ok (.aload_n 0, 1) := dk_42 (dk_at dksX8_copy_6 3 rfl rfl)
theorem dX8_copy_141 : decode cX8_copy 141 = .ok (.getfield 22, 3) := dk_180 0 22 (dk_at dksX8_copy_6 4 rfl rfl)
theorem dX8_copy_144 : decode cX8_copy 144 = .ok (.bipush 24, 2) := dk_16 24 (dk_at dksX8_copy_6 7 rfl rfl)
theorem dX8_copy_146 : decode cX8_copy 146 = .ok (.iload_n 3, 1) := dk_29 (dk_at dksX8_copy_6 9 rfl rfl)
theorem dX8_copy_147 : decode cX8_copy 147 = .ok (.imul, 1) := dk_104 (dk_at dksX8_copy_6 10 rfl rfl)
theorem dX8_copy_148 : decode cX8_copy 148 = .ok (.iload 4, 2) := dk_21 4 (dk_at dksX8_copy_6 11 rfl rfl)
theorem dX8_copy_150 : decode cX8_copy 150 = .ok (.iadd, 1) := dk_96 (dk_at dksX8_copy_6 13 rfl rfl)
theorem dX8_copy_151 : decode cX8_copy 151 = .ok (.iload 6, 2) := dk_21 6 (dk_at dksX8_copy_6 14 rfl rfl)
theorem dX8_copy_153 : decode cX8_copy 153 = .ok (.iadd, 1) := dk_96 (dk_at dksX8_copy_6 16 rfl rfl)
theorem dX8_copy_154 : decode cX8_copy 154 = .ok (.aload_n 0, 1) := dk_42 (dk_at dksX8_copy_6 17 rfl rfl)
theorem dX8_copy_155 : decode cX8_copy 155 = .ok (.getfield 44, 3) := dk_180 0 44 (dk_at dksX8_copy_6 18 rfl rfl)
theorem dX8_copy_158 : decode cX8_copy 158 = .ok (.iload 6, 2) := dk_21 6 (dk_at dksX8_copy_6 21 rfl rfl)
theorem dX8_copy_160 : decode cX8_copy 160 = .ok (.laload, 1) := dk_47 (dk_at dksX8_copy_6 23 rfl rfl)
theorem dX8_copy_161 : decode cX8_copy 161 = .ok (.lastore, 1) := dk_80 (dk_at dksX8_copy_7 0 rfl rfl)
theorem dX8_copy_162 : decode cX8_copy 162 = .ok (.iinc 6 1, 3) := dk_132 6 1 (dk_at dksX8_copy_7 1 rfl rfl)
theorem dX8_copy_165 : decode cX8_copy 165 = .ok (.goto (-32), 3) := dk_167 255 224 (dk_at dksX8_copy_7 4 rfl rfl)
theorem dX8_copy_168 : decode cX8_copy 168 = .ok (.iload 5, 2) := dk_21 5 (dk_at dksX8_copy_7 7 rfl rfl)
theorem dX8_copy_170 : decode cX8_copy 170 = .ok (.ireturn, 1) := dk_172 (dk_at dksX8_copy_7 9 rfl rfl)
theorem q80 : (Jvm.Cond.initialized "OneElasticModel") ∈ lw_all := lw_g (lw_at lw_m1 11 rfl) rfl
theorem q668 : (Jvm.Cond.selects "OneElasticModel" ({ cls := "java/lang/Object", name := "getClass", desc := "()Ljava/lang/Class;" } : Jvm.MethodName) ({ cls := "java/lang/Object", name := "getClass", desc := "()Ljava/lang/Class;" } : Jvm.MethodName)) ∈ lw_all := lw_g (lw_at lw_m3 119 rfl) rfl
theorem q1161 : (Jvm.Cond.instantiable "OneElasticModel" (21 : Nat)) ∈ lw_all := lw_g (lw_at lw_m5 132 rfl) rfl
theorem q1163 : (Jvm.Cond.instanceMethod ({ cls := "OneElasticModel", name := "<init>", desc := "()V" } : Jvm.MethodName)) ∈ lw_all := lw_g (lw_at lw_m5 134 rfl) rfl
theorem q1164 : (Jvm.Cond.code ({ cls := "OneElasticModel", name := "<init>", desc := "()V" } : Jvm.MethodName) prog_13_method_1_code (2 : Nat) (Option.none : Option Jvm.ClassFile.FieldType)) ∈ lw_all := lw_g (lw_at lw_m5 135 rfl) rfl
theorem q1165 : (Jvm.Cond.methodLink "OneElasticModel" (1 : Nat) ({ cls := "java/lang/Object", name := "<init>", desc := "()V" } : Jvm.MethodName)) ∈ lw_all := lw_g (lw_at lw_m5 136 rfl) rfl
theorem q1166 : (Jvm.Cond.fieldLink "OneElasticModel" (7 : Nat) "OneElasticModel" "w" "[I") ∈ lw_all := lw_g (lw_at lw_m5 137 rfl) rfl
theorem q1167 : (Jvm.Cond.fieldLink "OneElasticModel" (266 : Nat) "OneElasticModel" "isImage" "Z") ∈ lw_all := lw_g (lw_at lw_m5 138 rfl) rfl
theorem q1168 : (Jvm.Cond.fieldLink "OneElasticModel" (13 : Nat) "OneElasticModel" "tape" "[I") ∈ lw_all := lw_g (lw_at lw_m5 139 rfl) rfl
theorem q1169 : (Jvm.Cond.fieldLink "OneElasticModel" (121 : Nat) "OneElasticModel" "taped" "I") ∈ lw_all := lw_g (lw_at lw_m5 140 rfl) rfl
theorem q1170 : (Jvm.Cond.fieldLink "OneElasticModel" (16 : Nat) "OneElasticModel" "lane" "[I") ∈ lw_all := lw_g (lw_at lw_m5 141 rfl) rfl
theorem q1171 : (Jvm.Cond.fieldLink "OneElasticModel" (19 : Nat) "OneElasticModel" "size" "[I") ∈ lw_all := lw_g (lw_at lw_m5 142 rfl) rfl
theorem q1172 : (Jvm.Cond.fieldLink "OneElasticModel" (22 : Nat) "OneElasticModel" "items" "[J") ∈ lw_all := lw_g (lw_at lw_m5 143 rfl) rfl
theorem q1173 : (Jvm.Cond.fieldLink "OneElasticModel" (26 : Nat) "OneElasticModel" "up" "[I") ∈ lw_all := lw_g (lw_at lw_m5 144 rfl) rfl
theorem q1174 : (Jvm.Cond.fieldLink "OneElasticModel" (29 : Nat) "OneElasticModel" "down" "[I") ∈ lw_all := lw_g (lw_at lw_m5 145 rfl) rfl
theorem q1175 : (Jvm.Cond.fieldLink "OneElasticModel" (83 : Nat) "OneElasticModel" "above" "I") ∈ lw_all := lw_g (lw_at lw_m5 146 rfl) rfl
theorem q1176 : (Jvm.Cond.fieldLink "OneElasticModel" (87 : Nat) "OneElasticModel" "below" "I") ∈ lw_all := lw_g (lw_at lw_m5 147 rfl) rfl
theorem q1177 : (Jvm.Cond.fieldLink "OneElasticModel" (32 : Nat) "OneElasticModel" "fell" "[I") ∈ lw_all := lw_g (lw_at lw_m5 148 rfl) rfl
theorem q1178 : (Jvm.Cond.fieldLink "OneElasticModel" (97 : Nat) "OneElasticModel" "fallen" "I") ∈ lw_all := lw_g (lw_at lw_m5 149 rfl) rfl
theorem q1179 : (Jvm.Cond.fieldLink "OneElasticModel" (100 : Nat) "OneElasticModel" "torn" "I") ∈ lw_all := lw_g (lw_at lw_m5 150 rfl) rfl
theorem q1180 : (Jvm.Cond.fieldLink "OneElasticModel" (124 : Nat) "OneElasticModel" "at" "I") ∈ lw_all := lw_g (lw_at lw_m5 151 rfl) rfl
theorem q1181 : (Jvm.Cond.fieldLink "OneElasticModel" (127 : Nat) "OneElasticModel" "start" "I") ∈ lw_all := lw_g (lw_at lw_m5 152 rfl) rfl
theorem q1182 : (Jvm.Cond.fieldLink "OneElasticModel" (137 : Nat) "OneElasticModel" "number" "I") ∈ lw_all := lw_g (lw_at lw_m5 153 rfl) rfl
theorem q1183 : (Jvm.Cond.fieldLink "OneElasticModel" (35 : Nat) "OneElasticModel" "read" "[I") ∈ lw_all := lw_g (lw_at lw_m5 154 rfl) rfl
theorem q1184 : (Jvm.Cond.fieldLink "OneElasticModel" (38 : Nat) "OneElasticModel" "comesUp" "[I") ∈ lw_all := lw_g (lw_at lw_m5 155 rfl) rfl
theorem q1185 : (Jvm.Cond.fieldLink "OneElasticModel" (41 : Nat) "OneElasticModel" "comesDown" "[I") ∈ lw_all := lw_g (lw_at lw_m5 156 rfl) rfl
theorem q1186 : (Jvm.Cond.fieldLink "OneElasticModel" (44 : Nat) "OneElasticModel" "held" "[J") ∈ lw_all := lw_g (lw_at lw_m5 157 rfl) rfl
theorem q1187 : (Jvm.Cond.laysFinal "OneElasticModel" "OneElasticModel" "w" "[I") ∈ lw_all := lw_g (lw_at lw_m5 158 rfl) rfl
theorem q1188 : (Jvm.Cond.soleField "OneElasticModel" "w") ∈ lw_all := lw_g (lw_at lw_m5 159 rfl) rfl
theorem q1189 : (Jvm.Cond.lays "OneElasticModel" "OneElasticModel" "isImage" "Z") ∈ lw_all := lw_g (lw_at lw_m5 160 rfl) rfl
theorem q1190 : (Jvm.Cond.soleField "OneElasticModel" "isImage") ∈ lw_all := lw_g (lw_at lw_m5 161 rfl) rfl
theorem q1191 : (Jvm.Cond.laysFinal "OneElasticModel" "OneElasticModel" "tape" "[I") ∈ lw_all := lw_g (lw_at lw_m5 162 rfl) rfl
theorem q1192 : (Jvm.Cond.soleField "OneElasticModel" "tape") ∈ lw_all := lw_g (lw_at lw_m5 163 rfl) rfl
theorem q1193 : (Jvm.Cond.lays "OneElasticModel" "OneElasticModel" "taped" "I") ∈ lw_all := lw_g (lw_at lw_m5 164 rfl) rfl
theorem q1194 : (Jvm.Cond.soleField "OneElasticModel" "taped") ∈ lw_all := lw_g (lw_at lw_m5 165 rfl) rfl
theorem q1195 : (Jvm.Cond.laysFinal "OneElasticModel" "OneElasticModel" "lane" "[I") ∈ lw_all := lw_g (lw_at lw_m5 166 rfl) rfl
theorem q1196 : (Jvm.Cond.soleField "OneElasticModel" "lane") ∈ lw_all := lw_g (lw_at lw_m5 167 rfl) rfl
theorem q1197 : (Jvm.Cond.laysFinal "OneElasticModel" "OneElasticModel" "size" "[I") ∈ lw_all := lw_g (lw_at lw_m5 168 rfl) rfl
theorem q1198 : (Jvm.Cond.soleField "OneElasticModel" "size") ∈ lw_all := lw_g (lw_at lw_m5 169 rfl) rfl
theorem q1199 : (Jvm.Cond.laysFinal "OneElasticModel" "OneElasticModel" "items" "[J") ∈ lw_all := lw_g (lw_at lw_m5 170 rfl) rfl
theorem q1200 : (Jvm.Cond.soleField "OneElasticModel" "items") ∈ lw_all := lw_g (lw_at lw_m5 171 rfl) rfl
theorem q1201 : (Jvm.Cond.laysFinal "OneElasticModel" "OneElasticModel" "up" "[I") ∈ lw_all := lw_g (lw_at lw_m5 172 rfl) rfl
theorem q1202 : (Jvm.Cond.soleField "OneElasticModel" "up") ∈ lw_all := lw_g (lw_at lw_m5 173 rfl) rfl
theorem q1203 : (Jvm.Cond.laysFinal "OneElasticModel" "OneElasticModel" "down" "[I") ∈ lw_all := lw_g (lw_at lw_m5 174 rfl) rfl
theorem q1204 : (Jvm.Cond.soleField "OneElasticModel" "down") ∈ lw_all := lw_g (lw_at lw_m5 175 rfl) rfl
theorem q1205 : (Jvm.Cond.lays "OneElasticModel" "OneElasticModel" "above" "I") ∈ lw_all := lw_g (lw_at lw_m5 176 rfl) rfl
theorem q1206 : (Jvm.Cond.soleField "OneElasticModel" "above") ∈ lw_all := lw_g (lw_at lw_m5 177 rfl) rfl
theorem q1207 : (Jvm.Cond.lays "OneElasticModel" "OneElasticModel" "below" "I") ∈ lw_all := lw_g (lw_at lw_m5 178 rfl) rfl
theorem q1208 : (Jvm.Cond.soleField "OneElasticModel" "below") ∈ lw_all := lw_g (lw_at lw_m5 179 rfl) rfl
theorem q1209 : (Jvm.Cond.laysFinal "OneElasticModel" "OneElasticModel" "fell" "[I") ∈ lw_all := lw_g (lw_at lw_m5 180 rfl) rfl
theorem q1210 : (Jvm.Cond.soleField "OneElasticModel" "fell") ∈ lw_all := lw_g (lw_at lw_m5 181 rfl) rfl
theorem q1211 : (Jvm.Cond.lays "OneElasticModel" "OneElasticModel" "fallen" "I") ∈ lw_all := lw_g (lw_at lw_m5 182 rfl) rfl
theorem q1212 : (Jvm.Cond.soleField "OneElasticModel" "fallen") ∈ lw_all := lw_g (lw_at lw_m5 183 rfl) rfl
theorem q1213 : (Jvm.Cond.lays "OneElasticModel" "OneElasticModel" "torn" "I") ∈ lw_all := lw_g (lw_at lw_m5 184 rfl) rfl
theorem q1214 : (Jvm.Cond.soleField "OneElasticModel" "torn") ∈ lw_all := lw_g (lw_at lw_m5 185 rfl) rfl
theorem q1215 : (Jvm.Cond.lays "OneElasticModel" "OneElasticModel" "at" "I") ∈ lw_all := lw_g (lw_at lw_m5 186 rfl) rfl
theorem q1216 : (Jvm.Cond.soleField "OneElasticModel" "at") ∈ lw_all := lw_g (lw_at lw_m5 187 rfl) rfl
theorem q1217 : (Jvm.Cond.lays "OneElasticModel" "OneElasticModel" "start" "I") ∈ lw_all := lw_g (lw_at lw_m5 188 rfl) rfl
theorem q1218 : (Jvm.Cond.soleField "OneElasticModel" "start") ∈ lw_all := lw_g (lw_at lw_m5 189 rfl) rfl
theorem q1219 : (Jvm.Cond.lays "OneElasticModel" "OneElasticModel" "number" "I") ∈ lw_all := lw_g (lw_at lw_m5 190 rfl) rfl
theorem q1220 : (Jvm.Cond.soleField "OneElasticModel" "number") ∈ lw_all := lw_g (lw_at lw_m5 191 rfl) rfl
theorem q1221 : (Jvm.Cond.laysFinal "OneElasticModel" "OneElasticModel" "read" "[I") ∈ lw_all := lw_g (lw_at lw_m5 192 rfl) rfl
theorem q1222 : (Jvm.Cond.soleField "OneElasticModel" "read") ∈ lw_all := lw_g (lw_at lw_m5 193 rfl) rfl
theorem q1223 : (Jvm.Cond.laysFinal "OneElasticModel" "OneElasticModel" "comesUp" "[I") ∈ lw_all := lw_g (lw_at lw_m5 194 rfl) rfl
theorem q1224 : (Jvm.Cond.soleField "OneElasticModel" "comesUp") ∈ lw_all := lw_g (lw_at lw_m5 195 rfl) rfl
theorem q1225 : (Jvm.Cond.laysFinal "OneElasticModel" "OneElasticModel" "comesDown" "[I") ∈ lw_all := lw_g (lw_at lw_m5 196 rfl) rfl
theorem q1226 : (Jvm.Cond.soleField "OneElasticModel" "comesDown") ∈ lw_all := lw_g (lw_at lw_m5 197 rfl) rfl
theorem q1227 : (Jvm.Cond.laysFinal "OneElasticModel" "OneElasticModel" "held" "[J") ∈ lw_all := lw_g (lw_at lw_m5 198 rfl) rfl
theorem q1228 : (Jvm.Cond.soleField "OneElasticModel" "held") ∈ lw_all := lw_g (lw_at lw_m5 199 rfl) rfl
theorem q1229 : (Jvm.Cond.superclass "OneElasticModel" "java/lang/Object") ∈ lw_all := lw_g (lw_at lw_m5 200 rfl) rfl
theorem q1231 : (Jvm.Cond.instanceMethod ({ cls := "OneElasticModel", name := "type", desc := "(I)I" } : Jvm.MethodName)) ∈ lw_all := lw_g (lw_at lw_m5 202 rfl) rfl
theorem q1232 : (Jvm.Cond.selects "OneElasticModel" ({ cls := "OneElasticModel", name := "type", desc := "(I)I" } : Jvm.MethodName) ({ cls := "OneElasticModel", name := "type", desc := "(I)I" } : Jvm.MethodName)) ∈ lw_all := lw_g (lw_at lw_m5 203 rfl) rfl
theorem q1233 : (Jvm.Cond.code ({ cls := "OneElasticModel", name := "type", desc := "(I)I" } : Jvm.MethodName) prog_13_method_22_code (2 : Nat) (Option.some Jvm.ClassFile.FieldType.int)) ∈ lw_all := lw_g (lw_at lw_m5 204 rfl) rfl
theorem q1234 : (Jvm.Cond.constantLong "OneElasticModel" (117 : Nat) (32 : Int64)) ∈ lw_all := lw_g (lw_at lw_m5 205 rfl) rfl
theorem q1235 : (Jvm.Cond.constantLong "OneElasticModel" (119 : Nat) (126 : Int64)) ∈ lw_all := lw_g (lw_at lw_m5 206 rfl) rfl
theorem q1236 : (Jvm.Cond.methodLink "OneElasticModel" (49 : Nat) ({ cls := "OneElasticModel", name := "in", desc := "(JJJ)Z" } : Jvm.MethodName)) ∈ lw_all := lw_g (lw_at lw_m5 207 rfl) rfl
theorem q1237 : (Jvm.Cond.static ({ cls := "OneElasticModel", name := "in", desc := "(JJJ)Z" } : Jvm.MethodName)) ∈ lw_all := lw_g (lw_at lw_m5 208 rfl) rfl
theorem q1238 : (Jvm.Cond.code ({ cls := "OneElasticModel", name := "in", desc := "(JJJ)Z" } : Jvm.MethodName) prog_13_method_3_code (6 : Nat) (Option.some Jvm.ClassFile.FieldType.boolean)) ∈ lw_all := lw_g (lw_at lw_m5 209 rfl) rfl
theorem q1240 : (Jvm.Cond.instanceMethod ({ cls := "OneElasticModel", name := "street", desc := "()I" } : Jvm.MethodName)) ∈ lw_all := lw_g (lw_at lw_m5 211 rfl) rfl
theorem q1241 : (Jvm.Cond.selects "OneElasticModel" ({ cls := "OneElasticModel", name := "street", desc := "()I" } : Jvm.MethodName) ({ cls := "OneElasticModel", name := "street", desc := "()I" } : Jvm.MethodName)) ∈ lw_all := lw_g (lw_at lw_m5 212 rfl) rfl
theorem q1242 : (Jvm.Cond.code ({ cls := "OneElasticModel", name := "street", desc := "()I" } : Jvm.MethodName) prog_13_method_31_code (3 : Nat) (Option.some Jvm.ClassFile.FieldType.int)) ∈ lw_all := lw_g (lw_at lw_m5 213 rfl) rfl
theorem q1243 : (Jvm.Cond.methodLink "OneElasticModel" (162 : Nat) ({ cls := "OneElasticModel", name := "readsAll", desc := "()Z" } : Jvm.MethodName)) ∈ lw_all := lw_g (lw_at lw_m5 214 rfl) rfl
theorem q1244 : (Jvm.Cond.privateMethod ({ cls := "OneElasticModel", name := "readsAll", desc := "()Z" } : Jvm.MethodName)) ∈ lw_tbl := lw_at lw_m5 215 rfl
theorem q1245 : (Jvm.Cond.instanceMethod ({ cls := "OneElasticModel", name := "readsAll", desc := "()Z" } : Jvm.MethodName)) ∈ lw_all := lw_g (lw_at lw_m5 216 rfl) rfl
theorem q1246 : (Jvm.Cond.code ({ cls := "OneElasticModel", name := "readsAll", desc := "()Z" } : Jvm.MethodName) prog_13_method_30_code (2 : Nat) (Option.some Jvm.ClassFile.FieldType.boolean)) ∈ lw_all := lw_g (lw_at lw_m5 217 rfl) rfl
theorem q1247 : (Jvm.Cond.methodLink "OneElasticModel" (147 : Nat) ({ cls := "OneElasticModel", name := "takesNumber", desc := "(III)Z" } : Jvm.MethodName)) ∈ lw_all := lw_g (lw_at lw_m5 218 rfl) rfl
theorem q1248 : (Jvm.Cond.privateMethod ({ cls := "OneElasticModel", name := "takesNumber", desc := "(III)Z" } : Jvm.MethodName)) ∈ lw_tbl := lw_at lw_m5 219 rfl
theorem q1249 : (Jvm.Cond.instanceMethod ({ cls := "OneElasticModel", name := "takesNumber", desc := "(III)Z" } : Jvm.MethodName)) ∈ lw_all := lw_g (lw_at lw_m5 220 rfl) rfl
theorem q1250 : (Jvm.Cond.code ({ cls := "OneElasticModel", name := "takesNumber", desc := "(III)Z" } : Jvm.MethodName) prog_13_method_26_code (5 : Nat) (Option.some Jvm.ClassFile.FieldType.boolean)) ∈ lw_all := lw_g (lw_at lw_m5 221 rfl) rfl
theorem q1251 : (Jvm.Cond.methodLink "OneElasticModel" (130 : Nat) ({ cls := "OneElasticModel", name := "blanks", desc := "()V" } : Jvm.MethodName)) ∈ lw_all := lw_g (lw_at lw_m5 222 rfl) rfl
theorem q1252 : (Jvm.Cond.privateMethod ({ cls := "OneElasticModel", name := "blanks", desc := "()V" } : Jvm.MethodName)) ∈ lw_tbl := lw_at lw_m5 223 rfl
theorem q1253 : (Jvm.Cond.instanceMethod ({ cls := "OneElasticModel", name := "blanks", desc := "()V" } : Jvm.MethodName)) ∈ lw_all := lw_g (lw_at lw_m5 224 rfl) rfl
theorem q1254 : (Jvm.Cond.code ({ cls := "OneElasticModel", name := "blanks", desc := "()V" } : Jvm.MethodName) prog_13_method_23_code (1 : Nat) (Option.none : Option Jvm.ClassFile.FieldType)) ∈ lw_all := lw_g (lw_at lw_m5 225 rfl) rfl
theorem q1255 : (Jvm.Cond.methodLink "OneElasticModel" (133 : Nat) ({ cls := "OneElasticModel", name := "here", desc := "()I" } : Jvm.MethodName)) ∈ lw_all := lw_g (lw_at lw_m5 226 rfl) rfl
theorem q1256 : (Jvm.Cond.privateMethod ({ cls := "OneElasticModel", name := "here", desc := "()I" } : Jvm.MethodName)) ∈ lw_tbl := lw_at lw_m5 227 rfl
theorem q1257 : (Jvm.Cond.instanceMethod ({ cls := "OneElasticModel", name := "here", desc := "()I" } : Jvm.MethodName)) ∈ lw_all := lw_g (lw_at lw_m5 228 rfl) rfl
theorem q1258 : (Jvm.Cond.code ({ cls := "OneElasticModel", name := "here", desc := "()I" } : Jvm.MethodName) prog_13_method_24_code (1 : Nat) (Option.some Jvm.ClassFile.FieldType.int)) ∈ lw_all := lw_g (lw_at lw_m5 229 rfl) rfl
theorem q1259 : (Jvm.Cond.constantLong "OneElasticModel" (140 : Nat) (48 : Int64)) ∈ lw_all := lw_g (lw_at lw_m5 230 rfl) rfl
theorem q1260 : (Jvm.Cond.constantLong "OneElasticModel" (142 : Nat) (57 : Int64)) ∈ lw_all := lw_g (lw_at lw_m5 231 rfl) rfl
theorem q1261 : (Jvm.Cond.methodLink "OneElasticModel" (151 : Nat) ({ cls := "OneElasticModel", name := "takes", desc := "(I)Z" } : Jvm.MethodName)) ∈ lw_all := lw_g (lw_at lw_m5 232 rfl) rfl
theorem q1262 : (Jvm.Cond.privateMethod ({ cls := "OneElasticModel", name := "takes", desc := "(I)Z" } : Jvm.MethodName)) ∈ lw_tbl := lw_at lw_m5 233 rfl
theorem q1263 : (Jvm.Cond.instanceMethod ({ cls := "OneElasticModel", name := "takes", desc := "(I)Z" } : Jvm.MethodName)) ∈ lw_all := lw_g (lw_at lw_m5 234 rfl) rfl
theorem q1264 : (Jvm.Cond.code ({ cls := "OneElasticModel", name := "takes", desc := "(I)Z" } : Jvm.MethodName) prog_13_method_25_code (3 : Nat) (Option.some Jvm.ClassFile.FieldType.boolean)) ∈ lw_all := lw_g (lw_at lw_m5 235 rfl) rfl
theorem q1265 : (Jvm.Cond.methodLink "OneElasticModel" (155 : Nat) ({ cls := "OneElasticModel", name := "takesPerson", desc := "()Z" } : Jvm.MethodName)) ∈ lw_all := lw_g (lw_at lw_m5 236 rfl) rfl
theorem q1266 : (Jvm.Cond.privateMethod ({ cls := "OneElasticModel", name := "takesPerson", desc := "()Z" } : Jvm.MethodName)) ∈ lw_tbl := lw_at lw_m5 237 rfl
theorem q1267 : (Jvm.Cond.instanceMethod ({ cls := "OneElasticModel", name := "takesPerson", desc := "()Z" } : Jvm.MethodName)) ∈ lw_all := lw_g (lw_at lw_m5 238 rfl) rfl
theorem q1268 : (Jvm.Cond.code ({ cls := "OneElasticModel", name := "takesPerson", desc := "()Z" } : Jvm.MethodName) prog_13_method_28_code (3 : Nat) (Option.some Jvm.ClassFile.FieldType.boolean)) ∈ lw_all := lw_g (lw_at lw_m5 239 rfl) rfl
theorem q1269 : (Jvm.Cond.methodLink "OneElasticModel" (144 : Nat) ({ cls := "OneElasticModel", name := "kindOf", desc := "(I)I" } : Jvm.MethodName)) ∈ lw_all := lw_g (lw_at lw_m6 0 rfl) rfl
theorem q1270 : (Jvm.Cond.static ({ cls := "OneElasticModel", name := "kindOf", desc := "(I)I" } : Jvm.MethodName)) ∈ lw_all := lw_g (lw_at lw_m6 1 rfl) rfl
theorem q1271 : (Jvm.Cond.code ({ cls := "OneElasticModel", name := "kindOf", desc := "(I)I" } : Jvm.MethodName) prog_13_method_27_code (1 : Nat) (Option.some Jvm.ClassFile.FieldType.int)) ∈ lw_all := lw_g (lw_at lw_m6 2 rfl) rfl
theorem q1272 : (Jvm.Cond.methodLink "OneElasticModel" (159 : Nat) ({ cls := "OneElasticModel", name := "takesSeam", desc := "()Z" } : Jvm.MethodName)) ∈ lw_all := lw_g (lw_at lw_m6 3 rfl) rfl
theorem q1273 : (Jvm.Cond.privateMethod ({ cls := "OneElasticModel", name := "takesSeam", desc := "()Z" } : Jvm.MethodName)) ∈ lw_tbl := lw_at lw_m6 4 rfl
theorem q1274 : (Jvm.Cond.instanceMethod ({ cls := "OneElasticModel", name := "takesSeam", desc := "()Z" } : Jvm.MethodName)) ∈ lw_all := lw_g (lw_at lw_m6 5 rfl) rfl
theorem q1275 : (Jvm.Cond.code ({ cls := "OneElasticModel", name := "takesSeam", desc := "()Z" } : Jvm.MethodName) prog_13_method_29_code (2 : Nat) (Option.some Jvm.ClassFile.FieldType.boolean)) ∈ lw_all := lw_g (lw_at lw_m6 6 rfl) rfl
theorem q1276 : (Jvm.Cond.methodLink "OneElasticModel" (165 : Nat) ({ cls := "OneElasticModel", name := "settles", desc := "(I)V" } : Jvm.MethodName)) ∈ lw_all := lw_g (lw_at lw_m6 7 rfl) rfl
theorem q1277 : (Jvm.Cond.privateMethod ({ cls := "OneElasticModel", name := "settles", desc := "(I)V" } : Jvm.MethodName)) ∈ lw_tbl := lw_at lw_m6 8 rfl
theorem q1278 : (Jvm.Cond.instanceMethod ({ cls := "OneElasticModel", name := "settles", desc := "(I)V" } : Jvm.MethodName)) ∈ lw_all := lw_g (lw_at lw_m6 9 rfl) rfl
theorem q1279 : (Jvm.Cond.code ({ cls := "OneElasticModel", name := "settles", desc := "(I)V" } : Jvm.MethodName) prog_13_method_21_code (5 : Nat) (Option.none : Option Jvm.ClassFile.FieldType)) ∈ lw_all := lw_g (lw_at lw_m6 10 rfl) rfl
theorem q1280 : (Jvm.Cond.methodLink "OneElasticModel" (103 : Nat) ({ cls := "OneElasticModel", name := "layPulls", desc := "(I)V" } : Jvm.MethodName)) ∈ lw_all := lw_g (lw_at lw_m6 11 rfl) rfl
theorem q1281 : (Jvm.Cond.privateMethod ({ cls := "OneElasticModel", name := "layPulls", desc := "(I)V" } : Jvm.MethodName)) ∈ lw_tbl := lw_at lw_m6 12 rfl
theorem q1282 : (Jvm.Cond.instanceMethod ({ cls := "OneElasticModel", name := "layPulls", desc := "(I)V" } : Jvm.MethodName)) ∈ lw_all := lw_g (lw_at lw_m6 13 rfl) rfl
theorem q1283 : (Jvm.Cond.code ({ cls := "OneElasticModel", name := "layPulls", desc := "(I)V" } : Jvm.MethodName) prog_13_method_12_code (6 : Nat) (Option.none : Option Jvm.ClassFile.FieldType)) ∈ lw_all := lw_g (lw_at lw_m6 14 rfl) rfl
theorem q1284 : (Jvm.Cond.methodLink "OneElasticModel" (53 : Nat) ({ cls := "OneElasticModel", name := "holds", desc := "(II)Z" } : Jvm.MethodName)) ∈ lw_all := lw_g (lw_at lw_m6 15 rfl) rfl
theorem q1285 : (Jvm.Cond.privateMethod ({ cls := "OneElasticModel", name := "holds", desc := "(II)Z" } : Jvm.MethodName)) ∈ lw_tbl := lw_at lw_m6 16 rfl
theorem q1286 : (Jvm.Cond.instanceMethod ({ cls := "OneElasticModel", name := "holds", desc := "(II)Z" } : Jvm.MethodName)) ∈ lw_all := lw_g (lw_at lw_m6 17 rfl) rfl
theorem q1287 : (Jvm.Cond.code ({ cls := "OneElasticModel", name := "holds", desc := "(II)Z" } : Jvm.MethodName) prog_13_method_8_code (3 : Nat) (Option.some Jvm.ClassFile.FieldType.boolean)) ∈ lw_all := lw_g (lw_at lw_m6 18 rfl) rfl
theorem q1288 : (Jvm.Cond.methodLink "OneElasticModel" (57 : Nat) ({ cls := "OneElasticModel", name := "nextRight", desc := "(II)I" } : Jvm.MethodName)) ∈ lw_all := lw_g (lw_at lw_m6 19 rfl) rfl
theorem q1289 : (Jvm.Cond.privateMethod ({ cls := "OneElasticModel", name := "nextRight", desc := "(II)I" } : Jvm.MethodName)) ∈ lw_tbl := lw_at lw_m6 20 rfl
theorem q1290 : (Jvm.Cond.instanceMethod ({ cls := "OneElasticModel", name := "nextRight", desc := "(II)I" } : Jvm.MethodName)) ∈ lw_all := lw_g (lw_at lw_m6 21 rfl) rfl
theorem q1291 : (Jvm.Cond.code ({ cls := "OneElasticModel", name := "nextRight", desc := "(II)I" } : Jvm.MethodName) prog_13_method_9_code (4 : Nat) (Option.some Jvm.ClassFile.FieldType.int)) ∈ lw_all := lw_g (lw_at lw_m6 22 rfl) rfl
theorem q1292 : (Jvm.Cond.methodLink "OneElasticModel" (61 : Nat) ({ cls := "OneElasticModel", name := "sumOf", desc := "(III)I" } : Jvm.MethodName)) ∈ lw_all := lw_g (lw_at lw_m6 23 rfl) rfl
theorem q1293 : (Jvm.Cond.privateMethod ({ cls := "OneElasticModel", name := "sumOf", desc := "(III)I" } : Jvm.MethodName)) ∈ lw_tbl := lw_at lw_m6 24 rfl
theorem q1294 : (Jvm.Cond.instanceMethod ({ cls := "OneElasticModel", name := "sumOf", desc := "(III)I" } : Jvm.MethodName)) ∈ lw_all := lw_g (lw_at lw_m6 25 rfl) rfl
theorem q1295 : (Jvm.Cond.code ({ cls := "OneElasticModel", name := "sumOf", desc := "(III)I" } : Jvm.MethodName) prog_13_method_11_code (6 : Nat) (Option.some Jvm.ClassFile.FieldType.int)) ∈ lw_all := lw_g (lw_at lw_m6 26 rfl) rfl
theorem q1296 : (Jvm.Cond.methodLink "OneElasticModel" (107 : Nat) ({ cls := "OneElasticModel", name := "tornSeam", desc := "(I)I" } : Jvm.MethodName)) ∈ lw_all := lw_g (lw_at lw_m6 27 rfl) rfl
theorem q1297 : (Jvm.Cond.privateMethod ({ cls := "OneElasticModel", name := "tornSeam", desc := "(I)I" } : Jvm.MethodName)) ∈ lw_tbl := lw_at lw_m6 28 rfl
theorem q1298 : (Jvm.Cond.instanceMethod ({ cls := "OneElasticModel", name := "tornSeam", desc := "(I)I" } : Jvm.MethodName)) ∈ lw_all := lw_g (lw_at lw_m6 29 rfl) rfl
theorem q1299 : (Jvm.Cond.code ({ cls := "OneElasticModel", name := "tornSeam", desc := "(I)I" } : Jvm.MethodName) prog_13_method_19_code (3 : Nat) (Option.some Jvm.ClassFile.FieldType.int)) ∈ lw_all := lw_g (lw_at lw_m6 30 rfl) rfl
theorem q1300 : (Jvm.Cond.methodLink "OneElasticModel" (111 : Nat) ({ cls := "OneElasticModel", name := "cuts", desc := "(II)V" } : Jvm.MethodName)) ∈ lw_all := lw_g (lw_at lw_m6 31 rfl) rfl
theorem q1301 : (Jvm.Cond.privateMethod ({ cls := "OneElasticModel", name := "cuts", desc := "(II)V" } : Jvm.MethodName)) ∈ lw_tbl := lw_at lw_m6 32 rfl
theorem q1302 : (Jvm.Cond.instanceMethod ({ cls := "OneElasticModel", name := "cuts", desc := "(II)V" } : Jvm.MethodName)) ∈ lw_all := lw_g (lw_at lw_m6 33 rfl) rfl
theorem q1303 : (Jvm.Cond.code ({ cls := "OneElasticModel", name := "cuts", desc := "(II)V" } : Jvm.MethodName) prog_13_method_20_code (5 : Nat) (Option.none : Option Jvm.ClassFile.FieldType)) ∈ lw_all := lw_g (lw_at lw_m6 34 rfl) rfl
theorem q1304 : (Jvm.Cond.methodLink "OneElasticModel" (114 : Nat) ({ cls := "OneElasticModel", name := "isPulledOff", desc := "(II)Z" } : Jvm.MethodName)) ∈ lw_all := lw_g (lw_at lw_m6 35 rfl) rfl
theorem q1305 : (Jvm.Cond.privateMethod ({ cls := "OneElasticModel", name := "isPulledOff", desc := "(II)Z" } : Jvm.MethodName)) ∈ lw_tbl := lw_at lw_m6 36 rfl
theorem q1306 : (Jvm.Cond.instanceMethod ({ cls := "OneElasticModel", name := "isPulledOff", desc := "(II)Z" } : Jvm.MethodName)) ∈ lw_all := lw_g (lw_at lw_m6 37 rfl) rfl
theorem q1307 : (Jvm.Cond.code ({ cls := "OneElasticModel", name := "isPulledOff", desc := "(II)Z" } : Jvm.MethodName) prog_13_method_18_code (4 : Nat) (Option.some Jvm.ClassFile.FieldType.boolean)) ∈ lw_all := lw_g (lw_at lw_m6 38 rfl) rfl
theorem q1308 : (Jvm.Cond.methodLink "OneElasticModel" (90 : Nat) ({ cls := "OneElasticModel", name := "layPulled", desc := "(II)V" } : Jvm.MethodName)) ∈ lw_all := lw_g (lw_at lw_m6 39 rfl) rfl
theorem q1309 : (Jvm.Cond.privateMethod ({ cls := "OneElasticModel", name := "layPulled", desc := "(II)V" } : Jvm.MethodName)) ∈ lw_tbl := lw_at lw_m6 40 rfl
theorem q1310 : (Jvm.Cond.instanceMethod ({ cls := "OneElasticModel", name := "layPulled", desc := "(II)V" } : Jvm.MethodName)) ∈ lw_all := lw_g (lw_at lw_m6 41 rfl) rfl
theorem q1311 : (Jvm.Cond.code ({ cls := "OneElasticModel", name := "layPulled", desc := "(II)V" } : Jvm.MethodName) prog_13_method_17_code (7 : Nat) (Option.none : Option Jvm.ClassFile.FieldType)) ∈ lw_all := lw_g (lw_at lw_m6 42 rfl) rfl
theorem q1312 : (Jvm.Cond.methodLink "OneElasticModel" (94 : Nat) ({ cls := "OneElasticModel", name := "outOf", desc := "(II)I" } : Jvm.MethodName)) ∈ lw_all := lw_g (lw_at lw_m6 43 rfl) rfl
theorem q1313 : (Jvm.Cond.privateMethod ({ cls := "OneElasticModel", name := "outOf", desc := "(II)I" } : Jvm.MethodName)) ∈ lw_tbl := lw_at lw_m6 44 rfl
theorem q1314 : (Jvm.Cond.instanceMethod ({ cls := "OneElasticModel", name := "outOf", desc := "(II)I" } : Jvm.MethodName)) ∈ lw_all := lw_g (lw_at lw_m6 45 rfl) rfl
theorem q1315 : (Jvm.Cond.code ({ cls := "OneElasticModel", name := "outOf", desc := "(II)I" } : Jvm.MethodName) prog_13_method_14_code (5 : Nat) (Option.some Jvm.ClassFile.FieldType.int)) ∈ lw_all := lw_g (lw_at lw_m6 46 rfl) rfl
theorem q1316 : (Jvm.Cond.methodLink "OneElasticModel" (65 : Nat) ({ cls := "OneElasticModel", name := "stout", desc := "(II)I" } : Jvm.MethodName)) ∈ lw_all := lw_g (lw_at lw_m6 47 rfl) rfl
theorem q1317 : (Jvm.Cond.static ({ cls := "OneElasticModel", name := "stout", desc := "(II)I" } : Jvm.MethodName)) ∈ lw_all := lw_g (lw_at lw_m6 48 rfl) rfl
theorem q1318 : (Jvm.Cond.code ({ cls := "OneElasticModel", name := "stout", desc := "(II)I" } : Jvm.MethodName) prog_13_method_15_code (2 : Nat) (Option.some Jvm.ClassFile.FieldType.int)) ∈ lw_all := lw_g (lw_at lw_m6 49 rfl) rfl
theorem q1319 : (Jvm.Cond.constantLong "OneElasticModel" (75 : Nat) (7 : Int64)) ∈ lw_all := lw_g (lw_at lw_m6 50 rfl) rfl
theorem q1320 : (Jvm.Cond.constantLong "OneElasticModel" (77 : Nat) (8 : Int64)) ∈ lw_all := lw_g (lw_at lw_m6 51 rfl) rfl
theorem q1321 : (Jvm.Cond.methodLink "OneElasticModel" (68 : Nat) ({ cls := "OneElasticModel", name := "parson", desc := "(II)I" } : Jvm.MethodName)) ∈ lw_all := lw_g (lw_at lw_m6 52 rfl) rfl
theorem q1322 : (Jvm.Cond.static ({ cls := "OneElasticModel", name := "parson", desc := "(II)I" } : Jvm.MethodName)) ∈ lw_all := lw_g (lw_at lw_m6 53 rfl) rfl
theorem q1323 : (Jvm.Cond.code ({ cls := "OneElasticModel", name := "parson", desc := "(II)I" } : Jvm.MethodName) prog_13_method_16_code (3 : Nat) (Option.some Jvm.ClassFile.FieldType.int)) ∈ lw_all := lw_g (lw_at lw_m6 54 rfl) rfl
theorem q1324 : (Jvm.Cond.constantLong "OneElasticModel" (79 : Nat) (9 : Int64)) ∈ lw_all := lw_g (lw_at lw_m6 55 rfl) rfl
theorem q1325 : (Jvm.Cond.constantLong "OneElasticModel" (81 : Nat) (11 : Int64)) ∈ lw_all := lw_g (lw_at lw_m6 56 rfl) rfl
theorem q1326 : (Jvm.Cond.constantLong "OneElasticModel" (71 : Nat) (15 : Int64)) ∈ lw_all := lw_g (lw_at lw_m6 57 rfl) rfl
theorem q1327 : (Jvm.Cond.constantLong "OneElasticModel" (73 : Nat) (16 : Int64)) ∈ lw_all := lw_g (lw_at lw_m6 58 rfl) rfl
theorem q1329 : (Jvm.Cond.instanceMethod ({ cls := "OneElasticModel", name := "person", desc := "(IIIII)I" } : Jvm.MethodName)) ∈ lw_all := lw_g (lw_at lw_m6 60 rfl) rfl
theorem q1330 : (Jvm.Cond.selects "OneElasticModel" ({ cls := "OneElasticModel", name := "person", desc := "(IIIII)I" } : Jvm.MethodName) ({ cls := "OneElasticModel", name := "person", desc := "(IIIII)I" } : Jvm.MethodName)) ∈ lw_all := lw_g (lw_at lw_m6 61 rfl) rfl
theorem q1331 : (Jvm.Cond.code ({ cls := "OneElasticModel", name := "person", desc := "(IIIII)I" } : Jvm.MethodName) prog_13_method_32_code (7 : Nat) (Option.some Jvm.ClassFile.FieldType.int)) ∈ lw_all := lw_g (lw_at lw_m6 62 rfl) rfl
theorem q1332 : (Jvm.Cond.constantLong "OneElasticModel" (168 : Nat) (4 : Int64)) ∈ lw_all := lw_g (lw_at lw_m6 63 rfl) rfl
theorem q1333 : (Jvm.Cond.constantLong "OneElasticModel" (170 : Nat) (30 : Int64)) ∈ lw_all := lw_g (lw_at lw_m6 64 rfl) rfl
theorem q1334 : (Jvm.Cond.constantLong "OneElasticModel" (172 : Nat) (99 : Int64)) ∈ lw_all := lw_g (lw_at lw_m6 65 rfl) rfl
theorem q1335 : (Jvm.Cond.constantLong "OneElasticModel" (174 : Nat) (20 : Int64)) ∈ lw_all := lw_g (lw_at lw_m6 66 rfl) rfl
theorem q1337 : (Jvm.Cond.instanceMethod ({ cls := "OneElasticModel", name := "of", desc := "(II)I" } : Jvm.MethodName)) ∈ lw_all := lw_g (lw_at lw_m6 68 rfl) rfl
theorem q1338 : (Jvm.Cond.selects "OneElasticModel" ({ cls := "OneElasticModel", name := "of", desc := "(II)I" } : Jvm.MethodName) ({ cls := "OneElasticModel", name := "of", desc := "(II)I" } : Jvm.MethodName)) ∈ lw_all := lw_g (lw_at lw_m6 69 rfl) rfl
theorem q1339 : (Jvm.Cond.code ({ cls := "OneElasticModel", name := "of", desc := "(II)I" } : Jvm.MethodName) prog_13_method_34_code (3 : Nat) (Option.some Jvm.ClassFile.FieldType.int)) ∈ lw_all := lw_g (lw_at lw_m6 70 rfl) rfl
theorem q1340 : (Jvm.Cond.methodLink "OneElasticModel" (176 : Nat) ({ cls := "OneElasticModel", name := "isPerson", desc := "(I)Z" } : Jvm.MethodName)) ∈ lw_all := lw_g (lw_at lw_m6 71 rfl) rfl
theorem q1341 : (Jvm.Cond.privateMethod ({ cls := "OneElasticModel", name := "isPerson", desc := "(I)Z" } : Jvm.MethodName)) ∈ lw_tbl := lw_at lw_m6 72 rfl
theorem q1342 : (Jvm.Cond.instanceMethod ({ cls := "OneElasticModel", name := "isPerson", desc := "(I)Z" } : Jvm.MethodName)) ∈ lw_all := lw_g (lw_at lw_m6 73 rfl) rfl
theorem q1343 : (Jvm.Cond.code ({ cls := "OneElasticModel", name := "isPerson", desc := "(I)Z" } : Jvm.MethodName) prog_13_method_6_code (2 : Nat) (Option.some Jvm.ClassFile.FieldType.boolean)) ∈ lw_all := lw_g (lw_at lw_m6 74 rfl) rfl
theorem q1344 : (Jvm.Cond.methodLink "OneElasticModel" (179 : Nat) ({ cls := "OneElasticModel", name := "sideOf", desc := "(I)I" } : Jvm.MethodName)) ∈ lw_all := lw_g (lw_at lw_m6 75 rfl) rfl
theorem q1345 : (Jvm.Cond.privateMethod ({ cls := "OneElasticModel", name := "sideOf", desc := "(I)I" } : Jvm.MethodName)) ∈ lw_tbl := lw_at lw_m6 76 rfl
theorem q1346 : (Jvm.Cond.instanceMethod ({ cls := "OneElasticModel", name := "sideOf", desc := "(I)I" } : Jvm.MethodName)) ∈ lw_all := lw_g (lw_at lw_m6 77 rfl) rfl
theorem q1347 : (Jvm.Cond.code ({ cls := "OneElasticModel", name := "sideOf", desc := "(I)I" } : Jvm.MethodName) prog_13_method_33_code (2 : Nat) (Option.some Jvm.ClassFile.FieldType.int)) ∈ lw_all := lw_g (lw_at lw_m6 78 rfl) rfl
theorem q1349 : (Jvm.Cond.instanceMethod ({ cls := "OneElasticModel", name := "place", desc := "(II)I" } : Jvm.MethodName)) ∈ lw_all := lw_g (lw_at lw_m6 80 rfl) rfl
theorem q1350 : (Jvm.Cond.selects "OneElasticModel" ({ cls := "OneElasticModel", name := "place", desc := "(II)I" } : Jvm.MethodName) ({ cls := "OneElasticModel", name := "place", desc := "(II)I" } : Jvm.MethodName)) ∈ lw_all := lw_g (lw_at lw_m6 81 rfl) rfl
theorem q1351 : (Jvm.Cond.code ({ cls := "OneElasticModel", name := "place", desc := "(II)I" } : Jvm.MethodName) prog_13_method_38_code (3 : Nat) (Option.some Jvm.ClassFile.FieldType.int)) ∈ lw_all := lw_g (lw_at lw_m6 82 rfl) rfl
theorem q1352 : (Jvm.Cond.methodLink "OneElasticModel" (188 : Nat) ({ cls := "OneElasticModel", name := "layPlace", desc := "(II)V" } : Jvm.MethodName)) ∈ lw_all := lw_g (lw_at lw_m6 83 rfl) rfl
theorem q1353 : (Jvm.Cond.privateMethod ({ cls := "OneElasticModel", name := "layPlace", desc := "(II)V" } : Jvm.MethodName)) ∈ lw_tbl := lw_at lw_m6 84 rfl
theorem q1354 : (Jvm.Cond.instanceMethod ({ cls := "OneElasticModel", name := "layPlace", desc := "(II)V" } : Jvm.MethodName)) ∈ lw_all := lw_g (lw_at lw_m6 85 rfl) rfl
theorem q1355 : (Jvm.Cond.code ({ cls := "OneElasticModel", name := "layPlace", desc := "(II)V" } : Jvm.MethodName) prog_13_method_37_code (5 : Nat) (Option.none : Option Jvm.ClassFile.FieldType)) ∈ lw_all := lw_g (lw_at lw_m6 86 rfl) rfl
theorem q1356 : (Jvm.Cond.methodLink "OneElasticModel" (185 : Nat) ({ cls := "OneElasticModel", name := "nextLeft", desc := "(II)I" } : Jvm.MethodName)) ∈ lw_all := lw_g (lw_at lw_m6 87 rfl) rfl
theorem q1357 : (Jvm.Cond.privateMethod ({ cls := "OneElasticModel", name := "nextLeft", desc := "(II)I" } : Jvm.MethodName)) ∈ lw_tbl := lw_at lw_m6 88 rfl
theorem q1358 : (Jvm.Cond.instanceMethod ({ cls := "OneElasticModel", name := "nextLeft", desc := "(II)I" } : Jvm.MethodName)) ∈ lw_all := lw_g (lw_at lw_m6 89 rfl) rfl
theorem q1359 : (Jvm.Cond.code ({ cls := "OneElasticModel", name := "nextLeft", desc := "(II)I" } : Jvm.MethodName) prog_13_method_10_code (4 : Nat) (Option.some Jvm.ClassFile.FieldType.int)) ∈ lw_all := lw_g (lw_at lw_m6 90 rfl) rfl
theorem q1360 : (Jvm.Cond.methodLink "OneElasticModel" (191 : Nat) ({ cls := "OneElasticModel", name := "partOf", desc := "(III)I" } : Jvm.MethodName)) ∈ lw_all := lw_g (lw_at lw_m6 91 rfl) rfl
theorem q1361 : (Jvm.Cond.static ({ cls := "OneElasticModel", name := "partOf", desc := "(III)I" } : Jvm.MethodName)) ∈ lw_all := lw_g (lw_at lw_m6 92 rfl) rfl
theorem q1362 : (Jvm.Cond.code ({ cls := "OneElasticModel", name := "partOf", desc := "(III)I" } : Jvm.MethodName) prog_13_method_36_code (4 : Nat) (Option.some Jvm.ClassFile.FieldType.int)) ∈ lw_all := lw_g (lw_at lw_m6 93 rfl) rfl
theorem q1363 : (Jvm.Cond.methodLink "OneElasticModel" (182 : Nat) ({ cls := "OneElasticModel", name := "divisor", desc := "(II)I" } : Jvm.MethodName)) ∈ lw_all := lw_g (lw_at lw_m6 94 rfl) rfl
theorem q1364 : (Jvm.Cond.static ({ cls := "OneElasticModel", name := "divisor", desc := "(II)I" } : Jvm.MethodName)) ∈ lw_all := lw_g (lw_at lw_m6 95 rfl) rfl
theorem q1365 : (Jvm.Cond.code ({ cls := "OneElasticModel", name := "divisor", desc := "(II)I" } : Jvm.MethodName) prog_13_method_35_code (5 : Nat) (Option.some Jvm.ClassFile.FieldType.int)) ∈ lw_all := lw_g (lw_at lw_m6 96 rfl) rfl
theorem q1367 : (Jvm.Cond.instanceMethod ({ cls := "OneElasticModel", name := "pulled", desc := "(II)I" } : Jvm.MethodName)) ∈ lw_all := lw_g (lw_at lw_m6 98 rfl) rfl
theorem q1368 : (Jvm.Cond.selects "OneElasticModel" ({ cls := "OneElasticModel", name := "pulled", desc := "(II)I" } : Jvm.MethodName) ({ cls := "OneElasticModel", name := "pulled", desc := "(II)I" } : Jvm.MethodName)) ∈ lw_all := lw_g (lw_at lw_m6 99 rfl) rfl
theorem q1369 : (Jvm.Cond.code ({ cls := "OneElasticModel", name := "pulled", desc := "(II)I" } : Jvm.MethodName) prog_13_method_39_code (3 : Nat) (Option.some Jvm.ClassFile.FieldType.int)) ∈ lw_all := lw_g (lw_at lw_m6 100 rfl) rfl
theorem q1371 : (Jvm.Cond.instanceMethod ({ cls := "OneElasticModel", name := "pull", desc := "(II)I" } : Jvm.MethodName)) ∈ lw_all := lw_g (lw_at lw_m6 102 rfl) rfl
theorem q1372 : (Jvm.Cond.selects "OneElasticModel" ({ cls := "OneElasticModel", name := "pull", desc := "(II)I" } : Jvm.MethodName) ({ cls := "OneElasticModel", name := "pull", desc := "(II)I" } : Jvm.MethodName)) ∈ lw_all := lw_g (lw_at lw_m6 103 rfl) rfl
theorem q1373 : (Jvm.Cond.code ({ cls := "OneElasticModel", name := "pull", desc := "(II)I" } : Jvm.MethodName) prog_13_method_40_code (3 : Nat) (Option.some Jvm.ClassFile.FieldType.int)) ∈ lw_all := lw_g (lw_at lw_m6 104 rfl) rfl
theorem q1374 : (Jvm.Cond.methodLink "OneElasticModel" (194 : Nat) ({ cls := "OneElasticModel", name := "isSeam", desc := "(I)Z" } : Jvm.MethodName)) ∈ lw_all := lw_g (lw_at lw_m6 105 rfl) rfl
theorem q1375 : (Jvm.Cond.privateMethod ({ cls := "OneElasticModel", name := "isSeam", desc := "(I)Z" } : Jvm.MethodName)) ∈ lw_tbl := lw_at lw_m6 106 rfl
theorem q1376 : (Jvm.Cond.instanceMethod ({ cls := "OneElasticModel", name := "isSeam", desc := "(I)Z" } : Jvm.MethodName)) ∈ lw_all := lw_g (lw_at lw_m6 107 rfl) rfl
theorem q1377 : (Jvm.Cond.code ({ cls := "OneElasticModel", name := "isSeam", desc := "(I)Z" } : Jvm.MethodName) prog_13_method_7_code (2 : Nat) (Option.some Jvm.ClassFile.FieldType.boolean)) ∈ lw_all := lw_g (lw_at lw_m6 108 rfl) rfl
theorem q1379 : (Jvm.Cond.instanceMethod ({ cls := "OneElasticModel", name := "seam", desc := "(II)I" } : Jvm.MethodName)) ∈ lw_all := lw_g (lw_at lw_m6 110 rfl) rfl
theorem q1380 : (Jvm.Cond.selects "OneElasticModel" ({ cls := "OneElasticModel", name := "seam", desc := "(II)I" } : Jvm.MethodName) ({ cls := "OneElasticModel", name := "seam", desc := "(II)I" } : Jvm.MethodName)) ∈ lw_all := lw_g (lw_at lw_m6 111 rfl) rfl
theorem q1381 : (Jvm.Cond.code ({ cls := "OneElasticModel", name := "seam", desc := "(II)I" } : Jvm.MethodName) prog_13_method_41_code (3 : Nat) (Option.some Jvm.ClassFile.FieldType.int)) ∈ lw_all := lw_g (lw_at lw_m6 112 rfl) rfl
theorem q1382 : (Jvm.Cond.constantLong "OneElasticModel" (197 : Nat) (2 : Int64)) ∈ lw_all := lw_g (lw_at lw_m6 113 rfl) rfl
theorem q1384 : (Jvm.Cond.instanceMethod ({ cls := "OneElasticModel", name := "count", desc := "(I)I" } : Jvm.MethodName)) ∈ lw_all := lw_g (lw_at lw_m6 115 rfl) rfl
theorem q1385 : (Jvm.Cond.selects "OneElasticModel" ({ cls := "OneElasticModel", name := "count", desc := "(I)I" } : Jvm.MethodName) ({ cls := "OneElasticModel", name := "count", desc := "(I)I" } : Jvm.MethodName)) ∈ lw_all := lw_g (lw_at lw_m6 116 rfl) rfl
theorem q1386 : (Jvm.Cond.code ({ cls := "OneElasticModel", name := "count", desc := "(I)I" } : Jvm.MethodName) prog_13_method_46_code (2 : Nat) (Option.some Jvm.ClassFile.FieldType.int)) ∈ lw_all := lw_g (lw_at lw_m6 117 rfl) rfl
theorem q1387 : (Jvm.Cond.methodLink "OneElasticModel" (202 : Nat) ({ cls := "OneElasticModel", name := "holding", desc := "(I)I" } : Jvm.MethodName)) ∈ lw_all := lw_g (lw_at lw_m6 118 rfl) rfl
theorem q1388 : (Jvm.Cond.privateMethod ({ cls := "OneElasticModel", name := "holding", desc := "(I)I" } : Jvm.MethodName)) ∈ lw_tbl := lw_at lw_m6 119 rfl
theorem q1389 : (Jvm.Cond.instanceMethod ({ cls := "OneElasticModel", name := "holding", desc := "(I)I" } : Jvm.MethodName)) ∈ lw_all := lw_g (lw_at lw_m6 120 rfl) rfl
theorem q1390 : (Jvm.Cond.code ({ cls := "OneElasticModel", name := "holding", desc := "(I)I" } : Jvm.MethodName) prog_13_method_42_code (4 : Nat) (Option.some Jvm.ClassFile.FieldType.int)) ∈ lw_all := lw_g (lw_at lw_m6 121 rfl) rfl
theorem q1391 : (Jvm.Cond.methodLink "OneElasticModel" (205 : Nat) ({ cls := "OneElasticModel", name := "cutOnes", desc := "(I)I" } : Jvm.MethodName)) ∈ lw_all := lw_g (lw_at lw_m6 122 rfl) rfl
theorem q1392 : (Jvm.Cond.privateMethod ({ cls := "OneElasticModel", name := "cutOnes", desc := "(I)I" } : Jvm.MethodName)) ∈ lw_tbl := lw_at lw_m6 123 rfl
theorem q1393 : (Jvm.Cond.instanceMethod ({ cls := "OneElasticModel", name := "cutOnes", desc := "(I)I" } : Jvm.MethodName)) ∈ lw_all := lw_g (lw_at lw_m6 124 rfl) rfl
theorem q1394 : (Jvm.Cond.code ({ cls := "OneElasticModel", name := "cutOnes", desc := "(I)I" } : Jvm.MethodName) prog_13_method_43_code (4 : Nat) (Option.some Jvm.ClassFile.FieldType.int)) ∈ lw_all := lw_g (lw_at lw_m6 125 rfl) rfl
theorem q1395 : (Jvm.Cond.methodLink "OneElasticModel" (208 : Nat) ({ cls := "OneElasticModel", name := "tautOnes", desc := "()I" } : Jvm.MethodName)) ∈ lw_all := lw_g (lw_at lw_m6 126 rfl) rfl
theorem q1396 : (Jvm.Cond.privateMethod ({ cls := "OneElasticModel", name := "tautOnes", desc := "()I" } : Jvm.MethodName)) ∈ lw_tbl := lw_at lw_m6 127 rfl
theorem q1397 : (Jvm.Cond.instanceMethod ({ cls := "OneElasticModel", name := "tautOnes", desc := "()I" } : Jvm.MethodName)) ∈ lw_all := lw_g (lw_at lw_m6 128 rfl) rfl
theorem q1398 : (Jvm.Cond.code ({ cls := "OneElasticModel", name := "tautOnes", desc := "()I" } : Jvm.MethodName) prog_13_method_44_code (3 : Nat) (Option.some Jvm.ClassFile.FieldType.int)) ∈ lw_all := lw_g (lw_at lw_m6 129 rfl) rfl
theorem q1399 : (Jvm.Cond.methodLink "OneElasticModel" (211 : Nat) ({ cls := "OneElasticModel", name := "greatestCut", desc := "(I)I" } : Jvm.MethodName)) ∈ lw_all := lw_g (lw_at lw_m6 130 rfl) rfl
theorem q1400 : (Jvm.Cond.privateMethod ({ cls := "OneElasticModel", name := "greatestCut", desc := "(I)I" } : Jvm.MethodName)) ∈ lw_tbl := lw_at lw_m6 131 rfl
theorem q1401 : (Jvm.Cond.instanceMethod ({ cls := "OneElasticModel", name := "greatestCut", desc := "(I)I" } : Jvm.MethodName)) ∈ lw_all := lw_g (lw_at lw_m6 132 rfl) rfl
theorem q1402 : (Jvm.Cond.code ({ cls := "OneElasticModel", name := "greatestCut", desc := "(I)I" } : Jvm.MethodName) prog_13_method_45_code (3 : Nat) (Option.some Jvm.ClassFile.FieldType.int)) ∈ lw_all := lw_g (lw_at lw_m6 133 rfl) rfl
theorem q1403 : (Jvm.Cond.methodLink "OneElasticModel" (199 : Nat) ({ cls := "OneElasticModel", name := "greatest", desc := "(I)I" } : Jvm.MethodName)) ∈ lw_all := lw_g (lw_at lw_m6 134 rfl) rfl
theorem q1404 : (Jvm.Cond.privateMethod ({ cls := "OneElasticModel", name := "greatest", desc := "(I)I" } : Jvm.MethodName)) ∈ lw_tbl := lw_at lw_m6 135 rfl
theorem q1405 : (Jvm.Cond.instanceMethod ({ cls := "OneElasticModel", name := "greatest", desc := "(I)I" } : Jvm.MethodName)) ∈ lw_all := lw_g (lw_at lw_m6 136 rfl) rfl
theorem q1406 : (Jvm.Cond.code ({ cls := "OneElasticModel", name := "greatest", desc := "(I)I" } : Jvm.MethodName) prog_13_method_13_code (4 : Nat) (Option.some Jvm.ClassFile.FieldType.int)) ∈ lw_all := lw_g (lw_at lw_m6 137 rfl) rfl
theorem q1408 : (Jvm.Cond.instanceMethod ({ cls := "OneElasticModel", name := "go", desc := "(II)I" } : Jvm.MethodName)) ∈ lw_all := lw_g (lw_at lw_m6 139 rfl) rfl
theorem q1409 : (Jvm.Cond.selects "OneElasticModel" ({ cls := "OneElasticModel", name := "go", desc := "(II)I" } : Jvm.MethodName) ({ cls := "OneElasticModel", name := "go", desc := "(II)I" } : Jvm.MethodName)) ∈ lw_all := lw_g (lw_at lw_m6 140 rfl) rfl
theorem q1410 : (Jvm.Cond.code ({ cls := "OneElasticModel", name := "go", desc := "(II)I" } : Jvm.MethodName) prog_13_method_49_code (3 : Nat) (Option.some Jvm.ClassFile.FieldType.int)) ∈ lw_all := lw_g (lw_at lw_m6 141 rfl) rfl
theorem q1411 : (Jvm.Cond.constantLong "OneElasticModel" (214 : Nat) (-99 : Int64)) ∈ lw_all := lw_g (lw_at lw_m6 142 rfl) rfl
theorem q1412 : (Jvm.Cond.methodLink "OneElasticModel" (216 : Nat) ({ cls := "OneElasticModel", name := "mayGo", desc := "(III)Z" } : Jvm.MethodName)) ∈ lw_all := lw_g (lw_at lw_m6 143 rfl) rfl
theorem q1413 : (Jvm.Cond.privateMethod ({ cls := "OneElasticModel", name := "mayGo", desc := "(III)Z" } : Jvm.MethodName)) ∈ lw_tbl := lw_at lw_m6 144 rfl
theorem q1414 : (Jvm.Cond.instanceMethod ({ cls := "OneElasticModel", name := "mayGo", desc := "(III)Z" } : Jvm.MethodName)) ∈ lw_all := lw_g (lw_at lw_m6 145 rfl) rfl
theorem q1415 : (Jvm.Cond.code ({ cls := "OneElasticModel", name := "mayGo", desc := "(III)Z" } : Jvm.MethodName) prog_13_method_48_code (4 : Nat) (Option.some Jvm.ClassFile.FieldType.boolean)) ∈ lw_all := lw_g (lw_at lw_m6 146 rfl) rfl
theorem q1416 : (Jvm.Cond.methodLink "OneElasticModel" (219 : Nat) ({ cls := "OneElasticModel", name := "minds", desc := "()V" } : Jvm.MethodName)) ∈ lw_all := lw_g (lw_at lw_m6 147 rfl) rfl
theorem q1417 : (Jvm.Cond.privateMethod ({ cls := "OneElasticModel", name := "minds", desc := "()V" } : Jvm.MethodName)) ∈ lw_tbl := lw_at lw_m6 148 rfl
theorem q1418 : (Jvm.Cond.instanceMethod ({ cls := "OneElasticModel", name := "minds", desc := "()V" } : Jvm.MethodName)) ∈ lw_all := lw_g (lw_at lw_m6 149 rfl) rfl
theorem q1419 : (Jvm.Cond.code ({ cls := "OneElasticModel", name := "minds", desc := "()V" } : Jvm.MethodName) prog_13_method_47_code (2 : Nat) (Option.none : Option Jvm.ClassFile.FieldType)) ∈ lw_all := lw_g (lw_at lw_m6 150 rfl) rfl
theorem q1421 : (Jvm.Cond.instanceMethod ({ cls := "OneElasticModel", name := "let", desc := "(I)I" } : Jvm.MethodName)) ∈ lw_all := lw_g (lw_at lw_m6 152 rfl) rfl
theorem q1422 : (Jvm.Cond.selects "OneElasticModel" ({ cls := "OneElasticModel", name := "let", desc := "(I)I" } : Jvm.MethodName) ({ cls := "OneElasticModel", name := "let", desc := "(I)I" } : Jvm.MethodName)) ∈ lw_all := lw_g (lw_at lw_m6 153 rfl) rfl
theorem q1423 : (Jvm.Cond.code ({ cls := "OneElasticModel", name := "let", desc := "(I)I" } : Jvm.MethodName) prog_13_method_50_code (2 : Nat) (Option.some Jvm.ClassFile.FieldType.int)) ∈ lw_all := lw_g (lw_at lw_m6 154 rfl) rfl
theorem q1425 : (Jvm.Cond.instanceMethod ({ cls := "OneElasticModel", name := "hold", desc := "(I)I" } : Jvm.MethodName)) ∈ lw_all := lw_g (lw_at lw_m6 156 rfl) rfl
theorem q1426 : (Jvm.Cond.selects "OneElasticModel" ({ cls := "OneElasticModel", name := "hold", desc := "(I)I" } : Jvm.MethodName) ({ cls := "OneElasticModel", name := "hold", desc := "(I)I" } : Jvm.MethodName)) ∈ lw_all := lw_g (lw_at lw_m6 157 rfl) rfl
theorem q1427 : (Jvm.Cond.code ({ cls := "OneElasticModel", name := "hold", desc := "(I)I" } : Jvm.MethodName) prog_13_method_52_code (2 : Nat) (Option.some Jvm.ClassFile.FieldType.int)) ∈ lw_all := lw_g (lw_at lw_m6 158 rfl) rfl
theorem q1428 : (Jvm.Cond.methodLink "OneElasticModel" (222 : Nat) ({ cls := "OneElasticModel", name := "takesHold", desc := "(II)V" } : Jvm.MethodName)) ∈ lw_all := lw_g (lw_at lw_m6 159 rfl) rfl
theorem q1429 : (Jvm.Cond.privateMethod ({ cls := "OneElasticModel", name := "takesHold", desc := "(II)V" } : Jvm.MethodName)) ∈ lw_tbl := lw_at lw_m6 160 rfl
theorem q1430 : (Jvm.Cond.instanceMethod ({ cls := "OneElasticModel", name := "takesHold", desc := "(II)V" } : Jvm.MethodName)) ∈ lw_all := lw_g (lw_at lw_m6 161 rfl) rfl
theorem q1431 : (Jvm.Cond.code ({ cls := "OneElasticModel", name := "takesHold", desc := "(II)V" } : Jvm.MethodName) prog_13_method_51_code (4 : Nat) (Option.none : Option Jvm.ClassFile.FieldType)) ∈ lw_all := lw_g (lw_at lw_m6 162 rfl) rfl
theorem q1433 : (Jvm.Cond.instanceMethod ({ cls := "OneElasticModel", name := "sew", desc := "(I)I" } : Jvm.MethodName)) ∈ lw_all := lw_g (lw_at lw_m6 164 rfl) rfl
theorem q1434 : (Jvm.Cond.selects "OneElasticModel" ({ cls := "OneElasticModel", name := "sew", desc := "(I)I" } : Jvm.MethodName) ({ cls := "OneElasticModel", name := "sew", desc := "(I)I" } : Jvm.MethodName)) ∈ lw_all := lw_g (lw_at lw_m6 165 rfl) rfl
theorem q1435 : (Jvm.Cond.code ({ cls := "OneElasticModel", name := "sew", desc := "(I)I" } : Jvm.MethodName) prog_13_method_53_code (2 : Nat) (Option.some Jvm.ClassFile.FieldType.int)) ∈ lw_all := lw_g (lw_at lw_m6 166 rfl) rfl
theorem q1437 : (Jvm.Cond.instanceMethod ({ cls := "OneElasticModel", name := "bears", desc := "(I)I" } : Jvm.MethodName)) ∈ lw_all := lw_g (lw_at lw_m6 168 rfl) rfl
theorem q1438 : (Jvm.Cond.selects "OneElasticModel" ({ cls := "OneElasticModel", name := "bears", desc := "(I)I" } : Jvm.MethodName) ({ cls := "OneElasticModel", name := "bears", desc := "(I)I" } : Jvm.MethodName)) ∈ lw_all := lw_g (lw_at lw_m6 169 rfl) rfl
theorem q1439 : (Jvm.Cond.code ({ cls := "OneElasticModel", name := "bears", desc := "(I)I" } : Jvm.MethodName) prog_13_method_54_code (3 : Nat) (Option.some Jvm.ClassFile.FieldType.int)) ∈ lw_all := lw_g (lw_at lw_m6 170 rfl) rfl
theorem q1440 : (Jvm.Cond.constantLong "OneElasticModel" (225 : Nat) (60 : Int64)) ∈ lw_all := lw_g (lw_at lw_m6 171 rfl) rfl
theorem q1442 : (Jvm.Cond.instanceMethod ({ cls := "OneElasticModel", name := "hours", desc := "(I)I" } : Jvm.MethodName)) ∈ lw_all := lw_g (lw_at lw_m6 173 rfl) rfl
theorem q1443 : (Jvm.Cond.selects "OneElasticModel" ({ cls := "OneElasticModel", name := "hours", desc := "(I)I" } : Jvm.MethodName) ({ cls := "OneElasticModel", name := "hours", desc := "(I)I" } : Jvm.MethodName)) ∈ lw_all := lw_g (lw_at lw_m6 174 rfl) rfl
theorem q1444 : (Jvm.Cond.code ({ cls := "OneElasticModel", name := "hours", desc := "(I)I" } : Jvm.MethodName) prog_13_method_56_code (4 : Nat) (Option.some Jvm.ClassFile.FieldType.int)) ∈ lw_all := lw_g (lw_at lw_m6 175 rfl) rfl
theorem q1445 : (Jvm.Cond.constantLong "OneElasticModel" (227 : Nat) (24 : Int64)) ∈ lw_all := lw_g (lw_at lw_m6 176 rfl) rfl
theorem q1446 : (Jvm.Cond.methodLink "OneElasticModel" (229 : Nat) ({ cls := "OneElasticModel", name := "hourOf", desc := "(I)V" } : Jvm.MethodName)) ∈ lw_all := lw_g (lw_at lw_m6 177 rfl) rfl
theorem q1447 : (Jvm.Cond.privateMethod ({ cls := "OneElasticModel", name := "hourOf", desc := "(I)V" } : Jvm.MethodName)) ∈ lw_tbl := lw_at lw_m6 178 rfl
theorem q1448 : (Jvm.Cond.instanceMethod ({ cls := "OneElasticModel", name := "hourOf", desc := "(I)V" } : Jvm.MethodName)) ∈ lw_all := lw_g (lw_at lw_m6 179 rfl) rfl
theorem q1449 : (Jvm.Cond.code ({ cls := "OneElasticModel", name := "hourOf", desc := "(I)V" } : Jvm.MethodName) prog_13_method_55_code (2 : Nat) (Option.none : Option Jvm.ClassFile.FieldType)) ∈ lw_all := lw_g (lw_at lw_m6 180 rfl) rfl
theorem q1451 : (Jvm.Cond.instanceMethod ({ cls := "OneElasticModel", name := "springs", desc := "(I)I" } : Jvm.MethodName)) ∈ lw_all := lw_g (lw_at lw_m6 182 rfl) rfl
theorem q1452 : (Jvm.Cond.selects "OneElasticModel" ({ cls := "OneElasticModel", name := "springs", desc := "(I)I" } : Jvm.MethodName) ({ cls := "OneElasticModel", name := "springs", desc := "(I)I" } : Jvm.MethodName)) ∈ lw_all := lw_g (lw_at lw_m6 183 rfl) rfl
theorem q1453 : (Jvm.Cond.code ({ cls := "OneElasticModel", name := "springs", desc := "(I)I" } : Jvm.MethodName) prog_13_method_59_code (3 : Nat) (Option.some Jvm.ClassFile.FieldType.int)) ∈ lw_all := lw_g (lw_at lw_m6 184 rfl) rfl
theorem q1454 : (Jvm.Cond.constantLong "OneElasticModel" (235 : Nat) (40 : Int64)) ∈ lw_all := lw_g (lw_at lw_m6 185 rfl) rfl
theorem q1455 : (Jvm.Cond.methodLink "OneElasticModel" (237 : Nat) ({ cls := "OneElasticModel", name := "springsOnce", desc := "()V" } : Jvm.MethodName)) ∈ lw_all := lw_g (lw_at lw_m6 186 rfl) rfl
theorem q1456 : (Jvm.Cond.privateMethod ({ cls := "OneElasticModel", name := "springsOnce", desc := "()V" } : Jvm.MethodName)) ∈ lw_tbl := lw_at lw_m6 187 rfl
theorem q1457 : (Jvm.Cond.instanceMethod ({ cls := "OneElasticModel", name := "springsOnce", desc := "()V" } : Jvm.MethodName)) ∈ lw_all := lw_g (lw_at lw_m6 188 rfl) rfl
theorem q1458 : (Jvm.Cond.code ({ cls := "OneElasticModel", name := "springsOnce", desc := "()V" } : Jvm.MethodName) prog_13_method_57_code (4 : Nat) (Option.none : Option Jvm.ClassFile.FieldType)) ∈ lw_all := lw_g (lw_at lw_m6 189 rfl) rfl
theorem q1459 : (Jvm.Cond.constant "OneElasticModel" (232 : Nat) (1103515245 : Int32)) ∈ lw_all := lw_g (lw_at lw_m6 190 rfl) rfl
theorem q1460 : (Jvm.Cond.constant "OneElasticModel" (233 : Nat) (2147483647 : Int32)) ∈ lw_all := lw_g (lw_at lw_m6 191 rfl) rfl
theorem q1461 : (Jvm.Cond.constant "OneElasticModel" (234 : Nat) (65536 : Int32)) ∈ lw_all := lw_g (lw_at lw_m6 192 rfl) rfl
theorem q1462 : (Jvm.Cond.methodLink "OneElasticModel" (240 : Nat) ({ cls := "OneElasticModel", name := "ones", desc := "(I)I" } : Jvm.MethodName)) ∈ lw_all := lw_g (lw_at lw_m6 193 rfl) rfl
theorem q1463 : (Jvm.Cond.static ({ cls := "OneElasticModel", name := "ones", desc := "(I)I" } : Jvm.MethodName)) ∈ lw_all := lw_g (lw_at lw_m6 194 rfl) rfl
theorem q1464 : (Jvm.Cond.code ({ cls := "OneElasticModel", name := "ones", desc := "(I)I" } : Jvm.MethodName) prog_13_method_58_code (3 : Nat) (Option.some Jvm.ClassFile.FieldType.int)) ∈ lw_all := lw_g (lw_at lw_m6 195 rfl) rfl
theorem q1466 : (Jvm.Cond.instanceMethod ({ cls := "OneElasticModel", name := "undo", desc := "()I" } : Jvm.MethodName)) ∈ lw_all := lw_g (lw_at lw_m6 197 rfl) rfl
theorem q1467 : (Jvm.Cond.selects "OneElasticModel" ({ cls := "OneElasticModel", name := "undo", desc := "()I" } : Jvm.MethodName) ({ cls := "OneElasticModel", name := "undo", desc := "()I" } : Jvm.MethodName)) ∈ lw_all := lw_g (lw_at lw_m6 198 rfl) rfl
theorem q1468 : (Jvm.Cond.code ({ cls := "OneElasticModel", name := "undo", desc := "()I" } : Jvm.MethodName) prog_13_method_60_code (2 : Nat) (Option.some Jvm.ClassFile.FieldType.int)) ∈ lw_all := lw_g (lw_at lw_m6 199 rfl) rfl
theorem q1470 : (Jvm.Cond.instanceMethod ({ cls := "OneElasticModel", name := "seed", desc := "(I)I" } : Jvm.MethodName)) ∈ lw_all := lw_g (lw_at lw_m6 201 rfl) rfl
theorem q1471 : (Jvm.Cond.selects "OneElasticModel" ({ cls := "OneElasticModel", name := "seed", desc := "(I)I" } : Jvm.MethodName) ({ cls := "OneElasticModel", name := "seed", desc := "(I)I" } : Jvm.MethodName)) ∈ lw_all := lw_g (lw_at lw_m6 202 rfl) rfl
theorem q1472 : (Jvm.Cond.code ({ cls := "OneElasticModel", name := "seed", desc := "(I)I" } : Jvm.MethodName) prog_13_method_61_code (3 : Nat) (Option.some Jvm.ClassFile.FieldType.int)) ∈ lw_all := lw_g (lw_at lw_m6 203 rfl) rfl
theorem q1474 : (Jvm.Cond.instanceMethod ({ cls := "OneElasticModel", name := "far", desc := "(II)I" } : Jvm.MethodName)) ∈ lw_all := lw_g (lw_at lw_m6 205 rfl) rfl
theorem q1475 : (Jvm.Cond.selects "OneElasticModel" ({ cls := "OneElasticModel", name := "far", desc := "(II)I" } : Jvm.MethodName) ({ cls := "OneElasticModel", name := "far", desc := "(II)I" } : Jvm.MethodName)) ∈ lw_all := lw_g (lw_at lw_m6 206 rfl) rfl
theorem q1476 : (Jvm.Cond.code ({ cls := "OneElasticModel", name := "far", desc := "(II)I" } : Jvm.MethodName) prog_13_method_63_code (5 : Nat) (Option.some Jvm.ClassFile.FieldType.int)) ∈ lw_all := lw_g (lw_at lw_m6 207 rfl) rfl
theorem q1477 : (Jvm.Cond.methodLink "OneElasticModel" (243 : Nat) ({ cls := "OneElasticModel", name := "tries", desc := "()V" } : Jvm.MethodName)) ∈ lw_all := lw_g (lw_at lw_m6 208 rfl) rfl
theorem q1478 : (Jvm.Cond.privateMethod ({ cls := "OneElasticModel", name := "tries", desc := "()V" } : Jvm.MethodName)) ∈ lw_tbl := lw_at lw_m6 209 rfl
theorem q1479 : (Jvm.Cond.instanceMethod ({ cls := "OneElasticModel", name := "tries", desc := "()V" } : Jvm.MethodName)) ∈ lw_all := lw_g (lw_at lw_m6 210 rfl) rfl
theorem q1480 : (Jvm.Cond.code ({ cls := "OneElasticModel", name := "tries", desc := "()V" } : Jvm.MethodName) prog_13_method_62_code (2 : Nat) (Option.none : Option Jvm.ClassFile.FieldType)) ∈ lw_all := lw_g (lw_at lw_m6 211 rfl) rfl
theorem q1482 : (Jvm.Cond.instanceMethod ({ cls := "OneElasticModel", name := "fall", desc := "(II)I" } : Jvm.MethodName)) ∈ lw_all := lw_g (lw_at lw_m6 213 rfl) rfl
theorem q1483 : (Jvm.Cond.selects "OneElasticModel" ({ cls := "OneElasticModel", name := "fall", desc := "(II)I" } : Jvm.MethodName) ({ cls := "OneElasticModel", name := "fall", desc := "(II)I" } : Jvm.MethodName)) ∈ lw_all := lw_g (lw_at lw_m6 214 rfl) rfl
theorem q1484 : (Jvm.Cond.code ({ cls := "OneElasticModel", name := "fall", desc := "(II)I" } : Jvm.MethodName) prog_13_method_64_code (3 : Nat) (Option.some Jvm.ClassFile.FieldType.int)) ∈ lw_all := lw_g (lw_at lw_m6 215 rfl) rfl
theorem q1486 : (Jvm.Cond.instanceMethod ({ cls := "OneElasticModel", name := "tie", desc := "(II)I" } : Jvm.MethodName)) ∈ lw_all := lw_g (lw_at lw_m6 217 rfl) rfl
theorem q1487 : (Jvm.Cond.selects "OneElasticModel" ({ cls := "OneElasticModel", name := "tie", desc := "(II)I" } : Jvm.MethodName) ({ cls := "OneElasticModel", name := "tie", desc := "(II)I" } : Jvm.MethodName)) ∈ lw_all := lw_g (lw_at lw_m6 218 rfl) rfl
theorem q1488 : (Jvm.Cond.code ({ cls := "OneElasticModel", name := "tie", desc := "(II)I" } : Jvm.MethodName) prog_13_method_65_code (9 : Nat) (Option.some Jvm.ClassFile.FieldType.int)) ∈ lw_all := lw_g (lw_at lw_m6 219 rfl) rfl
theorem q1490 : (Jvm.Cond.instanceMethod ({ cls := "OneElasticModel", name := "when", desc := "()I" } : Jvm.MethodName)) ∈ lw_all := lw_g (lw_at lw_m6 221 rfl) rfl
theorem q1491 : (Jvm.Cond.selects "OneElasticModel" ({ cls := "OneElasticModel", name := "when", desc := "()I" } : Jvm.MethodName) ({ cls := "OneElasticModel", name := "when", desc := "()I" } : Jvm.MethodName)) ∈ lw_all := lw_g (lw_at lw_m6 222 rfl) rfl
theorem q1492 : (Jvm.Cond.code ({ cls := "OneElasticModel", name := "when", desc := "()I" } : Jvm.MethodName) prog_13_method_66_code (2 : Nat) (Option.some Jvm.ClassFile.FieldType.int)) ∈ lw_all := lw_g (lw_at lw_m6 223 rfl) rfl
theorem q1494 : (Jvm.Cond.instanceMethod ({ cls := "OneElasticModel", name := "odds", desc := "(II)I" } : Jvm.MethodName)) ∈ lw_all := lw_g (lw_at lw_m6 225 rfl) rfl
theorem q1495 : (Jvm.Cond.selects "OneElasticModel" ({ cls := "OneElasticModel", name := "odds", desc := "(II)I" } : Jvm.MethodName) ({ cls := "OneElasticModel", name := "odds", desc := "(II)I" } : Jvm.MethodName)) ∈ lw_all := lw_g (lw_at lw_m6 226 rfl) rfl
theorem q1496 : (Jvm.Cond.code ({ cls := "OneElasticModel", name := "odds", desc := "(II)I" } : Jvm.MethodName) prog_13_method_67_code (9 : Nat) (Option.some Jvm.ClassFile.FieldType.int)) ∈ lw_all := lw_g (lw_at lw_m6 227 rfl) rfl
theorem q1497 : (Jvm.Cond.constantLong "OneElasticModel" (246 : Nat) (10 : Int64)) ∈ lw_all := lw_g (lw_at lw_m6 228 rfl) rfl
theorem q1498 : (Jvm.Cond.methodLink "OneElasticModel" (248 : Nat) ({ cls := "OneElasticModel", name := "has", desc := "(II)Z" } : Jvm.MethodName)) ∈ lw_all := lw_g (lw_at lw_m6 229 rfl) rfl
theorem q1499 : (Jvm.Cond.static ({ cls := "OneElasticModel", name := "has", desc := "(II)Z" } : Jvm.MethodName)) ∈ lw_all := lw_g (lw_at lw_m6 230 rfl) rfl
theorem q1500 : (Jvm.Cond.code ({ cls := "OneElasticModel", name := "has", desc := "(II)Z" } : Jvm.MethodName) prog_13_method_4_code (2 : Nat) (Option.some Jvm.ClassFile.FieldType.boolean)) ∈ lw_all := lw_g (lw_at lw_m6 231 rfl) rfl
theorem q1502 : (Jvm.Cond.instanceMethod ({ cls := "OneElasticModel", name := "war", desc := "(II)I" } : Jvm.MethodName)) ∈ lw_all := lw_g (lw_at lw_m6 233 rfl) rfl
theorem q1503 : (Jvm.Cond.selects "OneElasticModel" ({ cls := "OneElasticModel", name := "war", desc := "(II)I" } : Jvm.MethodName) ({ cls := "OneElasticModel", name := "war", desc := "(II)I" } : Jvm.MethodName)) ∈ lw_all := lw_g (lw_at lw_m6 234 rfl) rfl
theorem q1504 : (Jvm.Cond.code ({ cls := "OneElasticModel", name := "war", desc := "(II)I" } : Jvm.MethodName) prog_13_method_72_code (7 : Nat) (Option.some Jvm.ClassFile.FieldType.int)) ∈ lw_all := lw_g (lw_at lw_m6 235 rfl) rfl
theorem q1505 : (Jvm.Cond.constantLong "OneElasticModel" (257 : Nat) (5 : Int64)) ∈ lw_all := lw_g (lw_at lw_m6 236 rfl) rfl
theorem q1506 : (Jvm.Cond.methodLink "OneElasticModel" (259 : Nat) ({ cls := "OneElasticModel", name := "plays", desc := "(II)Z" } : Jvm.MethodName)) ∈ lw_all := lw_g (lw_at lw_m6 237 rfl) rfl
theorem q1507 : (Jvm.Cond.privateMethod ({ cls := "OneElasticModel", name := "plays", desc := "(II)Z" } : Jvm.MethodName)) ∈ lw_tbl := lw_at lw_m6 238 rfl
theorem q1508 : (Jvm.Cond.instanceMethod ({ cls := "OneElasticModel", name := "plays", desc := "(II)Z" } : Jvm.MethodName)) ∈ lw_all := lw_g (lw_at lw_m6 239 rfl) rfl
theorem q1509 : (Jvm.Cond.code ({ cls := "OneElasticModel", name := "plays", desc := "(II)Z" } : Jvm.MethodName) prog_13_method_68_code (9 : Nat) (Option.some Jvm.ClassFile.FieldType.boolean)) ∈ lw_all := lw_g (lw_at lw_m7 0 rfl) rfl
theorem q1510 : (Jvm.Cond.methodLink "OneElasticModel" (251 : Nat) ({ cls := "OneElasticModel", name := "firstHolding", desc := "()I" } : Jvm.MethodName)) ∈ lw_all := lw_g (lw_at lw_m7 1 rfl) rfl
theorem q1511 : (Jvm.Cond.privateMethod ({ cls := "OneElasticModel", name := "firstHolding", desc := "()I" } : Jvm.MethodName)) ∈ lw_tbl := lw_at lw_m7 2 rfl
theorem q1512 : (Jvm.Cond.instanceMethod ({ cls := "OneElasticModel", name := "firstHolding", desc := "()I" } : Jvm.MethodName)) ∈ lw_all := lw_g (lw_at lw_m7 3 rfl) rfl
theorem q1513 : (Jvm.Cond.code ({ cls := "OneElasticModel", name := "firstHolding", desc := "()I" } : Jvm.MethodName) prog_13_method_69_code (2 : Nat) (Option.some Jvm.ClassFile.FieldType.int)) ∈ lw_all := lw_g (lw_at lw_m7 4 rfl) rfl
theorem q1514 : (Jvm.Cond.methodLink "OneElasticModel" (254 : Nat) ({ cls := "OneElasticModel", name := "lastHolding", desc := "()I" } : Jvm.MethodName)) ∈ lw_all := lw_g (lw_at lw_m7 5 rfl) rfl
theorem q1515 : (Jvm.Cond.privateMethod ({ cls := "OneElasticModel", name := "lastHolding", desc := "()I" } : Jvm.MethodName)) ∈ lw_tbl := lw_at lw_m7 6 rfl
theorem q1516 : (Jvm.Cond.instanceMethod ({ cls := "OneElasticModel", name := "lastHolding", desc := "()I" } : Jvm.MethodName)) ∈ lw_all := lw_g (lw_at lw_m7 7 rfl) rfl
theorem q1517 : (Jvm.Cond.code ({ cls := "OneElasticModel", name := "lastHolding", desc := "()I" } : Jvm.MethodName) prog_13_method_70_code (2 : Nat) (Option.some Jvm.ClassFile.FieldType.int)) ∈ lw_all := lw_g (lw_at lw_m7 8 rfl) rfl
theorem q1518 : (Jvm.Cond.methodLink "OneElasticModel" (262 : Nat) ({ cls := "OneElasticModel", name := "takesBest", desc := "(IZ)V" } : Jvm.MethodName)) ∈ lw_all := lw_g (lw_at lw_m7 9 rfl) rfl
theorem q1519 : (Jvm.Cond.privateMethod ({ cls := "OneElasticModel", name := "takesBest", desc := "(IZ)V" } : Jvm.MethodName)) ∈ lw_tbl := lw_at lw_m7 10 rfl
theorem q1520 : (Jvm.Cond.instanceMethod ({ cls := "OneElasticModel", name := "takesBest", desc := "(IZ)V" } : Jvm.MethodName)) ∈ lw_all := lw_g (lw_at lw_m7 11 rfl) rfl
theorem q1521 : (Jvm.Cond.code ({ cls := "OneElasticModel", name := "takesBest", desc := "(IZ)V" } : Jvm.MethodName) prog_13_method_71_code (7 : Nat) (Option.none : Option Jvm.ClassFile.FieldType)) ∈ lw_all := lw_g (lw_at lw_m7 12 rfl) rfl
theorem q1523 : (Jvm.Cond.instanceMethod ({ cls := "OneElasticModel", name := "image", desc := "()I" } : Jvm.MethodName)) ∈ lw_all := lw_g (lw_at lw_m7 14 rfl) rfl
theorem q1524 : (Jvm.Cond.selects "OneElasticModel" ({ cls := "OneElasticModel", name := "image", desc := "()I" } : Jvm.MethodName) ({ cls := "OneElasticModel", name := "image", desc := "()I" } : Jvm.MethodName)) ∈ lw_all := lw_g (lw_at lw_m7 15 rfl) rfl
theorem q1525 : (Jvm.Cond.code ({ cls := "OneElasticModel", name := "image", desc := "()I" } : Jvm.MethodName) prog_13_method_73_code (2 : Nat) (Option.some Jvm.ClassFile.FieldType.int)) ∈ lw_all := lw_g (lw_at lw_m7 16 rfl) rfl
theorem q1527 : (Jvm.Cond.instanceMethod ({ cls := "OneElasticModel", name := "restore", desc := "()I" } : Jvm.MethodName)) ∈ lw_all := lw_g (lw_at lw_m7 18 rfl) rfl
theorem q1528 : (Jvm.Cond.selects "OneElasticModel" ({ cls := "OneElasticModel", name := "restore", desc := "()I" } : Jvm.MethodName) ({ cls := "OneElasticModel", name := "restore", desc := "()I" } : Jvm.MethodName)) ∈ lw_all := lw_g (lw_at lw_m7 19 rfl) rfl
theorem q1529 : (Jvm.Cond.code ({ cls := "OneElasticModel", name := "restore", desc := "()I" } : Jvm.MethodName) prog_13_method_74_code (2 : Nat) (Option.some Jvm.ClassFile.FieldType.int)) ∈ lw_all := lw_g (lw_at lw_m7 20 rfl) rfl
theorem q1531 : (Jvm.Cond.instanceMethod ({ cls := "OneElasticModel", name := "moved", desc := "(IIIII)I" } : Jvm.MethodName)) ∈ lw_all := lw_g (lw_at lw_m7 22 rfl) rfl
theorem q1532 : (Jvm.Cond.selects "OneElasticModel" ({ cls := "OneElasticModel", name := "moved", desc := "(IIIII)I" } : Jvm.MethodName) ({ cls := "OneElasticModel", name := "moved", desc := "(IIIII)I" } : Jvm.MethodName)) ∈ lw_all := lw_g (lw_at lw_m7 23 rfl) rfl
theorem q1533 : (Jvm.Cond.code ({ cls := "OneElasticModel", name := "moved", desc := "(IIIII)I" } : Jvm.MethodName) prog_13_method_80_code (12 : Nat) (Option.some Jvm.ClassFile.FieldType.int)) ∈ lw_all := lw_g (lw_at lw_m7 24 rfl) rfl
theorem q1534 : (Jvm.Cond.methodLink "OneElasticModel" (273 : Nat) ({ cls := "OneElasticModel", name := "isRegister", desc := "(I)Z" } : Jvm.MethodName)) ∈ lw_all := lw_g (lw_at lw_m7 25 rfl) rfl
theorem q1535 : (Jvm.Cond.static ({ cls := "OneElasticModel", name := "isRegister", desc := "(I)Z" } : Jvm.MethodName)) ∈ lw_all := lw_g (lw_at lw_m7 26 rfl) rfl
theorem q1536 : (Jvm.Cond.code ({ cls := "OneElasticModel", name := "isRegister", desc := "(I)Z" } : Jvm.MethodName) prog_13_method_5_code (1 : Nat) (Option.some Jvm.ClassFile.FieldType.boolean)) ∈ lw_all := lw_g (lw_at lw_m7 27 rfl) rfl
theorem q1537 : (Jvm.Cond.constantLong "OneElasticModel" (47 : Nat) (3 : Int64)) ∈ lw_all := lw_g (lw_at lw_m7 28 rfl) rfl
theorem q1538 : (Jvm.Cond.methodLink "OneElasticModel" (276 : Nat) ({ cls := "OneElasticModel", name := "isLane", desc := "(I)Z" } : Jvm.MethodName)) ∈ lw_all := lw_g (lw_at lw_m7 29 rfl) rfl
theorem q1539 : (Jvm.Cond.static ({ cls := "OneElasticModel", name := "isLane", desc := "(I)Z" } : Jvm.MethodName)) ∈ lw_all := lw_g (lw_at lw_m7 30 rfl) rfl
theorem q1540 : (Jvm.Cond.code ({ cls := "OneElasticModel", name := "isLane", desc := "(I)Z" } : Jvm.MethodName) prog_13_method_75_code (1 : Nat) (Option.some Jvm.ClassFile.FieldType.boolean)) ∈ lw_all := lw_g (lw_at lw_m7 31 rfl) rfl
theorem q1541 : (Jvm.Cond.methodLink "OneElasticModel" (270 : Nat) ({ cls := "OneElasticModel", name := "seams", desc := "()I" } : Jvm.MethodName)) ∈ lw_all := lw_g (lw_at lw_m7 32 rfl) rfl
theorem q1542 : (Jvm.Cond.privateMethod ({ cls := "OneElasticModel", name := "seams", desc := "()I" } : Jvm.MethodName)) ∈ lw_tbl := lw_at lw_m7 33 rfl
theorem q1543 : (Jvm.Cond.instanceMethod ({ cls := "OneElasticModel", name := "seams", desc := "()I" } : Jvm.MethodName)) ∈ lw_all := lw_g (lw_at lw_m7 34 rfl) rfl
theorem q1544 : (Jvm.Cond.code ({ cls := "OneElasticModel", name := "seams", desc := "()I" } : Jvm.MethodName) prog_13_method_78_code (1 : Nat) (Option.some Jvm.ClassFile.FieldType.int)) ∈ lw_all := lw_g (lw_at lw_m7 35 rfl) rfl
theorem q1545 : (Jvm.Cond.methodLink "OneElasticModel" (279 : Nat) ({ cls := "OneElasticModel", name := "against", desc := "(IIII)I" } : Jvm.MethodName)) ∈ lw_all := lw_g (lw_at lw_m7 36 rfl) rfl
theorem q1546 : (Jvm.Cond.privateMethod ({ cls := "OneElasticModel", name := "against", desc := "(IIII)I" } : Jvm.MethodName)) ∈ lw_tbl := lw_at lw_m7 37 rfl
theorem q1547 : (Jvm.Cond.instanceMethod ({ cls := "OneElasticModel", name := "against", desc := "(IIII)I" } : Jvm.MethodName)) ∈ lw_all := lw_g (lw_at lw_m7 38 rfl) rfl
theorem q1548 : (Jvm.Cond.code ({ cls := "OneElasticModel", name := "against", desc := "(IIII)I" } : Jvm.MethodName) prog_13_method_76_code (5 : Nat) (Option.some Jvm.ClassFile.FieldType.int)) ∈ lw_all := lw_g (lw_at lw_m7 39 rfl) rfl
theorem q1549 : (Jvm.Cond.methodLink "OneElasticModel" (283 : Nat) ({ cls := "OneElasticModel", name := "pullsSo", desc := "(I)Z" } : Jvm.MethodName)) ∈ lw_all := lw_g (lw_at lw_m7 40 rfl) rfl
theorem q1550 : (Jvm.Cond.privateMethod ({ cls := "OneElasticModel", name := "pullsSo", desc := "(I)Z" } : Jvm.MethodName)) ∈ lw_tbl := lw_at lw_m7 41 rfl
theorem q1551 : (Jvm.Cond.instanceMethod ({ cls := "OneElasticModel", name := "pullsSo", desc := "(I)Z" } : Jvm.MethodName)) ∈ lw_all := lw_g (lw_at lw_m7 42 rfl) rfl
theorem q1552 : (Jvm.Cond.code ({ cls := "OneElasticModel", name := "pullsSo", desc := "(I)Z" } : Jvm.MethodName) prog_13_method_79_code (4 : Nat) (Option.some Jvm.ClassFile.FieldType.boolean)) ∈ lw_all := lw_g (lw_at lw_m7 43 rfl) rfl
theorem q1554 : (Jvm.Cond.instanceMethod ({ cls := "OneElasticModel", name := "gives", desc := "(IIIII)I" } : Jvm.MethodName)) ∈ lw_all := lw_g (lw_at lw_m7 45 rfl) rfl
theorem q1555 : (Jvm.Cond.selects "OneElasticModel" ({ cls := "OneElasticModel", name := "gives", desc := "(IIIII)I" } : Jvm.MethodName) ({ cls := "OneElasticModel", name := "gives", desc := "(IIIII)I" } : Jvm.MethodName)) ∈ lw_all := lw_g (lw_at lw_m7 46 rfl) rfl
theorem q1556 : (Jvm.Cond.code ({ cls := "OneElasticModel", name := "gives", desc := "(IIIII)I" } : Jvm.MethodName) prog_13_method_82_code (12 : Nat) (Option.some Jvm.ClassFile.FieldType.int)) ∈ lw_all := lw_g (lw_at lw_m7 47 rfl) rfl
theorem q1557 : (Jvm.Cond.methodLink "OneElasticModel" (286 : Nat) ({ cls := "OneElasticModel", name := "givesSo", desc := "(IIII)Z" } : Jvm.MethodName)) ∈ lw_all := lw_g (lw_at lw_m7 48 rfl) rfl
theorem q1558 : (Jvm.Cond.privateMethod ({ cls := "OneElasticModel", name := "givesSo", desc := "(IIII)Z" } : Jvm.MethodName)) ∈ lw_tbl := lw_at lw_m7 49 rfl
theorem q1559 : (Jvm.Cond.instanceMethod ({ cls := "OneElasticModel", name := "givesSo", desc := "(IIII)Z" } : Jvm.MethodName)) ∈ lw_all := lw_g (lw_at lw_m7 50 rfl) rfl
theorem q1560 : (Jvm.Cond.code ({ cls := "OneElasticModel", name := "givesSo", desc := "(IIII)Z" } : Jvm.MethodName) prog_13_method_81_code (9 : Nat) (Option.some Jvm.ClassFile.FieldType.boolean)) ∈ lw_all := lw_g (lw_at lw_m7 51 rfl) rfl
theorem q1562 : (Jvm.Cond.instanceMethod ({ cls := "OneElasticModel", name := "log", desc := "(IIII)I" } : Jvm.MethodName)) ∈ lw_all := lw_g (lw_at lw_m7 53 rfl) rfl
theorem q1563 : (Jvm.Cond.selects "OneElasticModel" ({ cls := "OneElasticModel", name := "log", desc := "(IIII)I" } : Jvm.MethodName) ({ cls := "OneElasticModel", name := "log", desc := "(IIII)I" } : Jvm.MethodName)) ∈ lw_all := lw_g (lw_at lw_m7 54 rfl) rfl
theorem q1564 : (Jvm.Cond.code ({ cls := "OneElasticModel", name := "log", desc := "(IIII)I" } : Jvm.MethodName) prog_13_method_83_code (7 : Nat) (Option.some Jvm.ClassFile.FieldType.int)) ∈ lw_all := lw_g (lw_at lw_m7 55 rfl) rfl
theorem q1566 : (Jvm.Cond.instanceMethod ({ cls := "OneElasticModel", name := "sheet", desc := "(III)I" } : Jvm.MethodName)) ∈ lw_all := lw_g (lw_at lw_m7 57 rfl) rfl
theorem q1567 : (Jvm.Cond.selects "OneElasticModel" ({ cls := "OneElasticModel", name := "sheet", desc := "(III)I" } : Jvm.MethodName) ({ cls := "OneElasticModel", name := "sheet", desc := "(III)I" } : Jvm.MethodName)) ∈ lw_all := lw_g (lw_at lw_m7 58 rfl) rfl
theorem q1568 : (Jvm.Cond.code ({ cls := "OneElasticModel", name := "sheet", desc := "(III)I" } : Jvm.MethodName) prog_13_method_84_code (5 : Nat) (Option.some Jvm.ClassFile.FieldType.int)) ∈ lw_all := lw_g (lw_at lw_m7 59 rfl) rfl
theorem q1570 : (Jvm.Cond.instanceMethod ({ cls := "OneElasticModel", name := "drop", desc := "(I)I" } : Jvm.MethodName)) ∈ lw_all := lw_g (lw_at lw_m7 61 rfl) rfl
theorem q1571 : (Jvm.Cond.selects "OneElasticModel" ({ cls := "OneElasticModel", name := "drop", desc := "(I)I" } : Jvm.MethodName) ({ cls := "OneElasticModel", name := "drop", desc := "(I)I" } : Jvm.MethodName)) ∈ lw_all := lw_g (lw_at lw_m7 62 rfl) rfl
theorem q1572 : (Jvm.Cond.code ({ cls := "OneElasticModel", name := "drop", desc := "(I)I" } : Jvm.MethodName) prog_13_method_85_code (2 : Nat) (Option.some Jvm.ClassFile.FieldType.int)) ∈ lw_all := lw_g (lw_at lw_m7 63 rfl) rfl
theorem q1574 : (Jvm.Cond.instanceMethod ({ cls := "OneElasticModel", name := "item", desc := "(IIIJ)I" } : Jvm.MethodName)) ∈ lw_all := lw_g (lw_at lw_m7 65 rfl) rfl
theorem q1575 : (Jvm.Cond.selects "OneElasticModel" ({ cls := "OneElasticModel", name := "item", desc := "(IIIJ)I" } : Jvm.MethodName) ({ cls := "OneElasticModel", name := "item", desc := "(IIIJ)I" } : Jvm.MethodName)) ∈ lw_all := lw_g (lw_at lw_m7 66 rfl) rfl
theorem q1576 : (Jvm.Cond.code ({ cls := "OneElasticModel", name := "item", desc := "(IIIJ)I" } : Jvm.MethodName) prog_13_method_86_code (7 : Nat) (Option.some Jvm.ClassFile.FieldType.int)) ∈ lw_all := lw_g (lw_at lw_m7 67 rfl) rfl
theorem q1577 : (Jvm.Cond.methodLink "OneElasticModel" (290 : Nat) ({ cls := "OneElasticModel", name := "cut", desc := "(IJ)J" } : Jvm.MethodName)) ∈ lw_all := lw_g (lw_at lw_m7 68 rfl) rfl
theorem q1578 : (Jvm.Cond.static ({ cls := "OneElasticModel", name := "cut", desc := "(IJ)J" } : Jvm.MethodName)) ∈ lw_all := lw_g (lw_at lw_m7 69 rfl) rfl
theorem q1579 : (Jvm.Cond.code ({ cls := "OneElasticModel", name := "cut", desc := "(IJ)J" } : Jvm.MethodName) prog_13_method_77_code (3 : Nat) (Option.some Jvm.ClassFile.FieldType.long)) ∈ lw_all := lw_g (lw_at lw_m7 70 rfl) rfl
theorem q1581 : (Jvm.Cond.instanceMethod ({ cls := "OneElasticModel", name := "copy", desc := "(IIIII)I" } : Jvm.MethodName)) ∈ lw_all := lw_g (lw_at lw_m7 72 rfl) rfl
theorem q1582 : (Jvm.Cond.selects "OneElasticModel" ({ cls := "OneElasticModel", name := "copy", desc := "(IIIII)I" } : Jvm.MethodName) ({ cls := "OneElasticModel", name := "copy", desc := "(IIIII)I" } : Jvm.MethodName)) ∈ lw_all := lw_g (lw_at lw_m7 73 rfl) rfl
theorem q1583 : (Jvm.Cond.code ({ cls := "OneElasticModel", name := "copy", desc := "(IIIII)I" } : Jvm.MethodName) prog_13_method_87_code (7 : Nat) (Option.some Jvm.ClassFile.FieldType.int)) ∈ lw_all := lw_g (lw_at lw_m7 74 rfl) rfl
theorem q1600 : (Jvm.Cond.castable "OneElasticModel" "java/lang/Object") ∈ lw_tbl := lw_at lw_m7 91 rfl
theorem in_X8 : ∀ w ∈ wsX80, w ∈ lw_all := lw_in wsX80 [1187, 1189, 1191, 1193, 1195, 1197, 1199, 1201, 1203, 1205, 1207, 1209, 1211, 1213, 1215, 1217, 1219, 1221, 1223, 1225, 1227] (by decide +kernel) (by decide +kernel)
