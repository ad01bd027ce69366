/-! OneElastic -/
set_option maxRecDepth 100000
def RX0 : String := "OneElastic"
def TX0 : u_T := fun k => match k with
  | 0 => ("OneElastic", "kinds", "[LOneElastic$Person;", true)
  | 1 => ("OneElastic", "town", "LOneElastic$Town;", true)
  | 2 => ("OneElastic", "tried", "LOneElastic$Town;", true)
  | 3 => ("OneElastic", "fell", "[I", true)
  | 4 => ("OneElastic", "falls", "I", false)
  | 5 => ("OneElastic", "tears", "I", false)
  | 6 => ("OneElastic", "tape", "[B", true)
  | 7 => ("OneElastic", "typed", "I", false)
  | 8 => ("OneElastic", "place", "I", false)
  | 9 => ("OneElastic", "read", "[I", true)
  | 10 => ("OneElastic", "undos", "Ljava/util/ArrayDeque;", true)
  | 11 => ("OneElastic", "kept", "LOneElastic$Town;", true)
  | 12 => ("OneElastic", "keptUndos", "Ljava/util/ArrayDeque;", true)
  | 13 => ("OneElastic", "isKept", "Z", false)
  | 14 => ("OneElastic", "sheets", "[LOneElastic$Held;", true)
  | _ => ("OneElastic", "taken", "[J", true)
def tyX0 : Nat → FieldType := fun k => match k with
  | 0 => .array (.object "OneElastic$Person")
  | 1 => .object "OneElastic$Town"
  | 2 => .object "OneElastic$Town"
  | 3 => .array .int
  | 4 => .int
  | 5 => .int
  | 6 => .array .byte
  | 7 => .int
  | 8 => .int
  | 9 => .array .int
  | 10 => .object "java/util/ArrayDeque"
  | 11 => .object "OneElastic$Town"
  | 12 => .object "java/util/ArrayDeque"
  | 13 => .boolean
  | 14 => .array (.object "OneElastic$Held")
  | _ => .array .long
abbrev wsX00 : List Cond := u_ws RX0 TX0 16
set_option maxRecDepth 100000 in
theorem nmX0 : ∀ a, a < 16 → ∀ b, b < 16 → a ≠ b → (TX0 a).2.1 ≠ (TX0 b).2.1 := by decide +kernel
set_option maxRecDepth 100000 in
theorem tyX0_ok : ∀ k, k < 16 → parseFieldDescriptor (TX0 k).2.2.1 = some (tyX0 k) := by decide +kernel
abbrev cX0_person : ByteArray := prog_1_method_12_code
def yX0_person : MethodName := ⟨RX0, "person", "(IIIII)I"⟩
def dkwX0_person_5 : List UInt8 := [172]
abbrev dktX0_person_5 : List UInt8 := dkwX0_person_5 ++ []
def dkwX0_person_4 : List UInt8 := [180, 0, 112, 182, 0, 116, 42, 42, 180, 0, 9, 182, 0, 81, 87, 42, 180, 0, 9, 180, 0, 13, 4, 100]
abbrev dktX0_person_4 : List UInt8 := dkwX0_person_4 ++ dktX0_person_5
def dkwX0_person_3 : List UInt8 := [180, 0, 13, 16, 8, 160, 0, 6, 16, 253, 172, 42, 27, 28, 29, 21, 4, 21, 5, 182, 0, 108, 42]
abbrev dktX0_person_3 : List UInt8 := dkwX0_person_3 ++ dktX0_person_4
def dkwX0_person_2 : List UInt8 := [153, 0, 16, 21, 5, 133, 10, 20, 0, 106, 184, 0, 19, 154, 0, 5, 2, 172, 42, 180, 0, 9]
abbrev dktX0_person_2 : List UInt8 := dkwX0_person_2 ++ dktX0_person_3
def dkwX0_person_1 : List UInt8 := [29, 133, 9, 20, 0, 102, 184, 0, 19, 153, 0, 29, 21, 4, 133, 10, 20, 0, 104, 184, 0, 19]
abbrev dktX0_person_1 : List UInt8 := dkwX0_person_1 ++ dktX0_person_2
def dkwX0_person_0 : List UInt8 := [27, 133, 9, 20, 0, 98, 184, 0, 19, 153, 0, 53, 28, 133, 10, 20, 0, 100, 184, 0, 19, 153, 0, 41]
abbrev dktX0_person_0 : List UInt8 := dkwX0_person_0 ++ dktX0_person_1
theorem dksX0_person_0 : cX0_person.data.toList.drop 0 = dktX0_person_0 := by decide +kernel
theorem dksX0_person_1 : cX0_person.data.toList.drop 24 = dktX0_person_1 := dk_seg dksX0_person_0 24 rfl rfl
theorem dksX0_person_2 : cX0_person.data.toList.drop 46 = dktX0_person_2 := dk_seg dksX0_person_1 22 rfl rfl
theorem dksX0_person_3 : cX0_person.data.toList.drop 68 = dktX0_person_3 := dk_seg dksX0_person_2 22 rfl rfl
theorem dksX0_person_4 : cX0_person.data.toList.drop 91 = dktX0_person_4 := dk_seg dksX0_person_3 23 rfl rfl
theorem dksX0_person_5 : cX0_person.data.toList.drop 115 = dktX0_person_5 := dk_seg dksX0_person_4 24 rfl rfl
theorem dX0_person_0 : decode cX0_person 0 = .ok (.iload_n 1, 1) := dk_27 (dk_at dksX0_person_0 0 rfl rfl)
theorem dX0_person_1 : decode cX0_person 1 = .ok (.i2l, 1) := dk_133 (dk_at dksX0_person_0 1 rfl rfl)
theorem dX0_person_2 : decode cX0_person 2 = .ok (.lconst 0, 1) := dk_9 (dk_at dksX0_person_0 2 rfl rfl)
theorem dX0_person_3 : decode cX0_person 3 = .ok (.ldc2_w 98, 3) := dk_20 0 98 (dk_at dksX0_person_0 3 rfl rfl)
theorem dX0_person_6 : decode cX0_person 6 = .ok (.invokestatic 19, 3) := dk_184 0 19 (dk_at dksX0_person_0 6 rfl rfl)
theorem dX0_person_9 : decode cX0_person 9 = .ok (.ifCond .eq 53, 3) := dk_153 0 53 (dk_at dksX0_person_0 9 rfl rfl)
theorem dX0_person_12 : decode cX0_person 12 = .ok (.iload_n 2, 1) := dk_28 (dk_at dksX0_person_0 12 rfl rfl)
theorem dX0_person_13 : decode cX0_person 13 = .ok (.i2l, 1) := dk_133 (dk_at dksX0_person_0 13 rfl rfl)
theorem dX0_person_14 : decode cX0_person 14 = .ok (.lconst 1, 1) := dk_10 (dk_at dksX0_person_0 14 rfl rfl)
theorem dX0_person_15 : decode cX0_person 15 = .ok (.ldc2_w 100, 3) := dk_20 0 100 (dk_at dksX0_person_0 15 rfl rfl)
theorem dX0_person_18 : decode cX0_person 18 = .ok (.invokestatic 19, 3) := dk_184 0 19 (dk_at dksX0_person_0 18 rfl rfl)
theorem dX0_person_21 : decode cX0_person 21 = .ok (.ifCond .eq 41, 3) := dk_153 0 41 (dk_at dksX0_person_0 21 rfl rfl)
theorem dX0_person_24 : decode cX0_person 24 = .ok (.iload_n 3, 1) := dk_29 (dk_at dksX0_person_1 0 rfl rfl)
theorem dX0_person_25 : decode cX0_person 25 = .ok (.i2l, 1) := dk_133 (dk_at dksX0_person_1 1 rfl rfl)
theorem dX0_person_26 : decode cX0_person 26 = .ok (.lconst 0, 1) := dk_9 (dk_at dksX0_person_1 2 rfl rfl)
theorem dX0_person_27 : decode cX0_person 27 = .ok (.ldc2_w 102, 3) := dk_20 0 102 (dk_at dksX0_person_1 3 rfl rfl)
theorem dX0_person_30 : decode cX0_person 30 = .ok (.invokestatic 19, 3) := dk_184 0 19 (dk_at dksX0_person_1 6 rfl rfl)
theorem dX0_person_33 : decode cX0_person 33 = .ok (.ifCond .eq 29, 3) := dk_153 0 29 (dk_at dksX0_person_1 9 rfl rfl)
theorem dX0_person_36 : decode cX0_person 36 = .ok (.iload 4, 2) := dk_21 4 (dk_at dksX0_person_1 12 rfl rfl)
theorem dX0_person_38 : decode cX0_person 38 = .ok (.i2l, 1) := dk_133 (dk_at dksX0_person_1 14 rfl rfl)
theorem dX0_person_39 : decode cX0_person 39 = .ok (.lconst 1, 1) := dk_10 (dk_at dksX0_person_1 15 rfl rfl)
theorem dX0_person_40 : decode cX0_person 40 = .ok (.ldc2_w 104, 3) := dk_20 0 104 (dk_at dksX0_person_1 16 rfl rfl)
theorem dX0_person_43 : decode cX0_person 43 = .ok (.invokestatic 19, 3) := dk_184 0 19 (dk_at dksX0_person_1 19 rfl rfl)
theorem dX0_person_46 : decode cX0_person 46 = .ok (.ifCond .eq 16, 3) := dk_153 0 16 (dk_at dksX0_person_2 0 rfl rfl)
theorem dX0_person_49 : decode cX0_person 49 = .ok (.iload 5, 2) := dk_21 5 (dk_at dksX0_person_2 3 rfl rfl)
theorem dX0_person_51 : decode cX0_person 51 = .ok (.i2l, 1) := dk_133 (dk_at dksX0_person_2 5 rfl rfl)
theorem dX0_person_52 : decode cX0_person 52 = .ok (.lconst 1, 1) := dk_10 (dk_at dksX0_person_2 6 rfl rfl)
theorem dX0_person_53 : decode cX0_person 53 = .ok (.ldc2_w 106, 3) := dk_20 0 106 (dk_at dksX0_person_2 7 rfl rfl)
theorem dX0_person_56 : decode cX0_person 56 = .ok (.invokestatic 19, 3) := dk_184 0 19 (dk_at dksX0_person_2 10 rfl rfl)
theorem dX0_person_59 : decode cX0_person 59 = .ok (.ifCond .ne 5, 3) := dk_154 0 5 (dk_at dksX0_person_2 13 rfl rfl)
theorem dX0_person_62 : decode cX0_person 62 = .ok (.iconst (-1), 1) := dk_2 (dk_at dksX0_person_2 16 rfl rfl)
theorem dX0_person_63 : decode cX0_person 63 = .ok (.ireturn, 1) := dk_172 (dk_at dksX0_person_2 17 rfl rfl)
theorem dX0_person_64 : decode cX0_person 64 = .ok (.aload_n 0, 1) := dk_42 (dk_at dksX0_person_2 18 rfl rfl)
theorem dX0_person_65 : decode cX0_person 65 = .ok (.getfield 9, 3) := dk_180 0 9 (dk_at dksX0_person_2 19 rfl rfl)
theorem dX0_person_68 : decode cX0_person 68 = .ok (.getfield 13, 3) := dk_180 0 13 (dk_at dksX0_person_3 0 rfl rfl)
theorem dX0_person_71 : decode cX0_person 71 = .ok (.bipush 8, 2) := dk_16 8 (dk_at dksX0_person_3 3 rfl rfl)
theorem dX0_person_73 : decode cX0_person 73 = .ok (.if_icmp .ne 6, 3) := dk_160 0 6 (dk_at dksX0_person_3 5 rfl rfl)
theorem dX0_person_76 : decode cX0_person 76 = .ok (.bipush (-3), 2) := dk_16 253 (dk_at dksX0_person_3 8 rfl rfl)
theorem dX0_person_78 : decode cX0_person 78 = .ok (.ireturn, 1) := dk_172 (dk_at dksX0_person_3 10 rfl rfl)
theorem dX0_person_79 : decode cX0_person 79 = .ok (.aload_n 0, 1) := dk_42 (dk_at dksX0_person_3 11 rfl rfl)
theorem dX0_person_80 : decode cX0_person 80 = .ok (.iload_n 1, 1) := dk_27 (dk_at dksX0_person_3 12 rfl rfl)
theorem dX0_person_81 : decode cX0_person 81 = .ok (.iload_n 2, 1) := dk_28 (dk_at dksX0_person_3 13 rfl rfl)
theorem dX0_person_82 : decode cX0_person 82 = .ok (.iload_n 3, 1) := dk_29 (dk_at dksX0_person_3 14 rfl rfl)
theorem dX0_person_83 : decode cX0_person 83 = .ok (.iload 4, 2) := dk_21 4 (dk_at dksX0_person_3 15 rfl rfl)
theorem dX0_person_85 : decode cX0_person 85 = .ok (.iload 5, 2) := dk_21 5 (dk_at dksX0_person_3 17 rfl rfl)
theorem dX0_person_87 : decode cX0_person 87 = .ok (.invokevirtual 108, 3) := dk_182 0 108 (dk_at dksX0_person_3 19 rfl rfl)
theorem dX0_person_90 : decode cX0_person 90 = .ok (.aload_n 0, 1) := dk_42 (dk_at dksX0_person_3 22 rfl rfl)
theorem dX0_person_91 : decode cX0_person 91 = .ok (.getfield 112, 3) := dk_180 0 112 (dk_at dksX0_person_4 0 rfl rfl)
theorem dX0_person_94 : decode cX0_person 94 = .ok (.invokevirtual 116, 3) := dk_182 0 116 (dk_at dksX0_person_4 3 rfl rfl)
theorem dX0_person_97 : decode cX0_person 97 = .ok (.aload_n 0, 1) := dk_42 (dk_at dksX0_person_4 6 rfl rfl)
theorem dX0_person_98 : decode cX0_person 98 = .ok (.aload_n 0, 1) := dk_42 (dk_at dksX0_person_4 7 rfl rfl)
theorem dX0_person_99 : decode cX0_person 99 = .ok (.getfield 9, 3) := dk_180 0 9 (dk_at dksX0_person_4 8 rfl rfl)
theorem dX0_person_102 : decode cX0_person 102 = .ok (.invokevirtual 81, 3) := dk_182 0 81 (dk_at dksX0_person_4 11 rfl rfl)
theorem dX0_person_105 : decode cX0_person 105 = .ok (.pop, 1) := dk_87 (dk_at dksX0_person_4 14 rfl rfl)
theorem dX0_person_106 : decode cX0_person 106 = .ok (.aload_n 0, 1) := dk_42 (dk_at dksX0_person_4 15 rfl rfl)
theorem dX0_person_107 : decode cX0_person 107 = .ok (.getfield 9, 3) := dk_180 0 9 (dk_at dksX0_person_4 16 rfl rfl)
theorem dX0_person_110 : decode cX0_person 110 = .ok (.getfield 13, 3) := dk_180 0 13 (dk_at dksX0_person_4 19 rfl rfl)
theorem dX0_person_113 : decode cX0_person 113 = .ok (.iconst 1, 1) := dk_4 (dk_at dksX0_person_4 22 rfl rfl)
theorem dX0_person_114 : decode cX0_person 114 = .ok (.isub, 1) := dk_100 (dk_at dksX0_person_4 23 rfl rfl)
theorem dX0_person_115 : decode cX0_person 115 = .ok (.ireturn, 1) := dk_172 (dk_at dksX0_person_5 0 rfl rfl)
abbrev cX0_in : ByteArray := prog_1_method_1_code
def yX0_in : MethodName := ⟨RX0, "in", "(JJJ)Z"⟩
def dkwX0_in_0 : List UInt8 := [30, 32, 148, 155, 0, 14, 30, 22, 4, 148, 157, 0, 7, 4, 167, 0, 4, 3, 172]
abbrev dktX0_in_0 : List UInt8 := dkwX0_in_0 ++ []
theorem dksX0_in_0 : cX0_in.data.toList.drop 0 = dktX0_in_0 := by decide +kernel
theorem dX0_in_0 : decode cX0_in 0 = .ok (.lload_n 0, 1) := dk_30 (dk_at dksX0_in_0 0 rfl rfl)
theorem dX0_in_1 : decode cX0_in 1 = .ok (.lload_n 2, 1) := dk_32 (dk_at dksX0_in_0 1 rfl rfl)
theorem dX0_in_2 : decode cX0_in 2 = .ok (.lcmp, 1) := dk_148 (dk_at dksX0_in_0 2 rfl rfl)
theorem dX0_in_3 : decode cX0_in 3 = .ok (.ifCond .lt 14, 3) := dk_155 0 14 (dk_at dksX0_in_0 3 rfl rfl)
theorem dX0_in_6 : decode cX0_in 6 = .ok (.lload_n 0, 1) := dk_30 (dk_at dksX0_in_0 6 rfl rfl)
theorem dX0_in_7 : decode cX0_in 7 = .ok (.lload 4, 2) := dk_22 4 (dk_at dksX0_in_0 7 rfl rfl)
theorem dX0_in_9 : decode cX0_in 9 = .ok (.lcmp, 1) := dk_148 (dk_at dksX0_in_0 9 rfl rfl)
theorem dX0_in_10 : decode cX0_in 10 = .ok (.ifCond .gt 7, 3) := dk_157 0 7 (dk_at dksX0_in_0 10 rfl rfl)
theorem dX0_in_13 : decode cX0_in 13 = .ok (.iconst 1, 1) := dk_4 (dk_at dksX0_in_0 13 rfl rfl)
theorem dX0_in_14 : decode cX0_in 14 = .ok (.goto 4, 3) := dk_167 0 4 (dk_at dksX0_in_0 14 rfl rfl)
theorem dX0_in_17 : decode cX0_in 17 = .ok (.iconst 0, 1) := dk_3 (dk_at dksX0_in_0 17 rfl rfl)
theorem dX0_in_18 : decode cX0_in 18 = .ok (.ireturn, 1) := dk_172 (dk_at dksX0_in_0 18 rfl rfl)
abbrev cX0_comes : ByteArray := prog_1_method_11_code
def yX0_comes : MethodName := ⟨RX0, "comes", "(IIIII)V"⟩
def dkwX0_comes_3 : List UInt8 := [84, 42, 180, 0, 9, 180, 0, 74, 21, 6, 4, 100, 21, 5, 145, 84, 177]
abbrev dktX0_comes_3 : List UInt8 := dkwX0_comes_3 ++ []
def dkwX0_comes_2 : List UInt8 := [133, 182, 0, 91, 21, 6, 154, 0, 4, 177, 42, 180, 0, 9, 180, 0, 95, 21, 6, 4, 100, 21, 4, 145]
abbrev dktX0_comes_2 : List UInt8 := dkwX0_comes_2 ++ dktX0_comes_3
def dkwX0_comes_1 : List UInt8 := [21, 6, 27, 145, 84, 42, 180, 0, 9, 180, 0, 88, 21, 6, 28, 145, 84, 42, 180, 0, 9, 21, 6, 29]
abbrev dktX0_comes_1 : List UInt8 := dkwX0_comes_1 ++ dktX0_comes_2
def dkwX0_comes_0 : List UInt8 := [42, 180, 0, 9, 89, 180, 0, 13, 90, 4, 96, 181, 0, 13, 54, 6, 42, 180, 0, 9, 180, 0, 85]
abbrev dktX0_comes_0 : List UInt8 := dkwX0_comes_0 ++ dktX0_comes_1
theorem dksX0_comes_0 : cX0_comes.data.toList.drop 0 = dktX0_comes_0 := by decide +kernel
theorem dksX0_comes_1 : cX0_comes.data.toList.drop 23 = dktX0_comes_1 := dk_seg dksX0_comes_0 23 rfl rfl
theorem dksX0_comes_2 : cX0_comes.data.toList.drop 47 = dktX0_comes_2 := dk_seg dksX0_comes_1 24 rfl rfl
theorem dksX0_comes_3 : cX0_comes.data.toList.drop 71 = dktX0_comes_3 := dk_seg dksX0_comes_2 24 rfl rfl
theorem dX0_comes_0 : decode cX0_comes 0 = .ok (.aload_n 0, 1) := dk_42 (dk_at dksX0_comes_0 0 rfl rfl)
theorem dX0_comes_1 : decode cX0_comes 1 = .ok (.getfield 9, 3) := dk_180 0 9 (dk_at dksX0_comes_0 1 rfl rfl)
theorem dX0_comes_4 : decode cX0_comes 4 = .ok (.dup, 1) := dk_89 (dk_at dksX0_comes_0 4 rfl rfl)
theorem dX0_comes_5 : decode cX0_comes 5 = .ok (.getfield 13, 3) := dk_180 0 13 (dk_at dksX0_comes_0 5 rfl rfl)
theorem dX0_comes_8 : decode cX0_comes 8 = .ok (.dup_x1, 1) := dk_90 (dk_at dksX0_comes_0 8 rfl rfl)
theorem dX0_comes_9 : decode cX0_comes 9 = .ok (.iconst 1, 1) := dk_4 (dk_at dksX0_comes_0 9 rfl rfl)
theorem dX0_comes_10 : decode cX0_comes 10 = .ok (.iadd, 1) := dk_96 (dk_at dksX0_comes_0 10 rfl rfl)
theorem dX0_comes_11 : decode cX0_comes 11 = .ok (.putfield 13, 3) := dk_181 0 13 (dk_at dksX0_comes_0 11 rfl rfl)
theorem dX0_comes_14 : decode cX0_comes 14 = .ok (.istore 6, 2) := dk_54 6 (dk_at dksX0_comes_0 14 rfl rfl)
theorem dX0_comes_16 : decode cX0_comes 16 = .ok (.aload_n 0, 1) := dk_42 (dk_at dksX0_comes_0 16 rfl rfl)
theorem dX0_comes_17 : decode cX0_comes 17 = .ok (.getfield 9, 3) := dk_180 0 9 (dk_at dksX0_comes_0 17 rfl rfl)
theorem dX0_comes_20 : decode cX0_comes 20 = .ok (.getfield 85, 3) := dk_180 0 85 (dk_at dksX0_comes_0 20 rfl rfl)
theorem dX0_comes_23 : decode cX0_comes 23 = .ok (.iload 6, 2) := dk_21 6 (dk_at dksX0_comes_1 0 rfl rfl)
theorem dX0_comes_25 : decode cX0_comes 25 = .ok (.iload_n 1, 1) := dk_27 (dk_at dksX0_comes_1 2 rfl rfl)
theorem dX0_comes_26 : decode cX0_comes 26 = .ok (.i2b, 1) := dk_145 (dk_at dksX0_comes_1 3 rfl rfl)
theorem dX0_comes_27 : decode cX0_comes 27 = .ok (.bastore, 1) := dk_84 (dk_at dksX0_comes_1 4 rfl rfl)
theorem dX0_comes_28 : decode cX0_comes 28 = .ok (.aload_n 0, 1) := dk_42 (dk_at dksX0_comes_1 5 rfl rfl)
theorem dX0_comes_29 : decode cX0_comes 29 = .ok (.getfield 9, 3) := dk_180 0 9 (dk_at dksX0_comes_1 6 rfl rfl)
theorem dX0_comes_32 : decode cX0_comes 32 = .ok (.getfield 88, 3) := dk_180 0 88 (dk_at dksX0_comes_1 9 rfl rfl)
theorem dX0_comes_35 : decode cX0_comes 35 = .ok (.iload 6, 2) := dk_21 6 (dk_at dksX0_comes_1 12 rfl rfl)
theorem dX0_comes_37 : decode cX0_comes 37 = .ok (.iload_n 2, 1) := dk_28 (dk_at dksX0_comes_1 14 rfl rfl)
theorem dX0_comes_38 : decode cX0_comes 38 = .ok (.i2b, 1) := dk_145 (dk_at dksX0_comes_1 15 rfl rfl)
theorem dX0_comes_39 : decode cX0_comes 39 = .ok (.bastore, 1) := dk_84 (dk_at dksX0_comes_1 16 rfl rfl)
theorem dX0_comes_40 : decode cX0_comes 40 = .ok (.aload_n 0, 1) := dk_42 (dk_at dksX0_comes_1 17 rfl rfl)
theorem dX0_comes_41 : decode cX0_comes 41 = .ok (.getfield 9, 3) := dk_180 0 9 (dk_at dksX0_comes_1 18 rfl rfl)
theorem dX0_comes_44 : decode cX0_comes 44 = .ok (.iload 6, 2) := dk_21 6 (dk_at dksX0_comes_1 21 rfl rfl)
theorem dX0_comes_46 : decode cX0_comes 46 = .ok (.iload_n 3, 1) := dk_29 (dk_at dksX0_comes_1 23 rfl rfl)
theorem dX0_comes_47 : decode cX0_comes 47 = .ok (.i2l, 1) := dk_133 (dk_at dksX0_comes_2 0 rfl rfl)
theorem dX0_comes_48 : decode cX0_comes 48 = .ok (.invokevirtual 91, 3) := dk_182 0 91 (dk_at dksX0_comes_2 1 rfl rfl)
theorem dX0_comes_51 : decode cX0_comes 51 = .ok (.iload 6, 2) := dk_21 6 (dk_at dksX0_comes_2 4 rfl rfl)
theorem dX0_comes_53 : decode cX0_comes 53 = .ok (.ifCond .ne 4, 3) := dk_154 0 4 (dk_at dksX0_comes_2 6 rfl rfl)
theorem dX0_comes_56 : decode cX0_comes 56 = .ok (.return_, 1) := dk_177 (dk_at dksX0_comes_2 9 rfl rfl)
theorem dX0_comes_57 : decode cX0_comes 57 = .ok (.aload_n 0, 1) := dk_42 (dk_at dksX0_comes_2 10 rfl rfl)
theorem dX0_comes_58 : decode cX0_comes 58 = .ok (.getfield 9, 3) := dk_180 0 9 (dk_at dksX0_comes_2 11 rfl rfl)
theorem dX0_comes_61 : decode cX0_comes 61 = .ok (.getfield 95, 3) := dk_180 0 95 (dk_at dksX0_comes_2 14 rfl rfl)
theorem dX0_comes_64 : decode cX0_comes 64 = .ok (.iload 6, 2) := dk_21 6 (dk_at dksX0_comes_2 17 rfl rfl)
theorem dX0_comes_66 : decode cX0_comes 66 = .ok (.iconst 1, 1) := dk_4 (dk_at dksX0_comes_2 19 rfl rfl)
theorem dX0_comes_67 : decode cX0_comes 67 = .ok (.isub, 1) := dk_100 (dk_at dksX0_comes_2 20 rfl rfl)
theorem dX0_comes_68 : decode cX0_comes 68 = .ok (.iload 4, 2) := dk_21 4 (dk_at dksX0_comes_2 21 rfl rfl)
theorem dX0_comes_70 : decode cX0_comes 70 = .ok (.i2b, 1) := dk_145 (dk_at dksX0_comes_2 23 rfl rfl)
theorem dX0_comes_71 : decode cX0_comes 71 = .ok (.bastore, 1) := dk_84 (dk_at dksX0_comes_3 0 rfl rfl)
theorem dX0_comes_72 : decode cX0_comes 72 = .ok (.aload_n 0, 1) := dk_42 (dk_at dksX0_comes_3 1 rfl rfl)
theorem dX0_comes_73 : decode cX0_comes 73 = .ok (.getfield 9, 3) := dk_180 0 9 (dk_at dksX0_comes_3 2 rfl rfl)
theorem dX0_comes_76 : decode cX0_comes 76 = .ok (.getfield 74, 3) := dk_180 0 74 (dk_at dksX0_comes_3 5 rfl rfl)
theorem dX0_comes_79 : decode cX0_comes 79 = .ok (.iload 6, 2) := dk_21 6 (dk_at dksX0_comes_3 8 rfl rfl)
theorem dX0_comes_81 : decode cX0_comes 81 = .ok (.iconst 1, 1) := dk_4 (dk_at dksX0_comes_3 10 rfl rfl)
theorem dX0_comes_82 : decode cX0_comes 82 = .ok (.isub, 1) := dk_100 (dk_at dksX0_comes_3 11 rfl rfl)
theorem dX0_comes_83 : decode cX0_comes 83 = .ok (.iload 5, 2) := dk_21 5 (dk_at dksX0_comes_3 12 rfl rfl)
theorem dX0_comes_85 : decode cX0_comes 85 = .ok (.i2b, 1) := dk_145 (dk_at dksX0_comes_3 14 rfl rfl)
theorem dX0_comes_86 : decode cX0_comes 86 = .ok (.bastore, 1) := dk_84 (dk_at dksX0_comes_3 15 rfl rfl)
theorem dX0_comes_87 : decode cX0_comes 87 = .ok (.return_, 1) := dk_177 (dk_at dksX0_comes_3 16 rfl rfl)
abbrev cX0_settles : ByteArray := prog_1_method_8_code
def yX0_settles : MethodName := ⟨RX0, "settles", "(LOneElastic$Town;)I"⟩
def dkwX0_settles_6 : List UInt8 := [167, 255, 185, 167, 0, 3, 42, 180, 0, 23, 172]
abbrev dktX0_settles_6 : List UInt8 := dkwX0_settles_6 ++ []
def dkwX0_settles_5 : List UInt8 := [180, 0, 71, 42, 89, 180, 0, 23, 90, 4, 96, 181, 0, 23, 28, 79, 167, 255, 134, 132, 2, 1]
abbrev dktX0_settles_5 : List UInt8 := dkwX0_settles_5 ++ dktX0_settles_6
def dkwX0_settles_4 : List UInt8 := [182, 0, 60, 133, 43, 28, 182, 0, 64, 105, 148, 157, 0, 6, 167, 0, 28, 43, 28, 182, 0, 67, 42]
abbrev dktX0_settles_4 : List UInt8 := dkwX0_settles_4 ++ dktX0_settles_5
def dkwX0_settles_3 : List UInt8 := [180, 0, 13, 162, 0, 69, 43, 28, 182, 0, 46, 153, 0, 55, 43, 28, 182, 0, 50, 184, 0, 54, 43, 28]
abbrev dktX0_settles_3 : List UInt8 := dkwX0_settles_3 ++ dktX0_settles_4
def dkwX0_settles_2 : List UInt8 := [167, 0, 12, 42, 43, 28, 182, 0, 43, 167, 255, 210, 132, 2, 1, 167, 255, 211, 3, 61, 28, 43]
abbrev dktX0_settles_2 : List UInt8 := dkwX0_settles_2 ++ dktX0_settles_3
def dkwX0_settles_1 : List UInt8 := [162, 0, 41, 43, 180, 0, 33, 28, 46, 43, 180, 0, 37, 43, 180, 0, 40, 28, 46, 104, 163, 0, 6]
abbrev dktX0_settles_1 : List UInt8 := dkwX0_settles_1 ++ dktX0_settles_2
def dkwX0_settles_0 : List UInt8 := [42, 3, 181, 0, 23, 42, 3, 181, 0, 26, 43, 182, 0, 29, 87, 3, 61, 28, 43, 180, 0, 13, 4, 100]
abbrev dktX0_settles_0 : List UInt8 := dkwX0_settles_0 ++ dktX0_settles_1
theorem dksX0_settles_0 : cX0_settles.data.toList.drop 0 = dktX0_settles_0 := by decide +kernel
theorem dksX0_settles_1 : cX0_settles.data.toList.drop 24 = dktX0_settles_1 := dk_seg dksX0_settles_0 24 rfl rfl
theorem dksX0_settles_2 : cX0_settles.data.toList.drop 47 = dktX0_settles_2 := dk_seg dksX0_settles_1 23 rfl rfl
theorem dksX0_settles_3 : cX0_settles.data.toList.drop 69 = dktX0_settles_3 := dk_seg dksX0_settles_2 22 rfl rfl
theorem dksX0_settles_4 : cX0_settles.data.toList.drop 93 = dktX0_settles_4 := dk_seg dksX0_settles_3 24 rfl rfl
theorem dksX0_settles_5 : cX0_settles.data.toList.drop 116 = dktX0_settles_5 := dk_seg dksX0_settles_4 23 rfl rfl
theorem dksX0_settles_6 : cX0_settles.data.toList.drop 138 = dktX0_settles_6 := dk_seg dksX0_settles_5 22 rfl rfl
theorem dX0_settles_0 : decode cX0_settles 0 = .ok (.aload_n 0, 1) := dk_42 (dk_at dksX0_settles_0 0 rfl rfl)
theorem dX0_settles_1 : decode cX0_settles 1 = .ok (.iconst 0, 1) := dk_3 (dk_at dksX0_settles_0 1 rfl rfl)
theorem dX0_settles_2 : decode cX0_settles 2 = .ok (.putfield 23, 3) := dk_181 0 23 (dk_at dksX0_settles_0 2 rfl rfl)
theorem dX0_settles_5 : decode cX0_settles 5 = .ok (.aload_n 0, 1) := dk_42 (dk_at dksX0_settles_0 5 rfl rfl)
theorem dX0_settles_6 : decode cX0_settles 6 = .ok (.iconst 0, 1) := dk_3 (dk_at dksX0_settles_0 6 rfl rfl)
theorem dX0_settles_7 : decode cX0_settles 7 = .ok (.putfield 26, 3) := dk_181 0 26 (dk_at dksX0_settles_0 7 rfl rfl)
theorem dX0_settles_10 : decode cX0_settles 10 = .ok (.aload_n 1, 1) := dk_43 (dk_at dksX0_settles_0 10 rfl rfl)
theorem dX0_settles_11 : decode cX0_settles 11 = .ok (.invokevirtual 29, 3) := dk_182 0 29 (dk_at dksX0_settles_0 11 rfl rfl)
theorem dX0_settles_14 : decode cX0_settles 14 = .ok (.pop, 1) := dk_87 (dk_at dksX0_settles_0 14 rfl rfl)
theorem dX0_settles_15 : decode cX0_settles 15 = .ok (.iconst 0, 1) := dk_3 (dk_at dksX0_settles_0 15 rfl rfl)
theorem dX0_settles_16 : decode cX0_settles 16 = .ok (.istore_n 2, 1) := dk_61 (dk_at dksX0_settles_0 16 rfl rfl)
theorem dX0_settles_17 : decode cX0_settles 17 = .ok (.iload_n 2, 1) := dk_28 (dk_at dksX0_settles_0 17 rfl rfl)
theorem dX0_settles_18 : decode cX0_settles 18 = .ok (.aload_n 1, 1) := dk_43 (dk_at dksX0_settles_0 18 rfl rfl)
theorem dX0_settles_19 : decode cX0_settles 19 = .ok (.getfield 13, 3) := dk_180 0 13 (dk_at dksX0_settles_0 19 rfl rfl)
theorem dX0_settles_22 : decode cX0_settles 22 = .ok (.iconst 1, 1) := dk_4 (dk_at dksX0_settles_0 22 rfl rfl)
theorem dX0_settles_23 : decode cX0_settles 23 = .ok (.isub, 1) := dk_100 (dk_at dksX0_settles_0 23 rfl rfl)
theorem dX0_settles_24 : decode cX0_settles 24 = .ok (.if_icmp .ge 41, 3) := dk_162 0 41 (dk_at dksX0_settles_1 0 rfl rfl)
theorem dX0_settles_27 : decode cX0_settles 27 = .ok (.aload_n 1, 1) := dk_43 (dk_at dksX0_settles_1 3 rfl rfl)
theorem dX0_settles_28 : decode cX0_settles 28 = .ok (.getfield 33, 3) := dk_180 0 33 (dk_at dksX0_settles_1 4 rfl rfl)
theorem dX0_settles_31 : decode cX0_settles 31 = .ok (.iload_n 2, 1) := dk_28 (dk_at dksX0_settles_1 7 rfl rfl)
theorem dX0_settles_32 : decode cX0_settles 32 = .ok (.iaload, 1) := dk_46 (dk_at dksX0_settles_1 8 rfl rfl)
theorem dX0_settles_33 : decode cX0_settles 33 = .ok (.aload_n 1, 1) := dk_43 (dk_at dksX0_settles_1 9 rfl rfl)
theorem dX0_settles_34 : decode cX0_settles 34 = .ok (.getfield 37, 3) := dk_180 0 37 (dk_at dksX0_settles_1 10 rfl rfl)
theorem dX0_settles_37 : decode cX0_settles 37 = .ok (.aload_n 1, 1) := dk_43 (dk_at dksX0_settles_1 13 rfl rfl)
theorem dX0_settles_38 : decode cX0_settles 38 = .ok (.getfield 40, 3) := dk_180 0 40 (dk_at dksX0_settles_1 14 rfl rfl)
theorem dX0_settles_41 : decode cX0_settles 41 = .ok (.iload_n 2, 1) := dk_28 (dk_at dksX0_settles_1 17 rfl rfl)
theorem dX0_settles_42 : decode cX0_settles 42 = .ok (.iaload, 1) := dk_46 (dk_at dksX0_settles_1 18 rfl rfl)
theorem dX0_settles_43 : decode cX0_settles 43 = .ok (.imul, 1) := dk_104 (dk_at dksX0_settles_1 19 rfl rfl)
theorem dX0_settles_44 : decode cX0_settles 44 = .ok (.if_icmp .gt 6, 3) := dk_163 0 6 (dk_at dksX0_settles_1 20 rfl rfl)
theorem dX0_settles_47 : decode cX0_settles 47 = .ok (.goto 12, 3) := dk_167 0 12 (dk_at dksX0_settles_2 0 rfl rfl)
theorem dX0_settles_50 : decode cX0_settles 50 = .ok (.aload_n 0, 1) := dk_42 (dk_at dksX0_settles_2 3 rfl rfl)
theorem dX0_settles_51 : decode cX0_settles 51 = .ok (.aload_n 1, 1) := dk_43 (dk_at dksX0_settles_2 4 rfl rfl)
theorem dX0_settles_52 : decode cX0_settles 52 = .ok (.iload_n 2, 1) := dk_28 (dk_at dksX0_settles_2 5 rfl rfl)
theorem dX0_settles_53 : decode cX0_settles 53 = .ok (.invokevirtual 43, 3) := dk_182 0 43 (dk_at dksX0_settles_2 6 rfl rfl)
theorem dX0_settles_56 : decode cX0_settles 56 = .ok (.goto (-46), 3) := dk_167 255 210 (dk_at dksX0_settles_2 9 rfl rfl)
theorem dX0_settles_59 : decode cX0_settles 59 = .ok (.iinc 2 1, 3) := dk_132 2 1 (dk_at dksX0_settles_2 12 rfl rfl)
theorem dX0_settles_62 : decode cX0_settles 62 = .ok (.goto (-45), 3) := dk_167 255 211 (dk_at dksX0_settles_2 15 rfl rfl)
theorem dX0_settles_65 : decode cX0_settles 65 = .ok (.iconst 0, 1) := dk_3 (dk_at dksX0_settles_2 18 rfl rfl)
theorem dX0_settles_66 : decode cX0_settles 66 = .ok (.istore_n 2, 1) := dk_61 (dk_at dksX0_settles_2 19 rfl rfl)
theorem dX0_settles_67 : decode cX0_settles 67 = .ok (.iload_n 2, 1) := dk_28 (dk_at dksX0_settles_2 20 rfl rfl)
theorem dX0_settles_68 : decode cX0_settles 68 = .ok (.aload_n 1, 1) := dk_43 (dk_at dksX0_settles_2 21 rfl rfl)
theorem dX0_settles_69 : decode cX0_settles 69 = .ok (.getfield 13, 3) := dk_180 0 13 (dk_at dksX0_settles_3 0 rfl rfl)
theorem dX0_settles_72 : decode cX0_settles 72 = .ok (.if_icmp .ge 69, 3) := dk_162 0 69 (dk_at dksX0_settles_3 3 rfl rfl)
theorem dX0_settles_75 : decode cX0_settles 75 = .ok (.aload_n 1, 1) := dk_43 (dk_at dksX0_settles_3 6 rfl rfl)
theorem dX0_settles_76 : decode cX0_settles 76 = .ok (.iload_n 2, 1) := dk_28 (dk_at dksX0_settles_3 7 rfl rfl)
theorem dX0_settles_77 : decode cX0_settles 77 = .ok (.invokevirtual 46, 3) := dk_182 0 46 (dk_at dksX0_settles_3 8 rfl rfl)
theorem dX0_settles_80 : decode cX0_settles 80 = .ok (.ifCond .eq 55, 3) := dk_153 0 55 (dk_at dksX0_settles_3 11 rfl rfl)
theorem dX0_settles_83 : decode cX0_settles 83 = .ok (.aload_n 1, 1) := dk_43 (dk_at dksX0_settles_3 14 rfl rfl)
theorem dX0_settles_84 : decode cX0_settles 84 = .ok (.iload_n 2, 1) := dk_28 (dk_at dksX0_settles_3 15 rfl rfl)
theorem dX0_settles_85 : decode cX0_settles 85 = .ok (.invokevirtual 50, 3) := dk_182 0 50 (dk_at dksX0_settles_3 16 rfl rfl)
theorem dX0_settles_88 : decode cX0_settles 88 = .ok (.invokestatic 54, 3) := dk_184 0 54 (dk_at dksX0_settles_3 19 rfl rfl)
theorem dX0_settles_91 : decode cX0_settles 91 = .ok (.aload_n 1, 1) := dk_43 (dk_at dksX0_settles_3 22 rfl rfl)
theorem dX0_settles_92 : decode cX0_settles 92 = .ok (.iload_n 2, 1) := dk_28 (dk_at dksX0_settles_3 23 rfl rfl)
theorem dX0_settles_93 : decode cX0_settles 93 = .ok (.invokevirtual 60, 3) := dk_182 0 60 (dk_at dksX0_settles_4 0 rfl rfl)
theorem dX0_settles_96 : decode cX0_settles 96 = .ok (.i2l, 1) := dk_133 (dk_at dksX0_settles_4 3 rfl rfl)
theorem dX0_settles_97 : decode cX0_settles 97 = .ok (.aload_n 1, 1) := dk_43 (dk_at dksX0_settles_4 4 rfl rfl)
theorem dX0_settles_98 : decode cX0_settles 98 = .ok (.iload_n 2, 1) := dk_28 (dk_at dksX0_settles_4 5 rfl rfl)
theorem dX0_settles_99 : decode cX0_settles 99 = .ok (.invokevirtual 64, 3) := dk_182 0 64 (dk_at dksX0_settles_4 6 rfl rfl)
theorem dX0_settles_102 : decode cX0_settles 102 = .ok (.lmul, 1) := dk_105 (dk_at dksX0_settles_4 9 rfl rfl)
theorem dX0_settles_103 : decode cX0_settles 103 = .ok (.lcmp, 1) := dk_148 (dk_at dksX0_settles_4 10 rfl rfl)
theorem dX0_settles_104 : decode cX0_settles 104 = .ok (.ifCond .gt 6, 3) := dk_157 0 6 (dk_at dksX0_settles_4 11 rfl rfl)
theorem dX0_settles_107 : decode cX0_settles 107 = .ok (.goto 28, 3) := dk_167 0 28 (dk_at dksX0_settles_4 14 rfl rfl)
theorem dX0_settles_110 : decode cX0_settles 110 = .ok (.aload_n 1, 1) := dk_43 (dk_at dksX0_settles_4 17 rfl rfl)
theorem dX0_settles_111 : decode cX0_settles 111 = .ok (.iload_n 2, 1) := dk_28 (dk_at dksX0_settles_4 18 rfl rfl)
theorem dX0_settles_112 : decode cX0_settles 112 = .ok (.invokevirtual 67, 3) := dk_182 0 67 (dk_at dksX0_settles_4 19 rfl rfl)
theorem dX0_settles_115 : decode cX0_settles 115 = .ok (.aload_n 0, 1) := dk_42 (dk_at dksX0_settles_4 22 rfl rfl)
theorem dX0_settles_116 : decode cX0_settles 116 = .ok (.getfield 71, 3) := dk_180 0 71 (dk_at dksX0_settles_5 0 rfl rfl)
theorem dX0_settles_119 : decode cX0_settles 119 = .ok (.aload_n 0, 1) := dk_42 (dk_at dksX0_settles_5 3 rfl rfl)
theorem dX0_settles_120 : decode cX0_settles 120 = .ok (.dup, 1) := dk_89 (dk_at dksX0_settles_5 4 rfl rfl)
theorem dX0_settles_121 : decode cX0_settles 121 = .ok (.getfield 23, 3) := dk_180 0 23 (dk_at dksX0_settles_5 5 rfl rfl)
theorem dX0_settles_124 : decode cX0_settles 124 = .ok (.dup_x1, 1) := dk_90 (dk_at dksX0_settles_5 8 rfl rfl)
theorem dX0_settles_125 : decode cX0_settles 125 = .ok (.iconst 1, 1) := dk_4 (dk_at dksX0_settles_5 9 rfl rfl)
theorem dX0_settles_126 : decode cX0_settles 126 = .ok (.iadd, 1) := dk_96 (dk_at dksX0_settles_5 10 rfl rfl)
theorem dX0_settles_127 : decode cX0_settles 127 = .ok (.putfield 23, 3) := dk_181 0 23 (dk_at dksX0_settles_5 11 rfl rfl)
theorem dX0_settles_130 : decode cX0_settles 130 = .ok (.iload_n 2, 1) := dk_28 (dk_at dksX0_settles_5 14 rfl rfl)
theorem dX0_settles_131 : decode cX0_settles 131 = .ok (.iastore, 1) := dk_79 (dk_at dksX0_settles_5 15 rfl rfl)
theorem dX0_settles_132 : decode cX0_settles 132 = .ok (.goto (-122), 3) := dk_167 255 134 (dk_at dksX0_settles_5 16 rfl rfl)
theorem dX0_settles_135 : decode cX0_settles 135 = .ok (.iinc 2 1, 3) := dk_132 2 1 (dk_at dksX0_settles_5 19 rfl rfl)
theorem dX0_settles_138 : decode cX0_settles 138 = .ok (.goto (-71), 3) := dk_167 255 185 (dk_at dksX0_settles_6 0 rfl rfl)
theorem dX0_settles_141 : decode cX0_settles 141 = .ok (.goto 3, 3) := dk_167 0 3 (dk_at dksX0_settles_6 3 rfl rfl)
theorem dX0_settles_144 : decode cX0_settles 144 = .ok (.aload_n 0, 1) := dk_42 (dk_at dksX0_settles_6 6 rfl rfl)
theorem dX0_settles_145 : decode cX0_settles 145 = .ok (.getfield 23, 3) := dk_180 0 23 (dk_at dksX0_settles_6 7 rfl rfl)
theorem dX0_settles_148 : decode cX0_settles 148 = .ok (.ireturn, 1) := dk_172 (dk_at dksX0_settles_6 10 rfl rfl)
abbrev cX0_tears : ByteArray := prog_1_method_9_code
def yX0_tears : MethodName := ⟨RX0, "tears", "(LOneElastic$Town;I)V"⟩
def dkwX0_tears_3 : List UInt8 := [96, 181, 0, 26, 177]
abbrev dktX0_tears_3 : List UInt8 := dkwX0_tears_3 ++ []
def dkwX0_tears_2 : List UInt8 := [132, 4, 1, 167, 255, 214, 43, 89, 180, 0, 78, 4, 29, 120, 128, 181, 0, 78, 42, 89, 180, 0, 26, 4]
abbrev dktX0_tears_2 : List UInt8 := dkwX0_tears_2 ++ dktX0_tears_3
def dkwX0_tears_1 : List UInt8 := [154, 0, 28, 43, 180, 0, 74, 21, 4, 51, 43, 180, 0, 74, 29, 51, 164, 0, 6, 21, 4, 62]
abbrev dktX0_tears_1 : List UInt8 := dkwX0_tears_1 ++ dktX0_tears_2
def dkwX0_tears_0 : List UInt8 := [28, 62, 28, 4, 96, 54, 4, 21, 4, 43, 180, 0, 13, 4, 100, 162, 0, 37, 43, 21, 4, 182, 0, 46]
abbrev dktX0_tears_0 : List UInt8 := dkwX0_tears_0 ++ dktX0_tears_1
theorem dksX0_tears_0 : cX0_tears.data.toList.drop 0 = dktX0_tears_0 := by decide +kernel
theorem dksX0_tears_1 : cX0_tears.data.toList.drop 24 = dktX0_tears_1 := dk_seg dksX0_tears_0 24 rfl rfl
theorem dksX0_tears_2 : cX0_tears.data.toList.drop 46 = dktX0_tears_2 := dk_seg dksX0_tears_1 22 rfl rfl
theorem dksX0_tears_3 : cX0_tears.data.toList.drop 70 = dktX0_tears_3 := dk_seg dksX0_tears_2 24 rfl rfl
theorem dX0_tears_0 : decode cX0_tears 0 = .ok (.iload_n 2, 1) := dk_28 (dk_at dksX0_tears_0 0 rfl rfl)
theorem dX0_tears_1 : decode cX0_tears 1 = .ok (.istore_n 3, 1) := dk_62 (dk_at dksX0_tears_0 1 rfl rfl)
theorem dX0_tears_2 : decode cX0_tears 2 = .ok (.iload_n 2, 1) := dk_28 (dk_at dksX0_tears_0 2 rfl rfl)
theorem dX0_tears_3 : decode cX0_tears 3 = .ok (.iconst 1, 1) := dk_4 (dk_at dksX0_tears_0 3 rfl rfl)
theorem dX0_tears_4 : decode cX0_tears 4 = .ok (.iadd, 1) := dk_96 (dk_at dksX0_tears_0 4 rfl rfl)
theorem dX0_tears_5 : decode cX0_tears 5 = .ok (.istore 4, 2) := dk_54 4 (dk_at dksX0_tears_0 5 rfl rfl)
theorem dX0_tears_7 : decode cX0_tears 7 = .ok (.iload 4, 2) := dk_21 4 (dk_at dksX0_tears_0 7 rfl rfl)
theorem dX0_tears_9 : decode cX0_tears 9 = .ok (.aload_n 1, 1) := dk_43 (dk_at dksX0_tears_0 9 rfl rfl)
theorem dX0_tears_10 : decode cX0_tears 10 = .ok (.getfield 13, 3) := dk_180 0 13 (dk_at dksX0_tears_0 10 rfl rfl)
theorem dX0_tears_13 : decode cX0_tears 13 = .ok (.iconst 1, 1) := dk_4 (dk_at dksX0_tears_0 13 rfl rfl)
theorem dX0_tears_14 : decode cX0_tears 14 = .ok (.isub, 1) := dk_100 (dk_at dksX0_tears_0 14 rfl rfl)
theorem dX0_tears_15 : decode cX0_tears 15 = .ok (.if_icmp .ge 37, 3) := dk_162 0 37 (dk_at dksX0_tears_0 15 rfl rfl)
theorem dX0_tears_18 : decode cX0_tears 18 = .ok (.aload_n 1, 1) := dk_43 (dk_at dksX0_tears_0 18 rfl rfl)
theorem dX0_tears_19 : decode cX0_tears 19 = .ok (.iload 4, 2) := dk_21 4 (dk_at dksX0_tears_0 19 rfl rfl)
theorem dX0_tears_21 : decode cX0_tears 21 = .ok (.invokevirtual 46, 3) := dk_182 0 46 (dk_at dksX0_tears_0 21 rfl rfl)
theorem dX0_tears_24 : decode cX0_tears 24 = .ok (.ifCond .ne 28, 3) := dk_154 0 28 (dk_at dksX0_tears_1 0 rfl rfl)
theorem dX0_tears_27 : decode cX0_tears 27 = .ok (.aload_n 1, 1) := dk_43 (dk_at dksX0_tears_1 3 rfl rfl)
theorem dX0_tears_28 : decode cX0_tears 28 = .ok (.getfield 74, 3) := dk_180 0 74 (dk_at dksX0_tears_1 4 rfl rfl)
theorem dX0_tears_31 : decode cX0_tears 31 = .ok (.iload 4, 2) := dk_21 4 (dk_at dksX0_tears_1 7 rfl rfl)
theorem dX0_tears_33 : decode cX0_tears 33 = .ok (.baload, 1) := dk_51 (dk_at dksX0_tears_1 9 rfl rfl)
theorem dX0_tears_34 : decode cX0_tears 34 = .ok (.aload_n 1, 1) := dk_43 (dk_at dksX0_tears_1 10 rfl rfl)
theorem dX0_tears_35 : decode cX0_tears 35 = .ok (.getfield 74, 3) := dk_180 0 74 (dk_at dksX0_tears_1 11 rfl rfl)
theorem dX0_tears_38 : decode cX0_tears 38 = .ok (.iload_n 3, 1) := dk_29 (dk_at dksX0_tears_1 14 rfl rfl)
theorem dX0_tears_39 : decode cX0_tears 39 = .ok (.baload, 1) := dk_51 (dk_at dksX0_tears_1 15 rfl rfl)
theorem dX0_tears_40 : decode cX0_tears 40 = .ok (.if_icmp .le 6, 3) := dk_164 0 6 (dk_at dksX0_tears_1 16 rfl rfl)
theorem dX0_tears_43 : decode cX0_tears 43 = .ok (.iload 4, 2) := dk_21 4 (dk_at dksX0_tears_1 19 rfl rfl)
theorem dX0_tears_45 : decode cX0_tears 45 = .ok (.istore_n 3, 1) := dk_62 (dk_at dksX0_tears_1 21 rfl rfl)
theorem dX0_tears_46 : decode cX0_tears 46 = .ok (.iinc 4 1, 3) := dk_132 4 1 (dk_at dksX0_tears_2 0 rfl rfl)
theorem dX0_tears_49 : decode cX0_tears 49 = .ok (.goto (-42), 3) := dk_167 255 214 (dk_at dksX0_tears_2 3 rfl rfl)
theorem dX0_tears_52 : decode cX0_tears 52 = .ok (.aload_n 1, 1) := dk_43 (dk_at dksX0_tears_2 6 rfl rfl)
theorem dX0_tears_53 : decode cX0_tears 53 = .ok (.dup, 1) := dk_89 (dk_at dksX0_tears_2 7 rfl rfl)
theorem dX0_tears_54 : decode cX0_tears 54 = .ok (.getfield 78, 3) := dk_180 0 78 (dk_at dksX0_tears_2 8 rfl rfl)
theorem dX0_tears_57 : decode cX0_tears 57 = .ok (.iconst 1, 1) := dk_4 (dk_at dksX0_tears_2 11 rfl rfl)
theorem dX0_tears_58 : decode cX0_tears 58 = .ok (.iload_n 3, 1) := dk_29 (dk_at dksX0_tears_2 12 rfl rfl)
theorem dX0_tears_59 : decode cX0_tears 59 = .ok (.ishl, 1) := dk_120 (dk_at dksX0_tears_2 13 rfl rfl)
theorem dX0_tears_60 : decode cX0_tears 60 = .ok (.ior, 1) := dk_128 (dk_at dksX0_tears_2 14 rfl rfl)
theorem dX0_tears_61 : decode cX0_tears 61 = .ok (.putfield 78, 3) := dk_181 0 78 (dk_at dksX0_tears_2 15 rfl rfl)
theorem dX0_tears_64 : decode cX0_tears 64 = .ok (.aload_n 0, 1) := dk_42 (dk_at dksX0_tears_2 18 rfl rfl)
theorem dX0_tears_65 : decode cX0_tears 65 = .ok (.dup, 1) := dk_89 (dk_at dksX0_tears_2 19 rfl rfl)
theorem dX0_tears_66 : decode cX0_tears 66 = .ok (.getfield 26, 3) := dk_180 0 26 (dk_at dksX0_tears_2 20 rfl rfl)
theorem dX0_tears_69 : decode cX0_tears 69 = .ok (.iconst 1, 1) := dk_4 (dk_at dksX0_tears_2 23 rfl rfl)
theorem dX0_tears_70 : decode cX0_tears 70 = .ok (.iadd, 1) := dk_96 (dk_at dksX0_tears_3 0 rfl rfl)
theorem dX0_tears_71 : decode cX0_tears 71 = .ok (.putfield 26, 3) := dk_181 0 26 (dk_at dksX0_tears_3 1 rfl rfl)
theorem dX0_tears_74 : decode cX0_tears 74 = .ok (.return_, 1) := dk_177 (dk_at dksX0_tears_3 4 rfl rfl)
abbrev cX0_of : ByteArray := prog_1_method_13_code
def yX0_of : MethodName := ⟨RX0, "of", "(II)I"⟩
def dkwX0_of_5 : List UInt8 := [156, 0, 7, 5, 167, 0, 4, 3, 172, 2, 172]
abbrev dktX0_of_5 : List UInt8 := dkwX0_of_5 ++ []
def dkwX0_of_4 : List UInt8 := [180, 0, 9, 182, 0, 29, 27, 182, 0, 50, 66, 33, 9, 148, 158, 0, 7, 4, 167, 0, 14, 33, 9, 148]
abbrev dktX0_of_4 : List UInt8 := dkwX0_of_4 ++ dktX0_of_5
def dkwX0_of_3 : List UInt8 := [27, 182, 0, 46, 153, 0, 7, 4, 167, 0, 4, 3, 172, 42, 180, 0, 9, 27, 182, 0, 60, 172, 42]
abbrev dktX0_of_3 : List UInt8 := dkwX0_of_3 ++ dktX0_of_4
def dkwX0_of_2 : List UInt8 := [42, 180, 0, 9, 180, 0, 85, 27, 51, 172, 42, 180, 0, 9, 180, 0, 88, 27, 51, 172, 42, 180, 0, 9]
abbrev dktX0_of_2 : List UInt8 := dkwX0_of_2 ++ dktX0_of_3
def dkwX0_of_1 : List UInt8 := [170, 0, 0, 0, 113, 0, 0, 0, 0, 0, 0, 0, 4, 0, 0, 0, 33, 0, 0, 0, 43, 0, 0, 0, 53, 0, 0, 0, 70, 0, 0, 0, 79]
abbrev dktX0_of_1 : List UInt8 := dkwX0_of_1 ++ dktX0_of_2
def dkwX0_of_0 : List UInt8 := [42, 27, 182, 0, 122, 154, 0, 5, 2, 172, 28]
abbrev dktX0_of_0 : List UInt8 := dkwX0_of_0 ++ dktX0_of_1
theorem dksX0_of_0 : cX0_of.data.toList.drop 0 = dktX0_of_0 := by decide +kernel
theorem dksX0_of_1 : cX0_of.data.toList.drop 11 = dktX0_of_1 := dk_seg dksX0_of_0 11 rfl rfl
theorem dksX0_of_2 : cX0_of.data.toList.drop 44 = dktX0_of_2 := dk_seg dksX0_of_1 33 rfl rfl
theorem dksX0_of_3 : cX0_of.data.toList.drop 68 = dktX0_of_3 := dk_seg dksX0_of_2 24 rfl rfl
theorem dksX0_of_4 : cX0_of.data.toList.drop 91 = dktX0_of_4 := dk_seg dksX0_of_3 23 rfl rfl
theorem dksX0_of_5 : cX0_of.data.toList.drop 115 = dktX0_of_5 := dk_seg dksX0_of_4 24 rfl rfl
theorem dX0_of_0 : decode cX0_of 0 = .ok (.aload_n 0, 1) := dk_42 (dk_at dksX0_of_0 0 rfl rfl)
theorem dX0_of_1 : decode cX0_of 1 = .ok (.iload_n 1, 1) := dk_27 (dk_at dksX0_of_0 1 rfl rfl)
theorem dX0_of_2 : decode cX0_of 2 = .ok (.invokevirtual 122, 3) := dk_182 0 122 (dk_at dksX0_of_0 2 rfl rfl)
theorem dX0_of_5 : decode cX0_of 5 = .ok (.ifCond .ne 5, 3) := dk_154 0 5 (dk_at dksX0_of_0 5 rfl rfl)
theorem dX0_of_8 : decode cX0_of 8 = .ok (.iconst (-1), 1) := dk_2 (dk_at dksX0_of_0 8 rfl rfl)
theorem dX0_of_9 : decode cX0_of 9 = .ok (.ireturn, 1) := dk_172 (dk_at dksX0_of_0 9 rfl rfl)
theorem dX0_of_10 : decode cX0_of 10 = .ok (.iload_n 2, 1) := dk_28 (dk_at dksX0_of_0 10 rfl rfl)
theorem dX0_of_11 : decode cX0_of 11 = .ok (.tableswitch 113 0 4 #[33, 43, 53, 70, 79], 33) := by decide +kernel
theorem dX0_of_44 : decode cX0_of 44 = .ok (.aload_n 0, 1) := dk_42 (dk_at dksX0_of_2 0 rfl rfl)
theorem dX0_of_45 : decode cX0_of 45 = .ok (.getfield 9, 3) := dk_180 0 9 (dk_at dksX0_of_2 1 rfl rfl)
theorem dX0_of_48 : decode cX0_of 48 = .ok (.getfield 85, 3) := dk_180 0 85 (dk_at dksX0_of_2 4 rfl rfl)
theorem dX0_of_51 : decode cX0_of 51 = .ok (.iload_n 1, 1) := dk_27 (dk_at dksX0_of_2 7 rfl rfl)
theorem dX0_of_52 : decode cX0_of 52 = .ok (.baload, 1) := dk_51 (dk_at dksX0_of_2 8 rfl rfl)
theorem dX0_of_53 : decode cX0_of 53 = .ok (.ireturn, 1) := dk_172 (dk_at dksX0_of_2 9 rfl rfl)
theorem dX0_of_54 : decode cX0_of 54 = .ok (.aload_n 0, 1) := dk_42 (dk_at dksX0_of_2 10 rfl rfl)
theorem dX0_of_55 : decode cX0_of 55 = .ok (.getfield 9, 3) := dk_180 0 9 (dk_at dksX0_of_2 11 rfl rfl)
theorem dX0_of_58 : decode cX0_of 58 = .ok (.getfield 88, 3) := dk_180 0 88 (dk_at dksX0_of_2 14 rfl rfl)
theorem dX0_of_61 : decode cX0_of 61 = .ok (.iload_n 1, 1) := dk_27 (dk_at dksX0_of_2 17 rfl rfl)
theorem dX0_of_62 : decode cX0_of 62 = .ok (.baload, 1) := dk_51 (dk_at dksX0_of_2 18 rfl rfl)
theorem dX0_of_63 : decode cX0_of 63 = .ok (.ireturn, 1) := dk_172 (dk_at dksX0_of_2 19 rfl rfl)
theorem dX0_of_64 : decode cX0_of 64 = .ok (.aload_n 0, 1) := dk_42 (dk_at dksX0_of_2 20 rfl rfl)
theorem dX0_of_65 : decode cX0_of 65 = .ok (.getfield 9, 3) := dk_180 0 9 (dk_at dksX0_of_2 21 rfl rfl)
theorem dX0_of_68 : decode cX0_of 68 = .ok (.iload_n 1, 1) := dk_27 (dk_at dksX0_of_3 0 rfl rfl)
theorem dX0_of_69 : decode cX0_of 69 = .ok (.invokevirtual 46, 3) := dk_182 0 46 (dk_at dksX0_of_3 1 rfl rfl)
theorem dX0_of_72 : decode cX0_of 72 = .ok (.ifCond .eq 7, 3) := dk_153 0 7 (dk_at dksX0_of_3 4 rfl rfl)
theorem dX0_of_75 : decode cX0_of 75 = .ok (.iconst 1, 1) := dk_4 (dk_at dksX0_of_3 7 rfl rfl)
theorem dX0_of_76 : decode cX0_of 76 = .ok (.goto 4, 3) := dk_167 0 4 (dk_at dksX0_of_3 8 rfl rfl)
theorem dX0_of_79 : decode cX0_of 79 = .ok (.iconst 0, 1) := dk_3 (dk_at dksX0_of_3 11 rfl rfl)
theorem dX0_of_80 : decode cX0_of 80 = .ok (.ireturn, 1) := dk_172 (dk_at dksX0_of_3 12 rfl rfl)
theorem dX0_of_81 : decode cX0_of 81 = .ok (.aload_n 0, 1) := dk_42 (dk_at dksX0_of_3 13 rfl rfl)
theorem dX0_of_82 : decode cX0_of 82 = .ok (.getfield 9, 3) := dk_180 0 9 (dk_at dksX0_of_3 14 rfl rfl)
theorem dX0_of_85 : decode cX0_of 85 = .ok (.iload_n 1, 1) := dk_27 (dk_at dksX0_of_3 17 rfl rfl)
theorem dX0_of_86 : decode cX0_of 86 = .ok (.invokevirtual 60, 3) := dk_182 0 60 (dk_at dksX0_of_3 18 rfl rfl)
theorem dX0_of_89 : decode cX0_of 89 = .ok (.ireturn, 1) := dk_172 (dk_at dksX0_of_3 21 rfl rfl)
theorem dX0_of_90 : decode cX0_of 90 = .ok (.aload_n 0, 1) := dk_42 (dk_at dksX0_of_3 22 rfl rfl)
theorem dX0_of_91 : decode cX0_of 91 = .ok (.getfield 9, 3) := dk_180 0 9 (dk_at dksX0_of_4 0 rfl rfl)
theorem dX0_of_94 : decode cX0_of 94 = .ok (.invokevirtual 29, 3) := dk_182 0 29 (dk_at dksX0_of_4 3 rfl rfl)
theorem dX0_of_97 : decode cX0_of 97 = .ok (.iload_n 1, 1) := dk_27 (dk_at dksX0_of_4 6 rfl rfl)
theorem dX0_of_98 : decode cX0_of 98 = .ok (.invokevirtual 50, 3) := dk_182 0 50 (dk_at dksX0_of_4 7 rfl rfl)
theorem dX0_of_101 : decode cX0_of 101 = .ok (.lstore_n 3, 1) := dk_66 (dk_at dksX0_of_4 10 rfl rfl)
theorem dX0_of_102 : decode cX0_of 102 = .ok (.lload_n 3, 1) := dk_33 (dk_at dksX0_of_4 11 rfl rfl)
theorem dX0_of_103 : decode cX0_of 103 = .ok (.lconst 0, 1) := dk_9 (dk_at dksX0_of_4 12 rfl rfl)
theorem dX0_of_104 : decode cX0_of 104 = .ok (.lcmp, 1) := dk_148 (dk_at dksX0_of_4 13 rfl rfl)
theorem dX0_of_105 : decode cX0_of 105 = .ok (.ifCond .le 7, 3) := dk_158 0 7 (dk_at dksX0_of_4 14 rfl rfl)
theorem dX0_of_108 : decode cX0_of 108 = .ok (.iconst 1, 1) := dk_4 (dk_at dksX0_of_4 17 rfl rfl)
theorem dX0_of_109 : decode cX0_of 109 = .ok (.goto 14, 3) := dk_167 0 14 (dk_at dksX0_of_4 18 rfl rfl)
theorem dX0_of_112 : decode cX0_of 112 = .ok (.lload_n 3, 1) := dk_33 (dk_at dksX0_of_4 21 rfl rfl)
theorem dX0_of_113 : decode cX0_of 113 = .ok (.lconst 0, 1) := dk_9 (dk_at dksX0_of_4 22 rfl rfl)
theorem dX0_of_114 : decode cX0_of 114 = .ok (.lcmp, 1) := dk_148 (dk_at dksX0_of_4 23 rfl rfl)
theorem dX0_of_115 : decode cX0_of 115 = .ok (.ifCond .ge 7, 3) := dk_156 0 7 (dk_at dksX0_of_5 0 rfl rfl)
theorem dX0_of_118 : decode cX0_of 118 = .ok (.iconst 2, 1) := dk_5 (dk_at dksX0_of_5 3 rfl rfl)
theorem dX0_of_119 : decode cX0_of 119 = .ok (.goto 4, 3) := dk_167 0 4 (dk_at dksX0_of_5 4 rfl rfl)
theorem dX0_of_122 : decode cX0_of 122 = .ok (.iconst 0, 1) := dk_3 (dk_at dksX0_of_5 7 rfl rfl)
theorem dX0_of_123 : decode cX0_of 123 = .ok (.ireturn, 1) := dk_172 (dk_at dksX0_of_5 8 rfl rfl)
theorem dX0_of_124 : decode cX0_of 124 = .ok (.iconst (-1), 1) := dk_2 (dk_at dksX0_of_5 9 rfl rfl)
theorem dX0_of_125 : decode cX0_of 125 = .ok (.ireturn, 1) := dk_172 (dk_at dksX0_of_5 10 rfl rfl)
abbrev cX0_isPerson : ByteArray := prog_1_method_6_code
def yX0_isPerson : MethodName := ⟨RX0, "isPerson", "(I)Z"⟩
def dkwX0_isPerson_0 : List UInt8 := [27, 133, 9, 42, 180, 0, 9, 180, 0, 13, 4, 100, 133, 184, 0, 19, 172]
abbrev dktX0_isPerson_0 : List UInt8 := dkwX0_isPerson_0 ++ []
theorem dksX0_isPerson_0 : cX0_isPerson.data.toList.drop 0 = dktX0_isPerson_0 := by decide +kernel
theorem dX0_isPerson_0 : decode cX0_isPerson 0 = .ok (.iload_n 1, 1) := dk_27 (dk_at dksX0_isPerson_0 0 rfl rfl)
theorem dX0_isPerson_1 : decode cX0_isPerson 1 = .ok (.i2l, 1) := dk_133 (dk_at dksX0_isPerson_0 1 rfl rfl)
theorem dX0_isPerson_2 : decode cX0_isPerson 2 = .ok (.lconst 0, 1) := dk_9 (dk_at dksX0_isPerson_0 2 rfl rfl)
theorem dX0_isPerson_3 : decode cX0_isPerson 3 = .ok (.aload_n 0, 1) := dk_42 (dk_at dksX0_isPerson_0 3 rfl rfl)
theorem dX0_isPerson_4 : decode cX0_isPerson 4 = .ok (.getfield 9, 3) := dk_180 0 9 (dk_at dksX0_isPerson_0 4 rfl rfl)
theorem dX0_isPerson_7 : decode cX0_isPerson 7 = .ok (.getfield 13, 3) := dk_180 0 13 (dk_at dksX0_isPerson_0 7 rfl rfl)
theorem dX0_isPerson_10 : decode cX0_isPerson 10 = .ok (.iconst 1, 1) := dk_4 (dk_at dksX0_isPerson_0 10 rfl rfl)
theorem dX0_isPerson_11 : decode cX0_isPerson 11 = .ok (.isub, 1) := dk_100 (dk_at dksX0_isPerson_0 11 rfl rfl)
theorem dX0_isPerson_12 : decode cX0_isPerson 12 = .ok (.i2l, 1) := dk_133 (dk_at dksX0_isPerson_0 12 rfl rfl)
theorem dX0_isPerson_13 : decode cX0_isPerson 13 = .ok (.invokestatic 19, 3) := dk_184 0 19 (dk_at dksX0_isPerson_0 13 rfl rfl)
theorem dX0_isPerson_16 : decode cX0_isPerson 16 = .ok (.ireturn, 1) := dk_172 (dk_at dksX0_isPerson_0 16 rfl rfl)
abbrev cX0_place : ByteArray := prog_1_method_14_code
def yX0_place : MethodName := ⟨RX0, "place", "(II)I"⟩
def dkwX0_place_1 : List UInt8 := [182, 0, 29, 27, 182, 0, 125, 28, 182, 0, 129, 167, 0, 4, 2, 172]
abbrev dktX0_place_1 : List UInt8 := dkwX0_place_1 ++ []
def dkwX0_place_0 : List UInt8 := [42, 27, 182, 0, 122, 153, 0, 31, 28, 133, 9, 10, 184, 0, 19, 153, 0, 21, 42, 180, 0, 9]
abbrev dktX0_place_0 : List UInt8 := dkwX0_place_0 ++ dktX0_place_1
theorem dksX0_place_0 : cX0_place.data.toList.drop 0 = dktX0_place_0 := by decide +kernel
theorem dksX0_place_1 : cX0_place.data.toList.drop 22 = dktX0_place_1 := dk_seg dksX0_place_0 22 rfl rfl
theorem dX0_place_0 : decode cX0_place 0 = .ok (.aload_n 0, 1) := dk_42 (dk_at dksX0_place_0 0 rfl rfl)
theorem dX0_place_1 : decode cX0_place 1 = .ok (.iload_n 1, 1) := dk_27 (dk_at dksX0_place_0 1 rfl rfl)
theorem dX0_place_2 : decode cX0_place 2 = .ok (.invokevirtual 122, 3) := dk_182 0 122 (dk_at dksX0_place_0 2 rfl rfl)
theorem dX0_place_5 : decode cX0_place 5 = .ok (.ifCond .eq 31, 3) := dk_153 0 31 (dk_at dksX0_place_0 5 rfl rfl)
theorem dX0_place_8 : decode cX0_place 8 = .ok (.iload_n 2, 1) := dk_28 (dk_at dksX0_place_0 8 rfl rfl)
theorem dX0_place_9 : decode cX0_place 9 = .ok (.i2l, 1) := dk_133 (dk_at dksX0_place_0 9 rfl rfl)
theorem dX0_place_10 : decode cX0_place 10 = .ok (.lconst 0, 1) := dk_9 (dk_at dksX0_place_0 10 rfl rfl)
theorem dX0_place_11 : decode cX0_place 11 = .ok (.lconst 1, 1) := dk_10 (dk_at dksX0_place_0 11 rfl rfl)
theorem dX0_place_12 : decode cX0_place 12 = .ok (.invokestatic 19, 3) := dk_184 0 19 (dk_at dksX0_place_0 12 rfl rfl)
theorem dX0_place_15 : decode cX0_place 15 = .ok (.ifCond .eq 21, 3) := dk_153 0 21 (dk_at dksX0_place_0 15 rfl rfl)
theorem dX0_place_18 : decode cX0_place 18 = .ok (.aload_n 0, 1) := dk_42 (dk_at dksX0_place_0 18 rfl rfl)
theorem dX0_place_19 : decode cX0_place 19 = .ok (.getfield 9, 3) := dk_180 0 9 (dk_at dksX0_place_0 19 rfl rfl)
theorem dX0_place_22 : decode cX0_place 22 = .ok (.invokevirtual 29, 3) := dk_182 0 29 (dk_at dksX0_place_1 0 rfl rfl)
theorem dX0_place_25 : decode cX0_place 25 = .ok (.iload_n 1, 1) := dk_27 (dk_at dksX0_place_1 3 rfl rfl)
theorem dX0_place_26 : decode cX0_place 26 = .ok (.invokevirtual 125, 3) := dk_182 0 125 (dk_at dksX0_place_1 4 rfl rfl)
theorem dX0_place_29 : decode cX0_place 29 = .ok (.iload_n 2, 1) := dk_28 (dk_at dksX0_place_1 7 rfl rfl)
theorem dX0_place_30 : decode cX0_place 30 = .ok (.invokevirtual 129, 3) := dk_182 0 129 (dk_at dksX0_place_1 8 rfl rfl)
theorem dX0_place_33 : decode cX0_place 33 = .ok (.goto 4, 3) := dk_167 0 4 (dk_at dksX0_place_1 11 rfl rfl)
theorem dX0_place_36 : decode cX0_place 36 = .ok (.iconst (-1), 1) := dk_2 (dk_at dksX0_place_1 14 rfl rfl)
theorem dX0_place_37 : decode cX0_place 37 = .ok (.ireturn, 1) := dk_172 (dk_at dksX0_place_1 15 rfl rfl)
abbrev cX0_whole : ByteArray := prog_1_method_2_code
def yX0_whole : MethodName := ⟨RX0, "whole", "(J)LOneElastic$Part;"⟩
def dkwX0_whole_0 : List UInt8 := [187, 0, 1, 89, 30, 10, 183, 0, 3, 176]
abbrev dktX0_whole_0 : List UInt8 := dkwX0_whole_0 ++ []
theorem dksX0_whole_0 : cX0_whole.data.toList.drop 0 = dktX0_whole_0 := by decide +kernel
theorem dX0_whole_0 : decode cX0_whole 0 = .ok (.new 1, 3) := dk_187 0 1 (dk_at dksX0_whole_0 0 rfl rfl)
theorem dX0_whole_3 : decode cX0_whole 3 = .ok (.dup, 1) := dk_89 (dk_at dksX0_whole_0 3 rfl rfl)
theorem dX0_whole_4 : decode cX0_whole 4 = .ok (.lload_n 0, 1) := dk_30 (dk_at dksX0_whole_0 4 rfl rfl)
theorem dX0_whole_5 : decode cX0_whole 5 = .ok (.lconst 1, 1) := dk_10 (dk_at dksX0_whole_0 5 rfl rfl)
theorem dX0_whole_6 : decode cX0_whole 6 = .ok (.invokespecial 3, 3) := dk_183 0 3 (dk_at dksX0_whole_0 6 rfl rfl)
theorem dX0_whole_9 : decode cX0_whole 9 = .ok (.areturn, 1) := dk_176 (dk_at dksX0_whole_0 9 rfl rfl)
abbrev cX0_pulled : ByteArray := prog_1_method_15_code
def yX0_pulled : MethodName := ⟨RX0, "pulled", "(II)I"⟩
def dkwX0_pulled_2 : List UInt8 := [28, 182, 0, 129, 167, 0, 4, 2, 172]
abbrev dktX0_pulled_2 : List UInt8 := dkwX0_pulled_2 ++ []
def dkwX0_pulled_1 : List UInt8 := [180, 0, 9, 182, 0, 29, 27, 182, 0, 50, 184, 0, 54, 42, 180, 0, 9, 27, 182, 0, 64, 183, 0, 3]
abbrev dktX0_pulled_1 : List UInt8 := dkwX0_pulled_1 ++ dktX0_pulled_2
def dkwX0_pulled_0 : List UInt8 := [42, 27, 182, 0, 122, 153, 0, 49, 28, 133, 9, 10, 184, 0, 19, 153, 0, 39, 187, 0, 1, 89, 42]
abbrev dktX0_pulled_0 : List UInt8 := dkwX0_pulled_0 ++ dktX0_pulled_1
theorem dksX0_pulled_0 : cX0_pulled.data.toList.drop 0 = dktX0_pulled_0 := by decide +kernel
theorem dksX0_pulled_1 : cX0_pulled.data.toList.drop 23 = dktX0_pulled_1 := dk_seg dksX0_pulled_0 23 rfl rfl
theorem dksX0_pulled_2 : cX0_pulled.data.toList.drop 47 = dktX0_pulled_2 := dk_seg dksX0_pulled_1 24 rfl rfl
theorem dX0_pulled_0 : decode cX0_pulled 0 = .ok (.aload_n 0, 1) := dk_42 (dk_at dksX0_pulled_0 0 rfl rfl)
theorem dX0_pulled_1 : decode cX0_pulled 1 = .ok (.iload_n 1, 1) := dk_27 (dk_at dksX0_pulled_0 1 rfl rfl)
theorem dX0_pulled_2 : decode cX0_pulled 2 = .ok (.invokevirtual 122, 3) := dk_182 0 122 (dk_at dksX0_pulled_0 2 rfl rfl)
theorem dX0_pulled_5 : decode cX0_pulled 5 = .ok (.ifCond .eq 49, 3) := dk_153 0 49 (dk_at dksX0_pulled_0 5 rfl rfl)
theorem dX0_pulled_8 : decode cX0_pulled 8 = .ok (.iload_n 2, 1) := dk_28 (dk_at dksX0_pulled_0 8 rfl rfl)
theorem dX0_pulled_9 : decode cX0_pulled 9 = .ok (.i2l, 1) := dk_133 (dk_at dksX0_pulled_0 9 rfl rfl)
theorem dX0_pulled_10 : decode cX0_pulled 10 = .ok (.lconst 0, 1) := dk_9 (dk_at dksX0_pulled_0 10 rfl rfl)
theorem dX0_pulled_11 : decode cX0_pulled 11 = .ok (.lconst 1, 1) := dk_10 (dk_at dksX0_pulled_0 11 rfl rfl)
theorem dX0_pulled_12 : decode cX0_pulled 12 = .ok (.invokestatic 19, 3) := dk_184 0 19 (dk_at dksX0_pulled_0 12 rfl rfl)
theorem dX0_pulled_15 : decode cX0_pulled 15 = .ok (.ifCond .eq 39, 3) := dk_153 0 39 (dk_at dksX0_pulled_0 15 rfl rfl)
theorem dX0_pulled_18 : decode cX0_pulled 18 = .ok (.new 1, 3) := dk_187 0 1 (dk_at dksX0_pulled_0 18 rfl rfl)
theorem dX0_pulled_21 : decode cX0_pulled 21 = .ok (.dup, 1) := dk_89 (dk_at dksX0_pulled_0 21 rfl rfl)
theorem dX0_pulled_22 : decode cX0_pulled 22 = .ok (.aload_n 0, 1) := dk_42 (dk_at dksX0_pulled_0 22 rfl rfl)
theorem dX0_pulled_23 : decode cX0_pulled 23 = .ok (.getfield 9, 3) := dk_180 0 9 (dk_at dksX0_pulled_1 0 rfl rfl)
theorem dX0_pulled_26 : decode cX0_pulled 26 = .ok (.invokevirtual 29, 3) := dk_182 0 29 (dk_at dksX0_pulled_1 3 rfl rfl)
theorem dX0_pulled_29 : decode cX0_pulled 29 = .ok (.iload_n 1, 1) := dk_27 (dk_at dksX0_pulled_1 6 rfl rfl)
theorem dX0_pulled_30 : decode cX0_pulled 30 = .ok (.invokevirtual 50, 3) := dk_182 0 50 (dk_at dksX0_pulled_1 7 rfl rfl)
theorem dX0_pulled_33 : decode cX0_pulled 33 = .ok (.invokestatic 54, 3) := dk_184 0 54 (dk_at dksX0_pulled_1 10 rfl rfl)
theorem dX0_pulled_36 : decode cX0_pulled 36 = .ok (.aload_n 0, 1) := dk_42 (dk_at dksX0_pulled_1 13 rfl rfl)
theorem dX0_pulled_37 : decode cX0_pulled 37 = .ok (.getfield 9, 3) := dk_180 0 9 (dk_at dksX0_pulled_1 14 rfl rfl)
theorem dX0_pulled_40 : decode cX0_pulled 40 = .ok (.iload_n 1, 1) := dk_27 (dk_at dksX0_pulled_1 17 rfl rfl)
theorem dX0_pulled_41 : decode cX0_pulled 41 = .ok (.invokevirtual 64, 3) := dk_182 0 64 (dk_at dksX0_pulled_1 18 rfl rfl)
theorem dX0_pulled_44 : decode cX0_pulled 44 = .ok (.invokespecial 3, 3) := dk_183 0 3 (dk_at dksX0_pulled_1 21 rfl rfl)
theorem dX0_pulled_47 : decode cX0_pulled 47 = .ok (.iload_n 2, 1) := dk_28 (dk_at dksX0_pulled_2 0 rfl rfl)
theorem dX0_pulled_48 : decode cX0_pulled 48 = .ok (.invokevirtual 129, 3) := dk_182 0 129 (dk_at dksX0_pulled_2 1 rfl rfl)
theorem dX0_pulled_51 : decode cX0_pulled 51 = .ok (.goto 4, 3) := dk_167 0 4 (dk_at dksX0_pulled_2 4 rfl rfl)
theorem dX0_pulled_54 : decode cX0_pulled 54 = .ok (.iconst (-1), 1) := dk_2 (dk_at dksX0_pulled_2 7 rfl rfl)
theorem dX0_pulled_55 : decode cX0_pulled 55 = .ok (.ireturn, 1) := dk_172 (dk_at dksX0_pulled_2 8 rfl rfl)
abbrev cX0_pull : ByteArray := prog_1_method_16_code
def yX0_pull : MethodName := ⟨RX0, "pull", "(II)I"⟩
def dkwX0_pull_2 : List UInt8 := [183, 0, 3, 28, 182, 0, 129, 167, 0, 4, 2, 172]
abbrev dktX0_pull_2 : List UInt8 := dkwX0_pull_2 ++ []
def dkwX0_pull_1 : List UInt8 := [180, 0, 9, 182, 0, 29, 180, 0, 33, 27, 46, 133, 42, 180, 0, 9, 180, 0, 40, 27, 46, 133]
abbrev dktX0_pull_1 : List UInt8 := dkwX0_pull_1 ++ dktX0_pull_2
def dkwX0_pull_0 : List UInt8 := [42, 27, 182, 0, 132, 153, 0, 50, 28, 133, 9, 10, 184, 0, 19, 153, 0, 40, 187, 0, 1, 89, 42]
abbrev dktX0_pull_0 : List UInt8 := dkwX0_pull_0 ++ dktX0_pull_1
theorem dksX0_pull_0 : cX0_pull.data.toList.drop 0 = dktX0_pull_0 := by decide +kernel
theorem dksX0_pull_1 : cX0_pull.data.toList.drop 23 = dktX0_pull_1 := dk_seg dksX0_pull_0 23 rfl rfl
theorem dksX0_pull_2 : cX0_pull.data.toList.drop 45 = dktX0_pull_2 := dk_seg dksX0_pull_1 22 rfl rfl
theorem dX0_pull_0 : decode cX0_pull 0 = .ok (.aload_n 0, 1) := dk_42 (dk_at dksX0_pull_0 0 rfl rfl)
theorem dX0_pull_1 : decode cX0_pull 1 = .ok (.iload_n 1, 1) := dk_27 (dk_at dksX0_pull_0 1 rfl rfl)
theorem dX0_pull_2 : decode cX0_pull 2 = .ok (.invokevirtual 132, 3) := dk_182 0 132 (dk_at dksX0_pull_0 2 rfl rfl)
theorem dX0_pull_5 : decode cX0_pull 5 = .ok (.ifCond .eq 50, 3) := dk_153 0 50 (dk_at dksX0_pull_0 5 rfl rfl)
theorem dX0_pull_8 : decode cX0_pull 8 = .ok (.iload_n 2, 1) := dk_28 (dk_at dksX0_pull_0 8 rfl rfl)
theorem dX0_pull_9 : decode cX0_pull 9 = .ok (.i2l, 1) := dk_133 (dk_at dksX0_pull_0 9 rfl rfl)
theorem dX0_pull_10 : decode cX0_pull 10 = .ok (.lconst 0, 1) := dk_9 (dk_at dksX0_pull_0 10 rfl rfl)
theorem dX0_pull_11 : decode cX0_pull 11 = .ok (.lconst 1, 1) := dk_10 (dk_at dksX0_pull_0 11 rfl rfl)
theorem dX0_pull_12 : decode cX0_pull 12 = .ok (.invokestatic 19, 3) := dk_184 0 19 (dk_at dksX0_pull_0 12 rfl rfl)
theorem dX0_pull_15 : decode cX0_pull 15 = .ok (.ifCond .eq 40, 3) := dk_153 0 40 (dk_at dksX0_pull_0 15 rfl rfl)
theorem dX0_pull_18 : decode cX0_pull 18 = .ok (.new 1, 3) := dk_187 0 1 (dk_at dksX0_pull_0 18 rfl rfl)
theorem dX0_pull_21 : decode cX0_pull 21 = .ok (.dup, 1) := dk_89 (dk_at dksX0_pull_0 21 rfl rfl)
theorem dX0_pull_22 : decode cX0_pull 22 = .ok (.aload_n 0, 1) := dk_42 (dk_at dksX0_pull_0 22 rfl rfl)
theorem dX0_pull_23 : decode cX0_pull 23 = .ok (.getfield 9, 3) := dk_180 0 9 (dk_at dksX0_pull_1 0 rfl rfl)
theorem dX0_pull_26 : decode cX0_pull 26 = .ok (.invokevirtual 29, 3) := dk_182 0 29 (dk_at dksX0_pull_1 3 rfl rfl)
theorem dX0_pull_29 : decode cX0_pull 29 = .ok (.getfield 33, 3) := dk_180 0 33 (dk_at dksX0_pull_1 6 rfl rfl)
theorem dX0_pull_32 : decode cX0_pull 32 = .ok (.iload_n 1, 1) := dk_27 (dk_at dksX0_pull_1 9 rfl rfl)
theorem dX0_pull_33 : decode cX0_pull 33 = .ok (.iaload, 1) := dk_46 (dk_at dksX0_pull_1 10 rfl rfl)
theorem dX0_pull_34 : decode cX0_pull 34 = .ok (.i2l, 1) := dk_133 (dk_at dksX0_pull_1 11 rfl rfl)
theorem dX0_pull_35 : decode cX0_pull 35 = .ok (.aload_n 0, 1) := dk_42 (dk_at dksX0_pull_1 12 rfl rfl)
theorem dX0_pull_36 : decode cX0_pull 36 = .ok (.getfield 9, 3) := dk_180 0 9 (dk_at dksX0_pull_1 13 rfl rfl)
theorem dX0_pull_39 : decode cX0_pull 39 = .ok (.getfield 40, 3) := dk_180 0 40 (dk_at dksX0_pull_1 16 rfl rfl)
theorem dX0_pull_42 : decode cX0_pull 42 = .ok (.iload_n 1, 1) := dk_27 (dk_at dksX0_pull_1 19 rfl rfl)
theorem dX0_pull_43 : decode cX0_pull 43 = .ok (.iaload, 1) := dk_46 (dk_at dksX0_pull_1 20 rfl rfl)
theorem dX0_pull_44 : decode cX0_pull 44 = .ok (.i2l, 1) := dk_133 (dk_at dksX0_pull_1 21 rfl rfl)
theorem dX0_pull_45 : decode cX0_pull 45 = .ok (.invokespecial 3, 3) := dk_183 0 3 (dk_at dksX0_pull_2 0 rfl rfl)
theorem dX0_pull_48 : decode cX0_pull 48 = .ok (.iload_n 2, 1) := dk_28 (dk_at dksX0_pull_2 3 rfl rfl)
theorem dX0_pull_49 : decode cX0_pull 49 = .ok (.invokevirtual 129, 3) := dk_182 0 129 (dk_at dksX0_pull_2 4 rfl rfl)
theorem dX0_pull_52 : decode cX0_pull 52 = .ok (.goto 4, 3) := dk_167 0 4 (dk_at dksX0_pull_2 7 rfl rfl)
theorem dX0_pull_55 : decode cX0_pull 55 = .ok (.iconst (-1), 1) := dk_2 (dk_at dksX0_pull_2 10 rfl rfl)
theorem dX0_pull_56 : decode cX0_pull 56 = .ok (.ireturn, 1) := dk_172 (dk_at dksX0_pull_2 11 rfl rfl)
abbrev cX0_isSeam : ByteArray := prog_1_method_7_code
def yX0_isSeam : MethodName := ⟨RX0, "isSeam", "(I)Z"⟩
def dkwX0_isSeam_0 : List UInt8 := [27, 133, 9, 42, 180, 0, 9, 180, 0, 13, 5, 100, 133, 184, 0, 19, 172]
abbrev dktX0_isSeam_0 : List UInt8 := dkwX0_isSeam_0 ++ []
theorem dksX0_isSeam_0 : cX0_isSeam.data.toList.drop 0 = dktX0_isSeam_0 := by decide +kernel
theorem dX0_isSeam_0 : decode cX0_isSeam 0 = .ok (.iload_n 1, 1) := dk_27 (dk_at dksX0_isSeam_0 0 rfl rfl)
theorem dX0_isSeam_1 : decode cX0_isSeam 1 = .ok (.i2l, 1) := dk_133 (dk_at dksX0_isSeam_0 1 rfl rfl)
theorem dX0_isSeam_2 : decode cX0_isSeam 2 = .ok (.lconst 0, 1) := dk_9 (dk_at dksX0_isSeam_0 2 rfl rfl)
theorem dX0_isSeam_3 : decode cX0_isSeam 3 = .ok (.aload_n 0, 1) := dk_42 (dk_at dksX0_isSeam_0 3 rfl rfl)
theorem dX0_isSeam_4 : decode cX0_isSeam 4 = .ok (.getfield 9, 3) := dk_180 0 9 (dk_at dksX0_isSeam_0 4 rfl rfl)
theorem dX0_isSeam_7 : decode cX0_isSeam 7 = .ok (.getfield 13, 3) := dk_180 0 13 (dk_at dksX0_isSeam_0 7 rfl rfl)
theorem dX0_isSeam_10 : decode cX0_isSeam 10 = .ok (.iconst 2, 1) := dk_5 (dk_at dksX0_isSeam_0 10 rfl rfl)
theorem dX0_isSeam_11 : decode cX0_isSeam 11 = .ok (.isub, 1) := dk_100 (dk_at dksX0_isSeam_0 11 rfl rfl)
theorem dX0_isSeam_12 : decode cX0_isSeam 12 = .ok (.i2l, 1) := dk_133 (dk_at dksX0_isSeam_0 12 rfl rfl)
theorem dX0_isSeam_13 : decode cX0_isSeam 13 = .ok (.invokestatic 19, 3) := dk_184 0 19 (dk_at dksX0_isSeam_0 13 rfl rfl)
theorem dX0_isSeam_16 : decode cX0_isSeam 16 = .ok (.ireturn, 1) := dk_172 (dk_at dksX0_isSeam_0 16 rfl rfl)
abbrev cX0_seam : ByteArray := prog_1_method_17_code
def yX0_seam : MethodName := ⟨RX0, "seam", "(II)I"⟩
def dkwX0_seam_3 : List UInt8 := [27, 182, 0, 135, 153, 0, 7, 4, 167, 0, 4, 3, 172, 2, 172]
abbrev dktX0_seam_3 : List UInt8 := dkwX0_seam_3 ++ []
def dkwX0_seam_2 : List UInt8 := [42, 180, 0, 9, 180, 0, 95, 27, 51, 172, 42, 180, 0, 9, 180, 0, 74, 27, 51, 172, 42, 180, 0, 9]
abbrev dktX0_seam_2 : List UInt8 := dkwX0_seam_2 ++ dktX0_seam_3
def dkwX0_seam_1 : List UInt8 := [170, 0, 0, 0, 62, 0, 0, 0, 0, 0, 0, 0, 2, 0, 0, 0, 25, 0, 0, 0, 35, 0, 0, 0, 45]
abbrev dktX0_seam_1 : List UInt8 := dkwX0_seam_1 ++ dktX0_seam_2
def dkwX0_seam_0 : List UInt8 := [42, 27, 182, 0, 132, 154, 0, 5, 2, 172, 28]
abbrev dktX0_seam_0 : List UInt8 := dkwX0_seam_0 ++ dktX0_seam_1
theorem dksX0_seam_0 : cX0_seam.data.toList.drop 0 = dktX0_seam_0 := by decide +kernel
theorem dksX0_seam_1 : cX0_seam.data.toList.drop 11 = dktX0_seam_1 := dk_seg dksX0_seam_0 11 rfl rfl
theorem dksX0_seam_2 : cX0_seam.data.toList.drop 36 = dktX0_seam_2 := dk_seg dksX0_seam_1 25 rfl rfl
theorem dksX0_seam_3 : cX0_seam.data.toList.drop 60 = dktX0_seam_3 := dk_seg dksX0_seam_2 24 rfl rfl
theorem dX0_seam_0 : decode cX0_seam 0 = .ok (.aload_n 0, 1) := dk_42 (dk_at dksX0_seam_0 0 rfl rfl)
theorem dX0_seam_1 : decode cX0_seam 1 = .ok (.iload_n 1, 1) := dk_27 (dk_at dksX0_seam_0 1 rfl rfl)
theorem dX0_seam_2 : decode cX0_seam 2 = .ok (.invokevirtual 132, 3) := dk_182 0 132 (dk_at dksX0_seam_0 2 rfl rfl)
theorem dX0_seam_5 : decode cX0_seam 5 = .ok (.ifCond .ne 5, 3) := dk_154 0 5 (dk_at dksX0_seam_0 5 rfl rfl)
theorem dX0_seam_8 : decode cX0_seam 8 = .ok (.iconst (-1), 1) := dk_2 (dk_at dksX0_seam_0 8 rfl rfl)
theorem dX0_seam_9 : decode cX0_seam 9 = .ok (.ireturn, 1) := dk_172 (dk_at dksX0_seam_0 9 rfl rfl)
theorem dX0_seam_10 : decode cX0_seam 10 = .ok (.iload_n 2, 1) := dk_28 (dk_at dksX0_seam_0 10 rfl rfl)
theorem dX0_seam_11 : decode cX0_seam 11 = .ok (.tableswitch 62 0 2 #[25, 35, 45], 25) := by decide +kernel
theorem dX0_seam_36 : decode cX0_seam 36 = .ok (.aload_n 0, 1) := dk_42 (dk_at dksX0_seam_2 0 rfl rfl)
theorem dX0_seam_37 : decode cX0_seam 37 = .ok (.getfield 9, 3) := dk_180 0 9 (dk_at dksX0_seam_2 1 rfl rfl)
theorem dX0_seam_40 : decode cX0_seam 40 = .ok (.getfield 95, 3) := dk_180 0 95 (dk_at dksX0_seam_2 4 rfl rfl)
theorem dX0_seam_43 : decode cX0_seam 43 = .ok (.iload_n 1, 1) := dk_27 (dk_at dksX0_seam_2 7 rfl rfl)
theorem dX0_seam_44 : decode cX0_seam 44 = .ok (.baload, 1) := dk_51 (dk_at dksX0_seam_2 8 rfl rfl)
theorem dX0_seam_45 : decode cX0_seam 45 = .ok (.ireturn, 1) := dk_172 (dk_at dksX0_seam_2 9 rfl rfl)
theorem dX0_seam_46 : decode cX0_seam 46 = .ok (.aload_n 0, 1) := dk_42 (dk_at dksX0_seam_2 10 rfl rfl)
theorem dX0_seam_47 : decode cX0_seam 47 = .ok (.getfield 9, 3) := dk_180 0 9 (dk_at dksX0_seam_2 11 rfl rfl)
theorem dX0_seam_50 : decode cX0_seam 50 = .ok (.getfield 74, 3) := dk_180 0 74 (dk_at dksX0_seam_2 14 rfl rfl)
theorem dX0_seam_53 : decode cX0_seam 53 = .ok (.iload_n 1, 1) := dk_27 (dk_at dksX0_seam_2 17 rfl rfl)
theorem dX0_seam_54 : decode cX0_seam 54 = .ok (.baload, 1) := dk_51 (dk_at dksX0_seam_2 18 rfl rfl)
theorem dX0_seam_55 : decode cX0_seam 55 = .ok (.ireturn, 1) := dk_172 (dk_at dksX0_seam_2 19 rfl rfl)
theorem dX0_seam_56 : decode cX0_seam 56 = .ok (.aload_n 0, 1) := dk_42 (dk_at dksX0_seam_2 20 rfl rfl)
theorem dX0_seam_57 : decode cX0_seam 57 = .ok (.getfield 9, 3) := dk_180 0 9 (dk_at dksX0_seam_2 21 rfl rfl)
theorem dX0_seam_60 : decode cX0_seam 60 = .ok (.iload_n 1, 1) := dk_27 (dk_at dksX0_seam_3 0 rfl rfl)
theorem dX0_seam_61 : decode cX0_seam 61 = .ok (.invokevirtual 135, 3) := dk_182 0 135 (dk_at dksX0_seam_3 1 rfl rfl)
theorem dX0_seam_64 : decode cX0_seam 64 = .ok (.ifCond .eq 7, 3) := dk_153 0 7 (dk_at dksX0_seam_3 4 rfl rfl)
theorem dX0_seam_67 : decode cX0_seam 67 = .ok (.iconst 1, 1) := dk_4 (dk_at dksX0_seam_3 7 rfl rfl)
theorem dX0_seam_68 : decode cX0_seam 68 = .ok (.goto 4, 3) := dk_167 0 4 (dk_at dksX0_seam_3 8 rfl rfl)
theorem dX0_seam_71 : decode cX0_seam 71 = .ok (.iconst 0, 1) := dk_3 (dk_at dksX0_seam_3 11 rfl rfl)
theorem dX0_seam_72 : decode cX0_seam 72 = .ok (.ireturn, 1) := dk_172 (dk_at dksX0_seam_3 12 rfl rfl)
theorem dX0_seam_73 : decode cX0_seam 73 = .ok (.iconst (-1), 1) := dk_2 (dk_at dksX0_seam_3 13 rfl rfl)
theorem dX0_seam_74 : decode cX0_seam 74 = .ok (.ireturn, 1) := dk_172 (dk_at dksX0_seam_3 14 rfl rfl)
abbrev cX0_count : ByteArray := prog_1_method_19_code
def yX0_count : MethodName := ⟨RX0, "count", "(I)I"⟩
def dkwX0_count_4 : List UInt8 := [180, 0, 9, 182, 0, 29, 182, 0, 148, 184, 0, 151, 172, 42, 180, 0, 112, 182, 0, 154, 172, 2, 172]
abbrev dktX0_count_4 : List UInt8 := dkwX0_count_4 ++ []
def dkwX0_count_3 : List UInt8 := [42, 182, 0, 141, 172, 42, 180, 0, 9, 180, 0, 145, 172, 42, 180, 0, 9, 180, 0, 37, 172, 42]
abbrev dktX0_count_3 : List UInt8 := dkwX0_count_3 ++ dktX0_count_4
def dkwX0_count_2 : List UInt8 := [42, 180, 0, 9, 180, 0, 13, 172, 42, 180, 0, 9, 180, 0, 138, 172, 42, 180, 0, 9, 180, 0, 78, 172]
abbrev dktX0_count_2 : List UInt8 := dkwX0_count_2 ++ dktX0_count_3
def dkwX0_count_1 : List UInt8 := [170, 0, 0, 0, 0, 0, 114, 0, 0, 0, 0, 0, 0, 0, 7, 0, 0, 0, 47, 0, 0, 0, 55, 0, 0, 0, 63, 0, 0, 0, 71, 0, 0, 0, 76, 0, 0, 0, 84, 0, 0, 0, 92, 0, 0, 0, 106]
abbrev dktX0_count_1 : List UInt8 := dkwX0_count_1 ++ dktX0_count_2
def dkwX0_count_0 : List UInt8 := [27]
abbrev dktX0_count_0 : List UInt8 := dkwX0_count_0 ++ dktX0_count_1
theorem dksX0_count_0 : cX0_count.data.toList.drop 0 = dktX0_count_0 := by decide +kernel
theorem dksX0_count_1 : cX0_count.data.toList.drop 1 = dktX0_count_1 := dk_seg dksX0_count_0 1 rfl rfl
theorem dksX0_count_2 : cX0_count.data.toList.drop 48 = dktX0_count_2 := dk_seg dksX0_count_1 47 rfl rfl
theorem dksX0_count_3 : cX0_count.data.toList.drop 72 = dktX0_count_3 := dk_seg dksX0_count_2 24 rfl rfl
theorem dksX0_count_4 : cX0_count.data.toList.drop 94 = dktX0_count_4 := dk_seg dksX0_count_3 22 rfl rfl
theorem dX0_count_0 : decode cX0_count 0 = .ok (.iload_n 1, 1) := dk_27 (dk_at dksX0_count_0 0 rfl rfl)
theorem dX0_count_1 : decode cX0_count 1 = .ok (.tableswitch 114 0 7 #[47, 55, 63, 71, 76, 84, 92, 106], 47) := by decide +kernel
theorem dX0_count_48 : decode cX0_count 48 = .ok (.aload_n 0, 1) := dk_42 (dk_at dksX0_count_2 0 rfl rfl)
theorem dX0_count_49 : decode cX0_count 49 = .ok (.getfield 9, 3) := dk_180 0 9 (dk_at dksX0_count_2 1 rfl rfl)
theorem dX0_count_52 : decode cX0_count 52 = .ok (.getfield 13, 3) := dk_180 0 13 (dk_at dksX0_count_2 4 rfl rfl)
theorem dX0_count_55 : decode cX0_count 55 = .ok (.ireturn, 1) := dk_172 (dk_at dksX0_count_2 7 rfl rfl)
theorem dX0_count_56 : decode cX0_count 56 = .ok (.aload_n 0, 1) := dk_42 (dk_at dksX0_count_2 8 rfl rfl)
theorem dX0_count_57 : decode cX0_count 57 = .ok (.getfield 9, 3) := dk_180 0 9 (dk_at dksX0_count_2 9 rfl rfl)
theorem dX0_count_60 : decode cX0_count 60 = .ok (.getfield 138, 3) := dk_180 0 138 (dk_at dksX0_count_2 12 rfl rfl)
theorem dX0_count_63 : decode cX0_count 63 = .ok (.ireturn, 1) := dk_172 (dk_at dksX0_count_2 15 rfl rfl)
theorem dX0_count_64 : decode cX0_count 64 = .ok (.aload_n 0, 1) := dk_42 (dk_at dksX0_count_2 16 rfl rfl)
theorem dX0_count_65 : decode cX0_count 65 = .ok (.getfield 9, 3) := dk_180 0 9 (dk_at dksX0_count_2 17 rfl rfl)
theorem dX0_count_68 : decode cX0_count 68 = .ok (.getfield 78, 3) := dk_180 0 78 (dk_at dksX0_count_2 20 rfl rfl)
theorem dX0_count_71 : decode cX0_count 71 = .ok (.ireturn, 1) := dk_172 (dk_at dksX0_count_2 23 rfl rfl)
theorem dX0_count_72 : decode cX0_count 72 = .ok (.aload_n 0, 1) := dk_42 (dk_at dksX0_count_3 0 rfl rfl)
theorem dX0_count_73 : decode cX0_count 73 = .ok (.invokevirtual 141, 3) := dk_182 0 141 (dk_at dksX0_count_3 1 rfl rfl)
theorem dX0_count_76 : decode cX0_count 76 = .ok (.ireturn, 1) := dk_172 (dk_at dksX0_count_3 4 rfl rfl)
theorem dX0_count_77 : decode cX0_count 77 = .ok (.aload_n 0, 1) := dk_42 (dk_at dksX0_count_3 5 rfl rfl)
theorem dX0_count_78 : decode cX0_count 78 = .ok (.getfield 9, 3) := dk_180 0 9 (dk_at dksX0_count_3 6 rfl rfl)
theorem dX0_count_81 : decode cX0_count 81 = .ok (.getfield 145, 3) := dk_180 0 145 (dk_at dksX0_count_3 9 rfl rfl)
theorem dX0_count_84 : decode cX0_count 84 = .ok (.ireturn, 1) := dk_172 (dk_at dksX0_count_3 12 rfl rfl)
theorem dX0_count_85 : decode cX0_count 85 = .ok (.aload_n 0, 1) := dk_42 (dk_at dksX0_count_3 13 rfl rfl)
theorem dX0_count_86 : decode cX0_count 86 = .ok (.getfield 9, 3) := dk_180 0 9 (dk_at dksX0_count_3 14 rfl rfl)
theorem dX0_count_89 : decode cX0_count 89 = .ok (.getfield 37, 3) := dk_180 0 37 (dk_at dksX0_count_3 17 rfl rfl)
theorem dX0_count_92 : decode cX0_count 92 = .ok (.ireturn, 1) := dk_172 (dk_at dksX0_count_3 20 rfl rfl)
theorem dX0_count_93 : decode cX0_count 93 = .ok (.aload_n 0, 1) := dk_42 (dk_at dksX0_count_3 21 rfl rfl)
theorem dX0_count_94 : decode cX0_count 94 = .ok (.getfield 9, 3) := dk_180 0 9 (dk_at dksX0_count_4 0 rfl rfl)
theorem dX0_count_97 : decode cX0_count 97 = .ok (.invokevirtual 29, 3) := dk_182 0 29 (dk_at dksX0_count_4 3 rfl rfl)
theorem dX0_count_100 : decode cX0_count 100 = .ok (.invokevirtual 148, 3) := dk_182 0 148 (dk_at dksX0_count_4 6 rfl rfl)
theorem dX0_count_103 : decode cX0_count 103 = .ok (.invokestatic 151, 3) := dk_184 0 151 (dk_at dksX0_count_4 9 rfl rfl)
theorem dX0_count_106 : decode cX0_count 106 = .ok (.ireturn, 1) := dk_172 (dk_at dksX0_count_4 12 rfl rfl)
theorem dX0_count_107 : decode cX0_count 107 = .ok (.aload_n 0, 1) := dk_42 (dk_at dksX0_count_4 13 rfl rfl)
theorem dX0_count_108 : decode cX0_count 108 = .ok (.getfield 112, 3) := dk_180 0 112 (dk_at dksX0_count_4 14 rfl rfl)
theorem dX0_count_111 : decode cX0_count 111 = .ok (.invokevirtual 154, 3) := dk_182 0 154 (dk_at dksX0_count_4 17 rfl rfl)
theorem dX0_count_114 : decode cX0_count 114 = .ok (.ireturn, 1) := dk_172 (dk_at dksX0_count_4 20 rfl rfl)
theorem dX0_count_115 : decode cX0_count 115 = .ok (.iconst (-1), 1) := dk_2 (dk_at dksX0_count_4 21 rfl rfl)
theorem dX0_count_116 : decode cX0_count 116 = .ok (.ireturn, 1) := dk_172 (dk_at dksX0_count_4 22 rfl rfl)
abbrev cX0_taut : ByteArray := prog_1_method_18_code
def yX0_taut : MethodName := ⟨RX0, "taut", "()I"⟩
def dkwX0_taut_2 : List UInt8 := [167, 255, 222, 27, 172]
abbrev dktX0_taut_2 : List UInt8 := dkwX0_taut_2 ++ []
def dkwX0_taut_1 : List UInt8 := [162, 0, 27, 42, 180, 0, 9, 180, 0, 33, 28, 46, 158, 0, 9, 27, 4, 28, 120, 128, 60, 132, 2, 1]
abbrev dktX0_taut_1 : List UInt8 := dkwX0_taut_1 ++ dktX0_taut_2
def dkwX0_taut_0 : List UInt8 := [3, 60, 42, 180, 0, 9, 182, 0, 29, 87, 3, 61, 28, 42, 180, 0, 9, 180, 0, 13, 4, 100]
abbrev dktX0_taut_0 : List UInt8 := dkwX0_taut_0 ++ dktX0_taut_1
theorem dksX0_taut_0 : cX0_taut.data.toList.drop 0 = dktX0_taut_0 := by decide +kernel
theorem dksX0_taut_1 : cX0_taut.data.toList.drop 22 = dktX0_taut_1 := dk_seg dksX0_taut_0 22 rfl rfl
theorem dksX0_taut_2 : cX0_taut.data.toList.drop 46 = dktX0_taut_2 := dk_seg dksX0_taut_1 24 rfl rfl
theorem dX0_taut_0 : decode cX0_taut 0 = .ok (.iconst 0, 1) := dk_3 (dk_at dksX0_taut_0 0 rfl rfl)
theorem dX0_taut_1 : decode cX0_taut 1 = .ok (.istore_n 1, 1) := dk_60 (dk_at dksX0_taut_0 1 rfl rfl)
theorem dX0_taut_2 : decode cX0_taut 2 = .ok (.aload_n 0, 1) := dk_42 (dk_at dksX0_taut_0 2 rfl rfl)
theorem dX0_taut_3 : decode cX0_taut 3 = .ok (.getfield 9, 3) := dk_180 0 9 (dk_at dksX0_taut_0 3 rfl rfl)
theorem dX0_taut_6 : decode cX0_taut 6 = .ok (.invokevirtual 29, 3) := dk_182 0 29 (dk_at dksX0_taut_0 6 rfl rfl)
theorem dX0_taut_9 : decode cX0_taut 9 = .ok (.pop, 1) := dk_87 (dk_at dksX0_taut_0 9 rfl rfl)
theorem dX0_taut_10 : decode cX0_taut 10 = .ok (.iconst 0, 1) := dk_3 (dk_at dksX0_taut_0 10 rfl rfl)
theorem dX0_taut_11 : decode cX0_taut 11 = .ok (.istore_n 2, 1) := dk_61 (dk_at dksX0_taut_0 11 rfl rfl)
theorem dX0_taut_12 : decode cX0_taut 12 = .ok (.iload_n 2, 1) := dk_28 (dk_at dksX0_taut_0 12 rfl rfl)
theorem dX0_taut_13 : decode cX0_taut 13 = .ok (.aload_n 0, 1) := dk_42 (dk_at dksX0_taut_0 13 rfl rfl)
theorem dX0_taut_14 : decode cX0_taut 14 = .ok (.getfield 9, 3) := dk_180 0 9 (dk_at dksX0_taut_0 14 rfl rfl)
theorem dX0_taut_17 : decode cX0_taut 17 = .ok (.getfield 13, 3) := dk_180 0 13 (dk_at dksX0_taut_0 17 rfl rfl)
theorem dX0_taut_20 : decode cX0_taut 20 = .ok (.iconst 1, 1) := dk_4 (dk_at dksX0_taut_0 20 rfl rfl)
theorem dX0_taut_21 : decode cX0_taut 21 = .ok (.isub, 1) := dk_100 (dk_at dksX0_taut_0 21 rfl rfl)
theorem dX0_taut_22 : decode cX0_taut 22 = .ok (.if_icmp .ge 27, 3) := dk_162 0 27 (dk_at dksX0_taut_1 0 rfl rfl)
theorem dX0_taut_25 : decode cX0_taut 25 = .ok (.aload_n 0, 1) := dk_42 (dk_at dksX0_taut_1 3 rfl rfl)
theorem dX0_taut_26 : decode cX0_taut 26 = .ok (.getfield 9, 3) := dk_180 0 9 (dk_at dksX0_taut_1 4 rfl rfl)
theorem dX0_taut_29 : decode cX0_taut 29 = .ok (.getfield 33, 3) := dk_180 0 33 (dk_at dksX0_taut_1 7 rfl rfl)
theorem dX0_taut_32 : decode cX0_taut 32 = .ok (.iload_n 2, 1) := dk_28 (dk_at dksX0_taut_1 10 rfl rfl)
theorem dX0_taut_33 : decode cX0_taut 33 = .ok (.iaload, 1) := dk_46 (dk_at dksX0_taut_1 11 rfl rfl)
theorem dX0_taut_34 : decode cX0_taut 34 = .ok (.ifCond .le 9, 3) := dk_158 0 9 (dk_at dksX0_taut_1 12 rfl rfl)
theorem dX0_taut_37 : decode cX0_taut 37 = .ok (.iload_n 1, 1) := dk_27 (dk_at dksX0_taut_1 15 rfl rfl)
theorem dX0_taut_38 : decode cX0_taut 38 = .ok (.iconst 1, 1) := dk_4 (dk_at dksX0_taut_1 16 rfl rfl)
theorem dX0_taut_39 : decode cX0_taut 39 = .ok (.iload_n 2, 1) := dk_28 (dk_at dksX0_taut_1 17 rfl rfl)
theorem dX0_taut_40 : decode cX0_taut 40 = .ok (.ishl, 1) := dk_120 (dk_at dksX0_taut_1 18 rfl rfl)
theorem dX0_taut_41 : decode cX0_taut 41 = .ok (.ior, 1) := dk_128 (dk_at dksX0_taut_1 19 rfl rfl)
theorem dX0_taut_42 : decode cX0_taut 42 = .ok (.istore_n 1, 1) := dk_60 (dk_at dksX0_taut_1 20 rfl rfl)
theorem dX0_taut_43 : decode cX0_taut 43 = .ok (.iinc 2 1, 3) := dk_132 2 1 (dk_at dksX0_taut_1 21 rfl rfl)
theorem dX0_taut_46 : decode cX0_taut 46 = .ok (.goto (-34), 3) := dk_167 255 222 (dk_at dksX0_taut_2 0 rfl rfl)
theorem dX0_taut_49 : decode cX0_taut 49 = .ok (.iload_n 1, 1) := dk_27 (dk_at dksX0_taut_2 3 rfl rfl)
theorem dX0_taut_50 : decode cX0_taut 50 = .ok (.ireturn, 1) := dk_172 (dk_at dksX0_taut_2 4 rfl rfl)
abbrev cX0_cutDown : ByteArray := prog_1_method_4_code
def yX0_cutDown : MethodName := ⟨RX0, "cutDown", "(I)I"⟩
def dkwX0_cutDown_0 : List UInt8 := [26, 16, 64, 108, 26, 16, 64, 112, 108, 172]
abbrev dktX0_cutDown_0 : List UInt8 := dkwX0_cutDown_0 ++ []
theorem dksX0_cutDown_0 : cX0_cutDown.data.toList.drop 0 = dktX0_cutDown_0 := by decide +kernel
theorem dX0_cutDown_0 : decode cX0_cutDown 0 = .ok (.iload_n 0, 1) := dk_26 (dk_at dksX0_cutDown_0 0 rfl rfl)
theorem dX0_cutDown_1 : decode cX0_cutDown 1 = .ok (.bipush 64, 2) := dk_16 64 (dk_at dksX0_cutDown_0 1 rfl rfl)
theorem dX0_cutDown_3 : decode cX0_cutDown 3 = .ok (.idiv, 1) := dk_108 (dk_at dksX0_cutDown_0 3 rfl rfl)
theorem dX0_cutDown_4 : decode cX0_cutDown 4 = .ok (.iload_n 0, 1) := dk_26 (dk_at dksX0_cutDown_0 4 rfl rfl)
theorem dX0_cutDown_5 : decode cX0_cutDown 5 = .ok (.bipush 64, 2) := dk_16 64 (dk_at dksX0_cutDown_0 5 rfl rfl)
theorem dX0_cutDown_7 : decode cX0_cutDown 7 = .ok (.irem, 1) := dk_112 (dk_at dksX0_cutDown_0 7 rfl rfl)
theorem dX0_cutDown_8 : decode cX0_cutDown 8 = .ok (.idiv, 1) := dk_108 (dk_at dksX0_cutDown_0 8 rfl rfl)
theorem dX0_cutDown_9 : decode cX0_cutDown 9 = .ok (.ireturn, 1) := dk_172 (dk_at dksX0_cutDown_0 9 rfl rfl)
abbrev cX0_type : ByteArray := prog_1_method_20_code
def yX0_type : MethodName := ⟨RX0, "type", "(I)I"⟩
def dkwX0_type_2 : List UInt8 := [90, 181, 0, 161, 172]
abbrev dktX0_type_2 : List UInt8 := dkwX0_type_2 ++ []
def dkwX0_type_1 : List UInt8 := [160, 0, 6, 16, 253, 172, 42, 180, 0, 164, 42, 180, 0, 161, 27, 145, 84, 42, 89, 180, 0, 161, 4, 96]
abbrev dktX0_type_1 : List UInt8 := dkwX0_type_1 ++ dktX0_type_2
def dkwX0_type_0 : List UInt8 := [27, 133, 20, 0, 157, 20, 0, 159, 184, 0, 19, 154, 0, 5, 2, 172, 42, 180, 0, 161, 16, 90]
abbrev dktX0_type_0 : List UInt8 := dkwX0_type_0 ++ dktX0_type_1
theorem dksX0_type_0 : cX0_type.data.toList.drop 0 = dktX0_type_0 := by decide +kernel
theorem dksX0_type_1 : cX0_type.data.toList.drop 22 = dktX0_type_1 := dk_seg dksX0_type_0 22 rfl rfl
theorem dksX0_type_2 : cX0_type.data.toList.drop 46 = dktX0_type_2 := dk_seg dksX0_type_1 24 rfl rfl
theorem dX0_type_0 : decode cX0_type 0 = .ok (.iload_n 1, 1) := dk_27 (dk_at dksX0_type_0 0 rfl rfl)
theorem dX0_type_1 : decode cX0_type 1 = .ok (.i2l, 1) := dk_133 (dk_at dksX0_type_0 1 rfl rfl)
theorem dX0_type_2 : decode cX0_type 2 = .ok (.ldc2_w 157, 3) := dk_20 0 157 (dk_at dksX0_type_0 2 rfl rfl)
theorem dX0_type_5 : decode cX0_type 5 = .ok (.ldc2_w 159, 3) := dk_20 0 159 (dk_at dksX0_type_0 5 rfl rfl)
theorem dX0_type_8 : decode cX0_type 8 = .ok (.invokestatic 19, 3) := dk_184 0 19 (dk_at dksX0_type_0 8 rfl rfl)
theorem dX0_type_11 : decode cX0_type 11 = .ok (.ifCond .ne 5, 3) := dk_154 0 5 (dk_at dksX0_type_0 11 rfl rfl)
theorem dX0_type_14 : decode cX0_type 14 = .ok (.iconst (-1), 1) := dk_2 (dk_at dksX0_type_0 14 rfl rfl)
theorem dX0_type_15 : decode cX0_type 15 = .ok (.ireturn, 1) := dk_172 (dk_at dksX0_type_0 15 rfl rfl)
theorem dX0_type_16 : decode cX0_type 16 = .ok (.aload_n 0, 1) := dk_42 (dk_at dksX0_type_0 16 rfl rfl)
theorem dX0_type_17 : decode cX0_type 17 = .ok (.getfield 161, 3) := dk_180 0 161 (dk_at dksX0_type_0 17 rfl rfl)
theorem dX0_type_20 : decode cX0_type 20 = .ok (.bipush 90, 2) := dk_16 90 (dk_at dksX0_type_0 20 rfl rfl)
theorem dX0_type_22 : decode cX0_type 22 = .ok (.if_icmp .ne 6, 3) := dk_160 0 6 (dk_at dksX0_type_1 0 rfl rfl)
theorem dX0_type_25 : decode cX0_type 25 = .ok (.bipush (-3), 2) := dk_16 253 (dk_at dksX0_type_1 3 rfl rfl)
theorem dX0_type_27 : decode cX0_type 27 = .ok (.ireturn, 1) := dk_172 (dk_at dksX0_type_1 5 rfl rfl)
theorem dX0_type_28 : decode cX0_type 28 = .ok (.aload_n 0, 1) := dk_42 (dk_at dksX0_type_1 6 rfl rfl)
theorem dX0_type_29 : decode cX0_type 29 = .ok (.getfield 164, 3) := dk_180 0 164 (dk_at dksX0_type_1 7 rfl rfl)
theorem dX0_type_32 : decode cX0_type 32 = .ok (.aload_n 0, 1) := dk_42 (dk_at dksX0_type_1 10 rfl rfl)
theorem dX0_type_33 : decode cX0_type 33 = .ok (.getfield 161, 3) := dk_180 0 161 (dk_at dksX0_type_1 11 rfl rfl)
theorem dX0_type_36 : decode cX0_type 36 = .ok (.iload_n 1, 1) := dk_27 (dk_at dksX0_type_1 14 rfl rfl)
theorem dX0_type_37 : decode cX0_type 37 = .ok (.i2b, 1) := dk_145 (dk_at dksX0_type_1 15 rfl rfl)
theorem dX0_type_38 : decode cX0_type 38 = .ok (.bastore, 1) := dk_84 (dk_at dksX0_type_1 16 rfl rfl)
theorem dX0_type_39 : decode cX0_type 39 = .ok (.aload_n 0, 1) := dk_42 (dk_at dksX0_type_1 17 rfl rfl)
theorem dX0_type_40 : decode cX0_type 40 = .ok (.dup, 1) := dk_89 (dk_at dksX0_type_1 18 rfl rfl)
theorem dX0_type_41 : decode cX0_type 41 = .ok (.getfield 161, 3) := dk_180 0 161 (dk_at dksX0_type_1 19 rfl rfl)
theorem dX0_type_44 : decode cX0_type 44 = .ok (.iconst 1, 1) := dk_4 (dk_at dksX0_type_1 22 rfl rfl)
theorem dX0_type_45 : decode cX0_type 45 = .ok (.iadd, 1) := dk_96 (dk_at dksX0_type_1 23 rfl rfl)
theorem dX0_type_46 : decode cX0_type 46 = .ok (.dup_x1, 1) := dk_90 (dk_at dksX0_type_2 0 rfl rfl)
theorem dX0_type_47 : decode cX0_type 47 = .ok (.putfield 161, 3) := dk_181 0 161 (dk_at dksX0_type_2 1 rfl rfl)
theorem dX0_type_50 : decode cX0_type 50 = .ok (.ireturn, 1) := dk_172 (dk_at dksX0_type_2 4 rfl rfl)
abbrev cX0_street : ByteArray := prog_1_method_27_code
def yX0_street : MethodName := ⟨RX0, "street", "()I"⟩
def dkwX0_street_9 : List UInt8 := [3, 181, 0, 161, 25, 5, 191]
abbrev dktX0_street_9 : List UInt8 := dkwX0_street_9 ++ []
def dkwX0_street_8 : List UInt8 := [181, 0, 161, 29, 172, 76, 16, 236, 43, 180, 0, 208, 100, 61, 42, 3, 181, 0, 161, 28, 172, 58, 5, 42]
abbrev dktX0_street_8 : List UInt8 := dkwX0_street_8 ++ dktX0_street_9
def dkwX0_street_7 : List UInt8 := [182, 0, 67, 132, 3, 1, 167, 255, 170, 42, 42, 180, 0, 9, 182, 0, 81, 87, 28, 62, 42, 3]
abbrev dktX0_street_7 : List UInt8 := dkwX0_street_7 ++ dktX0_street_8
def dkwX0_street_6 : List UInt8 := [96, 46, 182, 0, 108, 42, 180, 0, 192, 21, 4, 5, 96, 46, 16, 252, 160, 0, 11, 42, 180, 0, 9, 29]
abbrev dktX0_street_6 : List UInt8 := dkwX0_street_6 ++ dktX0_street_7
def dkwX0_street_5 : List UInt8 := [21, 4, 5, 96, 46, 184, 0, 205, 42, 180, 0, 192, 21, 4, 6, 96, 46, 42, 180, 0, 192, 21, 4, 7]
abbrev dktX0_street_5 : List UInt8 := dkwX0_street_5 ++ dktX0_street_6
def dkwX0_street_4 : List UInt8 := [54, 4, 42, 42, 180, 0, 192, 21, 4, 46, 42, 180, 0, 192, 21, 4, 4, 96, 46, 3, 42, 180, 0, 192]
abbrev dktX0_street_4 : List UInt8 := dkwX0_street_4 ++ dktX0_street_5
def dkwX0_street_3 : List UInt8 := [180, 0, 9, 27, 181, 0, 37, 42, 180, 0, 112, 182, 0, 116, 3, 62, 29, 28, 162, 0, 87, 8, 29, 104]
abbrev dktX0_street_3 : List UInt8 := dkwX0_street_3 ++ dktX0_street_4
def dkwX0_street_2 : List UInt8 := [3, 181, 0, 138, 42, 180, 0, 9, 3, 181, 0, 78, 42, 180, 0, 9, 16, 8, 181, 0, 145, 42]
abbrev dktX0_street_2 : List UInt8 := dkwX0_street_2 ++ dktX0_street_3
def dkwX0_street_1 : List UInt8 := [167, 0, 4, 3, 182, 0, 188, 42, 182, 0, 202, 61, 42, 180, 0, 9, 3, 181, 0, 13, 42, 180, 0, 9]
abbrev dktX0_street_1 : List UInt8 := dkwX0_street_1 ++ dktX0_street_2
def dkwX0_street_0 : List UInt8 := [42, 3, 181, 0, 167, 42, 4, 16, 60, 182, 0, 195, 60, 42, 42, 182, 0, 174, 16, 58, 160, 0, 7, 4]
abbrev dktX0_street_0 : List UInt8 := dkwX0_street_0 ++ dktX0_street_1
theorem dksX0_street_0 : cX0_street.data.toList.drop 0 = dktX0_street_0 := by decide +kernel
theorem dksX0_street_1 : cX0_street.data.toList.drop 24 = dktX0_street_1 := dk_seg dksX0_street_0 24 rfl rfl
theorem dksX0_street_2 : cX0_street.data.toList.drop 48 = dktX0_street_2 := dk_seg dksX0_street_1 24 rfl rfl
theorem dksX0_street_3 : cX0_street.data.toList.drop 70 = dktX0_street_3 := dk_seg dksX0_street_2 22 rfl rfl
theorem dksX0_street_4 : cX0_street.data.toList.drop 94 = dktX0_street_4 := dk_seg dksX0_street_3 24 rfl rfl
theorem dksX0_street_5 : cX0_street.data.toList.drop 118 = dktX0_street_5 := dk_seg dksX0_street_4 24 rfl rfl
theorem dksX0_street_6 : cX0_street.data.toList.drop 142 = dktX0_street_6 := dk_seg dksX0_street_5 24 rfl rfl
theorem dksX0_street_7 : cX0_street.data.toList.drop 166 = dktX0_street_7 := dk_seg dksX0_street_6 24 rfl rfl
theorem dksX0_street_8 : cX0_street.data.toList.drop 188 = dktX0_street_8 := dk_seg dksX0_street_7 22 rfl rfl
theorem dksX0_street_9 : cX0_street.data.toList.drop 212 = dktX0_street_9 := dk_seg dksX0_street_8 24 rfl rfl
theorem dX0_street_0 : decode cX0_street 0 = .ok (.aload_n 0, 1) := dk_42 (dk_at dksX0_street_0 0 rfl rfl)
theorem dX0_street_1 : decode cX0_street 1 = .ok (.iconst 0, 1) := dk_3 (dk_at dksX0_street_0 1 rfl rfl)
theorem dX0_street_2 : decode cX0_street 2 = .ok (.putfield 167, 3) := dk_181 0 167 (dk_at dksX0_street_0 2 rfl rfl)
theorem dX0_street_5 : decode cX0_street 5 = .ok (.aload_n 0, 1) := dk_42 (dk_at dksX0_street_0 5 rfl rfl)
theorem dX0_street_6 : decode cX0_street 6 = .ok (.iconst 1, 1) := dk_4 (dk_at dksX0_street_0 6 rfl rfl)
theorem dX0_street_7 : decode cX0_street 7 = .ok (.bipush 60, 2) := dk_16 60 (dk_at dksX0_street_0 7 rfl rfl)
theorem dX0_street_9 : decode cX0_street 9 = .ok (.invokevirtual 195, 3) := dk_182 0 195 (dk_at dksX0_street_0 9 rfl rfl)
theorem dX0_street_12 : decode cX0_street 12 = .ok (.istore_n 1, 1) := dk_60 (dk_at dksX0_street_0 12 rfl rfl)
theorem dX0_street_13 : decode cX0_street 13 = .ok (.aload_n 0, 1) := dk_42 (dk_at dksX0_street_0 13 rfl rfl)
theorem dX0_street_14 : decode cX0_street 14 = .ok (.aload_n 0, 1) := dk_42 (dk_at dksX0_street_0 14 rfl rfl)
theorem dX0_street_15 : decode cX0_street 15 = .ok (.invokevirtual 174, 3) := dk_182 0 174 (dk_at dksX0_street_0 15 rfl rfl)
theorem dX0_street_18 : decode cX0_street 18 = .ok (.bipush 58, 2) := dk_16 58 (dk_at dksX0_street_0 18 rfl rfl)
theorem dX0_street_20 : decode cX0_street 20 = .ok (.if_icmp .ne 7, 3) := dk_160 0 7 (dk_at dksX0_street_0 20 rfl rfl)
theorem dX0_street_23 : decode cX0_street 23 = .ok (.iconst 1, 1) := dk_4 (dk_at dksX0_street_0 23 rfl rfl)
theorem dX0_street_24 : decode cX0_street 24 = .ok (.goto 4, 3) := dk_167 0 4 (dk_at dksX0_street_1 0 rfl rfl)
theorem dX0_street_27 : decode cX0_street 27 = .ok (.iconst 0, 1) := dk_3 (dk_at dksX0_street_1 3 rfl rfl)
theorem dX0_street_28 : decode cX0_street 28 = .ok (.invokevirtual 188, 3) := dk_182 0 188 (dk_at dksX0_street_1 4 rfl rfl)
theorem dX0_street_31 : decode cX0_street 31 = .ok (.aload_n 0, 1) := dk_42 (dk_at dksX0_street_1 7 rfl rfl)
theorem dX0_street_32 : decode cX0_street 32 = .ok (.invokevirtual 202, 3) := dk_182 0 202 (dk_at dksX0_street_1 8 rfl rfl)
theorem dX0_street_35 : decode cX0_street 35 = .ok (.istore_n 2, 1) := dk_61 (dk_at dksX0_street_1 11 rfl rfl)
theorem dX0_street_36 : decode cX0_street 36 = .ok (.aload_n 0, 1) := dk_42 (dk_at dksX0_street_1 12 rfl rfl)
theorem dX0_street_37 : decode cX0_street 37 = .ok (.getfield 9, 3) := dk_180 0 9 (dk_at dksX0_street_1 13 rfl rfl)
theorem dX0_street_40 : decode cX0_street 40 = .ok (.iconst 0, 1) := dk_3 (dk_at dksX0_street_1 16 rfl rfl)
theorem dX0_street_41 : decode cX0_street 41 = .ok (.putfield 13, 3) := dk_181 0 13 (dk_at dksX0_street_1 17 rfl rfl)
theorem dX0_street_44 : decode cX0_street 44 = .ok (.aload_n 0, 1) := dk_42 (dk_at dksX0_street_1 20 rfl rfl)
theorem dX0_street_45 : decode cX0_street 45 = .ok (.getfield 9, 3) := dk_180 0 9 (dk_at dksX0_street_1 21 rfl rfl)
theorem dX0_street_48 : decode cX0_street 48 = .ok (.iconst 0, 1) := dk_3 (dk_at dksX0_street_2 0 rfl rfl)
theorem dX0_street_49 : decode cX0_street 49 = .ok (.putfield 138, 3) := dk_181 0 138 (dk_at dksX0_street_2 1 rfl rfl)
theorem dX0_street_52 : decode cX0_street 52 = .ok (.aload_n 0, 1) := dk_42 (dk_at dksX0_street_2 4 rfl rfl)
theorem dX0_street_53 : decode cX0_street 53 = .ok (.getfield 9, 3) := dk_180 0 9 (dk_at dksX0_street_2 5 rfl rfl)
theorem dX0_street_56 : decode cX0_street 56 = .ok (.iconst 0, 1) := dk_3 (dk_at dksX0_street_2 8 rfl rfl)
theorem dX0_street_57 : decode cX0_street 57 = .ok (.putfield 78, 3) := dk_181 0 78 (dk_at dksX0_street_2 9 rfl rfl)
theorem dX0_street_60 : decode cX0_street 60 = .ok (.aload_n 0, 1) := dk_42 (dk_at dksX0_street_2 12 rfl rfl)
theorem dX0_street_61 : decode cX0_street 61 = .ok (.getfield 9, 3) := dk_180 0 9 (dk_at dksX0_street_2 13 rfl rfl)
theorem dX0_street_64 : decode cX0_street 64 = .ok (.bipush 8, 2) := dk_16 8 (dk_at dksX0_street_2 16 rfl rfl)
theorem dX0_street_66 : decode cX0_street 66 = .ok (.putfield 145, 3) := dk_181 0 145 (dk_at dksX0_street_2 18 rfl rfl)
theorem dX0_street_69 : decode cX0_street 69 = .ok (.aload_n 0, 1) := dk_42 (dk_at dksX0_street_2 21 rfl rfl)
theorem dX0_street_70 : decode cX0_street 70 = .ok (.getfield 9, 3) := dk_180 0 9 (dk_at dksX0_street_3 0 rfl rfl)
theorem dX0_street_73 : decode cX0_street 73 = .ok (.iload_n 1, 1) := dk_27 (dk_at dksX0_street_3 3 rfl rfl)
theorem dX0_street_74 : decode cX0_street 74 = .ok (.putfield 37, 3) := dk_181 0 37 (dk_at dksX0_street_3 4 rfl rfl)
theorem dX0_street_77 : decode cX0_street 77 = .ok (.aload_n 0, 1) := dk_42 (dk_at dksX0_street_3 7 rfl rfl)
theorem dX0_street_78 : decode cX0_street 78 = .ok (.getfield 112, 3) := dk_180 0 112 (dk_at dksX0_street_3 8 rfl rfl)
theorem dX0_street_81 : decode cX0_street 81 = .ok (.invokevirtual 116, 3) := dk_182 0 116 (dk_at dksX0_street_3 11 rfl rfl)
theorem dX0_street_84 : decode cX0_street 84 = .ok (.iconst 0, 1) := dk_3 (dk_at dksX0_street_3 14 rfl rfl)
theorem dX0_street_85 : decode cX0_street 85 = .ok (.istore_n 3, 1) := dk_62 (dk_at dksX0_street_3 15 rfl rfl)
theorem dX0_street_86 : decode cX0_street 86 = .ok (.iload_n 3, 1) := dk_29 (dk_at dksX0_street_3 16 rfl rfl)
theorem dX0_street_87 : decode cX0_street 87 = .ok (.iload_n 2, 1) := dk_28 (dk_at dksX0_street_3 17 rfl rfl)
theorem dX0_street_88 : decode cX0_street 88 = .ok (.if_icmp .ge 87, 3) := dk_162 0 87 (dk_at dksX0_street_3 18 rfl rfl)
theorem dX0_street_91 : decode cX0_street 91 = .ok (.iconst 5, 1) := dk_8 (dk_at dksX0_street_3 21 rfl rfl)
theorem dX0_street_92 : decode cX0_street 92 = .ok (.iload_n 3, 1) := dk_29 (dk_at dksX0_street_3 22 rfl rfl)
theorem dX0_street_93 : decode cX0_street 93 = .ok (.imul, 1) := dk_104 (dk_at dksX0_street_3 23 rfl rfl)
theorem dX0_street_94 : decode cX0_street 94 = .ok (.istore 4, 2) := dk_54 4 (dk_at dksX0_street_4 0 rfl rfl)
theorem dX0_street_96 : decode cX0_street 96 = .ok (.aload_n 0, 1) := dk_42 (dk_at dksX0_street_4 2 rfl rfl)
theorem dX0_street_97 : decode cX0_street 97 = .ok (.aload_n 0, 1) := dk_42 (dk_at dksX0_street_4 3 rfl rfl)
theorem dX0_street_98 : decode cX0_street 98 = .ok (.getfield 192, 3) := dk_180 0 192 (dk_at dksX0_street_4 4 rfl rfl)
theorem dX0_street_101 : decode cX0_street 101 = .ok (.iload 4, 2) := dk_21 4 (dk_at dksX0_street_4 7 rfl rfl)
theorem dX0_street_103 : decode cX0_street 103 = .ok (.iaload, 1) := dk_46 (dk_at dksX0_street_4 9 rfl rfl)
theorem dX0_street_104 : decode cX0_street 104 = .ok (.aload_n 0, 1) := dk_42 (dk_at dksX0_street_4 10 rfl rfl)
theorem dX0_street_105 : decode cX0_street 105 = .ok (.getfield 192, 3) := dk_180 0 192 (dk_at dksX0_street_4 11 rfl rfl)
theorem dX0_street_108 : decode cX0_street 108 = .ok (.iload 4, 2) := dk_21 4 (dk_at dksX0_street_4 14 rfl rfl)
theorem dX0_street_110 : decode cX0_street 110 = .ok (.iconst 1, 1) := dk_4 (dk_at dksX0_street_4 16 rfl rfl)
theorem dX0_street_111 : decode cX0_street 111 = .ok (.iadd, 1) := dk_96 (dk_at dksX0_street_4 17 rfl rfl)
theorem dX0_street_112 : decode cX0_street 112 = .ok (.iaload, 1) := dk_46 (dk_at dksX0_street_4 18 rfl rfl)
theorem dX0_street_113 : decode cX0_street 113 = .ok (.iconst 0, 1) := dk_3 (dk_at dksX0_street_4 19 rfl rfl)
theorem dX0_street_114 : decode cX0_street 114 = .ok (.aload_n 0, 1) := dk_42 (dk_at dksX0_street_4 20 rfl rfl)
theorem dX0_street_115 : decode cX0_street 115 = .ok (.getfield 192, 3) := dk_180 0 192 (dk_at dksX0_street_4 21 rfl rfl)
theorem dX0_street_118 : decode cX0_street 118 = .ok (.iload 4, 2) := dk_21 4 (dk_at dksX0_street_5 0 rfl rfl)
theorem dX0_street_120 : decode cX0_street 120 = .ok (.iconst 2, 1) := dk_5 (dk_at dksX0_street_5 2 rfl rfl)
theorem dX0_street_121 : decode cX0_street 121 = .ok (.iadd, 1) := dk_96 (dk_at dksX0_street_5 3 rfl rfl)
theorem dX0_street_122 : decode cX0_street 122 = .ok (.iaload, 1) := dk_46 (dk_at dksX0_street_5 4 rfl rfl)
theorem dX0_street_123 : decode cX0_street 123 = .ok (.invokestatic 205, 3) := dk_184 0 205 (dk_at dksX0_street_5 5 rfl rfl)
theorem dX0_street_126 : decode cX0_street 126 = .ok (.aload_n 0, 1) := dk_42 (dk_at dksX0_street_5 8 rfl rfl)
theorem dX0_street_127 : decode cX0_street 127 = .ok (.getfield 192, 3) := dk_180 0 192 (dk_at dksX0_street_5 9 rfl rfl)
theorem dX0_street_130 : decode cX0_street 130 = .ok (.iload 4, 2) := dk_21 4 (dk_at dksX0_street_5 12 rfl rfl)
theorem dX0_street_132 : decode cX0_street 132 = .ok (.iconst 3, 1) := dk_6 (dk_at dksX0_street_5 14 rfl rfl)
theorem dX0_street_133 : decode cX0_street 133 = .ok (.iadd, 1) := dk_96 (dk_at dksX0_street_5 15 rfl rfl)
theorem dX0_street_134 : decode cX0_street 134 = .ok (.iaload, 1) := dk_46 (dk_at dksX0_street_5 16 rfl rfl)
theorem dX0_street_135 : decode cX0_street 135 = .ok (.aload_n 0, 1) := dk_42 (dk_at dksX0_street_5 17 rfl rfl)
theorem dX0_street_136 : decode cX0_street 136 = .ok (.getfield 192, 3) := dk_180 0 192 (dk_at dksX0_street_5 18 rfl rfl)
theorem dX0_street_139 : decode cX0_street 139 = .ok (.iload 4, 2) := dk_21 4 (dk_at dksX0_street_5 21 rfl rfl)
theorem dX0_street_141 : decode cX0_street 141 = .ok (.iconst 4, 1) := dk_7 (dk_at dksX0_street_5 23 rfl rfl)
theorem dX0_street_142 : decode cX0_street 142 = .ok (.iadd, 1) := dk_96 (dk_at dksX0_street_6 0 rfl rfl)
theorem dX0_street_143 : decode cX0_street 143 = .ok (.iaload, 1) := dk_46 (dk_at dksX0_street_6 1 rfl rfl)
theorem dX0_street_144 : decode cX0_street 144 = .ok (.invokevirtual 108, 3) := dk_182 0 108 (dk_at dksX0_street_6 2 rfl rfl)
theorem dX0_street_147 : decode cX0_street 147 = .ok (.aload_n 0, 1) := dk_42 (dk_at dksX0_street_6 5 rfl rfl)
theorem dX0_street_148 : decode cX0_street 148 = .ok (.getfield 192, 3) := dk_180 0 192 (dk_at dksX0_street_6 6 rfl rfl)
theorem dX0_street_151 : decode cX0_street 151 = .ok (.iload 4, 2) := dk_21 4 (dk_at dksX0_street_6 9 rfl rfl)
theorem dX0_street_153 : decode cX0_street 153 = .ok (.iconst 2, 1) := dk_5 (dk_at dksX0_street_6 11 rfl rfl)
theorem dX0_street_154 : decode cX0_street 154 = .ok (.iadd, 1) := dk_96 (dk_at dksX0_street_6 12 rfl rfl)
theorem dX0_street_155 : decode cX0_street 155 = .ok (.iaload, 1) := dk_46 (dk_at dksX0_street_6 13 rfl rfl)
theorem dX0_street_156 : decode cX0_street 156 = .ok (.bipush (-4), 2) := dk_16 252 (dk_at dksX0_street_6 14 rfl rfl)
theorem dX0_street_158 : decode cX0_street 158 = .ok (.if_icmp .ne 11, 3) := dk_160 0 11 (dk_at dksX0_street_6 16 rfl rfl)
theorem dX0_street_161 : decode cX0_street 161 = .ok (.aload_n 0, 1) := dk_42 (dk_at dksX0_street_6 19 rfl rfl)
theorem dX0_street_162 : decode cX0_street 162 = .ok (.getfield 9, 3) := dk_180 0 9 (dk_at dksX0_street_6 20 rfl rfl)
theorem dX0_street_165 : decode cX0_street 165 = .ok (.iload_n 3, 1) := dk_29 (dk_at dksX0_street_6 23 rfl rfl)
theorem dX0_street_166 : decode cX0_street 166 = .ok (.invokevirtual 67, 3) := dk_182 0 67 (dk_at dksX0_street_7 0 rfl rfl)
theorem dX0_street_169 : decode cX0_street 169 = .ok (.iinc 3 1, 3) := dk_132 3 1 (dk_at dksX0_street_7 3 rfl rfl)
theorem dX0_street_172 : decode cX0_street 172 = .ok (.goto (-86), 3) := dk_167 255 170 (dk_at dksX0_street_7 6 rfl rfl)
theorem dX0_street_175 : decode cX0_street 175 = .ok (.aload_n 0, 1) := dk_42 (dk_at dksX0_street_7 9 rfl rfl)
theorem dX0_street_176 : decode cX0_street 176 = .ok (.aload_n 0, 1) := dk_42 (dk_at dksX0_street_7 10 rfl rfl)
theorem dX0_street_177 : decode cX0_street 177 = .ok (.getfield 9, 3) := dk_180 0 9 (dk_at dksX0_street_7 11 rfl rfl)
theorem dX0_street_180 : decode cX0_street 180 = .ok (.invokevirtual 81, 3) := dk_182 0 81 (dk_at dksX0_street_7 14 rfl rfl)
theorem dX0_street_183 : decode cX0_street 183 = .ok (.pop, 1) := dk_87 (dk_at dksX0_street_7 17 rfl rfl)
theorem dX0_street_184 : decode cX0_street 184 = .ok (.iload_n 2, 1) := dk_28 (dk_at dksX0_street_7 18 rfl rfl)
theorem dX0_street_185 : decode cX0_street 185 = .ok (.istore_n 3, 1) := dk_62 (dk_at dksX0_street_7 19 rfl rfl)
theorem dX0_street_186 : decode cX0_street 186 = .ok (.aload_n 0, 1) := dk_42 (dk_at dksX0_street_7 20 rfl rfl)
theorem dX0_street_187 : decode cX0_street 187 = .ok (.iconst 0, 1) := dk_3 (dk_at dksX0_street_7 21 rfl rfl)
theorem dX0_street_188 : decode cX0_street 188 = .ok (.putfield 161, 3) := dk_181 0 161 (dk_at dksX0_street_8 0 rfl rfl)
theorem dX0_street_191 : decode cX0_street 191 = .ok (.iload_n 3, 1) := dk_29 (dk_at dksX0_street_8 3 rfl rfl)
theorem dX0_street_192 : decode cX0_street 192 = .ok (.ireturn, 1) := dk_172 (dk_at dksX0_street_8 4 rfl rfl)
theorem dX0_street_193 : decode cX0_street 193 = .ok (.astore_n 1, 1) := dk_76 (dk_at dksX0_street_8 5 rfl rfl)
theorem dX0_street_194 : decode cX0_street 194 = .ok (.bipush (-20), 2) := dk_16 236 (dk_at dksX0_street_8 6 rfl rfl)
theorem dX0_street_196 : decode cX0_street 196 = .ok (.aload_n 1, 1) := dk_43 (dk_at dksX0_street_8 8 rfl rfl)
theorem dX0_street_197 : decode cX0_street 197 = .ok (.getfield 208, 3) := dk_180 0 208 (dk_at dksX0_street_8 9 rfl rfl)
theorem dX0_street_200 : decode cX0_street 200 = .ok (.isub, 1) := dk_100 (dk_at dksX0_street_8 12 rfl rfl)
theorem dX0_street_201 : decode cX0_street 201 = .ok (.istore_n 2, 1) := dk_61 (dk_at dksX0_street_8 13 rfl rfl)
theorem dX0_street_202 : decode cX0_street 202 = .ok (.aload_n 0, 1) := dk_42 (dk_at dksX0_street_8 14 rfl rfl)
theorem dX0_street_203 : decode cX0_street 203 = .ok (.iconst 0, 1) := dk_3 (dk_at dksX0_street_8 15 rfl rfl)
theorem dX0_street_204 : decode cX0_street 204 = .ok (.putfield 161, 3) := dk_181 0 161 (dk_at dksX0_street_8 16 rfl rfl)
theorem dX0_street_207 : decode cX0_street 207 = .ok (.iload_n 2, 1) := dk_28 (dk_at dksX0_street_8 19 rfl rfl)
theorem dX0_street_208 : decode cX0_street 208 = .ok (.ireturn, 1) := dk_172 (dk_at dksX0_street_8 20 rfl rfl)
theorem dX0_street_209 : decode cX0_street 209 = .ok (.astore 5, 2) := dk_58 5 (dk_at dksX0_street_8 21 rfl rfl)
theorem dX0_street_211 : decode cX0_street 211 = .ok (.aload_n 0, 1) := dk_42 (dk_at dksX0_street_8 23 rfl rfl)
theorem dX0_street_212 : decode cX0_street 212 = .ok (.iconst 0, 1) := dk_3 (dk_at dksX0_street_9 0 rfl rfl)
theorem dX0_street_213 : decode cX0_street 213 = .ok (.putfield 161, 3) := dk_181 0 161 (dk_at dksX0_street_9 1 rfl rfl)
theorem dX0_street_216 : decode cX0_street 216 = .ok (.aload 5, 2) := dk_25 5 (dk_at dksX0_street_9 4 rfl rfl)
theorem dX0_street_218 : decode cX0_street 218 = .ok (.athrow, 1) := dk_191 (dk_at dksX0_street_9 6 rfl rfl)
abbrev cX0_number : ByteArray := prog_1_method_24_code
def yX0_number : MethodName := ⟨RX0, "number", "(II)I"⟩
def dkwX0_number_5 : List UInt8 := [28, 133, 184, 0, 19, 154, 0, 12, 187, 0, 170, 89, 29, 183, 0, 172, 191, 21, 4, 172]
abbrev dktX0_number_5 : List UInt8 := dkwX0_number_5 ++ []
def dkwX0_number_4 : List UInt8 := [180, 0, 167, 90, 4, 96, 181, 0, 167, 51, 96, 16, 48, 100, 54, 4, 167, 255, 186, 21, 4, 133, 27, 133]
abbrev dktX0_number_4 : List UInt8 := dkwX0_number_4 ++ dktX0_number_5
def dkwX0_number_3 : List UInt8 := [20, 0, 177, 20, 0, 179, 184, 0, 19, 153, 0, 33, 16, 10, 21, 4, 104, 42, 180, 0, 164, 42, 89]
abbrev dktX0_number_3 : List UInt8 := dkwX0_number_3 ++ dktX0_number_4
def dkwX0_number_2 : List UInt8 := [162, 0, 65, 42, 180, 0, 167, 29, 5, 96, 162, 0, 55, 42, 180, 0, 164, 42, 180, 0, 167, 51, 133]
abbrev dktX0_number_2 : List UInt8 := dkwX0_number_2 ++ dktX0_number_3
def dkwX0_number_1 : List UInt8 := [180, 0, 167, 183, 0, 172, 191, 42, 180, 0, 167, 62, 3, 54, 4, 42, 180, 0, 167, 42, 180, 0, 161]
abbrev dktX0_number_1 : List UInt8 := dkwX0_number_1 ++ dktX0_number_2
def dkwX0_number_0 : List UInt8 := [42, 182, 0, 174, 133, 20, 0, 177, 20, 0, 179, 184, 0, 19, 154, 0, 15, 187, 0, 170, 89, 42]
abbrev dktX0_number_0 : List UInt8 := dkwX0_number_0 ++ dktX0_number_1
theorem dksX0_number_0 : cX0_number.data.toList.drop 0 = dktX0_number_0 := by decide +kernel
theorem dksX0_number_1 : cX0_number.data.toList.drop 22 = dktX0_number_1 := dk_seg dksX0_number_0 22 rfl rfl
theorem dksX0_number_2 : cX0_number.data.toList.drop 45 = dktX0_number_2 := dk_seg dksX0_number_1 23 rfl rfl
theorem dksX0_number_3 : cX0_number.data.toList.drop 68 = dktX0_number_3 := dk_seg dksX0_number_2 23 rfl rfl
theorem dksX0_number_4 : cX0_number.data.toList.drop 91 = dktX0_number_4 := dk_seg dksX0_number_3 23 rfl rfl
theorem dksX0_number_5 : cX0_number.data.toList.drop 115 = dktX0_number_5 := dk_seg dksX0_number_4 24 rfl rfl
theorem dX0_number_0 : decode cX0_number 0 = .ok (.aload_n 0, 1) := dk_42 (dk_at dksX0_number_0 0 rfl rfl)
theorem dX0_number_1 : decode cX0_number 1 = .ok (.invokevirtual 174, 3) := dk_182 0 174 (dk_at dksX0_number_0 1 rfl rfl)
theorem dX0_number_4 : decode cX0_number 4 = .ok (.i2l, 1) := dk_133 (dk_at dksX0_number_0 4 rfl rfl)
theorem dX0_number_5 : decode cX0_number 5 = .ok (.ldc2_w 177, 3) := dk_20 0 177 (dk_at dksX0_number_0 5 rfl rfl)
theorem dX0_number_8 : decode cX0_number 8 = .ok (.ldc2_w 179, 3) := dk_20 0 179 (dk_at dksX0_number_0 8 rfl rfl)
theorem dX0_number_11 : decode cX0_number 11 = .ok (.invokestatic 19, 3) := dk_184 0 19 (dk_at dksX0_number_0 11 rfl rfl)
theorem dX0_number_14 : decode cX0_number 14 = .ok (.ifCond .ne 15, 3) := dk_154 0 15 (dk_at dksX0_number_0 14 rfl rfl)
theorem dX0_number_17 : decode cX0_number 17 = .ok (.new 170, 3) := dk_187 0 170 (dk_at dksX0_number_0 17 rfl rfl)
theorem dX0_number_20 : decode cX0_number 20 = .ok (.dup, 1) := dk_89 (dk_at dksX0_number_0 20 rfl rfl)
theorem dX0_number_21 : decode cX0_number 21 = .ok (.aload_n 0, 1) := dk_42 (dk_at dksX0_number_0 21 rfl rfl)
theorem dX0_number_22 : decode cX0_number 22 = .ok (.getfield 167, 3) := dk_180 0 167 (dk_at dksX0_number_1 0 rfl rfl)
theorem dX0_number_25 : decode cX0_number 25 = .ok (.invokespecial 172, 3) := dk_183 0 172 (dk_at dksX0_number_1 3 rfl rfl)
theorem dX0_number_28 : decode cX0_number 28 = .ok (.athrow, 1) := dk_191 (dk_at dksX0_number_1 6 rfl rfl)
theorem dX0_number_29 : decode cX0_number 29 = .ok (.aload_n 0, 1) := dk_42 (dk_at dksX0_number_1 7 rfl rfl)
theorem dX0_number_30 : decode cX0_number 30 = .ok (.getfield 167, 3) := dk_180 0 167 (dk_at dksX0_number_1 8 rfl rfl)
theorem dX0_number_33 : decode cX0_number 33 = .ok (.istore_n 3, 1) := dk_62 (dk_at dksX0_number_1 11 rfl rfl)
theorem dX0_number_34 : decode cX0_number 34 = .ok (.iconst 0, 1) := dk_3 (dk_at dksX0_number_1 12 rfl rfl)
theorem dX0_number_35 : decode cX0_number 35 = .ok (.istore 4, 2) := dk_54 4 (dk_at dksX0_number_1 13 rfl rfl)
theorem dX0_number_37 : decode cX0_number 37 = .ok (.aload_n 0, 1) := dk_42 (dk_at dksX0_number_1 15 rfl rfl)
theorem dX0_number_38 : decode cX0_number 38 = .ok (.getfield 167, 3) := dk_180 0 167 (dk_at dksX0_number_1 16 rfl rfl)
theorem dX0_number_41 : decode cX0_number 41 = .ok (.aload_n 0, 1) := dk_42 (dk_at dksX0_number_1 19 rfl rfl)
theorem dX0_number_42 : decode cX0_number 42 = .ok (.getfield 161, 3) := dk_180 0 161 (dk_at dksX0_number_1 20 rfl rfl)
theorem dX0_number_45 : decode cX0_number 45 = .ok (.if_icmp .ge 65, 3) := dk_162 0 65 (dk_at dksX0_number_2 0 rfl rfl)
theorem dX0_number_48 : decode cX0_number 48 = .ok (.aload_n 0, 1) := dk_42 (dk_at dksX0_number_2 3 rfl rfl)
theorem dX0_number_49 : decode cX0_number 49 = .ok (.getfield 167, 3) := dk_180 0 167 (dk_at dksX0_number_2 4 rfl rfl)
theorem dX0_number_52 : decode cX0_number 52 = .ok (.iload_n 3, 1) := dk_29 (dk_at dksX0_number_2 7 rfl rfl)
theorem dX0_number_53 : decode cX0_number 53 = .ok (.iconst 2, 1) := dk_5 (dk_at dksX0_number_2 8 rfl rfl)
theorem dX0_number_54 : decode cX0_number 54 = .ok (.iadd, 1) := dk_96 (dk_at dksX0_number_2 9 rfl rfl)
theorem dX0_number_55 : decode cX0_number 55 = .ok (.if_icmp .ge 55, 3) := dk_162 0 55 (dk_at dksX0_number_2 10 rfl rfl)
theorem dX0_number_58 : decode cX0_number 58 = .ok (.aload_n 0, 1) := dk_42 (dk_at dksX0_number_2 13 rfl rfl)
theorem dX0_number_59 : decode cX0_number 59 = .ok (.getfield 164, 3) := dk_180 0 164 (dk_at dksX0_number_2 14 rfl rfl)
theorem dX0_number_62 : decode cX0_number 62 = .ok (.aload_n 0, 1) := dk_42 (dk_at dksX0_number_2 17 rfl rfl)
theorem dX0_number_63 : decode cX0_number 63 = .ok (.getfield 167, 3) := dk_180 0 167 (dk_at dksX0_number_2 18 rfl rfl)
theorem dX0_number_66 : decode cX0_number 66 = .ok (.baload, 1) := dk_51 (dk_at dksX0_number_2 21 rfl rfl)
theorem dX0_number_67 : decode cX0_number 67 = .ok (.i2l, 1) := dk_133 (dk_at dksX0_number_2 22 rfl rfl)
theorem dX0_number_68 : decode cX0_number 68 = .ok (.ldc2_w 177, 3) := dk_20 0 177 (dk_at dksX0_number_3 0 rfl rfl)
theorem dX0_number_71 : decode cX0_number 71 = .ok (.ldc2_w 179, 3) := dk_20 0 179 (dk_at dksX0_number_3 3 rfl rfl)
theorem dX0_number_74 : decode cX0_number 74 = .ok (.invokestatic 19, 3) := dk_184 0 19 (dk_at dksX0_number_3 6 rfl rfl)
theorem dX0_number_77 : decode cX0_number 77 = .ok (.ifCond .eq 33, 3) := dk_153 0 33 (dk_at dksX0_number_3 9 rfl rfl)
theorem dX0_number_80 : decode cX0_number 80 = .ok (.bipush 10, 2) := dk_16 10 (dk_at dksX0_number_3 12 rfl rfl)
theorem dX0_number_82 : decode cX0_number 82 = .ok (.iload 4, 2) := dk_21 4 (dk_at dksX0_number_3 14 rfl rfl)
theorem dX0_number_84 : decode cX0_number 84 = .ok (.imul, 1) := dk_104 (dk_at dksX0_number_3 16 rfl rfl)
theorem dX0_number_85 : decode cX0_number 85 = .ok (.aload_n 0, 1) := dk_42 (dk_at dksX0_number_3 17 rfl rfl)
theorem dX0_number_86 : decode cX0_number 86 = .ok (.getfield 164, 3) := dk_180 0 164 (dk_at dksX0_number_3 18 rfl rfl)
theorem dX0_number_89 : decode cX0_number 89 = .ok (.aload_n 0, 1) := dk_42 (dk_at dksX0_number_3 21 rfl rfl)
theorem dX0_number_90 : decode cX0_number 90 = .ok (.dup, 1) := dk_89 (dk_at dksX0_number_3 22 rfl rfl)
theorem dX0_number_91 : decode cX0_number 91 = .ok (.getfield 167, 3) := dk_180 0 167 (dk_at dksX0_number_4 0 rfl rfl)
theorem dX0_number_94 : decode cX0_number 94 = .ok (.dup_x1, 1) := dk_90 (dk_at dksX0_number_4 3 rfl rfl)
theorem dX0_number_95 : decode cX0_number 95 = .ok (.iconst 1, 1) := dk_4 (dk_at dksX0_number_4 4 rfl rfl)
theorem dX0_number_96 : decode cX0_number 96 = .ok (.iadd, 1) := dk_96 (dk_at dksX0_number_4 5 rfl rfl)
theorem dX0_number_97 : decode cX0_number 97 = .ok (.putfield 167, 3) := dk_181 0 167 (dk_at dksX0_number_4 6 rfl rfl)
theorem dX0_number_100 : decode cX0_number 100 = .ok (.baload, 1) := dk_51 (dk_at dksX0_number_4 9 rfl rfl)
theorem dX0_number_101 : decode cX0_number 101 = .ok (.iadd, 1) := dk_96 (dk_at dksX0_number_4 10 rfl rfl)
theorem dX0_number_102 : decode cX0_number 102 = .ok (.bipush 48, 2) := dk_16 48 (dk_at dksX0_number_4 11 rfl rfl)
theorem dX0_number_104 : decode cX0_number 104 = .ok (.isub, 1) := dk_100 (dk_at dksX0_number_4 13 rfl rfl)
theorem dX0_number_105 : decode cX0_number 105 = .ok (.istore 4, 2) := dk_54 4 (dk_at dksX0_number_4 14 rfl rfl)
theorem dX0_number_107 : decode cX0_number 107 = .ok (.goto (-70), 3) := dk_167 255 186 (dk_at dksX0_number_4 16 rfl rfl)
theorem dX0_number_110 : decode cX0_number 110 = .ok (.iload 4, 2) := dk_21 4 (dk_at dksX0_number_4 19 rfl rfl)
theorem dX0_number_112 : decode cX0_number 112 = .ok (.i2l, 1) := dk_133 (dk_at dksX0_number_4 21 rfl rfl)
theorem dX0_number_113 : decode cX0_number 113 = .ok (.iload_n 1, 1) := dk_27 (dk_at dksX0_number_4 22 rfl rfl)
theorem dX0_number_114 : decode cX0_number 114 = .ok (.i2l, 1) := dk_133 (dk_at dksX0_number_4 23 rfl rfl)
theorem dX0_number_115 : decode cX0_number 115 = .ok (.iload_n 2, 1) := dk_28 (dk_at dksX0_number_5 0 rfl rfl)
theorem dX0_number_116 : decode cX0_number 116 = .ok (.i2l, 1) := dk_133 (dk_at dksX0_number_5 1 rfl rfl)
theorem dX0_number_117 : decode cX0_number 117 = .ok (.invokestatic 19, 3) := dk_184 0 19 (dk_at dksX0_number_5 2 rfl rfl)
theorem dX0_number_120 : decode cX0_number 120 = .ok (.ifCond .ne 12, 3) := dk_154 0 12 (dk_at dksX0_number_5 5 rfl rfl)
theorem dX0_number_123 : decode cX0_number 123 = .ok (.new 170, 3) := dk_187 0 170 (dk_at dksX0_number_5 8 rfl rfl)
theorem dX0_number_126 : decode cX0_number 126 = .ok (.dup, 1) := dk_89 (dk_at dksX0_number_5 11 rfl rfl)
theorem dX0_number_127 : decode cX0_number 127 = .ok (.iload_n 3, 1) := dk_29 (dk_at dksX0_number_5 12 rfl rfl)
theorem dX0_number_128 : decode cX0_number 128 = .ok (.invokespecial 172, 3) := dk_183 0 172 (dk_at dksX0_number_5 13 rfl rfl)
theorem dX0_number_131 : decode cX0_number 131 = .ok (.athrow, 1) := dk_191 (dk_at dksX0_number_5 16 rfl rfl)
theorem dX0_number_132 : decode cX0_number 132 = .ok (.iload 4, 2) := dk_21 4 (dk_at dksX0_number_5 17 rfl rfl)
theorem dX0_number_134 : decode cX0_number 134 = .ok (.ireturn, 1) := dk_172 (dk_at dksX0_number_5 19 rfl rfl)
abbrev cX0_here : ByteArray := prog_1_method_21_code
def yX0_here : MethodName := ⟨RX0, "here", "()I"⟩
def dkwX0_here_2 : List UInt8 := [162, 0, 15, 42, 180, 0, 164, 42, 180, 0, 167, 51, 167, 0, 4, 3, 172]
abbrev dktX0_here_2 : List UInt8 := dkwX0_here_2 ++ []
def dkwX0_here_1 : List UInt8 := [160, 0, 16, 42, 89, 180, 0, 167, 4, 96, 181, 0, 167, 167, 255, 221, 42, 180, 0, 167, 42, 180, 0, 161]
abbrev dktX0_here_1 : List UInt8 := dkwX0_here_1 ++ dktX0_here_2
def dkwX0_here_0 : List UInt8 := [42, 180, 0, 167, 42, 180, 0, 161, 162, 0, 30, 42, 180, 0, 164, 42, 180, 0, 167, 51, 16, 32]
abbrev dktX0_here_0 : List UInt8 := dkwX0_here_0 ++ dktX0_here_1
theorem dksX0_here_0 : cX0_here.data.toList.drop 0 = dktX0_here_0 := by decide +kernel
theorem dksX0_here_1 : cX0_here.data.toList.drop 22 = dktX0_here_1 := dk_seg dksX0_here_0 22 rfl rfl
theorem dksX0_here_2 : cX0_here.data.toList.drop 46 = dktX0_here_2 := dk_seg dksX0_here_1 24 rfl rfl
theorem dX0_here_0 : decode cX0_here 0 = .ok (.aload_n 0, 1) := dk_42 (dk_at dksX0_here_0 0 rfl rfl)
theorem dX0_here_1 : decode cX0_here 1 = .ok (.getfield 167, 3) := dk_180 0 167 (dk_at dksX0_here_0 1 rfl rfl)
theorem dX0_here_4 : decode cX0_here 4 = .ok (.aload_n 0, 1) := dk_42 (dk_at dksX0_here_0 4 rfl rfl)
theorem dX0_here_5 : decode cX0_here 5 = .ok (.getfield 161, 3) := dk_180 0 161 (dk_at dksX0_here_0 5 rfl rfl)
theorem dX0_here_8 : decode cX0_here 8 = .ok (.if_icmp .ge 30, 3) := dk_162 0 30 (dk_at dksX0_here_0 8 rfl rfl)
theorem dX0_here_11 : decode cX0_here 11 = .ok (.aload_n 0, 1) := dk_42 (dk_at dksX0_here_0 11 rfl rfl)
theorem dX0_here_12 : decode cX0_here 12 = .ok (.getfield 164, 3) := dk_180 0 164 (dk_at dksX0_here_0 12 rfl rfl)
theorem dX0_here_15 : decode cX0_here 15 = .ok (.aload_n 0, 1) := dk_42 (dk_at dksX0_here_0 15 rfl rfl)
theorem dX0_here_16 : decode cX0_here 16 = .ok (.getfield 167, 3) := dk_180 0 167 (dk_at dksX0_here_0 16 rfl rfl)
theorem dX0_here_19 : decode cX0_here 19 = .ok (.baload, 1) := dk_51 (dk_at dksX0_here_0 19 rfl rfl)
theorem dX0_here_20 : decode cX0_here 20 = .ok (.bipush 32, 2) := dk_16 32 (dk_at dksX0_here_0 20 rfl rfl)
theorem dX0_here_22 : decode cX0_here 22 = .ok (.if_icmp .ne 16, 3) := dk_160 0 16 (dk_at dksX0_here_1 0 rfl rfl)
theorem dX0_here_25 : decode cX0_here 25 = .ok (.aload_n 0, 1) := dk_42 (dk_at dksX0_here_1 3 rfl rfl)
theorem dX0_here_26 : decode cX0_here 26 = .ok (.dup, 1) := dk_89 (dk_at dksX0_here_1 4 rfl rfl)
theorem dX0_here_27 : decode cX0_here 27 = .ok (.getfield 167, 3) := dk_180 0 167 (dk_at dksX0_here_1 5 rfl rfl)
theorem dX0_here_30 : decode cX0_here 30 = .ok (.iconst 1, 1) := dk_4 (dk_at dksX0_here_1 8 rfl rfl)
theorem dX0_here_31 : decode cX0_here 31 = .ok (.iadd, 1) := dk_96 (dk_at dksX0_here_1 9 rfl rfl)
theorem dX0_here_32 : decode cX0_here 32 = .ok (.putfield 167, 3) := dk_181 0 167 (dk_at dksX0_here_1 10 rfl rfl)
theorem dX0_here_35 : decode cX0_here 35 = .ok (.goto (-35), 3) := dk_167 255 221 (dk_at dksX0_here_1 13 rfl rfl)
theorem dX0_here_38 : decode cX0_here 38 = .ok (.aload_n 0, 1) := dk_42 (dk_at dksX0_here_1 16 rfl rfl)
theorem dX0_here_39 : decode cX0_here 39 = .ok (.getfield 167, 3) := dk_180 0 167 (dk_at dksX0_here_1 17 rfl rfl)
theorem dX0_here_42 : decode cX0_here 42 = .ok (.aload_n 0, 1) := dk_42 (dk_at dksX0_here_1 20 rfl rfl)
theorem dX0_here_43 : decode cX0_here 43 = .ok (.getfield 161, 3) := dk_180 0 161 (dk_at dksX0_here_1 21 rfl rfl)
theorem dX0_here_46 : decode cX0_here 46 = .ok (.if_icmp .ge 15, 3) := dk_162 0 15 (dk_at dksX0_here_2 0 rfl rfl)
theorem dX0_here_49 : decode cX0_here 49 = .ok (.aload_n 0, 1) := dk_42 (dk_at dksX0_here_2 3 rfl rfl)
theorem dX0_here_50 : decode cX0_here 50 = .ok (.getfield 164, 3) := dk_180 0 164 (dk_at dksX0_here_2 4 rfl rfl)
theorem dX0_here_53 : decode cX0_here 53 = .ok (.aload_n 0, 1) := dk_42 (dk_at dksX0_here_2 7 rfl rfl)
theorem dX0_here_54 : decode cX0_here 54 = .ok (.getfield 167, 3) := dk_180 0 167 (dk_at dksX0_here_2 8 rfl rfl)
theorem dX0_here_57 : decode cX0_here 57 = .ok (.baload, 1) := dk_51 (dk_at dksX0_here_2 11 rfl rfl)
theorem dX0_here_58 : decode cX0_here 58 = .ok (.goto 4, 3) := dk_167 0 4 (dk_at dksX0_here_2 12 rfl rfl)
theorem dX0_here_61 : decode cX0_here 61 = .ok (.iconst 0, 1) := dk_3 (dk_at dksX0_here_2 15 rfl rfl)
theorem dX0_here_62 : decode cX0_here 62 = .ok (.ireturn, 1) := dk_172 (dk_at dksX0_here_2 16 rfl rfl)
abbrev cX0_must : ByteArray := prog_1_method_22_code
def yX0_must : MethodName := ⟨RX0, "must", "(Z)V"⟩
def dkwX0_must_1 : List UInt8 := [181, 0, 167, 177]
abbrev dktX0_must_1 : List UInt8 := dkwX0_must_1 ++ []
def dkwX0_must_0 : List UInt8 := [27, 154, 0, 15, 187, 0, 170, 89, 42, 180, 0, 167, 183, 0, 172, 191, 42, 89, 180, 0, 167, 4, 96]
abbrev dktX0_must_0 : List UInt8 := dkwX0_must_0 ++ dktX0_must_1
theorem dksX0_must_0 : cX0_must.data.toList.drop 0 = dktX0_must_0 := by decide +kernel
theorem dksX0_must_1 : cX0_must.data.toList.drop 23 = dktX0_must_1 := dk_seg dksX0_must_0 23 rfl rfl
theorem dX0_must_0 : decode cX0_must 0 = .ok (.iload_n 1, 1) := dk_27 (dk_at dksX0_must_0 0 rfl rfl)
theorem dX0_must_1 : decode cX0_must 1 = .ok (.ifCond .ne 15, 3) := dk_154 0 15 (dk_at dksX0_must_0 1 rfl rfl)
theorem dX0_must_4 : decode cX0_must 4 = .ok (.new 170, 3) := dk_187 0 170 (dk_at dksX0_must_0 4 rfl rfl)
theorem dX0_must_7 : decode cX0_must 7 = .ok (.dup, 1) := dk_89 (dk_at dksX0_must_0 7 rfl rfl)
theorem dX0_must_8 : decode cX0_must 8 = .ok (.aload_n 0, 1) := dk_42 (dk_at dksX0_must_0 8 rfl rfl)
theorem dX0_must_9 : decode cX0_must 9 = .ok (.getfield 167, 3) := dk_180 0 167 (dk_at dksX0_must_0 9 rfl rfl)
theorem dX0_must_12 : decode cX0_must 12 = .ok (.invokespecial 172, 3) := dk_183 0 172 (dk_at dksX0_must_0 12 rfl rfl)
theorem dX0_must_15 : decode cX0_must 15 = .ok (.athrow, 1) := dk_191 (dk_at dksX0_must_0 15 rfl rfl)
theorem dX0_must_16 : decode cX0_must 16 = .ok (.aload_n 0, 1) := dk_42 (dk_at dksX0_must_0 16 rfl rfl)
theorem dX0_must_17 : decode cX0_must 17 = .ok (.dup, 1) := dk_89 (dk_at dksX0_must_0 17 rfl rfl)
theorem dX0_must_18 : decode cX0_must 18 = .ok (.getfield 167, 3) := dk_180 0 167 (dk_at dksX0_must_0 18 rfl rfl)
theorem dX0_must_21 : decode cX0_must 21 = .ok (.iconst 1, 1) := dk_4 (dk_at dksX0_must_0 21 rfl rfl)
theorem dX0_must_22 : decode cX0_must 22 = .ok (.iadd, 1) := dk_96 (dk_at dksX0_must_0 22 rfl rfl)
theorem dX0_must_23 : decode cX0_must 23 = .ok (.putfield 167, 3) := dk_181 0 167 (dk_at dksX0_must_1 0 rfl rfl)
theorem dX0_must_26 : decode cX0_must 26 = .ok (.return_, 1) := dk_177 (dk_at dksX0_must_1 3 rfl rfl)
abbrev cX0_readsPeople : ByteArray := prog_1_method_26_code
def yX0_readsPeople : MethodName := ⟨RX0, "readsPeople", "()I"⟩
def dkwX0_readsPeople_4 : List UInt8 := [20, 0, 106, 184, 0, 19, 182, 0, 188, 42, 180, 0, 192, 8, 27, 104, 7, 96, 28, 79, 167, 255, 146]
abbrev dktX0_readsPeople_4 : List UInt8 := dkwX0_readsPeople_4 ++ []
def dkwX0_readsPeople_3 : List UInt8 := [160, 0, 7, 4, 167, 0, 4, 3, 182, 0, 188, 42, 182, 0, 174, 16, 48, 100, 61, 42, 28, 133, 10]
abbrev dktX0_readsPeople_3 : List UInt8 := dkwX0_readsPeople_3 ++ dktX0_readsPeople_4
def dkwX0_readsPeople_2 : List UInt8 := [180, 0, 192, 8, 27, 104, 6, 96, 42, 4, 16, 20, 182, 0, 195, 79, 42, 42, 182, 0, 174, 16, 120]
abbrev dktX0_readsPeople_2 : List UInt8 := dkwX0_readsPeople_2 ++ dktX0_readsPeople_3
def dkwX0_readsPeople_1 : List UInt8 := [182, 0, 174, 16, 45, 160, 0, 13, 27, 16, 8, 162, 0, 7, 4, 167, 0, 4, 3, 182, 0, 188, 42]
abbrev dktX0_readsPeople_1 : List UInt8 := dkwX0_readsPeople_1 ++ dktX0_readsPeople_2
def dkwX0_readsPeople_0 : List UInt8 := [3, 60, 42, 8, 27, 132, 1, 1, 104, 182, 0, 199, 42, 182, 0, 174, 154, 0, 5, 27, 172, 42, 42]
abbrev dktX0_readsPeople_0 : List UInt8 := dkwX0_readsPeople_0 ++ dktX0_readsPeople_1
theorem dksX0_readsPeople_0 : cX0_readsPeople.data.toList.drop 0 = dktX0_readsPeople_0 := by decide +kernel
theorem dksX0_readsPeople_1 : cX0_readsPeople.data.toList.drop 23 = dktX0_readsPeople_1 := dk_seg dksX0_readsPeople_0 23 rfl rfl
theorem dksX0_readsPeople_2 : cX0_readsPeople.data.toList.drop 46 = dktX0_readsPeople_2 := dk_seg dksX0_readsPeople_1 23 rfl rfl
theorem dksX0_readsPeople_3 : cX0_readsPeople.data.toList.drop 69 = dktX0_readsPeople_3 := dk_seg dksX0_readsPeople_2 23 rfl rfl
theorem dksX0_readsPeople_4 : cX0_readsPeople.data.toList.drop 92 = dktX0_readsPeople_4 := dk_seg dksX0_readsPeople_3 23 rfl rfl
theorem dX0_readsPeople_0 : decode cX0_readsPeople 0 = .ok (.iconst 0, 1) := dk_3 (dk_at dksX0_readsPeople_0 0 rfl rfl)
theorem dX0_readsPeople_1 : decode cX0_readsPeople 1 = .ok (.istore_n 1, 1) := dk_60 (dk_at dksX0_readsPeople_0 1 rfl rfl)
theorem dX0_readsPeople_2 : decode cX0_readsPeople 2 = .ok (.aload_n 0, 1) := dk_42 (dk_at dksX0_readsPeople_0 2 rfl rfl)
theorem dX0_readsPeople_3 : decode cX0_readsPeople 3 = .ok (.iconst 5, 1) := dk_8 (dk_at dksX0_readsPeople_0 3 rfl rfl)
theorem dX0_readsPeople_4 : decode cX0_readsPeople 4 = .ok (.iload_n 1, 1) := dk_27 (dk_at dksX0_readsPeople_0 4 rfl rfl)
theorem dX0_readsPeople_5 : decode cX0_readsPeople 5 = .ok (.iinc 1 1, 3) := dk_132 1 1 (dk_at dksX0_readsPeople_0 5 rfl rfl)
theorem dX0_readsPeople_8 : decode cX0_readsPeople 8 = .ok (.imul, 1) := dk_104 (dk_at dksX0_readsPeople_0 8 rfl rfl)
theorem dX0_readsPeople_9 : decode cX0_readsPeople 9 = .ok (.invokevirtual 199, 3) := dk_182 0 199 (dk_at dksX0_readsPeople_0 9 rfl rfl)
theorem dX0_readsPeople_12 : decode cX0_readsPeople 12 = .ok (.aload_n 0, 1) := dk_42 (dk_at dksX0_readsPeople_0 12 rfl rfl)
theorem dX0_readsPeople_13 : decode cX0_readsPeople 13 = .ok (.invokevirtual 174, 3) := dk_182 0 174 (dk_at dksX0_readsPeople_0 13 rfl rfl)
theorem dX0_readsPeople_16 : decode cX0_readsPeople 16 = .ok (.ifCond .ne 5, 3) := dk_154 0 5 (dk_at dksX0_readsPeople_0 16 rfl rfl)
theorem dX0_readsPeople_19 : decode cX0_readsPeople 19 = .ok (.iload_n 1, 1) := dk_27 (dk_at dksX0_readsPeople_0 19 rfl rfl)
theorem dX0_readsPeople_20 : decode cX0_readsPeople 20 = .ok (.ireturn, 1) := dk_172 (dk_at dksX0_readsPeople_0 20 rfl rfl)
theorem dX0_readsPeople_21 : decode cX0_readsPeople 21 = .ok (.aload_n 0, 1) := dk_42 (dk_at dksX0_readsPeople_0 21 rfl rfl)
theorem dX0_readsPeople_22 : decode cX0_readsPeople 22 = .ok (.aload_n 0, 1) := dk_42 (dk_at dksX0_readsPeople_0 22 rfl rfl)
theorem dX0_readsPeople_23 : decode cX0_readsPeople 23 = .ok (.invokevirtual 174, 3) := dk_182 0 174 (dk_at dksX0_readsPeople_1 0 rfl rfl)
theorem dX0_readsPeople_26 : decode cX0_readsPeople 26 = .ok (.bipush 45, 2) := dk_16 45 (dk_at dksX0_readsPeople_1 3 rfl rfl)
theorem dX0_readsPeople_28 : decode cX0_readsPeople 28 = .ok (.if_icmp .ne 13, 3) := dk_160 0 13 (dk_at dksX0_readsPeople_1 5 rfl rfl)
theorem dX0_readsPeople_31 : decode cX0_readsPeople 31 = .ok (.iload_n 1, 1) := dk_27 (dk_at dksX0_readsPeople_1 8 rfl rfl)
theorem dX0_readsPeople_32 : decode cX0_readsPeople 32 = .ok (.bipush 8, 2) := dk_16 8 (dk_at dksX0_readsPeople_1 9 rfl rfl)
theorem dX0_readsPeople_34 : decode cX0_readsPeople 34 = .ok (.if_icmp .ge 7, 3) := dk_162 0 7 (dk_at dksX0_readsPeople_1 11 rfl rfl)
theorem dX0_readsPeople_37 : decode cX0_readsPeople 37 = .ok (.iconst 1, 1) := dk_4 (dk_at dksX0_readsPeople_1 14 rfl rfl)
theorem dX0_readsPeople_38 : decode cX0_readsPeople 38 = .ok (.goto 4, 3) := dk_167 0 4 (dk_at dksX0_readsPeople_1 15 rfl rfl)
theorem dX0_readsPeople_41 : decode cX0_readsPeople 41 = .ok (.iconst 0, 1) := dk_3 (dk_at dksX0_readsPeople_1 18 rfl rfl)
theorem dX0_readsPeople_42 : decode cX0_readsPeople 42 = .ok (.invokevirtual 188, 3) := dk_182 0 188 (dk_at dksX0_readsPeople_1 19 rfl rfl)
theorem dX0_readsPeople_45 : decode cX0_readsPeople 45 = .ok (.aload_n 0, 1) := dk_42 (dk_at dksX0_readsPeople_1 22 rfl rfl)
theorem dX0_readsPeople_46 : decode cX0_readsPeople 46 = .ok (.getfield 192, 3) := dk_180 0 192 (dk_at dksX0_readsPeople_2 0 rfl rfl)
theorem dX0_readsPeople_49 : decode cX0_readsPeople 49 = .ok (.iconst 5, 1) := dk_8 (dk_at dksX0_readsPeople_2 3 rfl rfl)
theorem dX0_readsPeople_50 : decode cX0_readsPeople 50 = .ok (.iload_n 1, 1) := dk_27 (dk_at dksX0_readsPeople_2 4 rfl rfl)
theorem dX0_readsPeople_51 : decode cX0_readsPeople 51 = .ok (.imul, 1) := dk_104 (dk_at dksX0_readsPeople_2 5 rfl rfl)
theorem dX0_readsPeople_52 : decode cX0_readsPeople 52 = .ok (.iconst 3, 1) := dk_6 (dk_at dksX0_readsPeople_2 6 rfl rfl)
theorem dX0_readsPeople_53 : decode cX0_readsPeople 53 = .ok (.iadd, 1) := dk_96 (dk_at dksX0_readsPeople_2 7 rfl rfl)
theorem dX0_readsPeople_54 : decode cX0_readsPeople 54 = .ok (.aload_n 0, 1) := dk_42 (dk_at dksX0_readsPeople_2 8 rfl rfl)
theorem dX0_readsPeople_55 : decode cX0_readsPeople 55 = .ok (.iconst 1, 1) := dk_4 (dk_at dksX0_readsPeople_2 9 rfl rfl)
theorem dX0_readsPeople_56 : decode cX0_readsPeople 56 = .ok (.bipush 20, 2) := dk_16 20 (dk_at dksX0_readsPeople_2 10 rfl rfl)
theorem dX0_readsPeople_58 : decode cX0_readsPeople 58 = .ok (.invokevirtual 195, 3) := dk_182 0 195 (dk_at dksX0_readsPeople_2 12 rfl rfl)
theorem dX0_readsPeople_61 : decode cX0_readsPeople 61 = .ok (.iastore, 1) := dk_79 (dk_at dksX0_readsPeople_2 15 rfl rfl)
theorem dX0_readsPeople_62 : decode cX0_readsPeople 62 = .ok (.aload_n 0, 1) := dk_42 (dk_at dksX0_readsPeople_2 16 rfl rfl)
theorem dX0_readsPeople_63 : decode cX0_readsPeople 63 = .ok (.aload_n 0, 1) := dk_42 (dk_at dksX0_readsPeople_2 17 rfl rfl)
theorem dX0_readsPeople_64 : decode cX0_readsPeople 64 = .ok (.invokevirtual 174, 3) := dk_182 0 174 (dk_at dksX0_readsPeople_2 18 rfl rfl)
theorem dX0_readsPeople_67 : decode cX0_readsPeople 67 = .ok (.bipush 120, 2) := dk_16 120 (dk_at dksX0_readsPeople_2 21 rfl rfl)
theorem dX0_readsPeople_69 : decode cX0_readsPeople 69 = .ok (.if_icmp .ne 7, 3) := dk_160 0 7 (dk_at dksX0_readsPeople_3 0 rfl rfl)
theorem dX0_readsPeople_72 : decode cX0_readsPeople 72 = .ok (.iconst 1, 1) := dk_4 (dk_at dksX0_readsPeople_3 3 rfl rfl)
theorem dX0_readsPeople_73 : decode cX0_readsPeople 73 = .ok (.goto 4, 3) := dk_167 0 4 (dk_at dksX0_readsPeople_3 4 rfl rfl)
theorem dX0_readsPeople_76 : decode cX0_readsPeople 76 = .ok (.iconst 0, 1) := dk_3 (dk_at dksX0_readsPeople_3 7 rfl rfl)
theorem dX0_readsPeople_77 : decode cX0_readsPeople 77 = .ok (.invokevirtual 188, 3) := dk_182 0 188 (dk_at dksX0_readsPeople_3 8 rfl rfl)
theorem dX0_readsPeople_80 : decode cX0_readsPeople 80 = .ok (.aload_n 0, 1) := dk_42 (dk_at dksX0_readsPeople_3 11 rfl rfl)
theorem dX0_readsPeople_81 : decode cX0_readsPeople 81 = .ok (.invokevirtual 174, 3) := dk_182 0 174 (dk_at dksX0_readsPeople_3 12 rfl rfl)
theorem dX0_readsPeople_84 : decode cX0_readsPeople 84 = .ok (.bipush 48, 2) := dk_16 48 (dk_at dksX0_readsPeople_3 15 rfl rfl)
theorem dX0_readsPeople_86 : decode cX0_readsPeople 86 = .ok (.isub, 1) := dk_100 (dk_at dksX0_readsPeople_3 17 rfl rfl)
theorem dX0_readsPeople_87 : decode cX0_readsPeople 87 = .ok (.istore_n 2, 1) := dk_61 (dk_at dksX0_readsPeople_3 18 rfl rfl)
theorem dX0_readsPeople_88 : decode cX0_readsPeople 88 = .ok (.aload_n 0, 1) := dk_42 (dk_at dksX0_readsPeople_3 19 rfl rfl)
theorem dX0_readsPeople_89 : decode cX0_readsPeople 89 = .ok (.iload_n 2, 1) := dk_28 (dk_at dksX0_readsPeople_3 20 rfl rfl)
theorem dX0_readsPeople_90 : decode cX0_readsPeople 90 = .ok (.i2l, 1) := dk_133 (dk_at dksX0_readsPeople_3 21 rfl rfl)
theorem dX0_readsPeople_91 : decode cX0_readsPeople 91 = .ok (.lconst 1, 1) := dk_10 (dk_at dksX0_readsPeople_3 22 rfl rfl)
theorem dX0_readsPeople_92 : decode cX0_readsPeople 92 = .ok (.ldc2_w 106, 3) := dk_20 0 106 (dk_at dksX0_readsPeople_4 0 rfl rfl)
theorem dX0_readsPeople_95 : decode cX0_readsPeople 95 = .ok (.invokestatic 19, 3) := dk_184 0 19 (dk_at dksX0_readsPeople_4 3 rfl rfl)
theorem dX0_readsPeople_98 : decode cX0_readsPeople 98 = .ok (.invokevirtual 188, 3) := dk_182 0 188 (dk_at dksX0_readsPeople_4 6 rfl rfl)
theorem dX0_readsPeople_101 : decode cX0_readsPeople 101 = .ok (.aload_n 0, 1) := dk_42 (dk_at dksX0_readsPeople_4 9 rfl rfl)
theorem dX0_readsPeople_102 : decode cX0_readsPeople 102 = .ok (.getfield 192, 3) := dk_180 0 192 (dk_at dksX0_readsPeople_4 10 rfl rfl)
theorem dX0_readsPeople_105 : decode cX0_readsPeople 105 = .ok (.iconst 5, 1) := dk_8 (dk_at dksX0_readsPeople_4 13 rfl rfl)
theorem dX0_readsPeople_106 : decode cX0_readsPeople 106 = .ok (.iload_n 1, 1) := dk_27 (dk_at dksX0_readsPeople_4 14 rfl rfl)
theorem dX0_readsPeople_107 : decode cX0_readsPeople 107 = .ok (.imul, 1) := dk_104 (dk_at dksX0_readsPeople_4 15 rfl rfl)
theorem dX0_readsPeople_108 : decode cX0_readsPeople 108 = .ok (.iconst 4, 1) := dk_7 (dk_at dksX0_readsPeople_4 16 rfl rfl)
theorem dX0_readsPeople_109 : decode cX0_readsPeople 109 = .ok (.iadd, 1) := dk_96 (dk_at dksX0_readsPeople_4 17 rfl rfl)
theorem dX0_readsPeople_110 : decode cX0_readsPeople 110 = .ok (.iload_n 2, 1) := dk_28 (dk_at dksX0_readsPeople_4 18 rfl rfl)
theorem dX0_readsPeople_111 : decode cX0_readsPeople 111 = .ok (.iastore, 1) := dk_79 (dk_at dksX0_readsPeople_4 19 rfl rfl)
theorem dX0_readsPeople_112 : decode cX0_readsPeople 112 = .ok (.goto (-110), 3) := dk_167 255 146 (dk_at dksX0_readsPeople_4 20 rfl rfl)
abbrev cX0_readsPerson : ByteArray := prog_1_method_25_code
def yX0_readsPerson : MethodName := ⟨RX0, "readsPerson", "(I)V"⟩
def dkwX0_readsPerson_4 : List UInt8 := [180, 0, 192, 27, 5, 96, 29, 153, 0, 8, 16, 252, 167, 0, 10, 42, 3, 16, 99, 182, 0, 195, 79, 177]
abbrev dktX0_readsPerson_4 : List UInt8 := dkwX0_readsPerson_4 ++ []
def dkwX0_readsPerson_3 : List UInt8 := [42, 29, 154, 0, 12, 42, 182, 0, 174, 16, 64, 160, 0, 7, 4, 167, 0, 4, 3, 182, 0, 188, 42]
abbrev dktX0_readsPerson_3 : List UInt8 := dkwX0_readsPerson_3 ++ dktX0_readsPerson_4
def dkwX0_readsPerson_2 : List UInt8 := [96, 42, 4, 16, 30, 182, 0, 195, 79, 42, 182, 0, 174, 16, 126, 160, 0, 7, 4, 167, 0, 4, 3, 62]
abbrev dktX0_readsPerson_2 : List UInt8 := dkwX0_readsPerson_2 ++ dktX0_readsPerson_3
def dkwX0_readsPerson_1 : List UInt8 := [155, 0, 7, 4, 167, 0, 4, 3, 182, 0, 188, 42, 180, 0, 192, 27, 28, 79, 42, 180, 0, 192, 27, 4]
abbrev dktX0_readsPerson_1 : List UInt8 := dkwX0_readsPerson_1 ++ dktX0_readsPerson_2
def dkwX0_readsPerson_0 : List UInt8 := [42, 182, 0, 174, 154, 0, 8, 16, 252, 167, 0, 12, 18, 181, 42, 182, 0, 174, 182, 0, 183, 61, 42, 28]
abbrev dktX0_readsPerson_0 : List UInt8 := dkwX0_readsPerson_0 ++ dktX0_readsPerson_1
theorem dksX0_readsPerson_0 : cX0_readsPerson.data.toList.drop 0 = dktX0_readsPerson_0 := by decide +kernel
theorem dksX0_readsPerson_1 : cX0_readsPerson.data.toList.drop 24 = dktX0_readsPerson_1 := dk_seg dksX0_readsPerson_0 24 rfl rfl
theorem dksX0_readsPerson_2 : cX0_readsPerson.data.toList.drop 48 = dktX0_readsPerson_2 := dk_seg dksX0_readsPerson_1 24 rfl rfl
theorem dksX0_readsPerson_3 : cX0_readsPerson.data.toList.drop 72 = dktX0_readsPerson_3 := dk_seg dksX0_readsPerson_2 24 rfl rfl
theorem dksX0_readsPerson_4 : cX0_readsPerson.data.toList.drop 95 = dktX0_readsPerson_4 := dk_seg dksX0_readsPerson_3 23 rfl rfl
theorem dX0_readsPerson_0 : decode cX0_readsPerson 0 = .ok (.aload_n 0, 1) := dk_42 (dk_at dksX0_readsPerson_0 0 rfl rfl)
theorem dX0_readsPerson_1 : decode cX0_readsPerson 1 = .ok (.invokevirtual 174, 3) := dk_182 0 174 (dk_at dksX0_readsPerson_0 1 rfl rfl)
theorem dX0_readsPerson_4 : decode cX0_readsPerson 4 = .ok (.ifCond .ne 8, 3) := dk_154 0 8 (dk_at dksX0_readsPerson_0 4 rfl rfl)
theorem dX0_readsPerson_7 : decode cX0_readsPerson 7 = .ok (.bipush (-4), 2) := dk_16 252 (dk_at dksX0_readsPerson_0 7 rfl rfl)
theorem dX0_readsPerson_9 : decode cX0_readsPerson 9 = .ok (.goto 12, 3) := dk_167 0 12 (dk_at dksX0_readsPerson_0 9 rfl rfl)
theorem dX0_readsPerson_12 : decode cX0_readsPerson 12 = .ok (.ldc 181, 2) := dk_18 181 (dk_at dksX0_readsPerson_0 12 rfl rfl)
theorem dX0_readsPerson_14 : decode cX0_readsPerson 14 = .ok (.aload_n 0, 1) := dk_42 (dk_at dksX0_readsPerson_0 14 rfl rfl)
theorem dX0_readsPerson_15 : decode cX0_readsPerson 15 = .ok (.invokevirtual 174, 3) := dk_182 0 174 (dk_at dksX0_readsPerson_0 15 rfl rfl)
theorem dX0_readsPerson_18 : decode cX0_readsPerson 18 = .ok (.invokevirtual 183, 3) := dk_182 0 183 (dk_at dksX0_readsPerson_0 18 rfl rfl)
theorem dX0_readsPerson_21 : decode cX0_readsPerson 21 = .ok (.istore_n 2, 1) := dk_61 (dk_at dksX0_readsPerson_0 21 rfl rfl)
theorem dX0_readsPerson_22 : decode cX0_readsPerson 22 = .ok (.aload_n 0, 1) := dk_42 (dk_at dksX0_readsPerson_0 22 rfl rfl)
theorem dX0_readsPerson_23 : decode cX0_readsPerson 23 = .ok (.iload_n 2, 1) := dk_28 (dk_at dksX0_readsPerson_0 23 rfl rfl)
theorem dX0_readsPerson_24 : decode cX0_readsPerson 24 = .ok (.ifCond .lt 7, 3) := dk_155 0 7 (dk_at dksX0_readsPerson_1 0 rfl rfl)
theorem dX0_readsPerson_27 : decode cX0_readsPerson 27 = .ok (.iconst 1, 1) := dk_4 (dk_at dksX0_readsPerson_1 3 rfl rfl)
theorem dX0_readsPerson_28 : decode cX0_readsPerson 28 = .ok (.goto 4, 3) := dk_167 0 4 (dk_at dksX0_readsPerson_1 4 rfl rfl)
theorem dX0_readsPerson_31 : decode cX0_readsPerson 31 = .ok (.iconst 0, 1) := dk_3 (dk_at dksX0_readsPerson_1 7 rfl rfl)
theorem dX0_readsPerson_32 : decode cX0_readsPerson 32 = .ok (.invokevirtual 188, 3) := dk_182 0 188 (dk_at dksX0_readsPerson_1 8 rfl rfl)
theorem dX0_readsPerson_35 : decode cX0_readsPerson 35 = .ok (.aload_n 0, 1) := dk_42 (dk_at dksX0_readsPerson_1 11 rfl rfl)
theorem dX0_readsPerson_36 : decode cX0_readsPerson 36 = .ok (.getfield 192, 3) := dk_180 0 192 (dk_at dksX0_readsPerson_1 12 rfl rfl)
theorem dX0_readsPerson_39 : decode cX0_readsPerson 39 = .ok (.iload_n 1, 1) := dk_27 (dk_at dksX0_readsPerson_1 15 rfl rfl)
theorem dX0_readsPerson_40 : decode cX0_readsPerson 40 = .ok (.iload_n 2, 1) := dk_28 (dk_at dksX0_readsPerson_1 16 rfl rfl)
theorem dX0_readsPerson_41 : decode cX0_readsPerson 41 = .ok (.iastore, 1) := dk_79 (dk_at dksX0_readsPerson_1 17 rfl rfl)
theorem dX0_readsPerson_42 : decode cX0_readsPerson 42 = .ok (.aload_n 0, 1) := dk_42 (dk_at dksX0_readsPerson_1 18 rfl rfl)
theorem dX0_readsPerson_43 : decode cX0_readsPerson 43 = .ok (.getfield 192, 3) := dk_180 0 192 (dk_at dksX0_readsPerson_1 19 rfl rfl)
theorem dX0_readsPerson_46 : decode cX0_readsPerson 46 = .ok (.iload_n 1, 1) := dk_27 (dk_at dksX0_readsPerson_1 22 rfl rfl)
theorem dX0_readsPerson_47 : decode cX0_readsPerson 47 = .ok (.iconst 1, 1) := dk_4 (dk_at dksX0_readsPerson_1 23 rfl rfl)
theorem dX0_readsPerson_48 : decode cX0_readsPerson 48 = .ok (.iadd, 1) := dk_96 (dk_at dksX0_readsPerson_2 0 rfl rfl)
theorem dX0_readsPerson_49 : decode cX0_readsPerson 49 = .ok (.aload_n 0, 1) := dk_42 (dk_at dksX0_readsPerson_2 1 rfl rfl)
theorem dX0_readsPerson_50 : decode cX0_readsPerson 50 = .ok (.iconst 1, 1) := dk_4 (dk_at dksX0_readsPerson_2 2 rfl rfl)
theorem dX0_readsPerson_51 : decode cX0_readsPerson 51 = .ok (.bipush 30, 2) := dk_16 30 (dk_at dksX0_readsPerson_2 3 rfl rfl)
theorem dX0_readsPerson_53 : decode cX0_readsPerson 53 = .ok (.invokevirtual 195, 3) := dk_182 0 195 (dk_at dksX0_readsPerson_2 5 rfl rfl)
theorem dX0_readsPerson_56 : decode cX0_readsPerson 56 = .ok (.iastore, 1) := dk_79 (dk_at dksX0_readsPerson_2 8 rfl rfl)
theorem dX0_readsPerson_57 : decode cX0_readsPerson 57 = .ok (.aload_n 0, 1) := dk_42 (dk_at dksX0_readsPerson_2 9 rfl rfl)
theorem dX0_readsPerson_58 : decode cX0_readsPerson 58 = .ok (.invokevirtual 174, 3) := dk_182 0 174 (dk_at dksX0_readsPerson_2 10 rfl rfl)
theorem dX0_readsPerson_61 : decode cX0_readsPerson 61 = .ok (.bipush 126, 2) := dk_16 126 (dk_at dksX0_readsPerson_2 13 rfl rfl)
theorem dX0_readsPerson_63 : decode cX0_readsPerson 63 = .ok (.if_icmp .ne 7, 3) := dk_160 0 7 (dk_at dksX0_readsPerson_2 15 rfl rfl)
theorem dX0_readsPerson_66 : decode cX0_readsPerson 66 = .ok (.iconst 1, 1) := dk_4 (dk_at dksX0_readsPerson_2 18 rfl rfl)
theorem dX0_readsPerson_67 : decode cX0_readsPerson 67 = .ok (.goto 4, 3) := dk_167 0 4 (dk_at dksX0_readsPerson_2 19 rfl rfl)
theorem dX0_readsPerson_70 : decode cX0_readsPerson 70 = .ok (.iconst 0, 1) := dk_3 (dk_at dksX0_readsPerson_2 22 rfl rfl)
theorem dX0_readsPerson_71 : decode cX0_readsPerson 71 = .ok (.istore_n 3, 1) := dk_62 (dk_at dksX0_readsPerson_2 23 rfl rfl)
theorem dX0_readsPerson_72 : decode cX0_readsPerson 72 = .ok (.aload_n 0, 1) := dk_42 (dk_at dksX0_readsPerson_3 0 rfl rfl)
theorem dX0_readsPerson_73 : decode cX0_readsPerson 73 = .ok (.iload_n 3, 1) := dk_29 (dk_at dksX0_readsPerson_3 1 rfl rfl)
theorem dX0_readsPerson_74 : decode cX0_readsPerson 74 = .ok (.ifCond .ne 12, 3) := dk_154 0 12 (dk_at dksX0_readsPerson_3 2 rfl rfl)
theorem dX0_readsPerson_77 : decode cX0_readsPerson 77 = .ok (.aload_n 0, 1) := dk_42 (dk_at dksX0_readsPerson_3 5 rfl rfl)
theorem dX0_readsPerson_78 : decode cX0_readsPerson 78 = .ok (.invokevirtual 174, 3) := dk_182 0 174 (dk_at dksX0_readsPerson_3 6 rfl rfl)
theorem dX0_readsPerson_81 : decode cX0_readsPerson 81 = .ok (.bipush 64, 2) := dk_16 64 (dk_at dksX0_readsPerson_3 9 rfl rfl)
theorem dX0_readsPerson_83 : decode cX0_readsPerson 83 = .ok (.if_icmp .ne 7, 3) := dk_160 0 7 (dk_at dksX0_readsPerson_3 11 rfl rfl)
theorem dX0_readsPerson_86 : decode cX0_readsPerson 86 = .ok (.iconst 1, 1) := dk_4 (dk_at dksX0_readsPerson_3 14 rfl rfl)
theorem dX0_readsPerson_87 : decode cX0_readsPerson 87 = .ok (.goto 4, 3) := dk_167 0 4 (dk_at dksX0_readsPerson_3 15 rfl rfl)
theorem dX0_readsPerson_90 : decode cX0_readsPerson 90 = .ok (.iconst 0, 1) := dk_3 (dk_at dksX0_readsPerson_3 18 rfl rfl)
theorem dX0_readsPerson_91 : decode cX0_readsPerson 91 = .ok (.invokevirtual 188, 3) := dk_182 0 188 (dk_at dksX0_readsPerson_3 19 rfl rfl)
theorem dX0_readsPerson_94 : decode cX0_readsPerson 94 = .ok (.aload_n 0, 1) := dk_42 (dk_at dksX0_readsPerson_3 22 rfl rfl)
theorem dX0_readsPerson_95 : decode cX0_readsPerson 95 = .ok (.getfield 192, 3) := dk_180 0 192 (dk_at dksX0_readsPerson_4 0 rfl rfl)
theorem dX0_readsPerson_98 : decode cX0_readsPerson 98 = .ok (.iload_n 1, 1) := dk_27 (dk_at dksX0_readsPerson_4 3 rfl rfl)
theorem dX0_readsPerson_99 : decode cX0_readsPerson 99 = .ok (.iconst 2, 1) := dk_5 (dk_at dksX0_readsPerson_4 4 rfl rfl)
theorem dX0_readsPerson_100 : decode cX0_readsPerson 100 = .ok (.iadd, 1) := dk_96 (dk_at dksX0_readsPerson_4 5 rfl rfl)
theorem dX0_readsPerson_101 : decode cX0_readsPerson 101 = .ok (.iload_n 3, 1) := dk_29 (dk_at dksX0_readsPerson_4 6 rfl rfl)
theorem dX0_readsPerson_102 : decode cX0_readsPerson 102 = .ok (.ifCond .eq 8, 3) := dk_153 0 8 (dk_at dksX0_readsPerson_4 7 rfl rfl)
theorem dX0_readsPerson_105 : decode cX0_readsPerson 105 = .ok (.bipush (-4), 2) := dk_16 252 (dk_at dksX0_readsPerson_4 10 rfl rfl)
theorem dX0_readsPerson_107 : decode cX0_readsPerson 107 = .ok (.goto 10, 3) := dk_167 0 10 (dk_at dksX0_readsPerson_4 12 rfl rfl)
theorem dX0_readsPerson_110 : decode cX0_readsPerson 110 = .ok (.aload_n 0, 1) := dk_42 (dk_at dksX0_readsPerson_4 15 rfl rfl)
theorem dX0_readsPerson_111 : decode cX0_readsPerson 111 = .ok (.iconst 0, 1) := dk_3 (dk_at dksX0_readsPerson_4 16 rfl rfl)
theorem dX0_readsPerson_112 : decode cX0_readsPerson 112 = .ok (.bipush 99, 2) := dk_16 99 (dk_at dksX0_readsPerson_4 17 rfl rfl)
theorem dX0_readsPerson_114 : decode cX0_readsPerson 114 = .ok (.invokevirtual 195, 3) := dk_182 0 195 (dk_at dksX0_readsPerson_4 19 rfl rfl)
theorem dX0_readsPerson_117 : decode cX0_readsPerson 117 = .ok (.iastore, 1) := dk_79 (dk_at dksX0_readsPerson_4 22 rfl rfl)
theorem dX0_readsPerson_118 : decode cX0_readsPerson 118 = .ok (.return_, 1) := dk_177 (dk_at dksX0_readsPerson_4 23 rfl rfl)
abbrev cX0_go : ByteArray := prog_1_method_29_code
def yX0_go : MethodName := ⟨RX0, "go", "(II)I"⟩
def dkwX0_go_3 : List UInt8 := [180, 0, 9, 180, 0, 226, 27, 92, 51, 28, 145, 96, 145, 84, 42, 42, 180, 0, 9, 182, 0, 81, 172]
abbrev dktX0_go_3 : List UInt8 := dkwX0_go_3 ++ []
def dkwX0_go_2 : List UInt8 := [51, 28, 96, 133, 9, 20, 0, 102, 184, 0, 19, 154, 0, 6, 16, 254, 172, 42, 182, 0, 228, 42]
abbrev dktX0_go_2 : List UInt8 := dkwX0_go_2 ++ dktX0_go_3
def dkwX0_go_1 : List UInt8 := [154, 0, 5, 2, 172, 42, 180, 0, 9, 27, 182, 0, 46, 153, 0, 25, 42, 180, 0, 9, 180, 0, 226, 27]
abbrev dktX0_go_1 : List UInt8 := dkwX0_go_1 ++ dktX0_go_2
def dkwX0_go_0 : List UInt8 := [42, 27, 182, 0, 122, 153, 0, 21, 28, 153, 0, 17, 28, 133, 20, 0, 224, 20, 0, 102, 184, 0, 19]
abbrev dktX0_go_0 : List UInt8 := dkwX0_go_0 ++ dktX0_go_1
theorem dksX0_go_0 : cX0_go.data.toList.drop 0 = dktX0_go_0 := by decide +kernel
theorem dksX0_go_1 : cX0_go.data.toList.drop 23 = dktX0_go_1 := dk_seg dksX0_go_0 23 rfl rfl
theorem dksX0_go_2 : cX0_go.data.toList.drop 47 = dktX0_go_2 := dk_seg dksX0_go_1 24 rfl rfl
theorem dksX0_go_3 : cX0_go.data.toList.drop 69 = dktX0_go_3 := dk_seg dksX0_go_2 22 rfl rfl
theorem dX0_go_0 : decode cX0_go 0 = .ok (.aload_n 0, 1) := dk_42 (dk_at dksX0_go_0 0 rfl rfl)
theorem dX0_go_1 : decode cX0_go 1 = .ok (.iload_n 1, 1) := dk_27 (dk_at dksX0_go_0 1 rfl rfl)
theorem dX0_go_2 : decode cX0_go 2 = .ok (.invokevirtual 122, 3) := dk_182 0 122 (dk_at dksX0_go_0 2 rfl rfl)
theorem dX0_go_5 : decode cX0_go 5 = .ok (.ifCond .eq 21, 3) := dk_153 0 21 (dk_at dksX0_go_0 5 rfl rfl)
theorem dX0_go_8 : decode cX0_go 8 = .ok (.iload_n 2, 1) := dk_28 (dk_at dksX0_go_0 8 rfl rfl)
theorem dX0_go_9 : decode cX0_go 9 = .ok (.ifCond .eq 17, 3) := dk_153 0 17 (dk_at dksX0_go_0 9 rfl rfl)
theorem dX0_go_12 : decode cX0_go 12 = .ok (.iload_n 2, 1) := dk_28 (dk_at dksX0_go_0 12 rfl rfl)
theorem dX0_go_13 : decode cX0_go 13 = .ok (.i2l, 1) := dk_133 (dk_at dksX0_go_0 13 rfl rfl)
theorem dX0_go_14 : decode cX0_go 14 = .ok (.ldc2_w 224, 3) := dk_20 0 224 (dk_at dksX0_go_0 14 rfl rfl)
theorem dX0_go_17 : decode cX0_go 17 = .ok (.ldc2_w 102, 3) := dk_20 0 102 (dk_at dksX0_go_0 17 rfl rfl)
theorem dX0_go_20 : decode cX0_go 20 = .ok (.invokestatic 19, 3) := dk_184 0 19 (dk_at dksX0_go_0 20 rfl rfl)
theorem dX0_go_23 : decode cX0_go 23 = .ok (.ifCond .ne 5, 3) := dk_154 0 5 (dk_at dksX0_go_1 0 rfl rfl)
theorem dX0_go_26 : decode cX0_go 26 = .ok (.iconst (-1), 1) := dk_2 (dk_at dksX0_go_1 3 rfl rfl)
theorem dX0_go_27 : decode cX0_go 27 = .ok (.ireturn, 1) := dk_172 (dk_at dksX0_go_1 4 rfl rfl)
theorem dX0_go_28 : decode cX0_go 28 = .ok (.aload_n 0, 1) := dk_42 (dk_at dksX0_go_1 5 rfl rfl)
theorem dX0_go_29 : decode cX0_go 29 = .ok (.getfield 9, 3) := dk_180 0 9 (dk_at dksX0_go_1 6 rfl rfl)
theorem dX0_go_32 : decode cX0_go 32 = .ok (.iload_n 1, 1) := dk_27 (dk_at dksX0_go_1 9 rfl rfl)
theorem dX0_go_33 : decode cX0_go 33 = .ok (.invokevirtual 46, 3) := dk_182 0 46 (dk_at dksX0_go_1 10 rfl rfl)
theorem dX0_go_36 : decode cX0_go 36 = .ok (.ifCond .eq 25, 3) := dk_153 0 25 (dk_at dksX0_go_1 13 rfl rfl)
theorem dX0_go_39 : decode cX0_go 39 = .ok (.aload_n 0, 1) := dk_42 (dk_at dksX0_go_1 16 rfl rfl)
theorem dX0_go_40 : decode cX0_go 40 = .ok (.getfield 9, 3) := dk_180 0 9 (dk_at dksX0_go_1 17 rfl rfl)
theorem dX0_go_43 : decode cX0_go 43 = .ok (.getfield 226, 3) := dk_180 0 226 (dk_at dksX0_go_1 20 rfl rfl)
theorem dX0_go_46 : decode cX0_go 46 = .ok (.iload_n 1, 1) := dk_27 (dk_at dksX0_go_1 23 rfl rfl)
theorem dX0_go_47 : decode cX0_go 47 = .ok (.baload, 1) := dk_51 (dk_at dksX0_go_2 0 rfl rfl)
theorem dX0_go_48 : decode cX0_go 48 = .ok (.iload_n 2, 1) := dk_28 (dk_at dksX0_go_2 1 rfl rfl)
theorem dX0_go_49 : decode cX0_go 49 = .ok (.iadd, 1) := dk_96 (dk_at dksX0_go_2 2 rfl rfl)
theorem dX0_go_50 : decode cX0_go 50 = .ok (.i2l, 1) := dk_133 (dk_at dksX0_go_2 3 rfl rfl)
theorem dX0_go_51 : decode cX0_go 51 = .ok (.lconst 0, 1) := dk_9 (dk_at dksX0_go_2 4 rfl rfl)
theorem dX0_go_52 : decode cX0_go 52 = .ok (.ldc2_w 102, 3) := dk_20 0 102 (dk_at dksX0_go_2 5 rfl rfl)
theorem dX0_go_55 : decode cX0_go 55 = .ok (.invokestatic 19, 3) := dk_184 0 19 (dk_at dksX0_go_2 8 rfl rfl)
theorem dX0_go_58 : decode cX0_go 58 = .ok (.ifCond .ne 6, 3) := dk_154 0 6 (dk_at dksX0_go_2 11 rfl rfl)
theorem dX0_go_61 : decode cX0_go 61 = .ok (.bipush (-2), 2) := dk_16 254 (dk_at dksX0_go_2 14 rfl rfl)
theorem dX0_go_63 : decode cX0_go 63 = .ok (.ireturn, 1) := dk_172 (dk_at dksX0_go_2 16 rfl rfl)
theorem dX0_go_64 : decode cX0_go 64 = .ok (.aload_n 0, 1) := dk_42 (dk_at dksX0_go_2 17 rfl rfl)
theorem dX0_go_65 : decode cX0_go 65 = .ok (.invokevirtual 228, 3) := dk_182 0 228 (dk_at dksX0_go_2 18 rfl rfl)
theorem dX0_go_68 : decode cX0_go 68 = .ok (.aload_n 0, 1) := dk_42 (dk_at dksX0_go_2 21 rfl rfl)
theorem dX0_go_69 : decode cX0_go 69 = .ok (.getfield 9, 3) := dk_180 0 9 (dk_at dksX0_go_3 0 rfl rfl)
theorem dX0_go_72 : decode cX0_go 72 = .ok (.getfield 226, 3) := dk_180 0 226 (dk_at dksX0_go_3 3 rfl rfl)
theorem dX0_go_75 : decode cX0_go 75 = .ok (.iload_n 1, 1) := dk_27 (dk_at dksX0_go_3 6 rfl rfl)
theorem dX0_go_76 : decode cX0_go 76 = .ok (.dup2, 1) := dk_92 (dk_at dksX0_go_3 7 rfl rfl)
theorem dX0_go_77 : decode cX0_go 77 = .ok (.baload, 1) := dk_51 (dk_at dksX0_go_3 8 rfl rfl)
theorem dX0_go_78 : decode cX0_go 78 = .ok (.iload_n 2, 1) := dk_28 (dk_at dksX0_go_3 9 rfl rfl)
theorem dX0_go_79 : decode cX0_go 79 = .ok (.i2b, 1) := dk_145 (dk_at dksX0_go_3 10 rfl rfl)
theorem dX0_go_80 : decode cX0_go 80 = .ok (.iadd, 1) := dk_96 (dk_at dksX0_go_3 11 rfl rfl)
theorem dX0_go_81 : decode cX0_go 81 = .ok (.i2b, 1) := dk_145 (dk_at dksX0_go_3 12 rfl rfl)
theorem dX0_go_82 : decode cX0_go 82 = .ok (.bastore, 1) := dk_84 (dk_at dksX0_go_3 13 rfl rfl)
theorem dX0_go_83 : decode cX0_go 83 = .ok (.aload_n 0, 1) := dk_42 (dk_at dksX0_go_3 14 rfl rfl)
theorem dX0_go_84 : decode cX0_go 84 = .ok (.aload_n 0, 1) := dk_42 (dk_at dksX0_go_3 15 rfl rfl)
theorem dX0_go_85 : decode cX0_go 85 = .ok (.getfield 9, 3) := dk_180 0 9 (dk_at dksX0_go_3 16 rfl rfl)
theorem dX0_go_88 : decode cX0_go 88 = .ok (.invokevirtual 81, 3) := dk_182 0 81 (dk_at dksX0_go_3 19 rfl rfl)
theorem dX0_go_91 : decode cX0_go 91 = .ok (.ireturn, 1) := dk_172 (dk_at dksX0_go_3 22 rfl rfl)
abbrev cX0_notes : ByteArray := prog_1_method_28_code
def yX0_notes : MethodName := ⟨RX0, "notes", "()V"⟩
def dkwX0_notes_2 : List UInt8 := [182, 0, 220, 177]
abbrev dktX0_notes_2 : List UInt8 := dkwX0_notes_2 ++ []
def dkwX0_notes_1 : List UInt8 := [167, 0, 11, 187, 0, 14, 89, 42, 183, 0, 213, 76, 42, 180, 0, 112, 43, 42, 180, 0, 9, 182, 0, 216]
abbrev dktX0_notes_1 : List UInt8 := dkwX0_notes_1 ++ dktX0_notes_2
def dkwX0_notes_0 : List UInt8 := [42, 180, 0, 112, 182, 0, 154, 16, 8, 160, 0, 16, 42, 180, 0, 112, 182, 0, 209, 192, 0, 14]
abbrev dktX0_notes_0 : List UInt8 := dkwX0_notes_0 ++ dktX0_notes_1
theorem dksX0_notes_0 : cX0_notes.data.toList.drop 0 = dktX0_notes_0 := by decide +kernel
theorem dksX0_notes_1 : cX0_notes.data.toList.drop 22 = dktX0_notes_1 := dk_seg dksX0_notes_0 22 rfl rfl
theorem dksX0_notes_2 : cX0_notes.data.toList.drop 46 = dktX0_notes_2 := dk_seg dksX0_notes_1 24 rfl rfl
theorem dX0_notes_0 : decode cX0_notes 0 = .ok (.aload_n 0, 1) := dk_42 (dk_at dksX0_notes_0 0 rfl rfl)
theorem dX0_notes_1 : decode cX0_notes 1 = .ok (.getfield 112, 3) := dk_180 0 112 (dk_at dksX0_notes_0 1 rfl rfl)
theorem dX0_notes_4 : decode cX0_notes 4 = .ok (.invokevirtual 154, 3) := dk_182 0 154 (dk_at dksX0_notes_0 4 rfl rfl)
theorem dX0_notes_7 : decode cX0_notes 7 = .ok (.bipush 8, 2) := dk_16 8 (dk_at dksX0_notes_0 7 rfl rfl)
theorem dX0_notes_9 : decode cX0_notes 9 = .ok (.if_icmp .ne 16, 3) := dk_160 0 16 (dk_at dksX0_notes_0 9 rfl rfl)
theorem dX0_notes_12 : decode cX0_notes 12 = .ok (.aload_n 0, 1) := dk_42 (dk_at dksX0_notes_0 12 rfl rfl)
theorem dX0_notes_13 : decode cX0_notes 13 = .ok (.getfield 112, 3) := dk_180 0 112 (dk_at dksX0_notes_0 13 rfl rfl)
theorem dX0_notes_16 : decode cX0_notes 16 = .ok (.invokevirtual 209, 3) := dk_182 0 209 (dk_at dksX0_notes_0 16 rfl rfl)
theorem dX0_notes_19 : decode cX0_notes 19 = .ok (.checkcast 14, 3) := dk_192 0 14 (dk_at dksX0_notes_0 19 rfl rfl)
theorem dX0_notes_22 : decode cX0_notes 22 = .ok (.goto 11, 3) := dk_167 0 11 (dk_at dksX0_notes_1 0 rfl rfl)
theorem dX0_notes_25 : decode cX0_notes 25 = .ok (.new 14, 3) := dk_187 0 14 (dk_at dksX0_notes_1 3 rfl rfl)
theorem dX0_notes_28 : decode cX0_notes 28 = .ok (.dup, 1) := dk_89 (dk_at dksX0_notes_1 6 rfl rfl)
theorem dX0_notes_29 : decode cX0_notes 29 = .ok (.aload_n 0, 1) := dk_42 (dk_at dksX0_notes_1 7 rfl rfl)
theorem dX0_notes_30 : decode cX0_notes 30 = .ok (.invokespecial 213, 3) := dk_183 0 213 (dk_at dksX0_notes_1 8 rfl rfl)
theorem dX0_notes_33 : decode cX0_notes 33 = .ok (.astore_n 1, 1) := dk_76 (dk_at dksX0_notes_1 11 rfl rfl)
theorem dX0_notes_34 : decode cX0_notes 34 = .ok (.aload_n 0, 1) := dk_42 (dk_at dksX0_notes_1 12 rfl rfl)
theorem dX0_notes_35 : decode cX0_notes 35 = .ok (.getfield 112, 3) := dk_180 0 112 (dk_at dksX0_notes_1 13 rfl rfl)
theorem dX0_notes_38 : decode cX0_notes 38 = .ok (.aload_n 1, 1) := dk_43 (dk_at dksX0_notes_1 16 rfl rfl)
theorem dX0_notes_39 : decode cX0_notes 39 = .ok (.aload_n 0, 1) := dk_42 (dk_at dksX0_notes_1 17 rfl rfl)
theorem dX0_notes_40 : decode cX0_notes 40 = .ok (.getfield 9, 3) := dk_180 0 9 (dk_at dksX0_notes_1 18 rfl rfl)
theorem dX0_notes_43 : decode cX0_notes 43 = .ok (.invokevirtual 216, 3) := dk_182 0 216 (dk_at dksX0_notes_1 21 rfl rfl)
theorem dX0_notes_46 : decode cX0_notes 46 = .ok (.invokevirtual 220, 3) := dk_182 0 220 (dk_at dksX0_notes_2 0 rfl rfl)
theorem dX0_notes_49 : decode cX0_notes 49 = .ok (.return_, 1) := dk_177 (dk_at dksX0_notes_2 3 rfl rfl)
abbrev cX0_let : ByteArray := prog_1_method_30_code
def yX0_let : MethodName := ⟨RX0, "let", "(I)I"⟩
def dkwX0_let_1 : List UInt8 := [42, 182, 0, 228, 42, 180, 0, 9, 27, 182, 0, 67, 42, 42, 180, 0, 9, 182, 0, 81, 172]
abbrev dktX0_let_1 : List UInt8 := dkwX0_let_1 ++ []
def dkwX0_let_0 : List UInt8 := [42, 27, 182, 0, 122, 154, 0, 5, 2, 172, 42, 180, 0, 9, 27, 182, 0, 46, 154, 0, 6, 16, 254, 172]
abbrev dktX0_let_0 : List UInt8 := dkwX0_let_0 ++ dktX0_let_1
theorem dksX0_let_0 : cX0_let.data.toList.drop 0 = dktX0_let_0 := by decide +kernel
theorem dksX0_let_1 : cX0_let.data.toList.drop 24 = dktX0_let_1 := dk_seg dksX0_let_0 24 rfl rfl
theorem dX0_let_0 : decode cX0_let 0 = .ok (.aload_n 0, 1) := dk_42 (dk_at dksX0_let_0 0 rfl rfl)
theorem dX0_let_1 : decode cX0_let 1 = .ok (.iload_n 1, 1) := dk_27 (dk_at dksX0_let_0 1 rfl rfl)
theorem dX0_let_2 : decode cX0_let 2 = .ok (.invokevirtual 122, 3) := dk_182 0 122 (dk_at dksX0_let_0 2 rfl rfl)
theorem dX0_let_5 : decode cX0_let 5 = .ok (.ifCond .ne 5, 3) := dk_154 0 5 (dk_at dksX0_let_0 5 rfl rfl)
theorem dX0_let_8 : decode cX0_let 8 = .ok (.iconst (-1), 1) := dk_2 (dk_at dksX0_let_0 8 rfl rfl)
theorem dX0_let_9 : decode cX0_let 9 = .ok (.ireturn, 1) := dk_172 (dk_at dksX0_let_0 9 rfl rfl)
theorem dX0_let_10 : decode cX0_let 10 = .ok (.aload_n 0, 1) := dk_42 (dk_at dksX0_let_0 10 rfl rfl)
theorem dX0_let_11 : decode cX0_let 11 = .ok (.getfield 9, 3) := dk_180 0 9 (dk_at dksX0_let_0 11 rfl rfl)
theorem dX0_let_14 : decode cX0_let 14 = .ok (.iload_n 1, 1) := dk_27 (dk_at dksX0_let_0 14 rfl rfl)
theorem dX0_let_15 : decode cX0_let 15 = .ok (.invokevirtual 46, 3) := dk_182 0 46 (dk_at dksX0_let_0 15 rfl rfl)
theorem dX0_let_18 : decode cX0_let 18 = .ok (.ifCond .ne 6, 3) := dk_154 0 6 (dk_at dksX0_let_0 18 rfl rfl)
theorem dX0_let_21 : decode cX0_let 21 = .ok (.bipush (-2), 2) := dk_16 254 (dk_at dksX0_let_0 21 rfl rfl)
theorem dX0_let_23 : decode cX0_let 23 = .ok (.ireturn, 1) := dk_172 (dk_at dksX0_let_0 23 rfl rfl)
theorem dX0_let_24 : decode cX0_let 24 = .ok (.aload_n 0, 1) := dk_42 (dk_at dksX0_let_1 0 rfl rfl)
theorem dX0_let_25 : decode cX0_let 25 = .ok (.invokevirtual 228, 3) := dk_182 0 228 (dk_at dksX0_let_1 1 rfl rfl)
theorem dX0_let_28 : decode cX0_let 28 = .ok (.aload_n 0, 1) := dk_42 (dk_at dksX0_let_1 4 rfl rfl)
theorem dX0_let_29 : decode cX0_let 29 = .ok (.getfield 9, 3) := dk_180 0 9 (dk_at dksX0_let_1 5 rfl rfl)
theorem dX0_let_32 : decode cX0_let 32 = .ok (.iload_n 1, 1) := dk_27 (dk_at dksX0_let_1 8 rfl rfl)
theorem dX0_let_33 : decode cX0_let 33 = .ok (.invokevirtual 67, 3) := dk_182 0 67 (dk_at dksX0_let_1 9 rfl rfl)
theorem dX0_let_36 : decode cX0_let 36 = .ok (.aload_n 0, 1) := dk_42 (dk_at dksX0_let_1 12 rfl rfl)
theorem dX0_let_37 : decode cX0_let 37 = .ok (.aload_n 0, 1) := dk_42 (dk_at dksX0_let_1 13 rfl rfl)
theorem dX0_let_38 : decode cX0_let 38 = .ok (.getfield 9, 3) := dk_180 0 9 (dk_at dksX0_let_1 14 rfl rfl)
theorem dX0_let_41 : decode cX0_let 41 = .ok (.invokevirtual 81, 3) := dk_182 0 81 (dk_at dksX0_let_1 17 rfl rfl)
theorem dX0_let_44 : decode cX0_let 44 = .ok (.ireturn, 1) := dk_172 (dk_at dksX0_let_1 20 rfl rfl)
abbrev cX0_hold : ByteArray := prog_1_method_32_code
def yX0_hold : MethodName := ⟨RX0, "hold", "(I)I"⟩
def dkwX0_hold_1 : List UInt8 := [42, 182, 0, 228, 42, 180, 0, 9, 27, 184, 0, 240, 42, 42, 180, 0, 9, 182, 0, 81, 172]
abbrev dktX0_hold_1 : List UInt8 := dkwX0_hold_1 ++ []
def dkwX0_hold_0 : List UInt8 := [42, 27, 182, 0, 122, 154, 0, 5, 2, 172, 42, 180, 0, 9, 27, 182, 0, 46, 153, 0, 6, 16, 254, 172]
abbrev dktX0_hold_0 : List UInt8 := dkwX0_hold_0 ++ dktX0_hold_1
theorem dksX0_hold_0 : cX0_hold.data.toList.drop 0 = dktX0_hold_0 := by decide +kernel
theorem dksX0_hold_1 : cX0_hold.data.toList.drop 24 = dktX0_hold_1 := dk_seg dksX0_hold_0 24 rfl rfl
theorem dX0_hold_0 : decode cX0_hold 0 = .ok (.aload_n 0, 1) := dk_42 (dk_at dksX0_hold_0 0 rfl rfl)
theorem dX0_hold_1 : decode cX0_hold 1 = .ok (.iload_n 1, 1) := dk_27 (dk_at dksX0_hold_0 1 rfl rfl)
theorem dX0_hold_2 : decode cX0_hold 2 = .ok (.invokevirtual 122, 3) := dk_182 0 122 (dk_at dksX0_hold_0 2 rfl rfl)
theorem dX0_hold_5 : decode cX0_hold 5 = .ok (.ifCond .ne 5, 3) := dk_154 0 5 (dk_at dksX0_hold_0 5 rfl rfl)
theorem dX0_hold_8 : decode cX0_hold 8 = .ok (.iconst (-1), 1) := dk_2 (dk_at dksX0_hold_0 8 rfl rfl)
theorem dX0_hold_9 : decode cX0_hold 9 = .ok (.ireturn, 1) := dk_172 (dk_at dksX0_hold_0 9 rfl rfl)
theorem dX0_hold_10 : decode cX0_hold 10 = .ok (.aload_n 0, 1) := dk_42 (dk_at dksX0_hold_0 10 rfl rfl)
theorem dX0_hold_11 : decode cX0_hold 11 = .ok (.getfield 9, 3) := dk_180 0 9 (dk_at dksX0_hold_0 11 rfl rfl)
theorem dX0_hold_14 : decode cX0_hold 14 = .ok (.iload_n 1, 1) := dk_27 (dk_at dksX0_hold_0 14 rfl rfl)
theorem dX0_hold_15 : decode cX0_hold 15 = .ok (.invokevirtual 46, 3) := dk_182 0 46 (dk_at dksX0_hold_0 15 rfl rfl)
theorem dX0_hold_18 : decode cX0_hold 18 = .ok (.ifCond .eq 6, 3) := dk_153 0 6 (dk_at dksX0_hold_0 18 rfl rfl)
theorem dX0_hold_21 : decode cX0_hold 21 = .ok (.bipush (-2), 2) := dk_16 254 (dk_at dksX0_hold_0 21 rfl rfl)
theorem dX0_hold_23 : decode cX0_hold 23 = .ok (.ireturn, 1) := dk_172 (dk_at dksX0_hold_0 23 rfl rfl)
theorem dX0_hold_24 : decode cX0_hold 24 = .ok (.aload_n 0, 1) := dk_42 (dk_at dksX0_hold_1 0 rfl rfl)
theorem dX0_hold_25 : decode cX0_hold 25 = .ok (.invokevirtual 228, 3) := dk_182 0 228 (dk_at dksX0_hold_1 1 rfl rfl)
theorem dX0_hold_28 : decode cX0_hold 28 = .ok (.aload_n 0, 1) := dk_42 (dk_at dksX0_hold_1 4 rfl rfl)
theorem dX0_hold_29 : decode cX0_hold 29 = .ok (.getfield 9, 3) := dk_180 0 9 (dk_at dksX0_hold_1 5 rfl rfl)
theorem dX0_hold_32 : decode cX0_hold 32 = .ok (.iload_n 1, 1) := dk_27 (dk_at dksX0_hold_1 8 rfl rfl)
theorem dX0_hold_33 : decode cX0_hold 33 = .ok (.invokestatic 240, 3) := dk_184 0 240 (dk_at dksX0_hold_1 9 rfl rfl)
theorem dX0_hold_36 : decode cX0_hold 36 = .ok (.aload_n 0, 1) := dk_42 (dk_at dksX0_hold_1 12 rfl rfl)
theorem dX0_hold_37 : decode cX0_hold 37 = .ok (.aload_n 0, 1) := dk_42 (dk_at dksX0_hold_1 13 rfl rfl)
theorem dX0_hold_38 : decode cX0_hold 38 = .ok (.getfield 9, 3) := dk_180 0 9 (dk_at dksX0_hold_1 14 rfl rfl)
theorem dX0_hold_41 : decode cX0_hold 41 = .ok (.invokevirtual 81, 3) := dk_182 0 81 (dk_at dksX0_hold_1 17 rfl rfl)
theorem dX0_hold_44 : decode cX0_hold 44 = .ok (.ireturn, 1) := dk_172 (dk_at dksX0_hold_1 20 rfl rfl)
abbrev cX0_takesHoldWhereHeIs : ByteArray := prog_1_method_31_code
def yX0_takesHoldWhereHeIs : MethodName := ⟨RX0, "takesHoldWhereHeIs", "(LOneElastic$Town;I)V"⟩
def dkwX0_takesHoldWhereHeIs_1 : List UInt8 := [182, 0, 91, 177]
abbrev dktX0_takesHoldWhereHeIs_1 : List UInt8 := dkwX0_takesHoldWhereHeIs_1 ++ []
def dkwX0_takesHoldWhereHeIs_0 : List UInt8 := [42, 27, 9, 20, 0, 102, 42, 182, 0, 29, 27, 182, 0, 125, 182, 0, 231, 184, 0, 234, 184, 0, 238]
abbrev dktX0_takesHoldWhereHeIs_0 : List UInt8 := dkwX0_takesHoldWhereHeIs_0 ++ dktX0_takesHoldWhereHeIs_1
theorem dksX0_takesHoldWhereHeIs_0 : cX0_takesHoldWhereHeIs.data.toList.drop 0 = dktX0_takesHoldWhereHeIs_0 := by decide +kernel
theorem dksX0_takesHoldWhereHeIs_1 : cX0_takesHoldWhereHeIs.data.toList.drop 23 = dktX0_takesHoldWhereHeIs_1 := dk_seg dksX0_takesHoldWhereHeIs_0 23 rfl rfl
theorem dX0_takesHoldWhereHeIs_0 : decode cX0_takesHoldWhereHeIs 0 = .ok (.aload_n 0, 1) := dk_42 (dk_at dksX0_takesHoldWhereHeIs_0 0 rfl rfl)
theorem dX0_takesHoldWhereHeIs_1 : decode cX0_takesHoldWhereHeIs 1 = .ok (.iload_n 1, 1) := dk_27 (dk_at dksX0_takesHoldWhereHeIs_0 1 rfl rfl)
theorem dX0_takesHoldWhereHeIs_2 : decode cX0_takesHoldWhereHeIs 2 = .ok (.lconst 0, 1) := dk_9 (dk_at dksX0_takesHoldWhereHeIs_0 2 rfl rfl)
theorem dX0_takesHoldWhereHeIs_3 : decode cX0_takesHoldWhereHeIs 3 = .ok (.ldc2_w 102, 3) := dk_20 0 102 (dk_at dksX0_takesHoldWhereHeIs_0 3 rfl rfl)
theorem dX0_takesHoldWhereHeIs_6 : decode cX0_takesHoldWhereHeIs 6 = .ok (.aload_n 0, 1) := dk_42 (dk_at dksX0_takesHoldWhereHeIs_0 6 rfl rfl)
theorem dX0_takesHoldWhereHeIs_7 : decode cX0_takesHoldWhereHeIs 7 = .ok (.invokevirtual 29, 3) := dk_182 0 29 (dk_at dksX0_takesHoldWhereHeIs_0 7 rfl rfl)
theorem dX0_takesHoldWhereHeIs_10 : decode cX0_takesHoldWhereHeIs 10 = .ok (.iload_n 1, 1) := dk_27 (dk_at dksX0_takesHoldWhereHeIs_0 10 rfl rfl)
theorem dX0_takesHoldWhereHeIs_11 : decode cX0_takesHoldWhereHeIs 11 = .ok (.invokevirtual 125, 3) := dk_182 0 125 (dk_at dksX0_takesHoldWhereHeIs_0 11 rfl rfl)
theorem dX0_takesHoldWhereHeIs_14 : decode cX0_takesHoldWhereHeIs 14 = .ok (.invokevirtual 231, 3) := dk_182 0 231 (dk_at dksX0_takesHoldWhereHeIs_0 14 rfl rfl)
theorem dX0_takesHoldWhereHeIs_17 : decode cX0_takesHoldWhereHeIs 17 = .ok (.invokestatic 234, 3) := dk_184 0 234 (dk_at dksX0_takesHoldWhereHeIs_0 17 rfl rfl)
theorem dX0_takesHoldWhereHeIs_20 : decode cX0_takesHoldWhereHeIs 20 = .ok (.invokestatic 238, 3) := dk_184 0 238 (dk_at dksX0_takesHoldWhereHeIs_0 20 rfl rfl)
theorem dX0_takesHoldWhereHeIs_23 : decode cX0_takesHoldWhereHeIs 23 = .ok (.invokevirtual 91, 3) := dk_182 0 91 (dk_at dksX0_takesHoldWhereHeIs_1 0 rfl rfl)
theorem dX0_takesHoldWhereHeIs_26 : decode cX0_takesHoldWhereHeIs 26 = .ok (.return_, 1) := dk_177 (dk_at dksX0_takesHoldWhereHeIs_1 3 rfl rfl)
abbrev cX0_sew : ByteArray := prog_1_method_33_code
def yX0_sew : MethodName := ⟨RX0, "sew", "(I)I"⟩
def dkwX0_sew_2 : List UInt8 := [182, 0, 81, 172]
abbrev dktX0_sew_2 : List UInt8 := dkwX0_sew_2 ++ []
def dkwX0_sew_1 : List UInt8 := [42, 182, 0, 228, 42, 180, 0, 9, 89, 180, 0, 78, 4, 27, 120, 130, 181, 0, 78, 42, 42, 180, 0, 9]
abbrev dktX0_sew_1 : List UInt8 := dkwX0_sew_1 ++ dktX0_sew_2
def dkwX0_sew_0 : List UInt8 := [42, 27, 182, 0, 132, 154, 0, 5, 2, 172, 42, 180, 0, 9, 27, 182, 0, 135, 154, 0, 6, 16, 254, 172]
abbrev dktX0_sew_0 : List UInt8 := dkwX0_sew_0 ++ dktX0_sew_1
theorem dksX0_sew_0 : cX0_sew.data.toList.drop 0 = dktX0_sew_0 := by decide +kernel
theorem dksX0_sew_1 : cX0_sew.data.toList.drop 24 = dktX0_sew_1 := dk_seg dksX0_sew_0 24 rfl rfl
theorem dksX0_sew_2 : cX0_sew.data.toList.drop 48 = dktX0_sew_2 := dk_seg dksX0_sew_1 24 rfl rfl
theorem dX0_sew_0 : decode cX0_sew 0 = .ok (.aload_n 0, 1) := dk_42 (dk_at dksX0_sew_0 0 rfl rfl)
theorem dX0_sew_1 : decode cX0_sew 1 = .ok (.iload_n 1, 1) := dk_27 (dk_at dksX0_sew_0 1 rfl rfl)
theorem dX0_sew_2 : decode cX0_sew 2 = .ok (.invokevirtual 132, 3) := dk_182 0 132 (dk_at dksX0_sew_0 2 rfl rfl)
theorem dX0_sew_5 : decode cX0_sew 5 = .ok (.ifCond .ne 5, 3) := dk_154 0 5 (dk_at dksX0_sew_0 5 rfl rfl)
theorem dX0_sew_8 : decode cX0_sew 8 = .ok (.iconst (-1), 1) := dk_2 (dk_at dksX0_sew_0 8 rfl rfl)
theorem dX0_sew_9 : decode cX0_sew 9 = .ok (.ireturn, 1) := dk_172 (dk_at dksX0_sew_0 9 rfl rfl)
theorem dX0_sew_10 : decode cX0_sew 10 = .ok (.aload_n 0, 1) := dk_42 (dk_at dksX0_sew_0 10 rfl rfl)
theorem dX0_sew_11 : decode cX0_sew 11 = .ok (.getfield 9, 3) := dk_180 0 9 (dk_at dksX0_sew_0 11 rfl rfl)
theorem dX0_sew_14 : decode cX0_sew 14 = .ok (.iload_n 1, 1) := dk_27 (dk_at dksX0_sew_0 14 rfl rfl)
theorem dX0_sew_15 : decode cX0_sew 15 = .ok (.invokevirtual 135, 3) := dk_182 0 135 (dk_at dksX0_sew_0 15 rfl rfl)
theorem dX0_sew_18 : decode cX0_sew 18 = .ok (.ifCond .ne 6, 3) := dk_154 0 6 (dk_at dksX0_sew_0 18 rfl rfl)
theorem dX0_sew_21 : decode cX0_sew 21 = .ok (.bipush (-2), 2) := dk_16 254 (dk_at dksX0_sew_0 21 rfl rfl)
theorem dX0_sew_23 : decode cX0_sew 23 = .ok (.ireturn, 1) := dk_172 (dk_at dksX0_sew_0 23 rfl rfl)
theorem dX0_sew_24 : decode cX0_sew 24 = .ok (.aload_n 0, 1) := dk_42 (dk_at dksX0_sew_1 0 rfl rfl)
theorem dX0_sew_25 : decode cX0_sew 25 = .ok (.invokevirtual 228, 3) := dk_182 0 228 (dk_at dksX0_sew_1 1 rfl rfl)
theorem dX0_sew_28 : decode cX0_sew 28 = .ok (.aload_n 0, 1) := dk_42 (dk_at dksX0_sew_1 4 rfl rfl)
theorem dX0_sew_29 : decode cX0_sew 29 = .ok (.getfield 9, 3) := dk_180 0 9 (dk_at dksX0_sew_1 5 rfl rfl)
theorem dX0_sew_32 : decode cX0_sew 32 = .ok (.dup, 1) := dk_89 (dk_at dksX0_sew_1 8 rfl rfl)
theorem dX0_sew_33 : decode cX0_sew 33 = .ok (.getfield 78, 3) := dk_180 0 78 (dk_at dksX0_sew_1 9 rfl rfl)
theorem dX0_sew_36 : decode cX0_sew 36 = .ok (.iconst 1, 1) := dk_4 (dk_at dksX0_sew_1 12 rfl rfl)
theorem dX0_sew_37 : decode cX0_sew 37 = .ok (.iload_n 1, 1) := dk_27 (dk_at dksX0_sew_1 13 rfl rfl)
theorem dX0_sew_38 : decode cX0_sew 38 = .ok (.ishl, 1) := dk_120 (dk_at dksX0_sew_1 14 rfl rfl)
theorem dX0_sew_39 : decode cX0_sew 39 = .ok (.ixor, 1) := dk_130 (dk_at dksX0_sew_1 15 rfl rfl)
theorem dX0_sew_40 : decode cX0_sew 40 = .ok (.putfield 78, 3) := dk_181 0 78 (dk_at dksX0_sew_1 16 rfl rfl)
theorem dX0_sew_43 : decode cX0_sew 43 = .ok (.aload_n 0, 1) := dk_42 (dk_at dksX0_sew_1 19 rfl rfl)
theorem dX0_sew_44 : decode cX0_sew 44 = .ok (.aload_n 0, 1) := dk_42 (dk_at dksX0_sew_1 20 rfl rfl)
theorem dX0_sew_45 : decode cX0_sew 45 = .ok (.getfield 9, 3) := dk_180 0 9 (dk_at dksX0_sew_1 21 rfl rfl)
theorem dX0_sew_48 : decode cX0_sew 48 = .ok (.invokevirtual 81, 3) := dk_182 0 81 (dk_at dksX0_sew_2 0 rfl rfl)
theorem dX0_sew_51 : decode cX0_sew 51 = .ok (.ireturn, 1) := dk_172 (dk_at dksX0_sew_2 3 rfl rfl)
abbrev cX0_bears : ByteArray := prog_1_method_34_code
def yX0_bears : MethodName := ⟨RX0, "bears", "(I)I"⟩
def dkwX0_bears_2 : List UInt8 := [182, 0, 81, 87, 28, 172]
abbrev dktX0_bears_2 : List UInt8 := dkwX0_bears_2 ++ []
def dkwX0_bears_1 : List UInt8 := [160, 0, 6, 16, 254, 172, 42, 182, 0, 228, 42, 180, 0, 9, 27, 181, 0, 37, 42, 42, 180, 0, 9]
abbrev dktX0_bears_1 : List UInt8 := dkwX0_bears_1 ++ dktX0_bears_2
def dkwX0_bears_0 : List UInt8 := [27, 133, 10, 20, 0, 243, 184, 0, 19, 154, 0, 5, 2, 172, 42, 180, 0, 9, 180, 0, 37, 61, 28, 27]
abbrev dktX0_bears_0 : List UInt8 := dkwX0_bears_0 ++ dktX0_bears_1
theorem dksX0_bears_0 : cX0_bears.data.toList.drop 0 = dktX0_bears_0 := by decide +kernel
theorem dksX0_bears_1 : cX0_bears.data.toList.drop 24 = dktX0_bears_1 := dk_seg dksX0_bears_0 24 rfl rfl
theorem dksX0_bears_2 : cX0_bears.data.toList.drop 47 = dktX0_bears_2 := dk_seg dksX0_bears_1 23 rfl rfl
theorem dX0_bears_0 : decode cX0_bears 0 = .ok (.iload_n 1, 1) := dk_27 (dk_at dksX0_bears_0 0 rfl rfl)
theorem dX0_bears_1 : decode cX0_bears 1 = .ok (.i2l, 1) := dk_133 (dk_at dksX0_bears_0 1 rfl rfl)
theorem dX0_bears_2 : decode cX0_bears 2 = .ok (.lconst 1, 1) := dk_10 (dk_at dksX0_bears_0 2 rfl rfl)
theorem dX0_bears_3 : decode cX0_bears 3 = .ok (.ldc2_w 243, 3) := dk_20 0 243 (dk_at dksX0_bears_0 3 rfl rfl)
theorem dX0_bears_6 : decode cX0_bears 6 = .ok (.invokestatic 19, 3) := dk_184 0 19 (dk_at dksX0_bears_0 6 rfl rfl)
theorem dX0_bears_9 : decode cX0_bears 9 = .ok (.ifCond .ne 5, 3) := dk_154 0 5 (dk_at dksX0_bears_0 9 rfl rfl)
theorem dX0_bears_12 : decode cX0_bears 12 = .ok (.iconst (-1), 1) := dk_2 (dk_at dksX0_bears_0 12 rfl rfl)
theorem dX0_bears_13 : decode cX0_bears 13 = .ok (.ireturn, 1) := dk_172 (dk_at dksX0_bears_0 13 rfl rfl)
theorem dX0_bears_14 : decode cX0_bears 14 = .ok (.aload_n 0, 1) := dk_42 (dk_at dksX0_bears_0 14 rfl rfl)
theorem dX0_bears_15 : decode cX0_bears 15 = .ok (.getfield 9, 3) := dk_180 0 9 (dk_at dksX0_bears_0 15 rfl rfl)
theorem dX0_bears_18 : decode cX0_bears 18 = .ok (.getfield 37, 3) := dk_180 0 37 (dk_at dksX0_bears_0 18 rfl rfl)
theorem dX0_bears_21 : decode cX0_bears 21 = .ok (.istore_n 2, 1) := dk_61 (dk_at dksX0_bears_0 21 rfl rfl)
theorem dX0_bears_22 : decode cX0_bears 22 = .ok (.iload_n 2, 1) := dk_28 (dk_at dksX0_bears_0 22 rfl rfl)
theorem dX0_bears_23 : decode cX0_bears 23 = .ok (.iload_n 1, 1) := dk_27 (dk_at dksX0_bears_0 23 rfl rfl)
theorem dX0_bears_24 : decode cX0_bears 24 = .ok (.if_icmp .ne 6, 3) := dk_160 0 6 (dk_at dksX0_bears_1 0 rfl rfl)
theorem dX0_bears_27 : decode cX0_bears 27 = .ok (.bipush (-2), 2) := dk_16 254 (dk_at dksX0_bears_1 3 rfl rfl)
theorem dX0_bears_29 : decode cX0_bears 29 = .ok (.ireturn, 1) := dk_172 (dk_at dksX0_bears_1 5 rfl rfl)
theorem dX0_bears_30 : decode cX0_bears 30 = .ok (.aload_n 0, 1) := dk_42 (dk_at dksX0_bears_1 6 rfl rfl)
theorem dX0_bears_31 : decode cX0_bears 31 = .ok (.invokevirtual 228, 3) := dk_182 0 228 (dk_at dksX0_bears_1 7 rfl rfl)
theorem dX0_bears_34 : decode cX0_bears 34 = .ok (.aload_n 0, 1) := dk_42 (dk_at dksX0_bears_1 10 rfl rfl)
theorem dX0_bears_35 : decode cX0_bears 35 = .ok (.getfield 9, 3) := dk_180 0 9 (dk_at dksX0_bears_1 11 rfl rfl)
theorem dX0_bears_38 : decode cX0_bears 38 = .ok (.iload_n 1, 1) := dk_27 (dk_at dksX0_bears_1 14 rfl rfl)
theorem dX0_bears_39 : decode cX0_bears 39 = .ok (.putfield 37, 3) := dk_181 0 37 (dk_at dksX0_bears_1 15 rfl rfl)
theorem dX0_bears_42 : decode cX0_bears 42 = .ok (.aload_n 0, 1) := dk_42 (dk_at dksX0_bears_1 18 rfl rfl)
theorem dX0_bears_43 : decode cX0_bears 43 = .ok (.aload_n 0, 1) := dk_42 (dk_at dksX0_bears_1 19 rfl rfl)
theorem dX0_bears_44 : decode cX0_bears 44 = .ok (.getfield 9, 3) := dk_180 0 9 (dk_at dksX0_bears_1 20 rfl rfl)
theorem dX0_bears_47 : decode cX0_bears 47 = .ok (.invokevirtual 81, 3) := dk_182 0 81 (dk_at dksX0_bears_2 0 rfl rfl)
theorem dX0_bears_50 : decode cX0_bears 50 = .ok (.pop, 1) := dk_87 (dk_at dksX0_bears_2 3 rfl rfl)
theorem dX0_bears_51 : decode cX0_bears 51 = .ok (.iload_n 2, 1) := dk_28 (dk_at dksX0_bears_2 4 rfl rfl)
theorem dX0_bears_52 : decode cX0_bears 52 = .ok (.ireturn, 1) := dk_172 (dk_at dksX0_bears_2 5 rfl rfl)
abbrev cX0_hours : ByteArray := prog_1_method_36_code
def yX0_hours : MethodName := ⟨RX0, "hours", "(I)I"⟩
def dkwX0_hours_2 : List UInt8 := [167, 255, 226, 28, 172]
abbrev dktX0_hours_2 : List UInt8 := dkwX0_hours_2 ++ []
def dkwX0_hours_1 : List UInt8 := [182, 0, 228, 42, 180, 0, 9, 184, 0, 247, 28, 42, 42, 180, 0, 9, 182, 0, 81, 96, 61, 132, 3, 1]
abbrev dktX0_hours_1 : List UInt8 := dkwX0_hours_1 ++ dktX0_hours_2
def dkwX0_hours_0 : List UInt8 := [27, 133, 10, 20, 0, 245, 184, 0, 19, 154, 0, 5, 2, 172, 3, 61, 3, 62, 29, 27, 162, 0, 31, 42]
abbrev dktX0_hours_0 : List UInt8 := dkwX0_hours_0 ++ dktX0_hours_1
theorem dksX0_hours_0 : cX0_hours.data.toList.drop 0 = dktX0_hours_0 := by decide +kernel
theorem dksX0_hours_1 : cX0_hours.data.toList.drop 24 = dktX0_hours_1 := dk_seg dksX0_hours_0 24 rfl rfl
theorem dksX0_hours_2 : cX0_hours.data.toList.drop 48 = dktX0_hours_2 := dk_seg dksX0_hours_1 24 rfl rfl
theorem dX0_hours_0 : decode cX0_hours 0 = .ok (.iload_n 1, 1) := dk_27 (dk_at dksX0_hours_0 0 rfl rfl)
theorem dX0_hours_1 : decode cX0_hours 1 = .ok (.i2l, 1) := dk_133 (dk_at dksX0_hours_0 1 rfl rfl)
theorem dX0_hours_2 : decode cX0_hours 2 = .ok (.lconst 1, 1) := dk_10 (dk_at dksX0_hours_0 2 rfl rfl)
theorem dX0_hours_3 : decode cX0_hours 3 = .ok (.ldc2_w 245, 3) := dk_20 0 245 (dk_at dksX0_hours_0 3 rfl rfl)
theorem dX0_hours_6 : decode cX0_hours 6 = .ok (.invokestatic 19, 3) := dk_184 0 19 (dk_at dksX0_hours_0 6 rfl rfl)
theorem dX0_hours_9 : decode cX0_hours 9 = .ok (.ifCond .ne 5, 3) := dk_154 0 5 (dk_at dksX0_hours_0 9 rfl rfl)
theorem dX0_hours_12 : decode cX0_hours 12 = .ok (.iconst (-1), 1) := dk_2 (dk_at dksX0_hours_0 12 rfl rfl)
theorem dX0_hours_13 : decode cX0_hours 13 = .ok (.ireturn, 1) := dk_172 (dk_at dksX0_hours_0 13 rfl rfl)
theorem dX0_hours_14 : decode cX0_hours 14 = .ok (.iconst 0, 1) := dk_3 (dk_at dksX0_hours_0 14 rfl rfl)
theorem dX0_hours_15 : decode cX0_hours 15 = .ok (.istore_n 2, 1) := dk_61 (dk_at dksX0_hours_0 15 rfl rfl)
theorem dX0_hours_16 : decode cX0_hours 16 = .ok (.iconst 0, 1) := dk_3 (dk_at dksX0_hours_0 16 rfl rfl)
theorem dX0_hours_17 : decode cX0_hours 17 = .ok (.istore_n 3, 1) := dk_62 (dk_at dksX0_hours_0 17 rfl rfl)
theorem dX0_hours_18 : decode cX0_hours 18 = .ok (.iload_n 3, 1) := dk_29 (dk_at dksX0_hours_0 18 rfl rfl)
theorem dX0_hours_19 : decode cX0_hours 19 = .ok (.iload_n 1, 1) := dk_27 (dk_at dksX0_hours_0 19 rfl rfl)
theorem dX0_hours_20 : decode cX0_hours 20 = .ok (.if_icmp .ge 31, 3) := dk_162 0 31 (dk_at dksX0_hours_0 20 rfl rfl)
theorem dX0_hours_23 : decode cX0_hours 23 = .ok (.aload_n 0, 1) := dk_42 (dk_at dksX0_hours_0 23 rfl rfl)
theorem dX0_hours_24 : decode cX0_hours 24 = .ok (.invokevirtual 228, 3) := dk_182 0 228 (dk_at dksX0_hours_1 0 rfl rfl)
theorem dX0_hours_27 : decode cX0_hours 27 = .ok (.aload_n 0, 1) := dk_42 (dk_at dksX0_hours_1 3 rfl rfl)
theorem dX0_hours_28 : decode cX0_hours 28 = .ok (.getfield 9, 3) := dk_180 0 9 (dk_at dksX0_hours_1 4 rfl rfl)
theorem dX0_hours_31 : decode cX0_hours 31 = .ok (.invokestatic 247, 3) := dk_184 0 247 (dk_at dksX0_hours_1 7 rfl rfl)
theorem dX0_hours_34 : decode cX0_hours 34 = .ok (.iload_n 2, 1) := dk_28 (dk_at dksX0_hours_1 10 rfl rfl)
theorem dX0_hours_35 : decode cX0_hours 35 = .ok (.aload_n 0, 1) := dk_42 (dk_at dksX0_hours_1 11 rfl rfl)
theorem dX0_hours_36 : decode cX0_hours 36 = .ok (.aload_n 0, 1) := dk_42 (dk_at dksX0_hours_1 12 rfl rfl)
theorem dX0_hours_37 : decode cX0_hours 37 = .ok (.getfield 9, 3) := dk_180 0 9 (dk_at dksX0_hours_1 13 rfl rfl)
theorem dX0_hours_40 : decode cX0_hours 40 = .ok (.invokevirtual 81, 3) := dk_182 0 81 (dk_at dksX0_hours_1 16 rfl rfl)
theorem dX0_hours_43 : decode cX0_hours 43 = .ok (.iadd, 1) := dk_96 (dk_at dksX0_hours_1 19 rfl rfl)
theorem dX0_hours_44 : decode cX0_hours 44 = .ok (.istore_n 2, 1) := dk_61 (dk_at dksX0_hours_1 20 rfl rfl)
theorem dX0_hours_45 : decode cX0_hours 45 = .ok (.iinc 3 1, 3) := dk_132 3 1 (dk_at dksX0_hours_1 21 rfl rfl)
theorem dX0_hours_48 : decode cX0_hours 48 = .ok (.goto (-30), 3) := dk_167 255 226 (dk_at dksX0_hours_2 0 rfl rfl)
theorem dX0_hours_51 : decode cX0_hours 51 = .ok (.iload_n 2, 1) := dk_28 (dk_at dksX0_hours_2 3 rfl rfl)
theorem dX0_hours_52 : decode cX0_hours 52 = .ok (.ireturn, 1) := dk_172 (dk_at dksX0_hours_2 4 rfl rfl)
abbrev cX0_passes : ByteArray := prog_1_method_35_code
def yX0_passes : MethodName := ⟨RX0, "passes", "(LOneElastic$Town;)V"⟩
def dkwX0_passes_0 : List UInt8 := [42, 42, 180, 0, 145, 4, 96, 16, 24, 112, 181, 0, 145, 177]
abbrev dktX0_passes_0 : List UInt8 := dkwX0_passes_0 ++ []
theorem dksX0_passes_0 : cX0_passes.data.toList.drop 0 = dktX0_passes_0 := by decide +kernel
theorem dX0_passes_0 : decode cX0_passes 0 = .ok (.aload_n 0, 1) := dk_42 (dk_at dksX0_passes_0 0 rfl rfl)
theorem dX0_passes_1 : decode cX0_passes 1 = .ok (.aload_n 0, 1) := dk_42 (dk_at dksX0_passes_0 1 rfl rfl)
theorem dX0_passes_2 : decode cX0_passes 2 = .ok (.getfield 145, 3) := dk_180 0 145 (dk_at dksX0_passes_0 2 rfl rfl)
theorem dX0_passes_5 : decode cX0_passes 5 = .ok (.iconst 1, 1) := dk_4 (dk_at dksX0_passes_0 5 rfl rfl)
theorem dX0_passes_6 : decode cX0_passes 6 = .ok (.iadd, 1) := dk_96 (dk_at dksX0_passes_0 6 rfl rfl)
theorem dX0_passes_7 : decode cX0_passes 7 = .ok (.bipush 24, 2) := dk_16 24 (dk_at dksX0_passes_0 7 rfl rfl)
theorem dX0_passes_9 : decode cX0_passes 9 = .ok (.irem, 1) := dk_112 (dk_at dksX0_passes_0 9 rfl rfl)
theorem dX0_passes_10 : decode cX0_passes 10 = .ok (.putfield 145, 3) := dk_181 0 145 (dk_at dksX0_passes_0 10 rfl rfl)
theorem dX0_passes_13 : decode cX0_passes 13 = .ok (.return_, 1) := dk_177 (dk_at dksX0_passes_0 13 rfl rfl)
abbrev cX0_springs : ByteArray := prog_1_method_38_code
def yX0_springs : MethodName := ⟨RX0, "springs", "(I)I"⟩
def dkwX0_springs_1 : List UInt8 := [182, 0, 228, 42, 182, 1, 3, 132, 2, 1, 167, 255, 240, 42, 180, 0, 9, 180, 0, 138, 184, 1, 6, 172]
abbrev dktX0_springs_1 : List UInt8 := dkwX0_springs_1 ++ []
def dkwX0_springs_0 : List UInt8 := [27, 133, 10, 20, 1, 1, 184, 0, 19, 154, 0, 5, 2, 172, 3, 61, 28, 27, 162, 0, 17, 42]
abbrev dktX0_springs_0 : List UInt8 := dkwX0_springs_0 ++ dktX0_springs_1
theorem dksX0_springs_0 : cX0_springs.data.toList.drop 0 = dktX0_springs_0 := by decide +kernel
theorem dksX0_springs_1 : cX0_springs.data.toList.drop 22 = dktX0_springs_1 := dk_seg dksX0_springs_0 22 rfl rfl
theorem dX0_springs_0 : decode cX0_springs 0 = .ok (.iload_n 1, 1) := dk_27 (dk_at dksX0_springs_0 0 rfl rfl)
theorem dX0_springs_1 : decode cX0_springs 1 = .ok (.i2l, 1) := dk_133 (dk_at dksX0_springs_0 1 rfl rfl)
theorem dX0_springs_2 : decode cX0_springs 2 = .ok (.lconst 1, 1) := dk_10 (dk_at dksX0_springs_0 2 rfl rfl)
theorem dX0_springs_3 : decode cX0_springs 3 = .ok (.ldc2_w 257, 3) := dk_20 1 1 (dk_at dksX0_springs_0 3 rfl rfl)
theorem dX0_springs_6 : decode cX0_springs 6 = .ok (.invokestatic 19, 3) := dk_184 0 19 (dk_at dksX0_springs_0 6 rfl rfl)
theorem dX0_springs_9 : decode cX0_springs 9 = .ok (.ifCond .ne 5, 3) := dk_154 0 5 (dk_at dksX0_springs_0 9 rfl rfl)
theorem dX0_springs_12 : decode cX0_springs 12 = .ok (.iconst (-1), 1) := dk_2 (dk_at dksX0_springs_0 12 rfl rfl)
theorem dX0_springs_13 : decode cX0_springs 13 = .ok (.ireturn, 1) := dk_172 (dk_at dksX0_springs_0 13 rfl rfl)
theorem dX0_springs_14 : decode cX0_springs 14 = .ok (.iconst 0, 1) := dk_3 (dk_at dksX0_springs_0 14 rfl rfl)
theorem dX0_springs_15 : decode cX0_springs 15 = .ok (.istore_n 2, 1) := dk_61 (dk_at dksX0_springs_0 15 rfl rfl)
theorem dX0_springs_16 : decode cX0_springs 16 = .ok (.iload_n 2, 1) := dk_28 (dk_at dksX0_springs_0 16 rfl rfl)
theorem dX0_springs_17 : decode cX0_springs 17 = .ok (.iload_n 1, 1) := dk_27 (dk_at dksX0_springs_0 17 rfl rfl)
theorem dX0_springs_18 : decode cX0_springs 18 = .ok (.if_icmp .ge 17, 3) := dk_162 0 17 (dk_at dksX0_springs_0 18 rfl rfl)
theorem dX0_springs_21 : decode cX0_springs 21 = .ok (.aload_n 0, 1) := dk_42 (dk_at dksX0_springs_0 21 rfl rfl)
theorem dX0_springs_22 : decode cX0_springs 22 = .ok (.invokevirtual 228, 3) := dk_182 0 228 (dk_at dksX0_springs_1 0 rfl rfl)
theorem dX0_springs_25 : decode cX0_springs 25 = .ok (.aload_n 0, 1) := dk_42 (dk_at dksX0_springs_1 3 rfl rfl)
theorem dX0_springs_26 : decode cX0_springs 26 = .ok (.invokevirtual 259, 3) := dk_182 1 3 (dk_at dksX0_springs_1 4 rfl rfl)
theorem dX0_springs_29 : decode cX0_springs 29 = .ok (.iinc 2 1, 3) := dk_132 2 1 (dk_at dksX0_springs_1 7 rfl rfl)
theorem dX0_springs_32 : decode cX0_springs 32 = .ok (.goto (-16), 3) := dk_167 255 240 (dk_at dksX0_springs_1 10 rfl rfl)
theorem dX0_springs_35 : decode cX0_springs 35 = .ok (.aload_n 0, 1) := dk_42 (dk_at dksX0_springs_1 13 rfl rfl)
theorem dX0_springs_36 : decode cX0_springs 36 = .ok (.getfield 9, 3) := dk_180 0 9 (dk_at dksX0_springs_1 14 rfl rfl)
theorem dX0_springs_39 : decode cX0_springs 39 = .ok (.getfield 138, 3) := dk_180 0 138 (dk_at dksX0_springs_1 17 rfl rfl)
theorem dX0_springs_42 : decode cX0_springs 42 = .ok (.invokestatic 262, 3) := dk_184 1 6 (dk_at dksX0_springs_1 20 rfl rfl)
theorem dX0_springs_45 : decode cX0_springs 45 = .ok (.ireturn, 1) := dk_172 (dk_at dksX0_springs_1 23 rfl rfl)
abbrev cX0_springs_2 : ByteArray := prog_1_method_37_code
def yX0_springs_2 : MethodName := ⟨RX0, "springs", "()V"⟩
def dkwX0_springs_2_5 : List UInt8 := [153, 0, 14, 42, 180, 0, 9, 180, 0, 226, 27, 28, 145, 84, 42, 42, 180, 0, 9, 182, 0, 81, 87, 177]
abbrev dktX0_springs_2_5 : List UInt8 := dkwX0_springs_2_5 ++ []
def dkwX0_springs_2_4 : List UInt8 := [154, 0, 14, 42, 180, 0, 9, 27, 184, 0, 240, 167, 0, 26, 28, 133, 9, 20, 0, 102, 184, 0, 19]
abbrev dktX0_springs_2_4 : List UInt8 := dkwX0_springs_2_4 ++ dktX0_springs_2_5
def dkwX0_springs_2_3 : List UInt8 := [16, 9, 122, 4, 126, 4, 160, 0, 7, 4, 167, 0, 4, 2, 96, 61, 42, 180, 0, 9, 27, 182, 0, 46]
abbrev dktX0_springs_2_3 : List UInt8 := dkwX0_springs_2_3 ++ dktX0_springs_2_4
def dkwX0_springs_2_2 : List UInt8 := [180, 0, 9, 180, 0, 13, 112, 60, 42, 180, 0, 9, 180, 0, 226, 27, 51, 42, 180, 0, 9, 180, 0, 251]
abbrev dktX0_springs_2_2 : List UInt8 := dkwX0_springs_2_2 ++ dktX0_springs_2_3
def dkwX0_springs_2_1 : List UInt8 := [42, 180, 0, 9, 180, 0, 13, 154, 0, 4, 177, 42, 180, 0, 9, 180, 0, 251, 19, 1, 0, 108, 42]
abbrev dktX0_springs_2_1 : List UInt8 := dkwX0_springs_2_1 ++ dktX0_springs_2_2
def dkwX0_springs_2_0 : List UInt8 := [42, 180, 0, 9, 42, 180, 0, 9, 180, 0, 251, 18, 254, 104, 17, 48, 57, 96, 18, 255, 126, 181, 0, 251]
abbrev dktX0_springs_2_0 : List UInt8 := dkwX0_springs_2_0 ++ dktX0_springs_2_1
theorem dksX0_springs_2_0 : cX0_springs_2.data.toList.drop 0 = dktX0_springs_2_0 := by decide +kernel
theorem dksX0_springs_2_1 : cX0_springs_2.data.toList.drop 24 = dktX0_springs_2_1 := dk_seg dksX0_springs_2_0 24 rfl rfl
theorem dksX0_springs_2_2 : cX0_springs_2.data.toList.drop 47 = dktX0_springs_2_2 := dk_seg dksX0_springs_2_1 23 rfl rfl
theorem dksX0_springs_2_3 : cX0_springs_2.data.toList.drop 71 = dktX0_springs_2_3 := dk_seg dksX0_springs_2_2 24 rfl rfl
theorem dksX0_springs_2_4 : cX0_springs_2.data.toList.drop 95 = dktX0_springs_2_4 := dk_seg dksX0_springs_2_3 24 rfl rfl
theorem dksX0_springs_2_5 : cX0_springs_2.data.toList.drop 118 = dktX0_springs_2_5 := dk_seg dksX0_springs_2_4 23 rfl rfl
theorem dX0_springs_2_0 : decode cX0_springs_2 0 = .ok (.aload_n 0, 1) := dk_42 (dk_at dksX0_springs_2_0 0 rfl rfl)
theorem dX0_springs_2_1 : decode cX0_springs_2 1 = .ok (.getfield 9, 3) := dk_180 0 9 (dk_at dksX0_springs_2_0 1 rfl rfl)
theorem dX0_springs_2_4 : decode cX0_springs_2 4 = .ok (.aload_n 0, 1) := dk_42 (dk_at dksX0_springs_2_0 4 rfl rfl)
theorem dX0_springs_2_5 : decode cX0_springs_2 5 = .ok (.getfield 9, 3) := dk_180 0 9 (dk_at dksX0_springs_2_0 5 rfl rfl)
theorem dX0_springs_2_8 : decode cX0_springs_2 8 = .ok (.getfield 251, 3) := dk_180 0 251 (dk_at dksX0_springs_2_0 8 rfl rfl)
theorem dX0_springs_2_11 : decode cX0_springs_2 11 = .ok (.ldc 254, 2) := dk_18 254 (dk_at dksX0_springs_2_0 11 rfl rfl)
theorem dX0_springs_2_13 : decode cX0_springs_2 13 = .ok (.imul, 1) := dk_104 (dk_at dksX0_springs_2_0 13 rfl rfl)
theorem dX0_springs_2_14 : decode cX0_springs_2 14 = .ok (.sipush 12345, 3) := dk_17 48 57 (dk_at dksX0_springs_2_0 14 rfl rfl)
theorem dX0_springs_2_17 : decode cX0_springs_2 17 = .ok (.iadd, 1) := dk_96 (dk_at dksX0_springs_2_0 17 rfl rfl)
theorem dX0_springs_2_18 : decode cX0_springs_2 18 = .ok (.ldc 255, 2) := dk_18 255 (dk_at dksX0_springs_2_0 18 rfl rfl)
theorem dX0_springs_2_20 : decode cX0_springs_2 20 = .ok (.iand, 1) := dk_126 (dk_at dksX0_springs_2_0 20 rfl rfl)
theorem dX0_springs_2_21 : decode cX0_springs_2 21 = .ok (.putfield 251, 3) := dk_181 0 251 (dk_at dksX0_springs_2_0 21 rfl rfl)
theorem dX0_springs_2_24 : decode cX0_springs_2 24 = .ok (.aload_n 0, 1) := dk_42 (dk_at dksX0_springs_2_1 0 rfl rfl)
theorem dX0_springs_2_25 : decode cX0_springs_2 25 = .ok (.getfield 9, 3) := dk_180 0 9 (dk_at dksX0_springs_2_1 1 rfl rfl)
theorem dX0_springs_2_28 : decode cX0_springs_2 28 = .ok (.getfield 13, 3) := dk_180 0 13 (dk_at dksX0_springs_2_1 4 rfl rfl)
theorem dX0_springs_2_31 : decode cX0_springs_2 31 = .ok (.ifCond .ne 4, 3) := dk_154 0 4 (dk_at dksX0_springs_2_1 7 rfl rfl)
theorem dX0_springs_2_34 : decode cX0_springs_2 34 = .ok (.return_, 1) := dk_177 (dk_at dksX0_springs_2_1 10 rfl rfl)
theorem dX0_springs_2_35 : decode cX0_springs_2 35 = .ok (.aload_n 0, 1) := dk_42 (dk_at dksX0_springs_2_1 11 rfl rfl)
theorem dX0_springs_2_36 : decode cX0_springs_2 36 = .ok (.getfield 9, 3) := dk_180 0 9 (dk_at dksX0_springs_2_1 12 rfl rfl)
theorem dX0_springs_2_39 : decode cX0_springs_2 39 = .ok (.getfield 251, 3) := dk_180 0 251 (dk_at dksX0_springs_2_1 15 rfl rfl)
theorem dX0_springs_2_42 : decode cX0_springs_2 42 = .ok (.ldc_w 256, 3) := dk_19 1 0 (dk_at dksX0_springs_2_1 18 rfl rfl)
theorem dX0_springs_2_45 : decode cX0_springs_2 45 = .ok (.idiv, 1) := dk_108 (dk_at dksX0_springs_2_1 21 rfl rfl)
theorem dX0_springs_2_46 : decode cX0_springs_2 46 = .ok (.aload_n 0, 1) := dk_42 (dk_at dksX0_springs_2_1 22 rfl rfl)
theorem dX0_springs_2_47 : decode cX0_springs_2 47 = .ok (.getfield 9, 3) := dk_180 0 9 (dk_at dksX0_springs_2_2 0 rfl rfl)
theorem dX0_springs_2_50 : decode cX0_springs_2 50 = .ok (.getfield 13, 3) := dk_180 0 13 (dk_at dksX0_springs_2_2 3 rfl rfl)
theorem dX0_springs_2_53 : decode cX0_springs_2 53 = .ok (.irem, 1) := dk_112 (dk_at dksX0_springs_2_2 6 rfl rfl)
theorem dX0_springs_2_54 : decode cX0_springs_2 54 = .ok (.istore_n 1, 1) := dk_60 (dk_at dksX0_springs_2_2 7 rfl rfl)
theorem dX0_springs_2_55 : decode cX0_springs_2 55 = .ok (.aload_n 0, 1) := dk_42 (dk_at dksX0_springs_2_2 8 rfl rfl)
theorem dX0_springs_2_56 : decode cX0_springs_2 56 = .ok (.getfield 9, 3) := dk_180 0 9 (dk_at dksX0_springs_2_2 9 rfl rfl)
theorem dX0_springs_2_59 : decode cX0_springs_2 59 = .ok (.getfield 226, 3) := dk_180 0 226 (dk_at dksX0_springs_2_2 12 rfl rfl)
theorem dX0_springs_2_62 : decode cX0_springs_2 62 = .ok (.iload_n 1, 1) := dk_27 (dk_at dksX0_springs_2_2 15 rfl rfl)
theorem dX0_springs_2_63 : decode cX0_springs_2 63 = .ok (.baload, 1) := dk_51 (dk_at dksX0_springs_2_2 16 rfl rfl)
theorem dX0_springs_2_64 : decode cX0_springs_2 64 = .ok (.aload_n 0, 1) := dk_42 (dk_at dksX0_springs_2_2 17 rfl rfl)
theorem dX0_springs_2_65 : decode cX0_springs_2 65 = .ok (.getfield 9, 3) := dk_180 0 9 (dk_at dksX0_springs_2_2 18 rfl rfl)
theorem dX0_springs_2_68 : decode cX0_springs_2 68 = .ok (.getfield 251, 3) := dk_180 0 251 (dk_at dksX0_springs_2_2 21 rfl rfl)
theorem dX0_springs_2_71 : decode cX0_springs_2 71 = .ok (.bipush 9, 2) := dk_16 9 (dk_at dksX0_springs_2_3 0 rfl rfl)
theorem dX0_springs_2_73 : decode cX0_springs_2 73 = .ok (.ishr, 1) := dk_122 (dk_at dksX0_springs_2_3 2 rfl rfl)
theorem dX0_springs_2_74 : decode cX0_springs_2 74 = .ok (.iconst 1, 1) := dk_4 (dk_at dksX0_springs_2_3 3 rfl rfl)
theorem dX0_springs_2_75 : decode cX0_springs_2 75 = .ok (.iand, 1) := dk_126 (dk_at dksX0_springs_2_3 4 rfl rfl)
theorem dX0_springs_2_76 : decode cX0_springs_2 76 = .ok (.iconst 1, 1) := dk_4 (dk_at dksX0_springs_2_3 5 rfl rfl)
theorem dX0_springs_2_77 : decode cX0_springs_2 77 = .ok (.if_icmp .ne 7, 3) := dk_160 0 7 (dk_at dksX0_springs_2_3 6 rfl rfl)
theorem dX0_springs_2_80 : decode cX0_springs_2 80 = .ok (.iconst 1, 1) := dk_4 (dk_at dksX0_springs_2_3 9 rfl rfl)
theorem dX0_springs_2_81 : decode cX0_springs_2 81 = .ok (.goto 4, 3) := dk_167 0 4 (dk_at dksX0_springs_2_3 10 rfl rfl)
theorem dX0_springs_2_84 : decode cX0_springs_2 84 = .ok (.iconst (-1), 1) := dk_2 (dk_at dksX0_springs_2_3 13 rfl rfl)
theorem dX0_springs_2_85 : decode cX0_springs_2 85 = .ok (.iadd, 1) := dk_96 (dk_at dksX0_springs_2_3 14 rfl rfl)
theorem dX0_springs_2_86 : decode cX0_springs_2 86 = .ok (.istore_n 2, 1) := dk_61 (dk_at dksX0_springs_2_3 15 rfl rfl)
theorem dX0_springs_2_87 : decode cX0_springs_2 87 = .ok (.aload_n 0, 1) := dk_42 (dk_at dksX0_springs_2_3 16 rfl rfl)
theorem dX0_springs_2_88 : decode cX0_springs_2 88 = .ok (.getfield 9, 3) := dk_180 0 9 (dk_at dksX0_springs_2_3 17 rfl rfl)
theorem dX0_springs_2_91 : decode cX0_springs_2 91 = .ok (.iload_n 1, 1) := dk_27 (dk_at dksX0_springs_2_3 20 rfl rfl)
theorem dX0_springs_2_92 : decode cX0_springs_2 92 = .ok (.invokevirtual 46, 3) := dk_182 0 46 (dk_at dksX0_springs_2_3 21 rfl rfl)
theorem dX0_springs_2_95 : decode cX0_springs_2 95 = .ok (.ifCond .ne 14, 3) := dk_154 0 14 (dk_at dksX0_springs_2_4 0 rfl rfl)
theorem dX0_springs_2_98 : decode cX0_springs_2 98 = .ok (.aload_n 0, 1) := dk_42 (dk_at dksX0_springs_2_4 3 rfl rfl)
theorem dX0_springs_2_99 : decode cX0_springs_2 99 = .ok (.getfield 9, 3) := dk_180 0 9 (dk_at dksX0_springs_2_4 4 rfl rfl)
theorem dX0_springs_2_102 : decode cX0_springs_2 102 = .ok (.iload_n 1, 1) := dk_27 (dk_at dksX0_springs_2_4 7 rfl rfl)
theorem dX0_springs_2_103 : decode cX0_springs_2 103 = .ok (.invokestatic 240, 3) := dk_184 0 240 (dk_at dksX0_springs_2_4 8 rfl rfl)
theorem dX0_springs_2_106 : decode cX0_springs_2 106 = .ok (.goto 26, 3) := dk_167 0 26 (dk_at dksX0_springs_2_4 11 rfl rfl)
theorem dX0_springs_2_109 : decode cX0_springs_2 109 = .ok (.iload_n 2, 1) := dk_28 (dk_at dksX0_springs_2_4 14 rfl rfl)
theorem dX0_springs_2_110 : decode cX0_springs_2 110 = .ok (.i2l, 1) := dk_133 (dk_at dksX0_springs_2_4 15 rfl rfl)
theorem dX0_springs_2_111 : decode cX0_springs_2 111 = .ok (.lconst 0, 1) := dk_9 (dk_at dksX0_springs_2_4 16 rfl rfl)
theorem dX0_springs_2_112 : decode cX0_springs_2 112 = .ok (.ldc2_w 102, 3) := dk_20 0 102 (dk_at dksX0_springs_2_4 17 rfl rfl)
theorem dX0_springs_2_115 : decode cX0_springs_2 115 = .ok (.invokestatic 19, 3) := dk_184 0 19 (dk_at dksX0_springs_2_4 20 rfl rfl)
theorem dX0_springs_2_118 : decode cX0_springs_2 118 = .ok (.ifCond .eq 14, 3) := dk_153 0 14 (dk_at dksX0_springs_2_5 0 rfl rfl)
theorem dX0_springs_2_121 : decode cX0_springs_2 121 = .ok (.aload_n 0, 1) := dk_42 (dk_at dksX0_springs_2_5 3 rfl rfl)
theorem dX0_springs_2_122 : decode cX0_springs_2 122 = .ok (.getfield 9, 3) := dk_180 0 9 (dk_at dksX0_springs_2_5 4 rfl rfl)
theorem dX0_springs_2_125 : decode cX0_springs_2 125 = .ok (.getfield 226, 3) := dk_180 0 226 (dk_at dksX0_springs_2_5 7 rfl rfl)
theorem dX0_springs_2_128 : decode cX0_springs_2 128 = .ok (.iload_n 1, 1) := dk_27 (dk_at dksX0_springs_2_5 10 rfl rfl)
theorem dX0_springs_2_129 : decode cX0_springs_2 129 = .ok (.iload_n 2, 1) := dk_28 (dk_at dksX0_springs_2_5 11 rfl rfl)
theorem dX0_springs_2_130 : decode cX0_springs_2 130 = .ok (.i2b, 1) := dk_145 (dk_at dksX0_springs_2_5 12 rfl rfl)
theorem dX0_springs_2_131 : decode cX0_springs_2 131 = .ok (.bastore, 1) := dk_84 (dk_at dksX0_springs_2_5 13 rfl rfl)
theorem dX0_springs_2_132 : decode cX0_springs_2 132 = .ok (.aload_n 0, 1) := dk_42 (dk_at dksX0_springs_2_5 14 rfl rfl)
theorem dX0_springs_2_133 : decode cX0_springs_2 133 = .ok (.aload_n 0, 1) := dk_42 (dk_at dksX0_springs_2_5 15 rfl rfl)
theorem dX0_springs_2_134 : decode cX0_springs_2 134 = .ok (.getfield 9, 3) := dk_180 0 9 (dk_at dksX0_springs_2_5 16 rfl rfl)
theorem dX0_springs_2_137 : decode cX0_springs_2 137 = .ok (.invokevirtual 81, 3) := dk_182 0 81 (dk_at dksX0_springs_2_5 19 rfl rfl)
theorem dX0_springs_2_140 : decode cX0_springs_2 140 = .ok (.pop, 1) := dk_87 (dk_at dksX0_springs_2_5 22 rfl rfl)
theorem dX0_springs_2_141 : decode cX0_springs_2 141 = .ok (.return_, 1) := dk_177 (dk_at dksX0_springs_2_5 23 rfl rfl)
abbrev cX0_undo : ByteArray := prog_1_method_39_code
def yX0_undo : MethodName := ⟨RX0, "undo", "()I"⟩
def dkwX0_undo_1 : List UInt8 := [192, 0, 14, 182, 0, 216, 87, 42, 180, 0, 112, 182, 0, 154, 172]
abbrev dktX0_undo_1 : List UInt8 := dkwX0_undo_1 ++ []
def dkwX0_undo_0 : List UInt8 := [42, 180, 0, 112, 182, 1, 11, 153, 0, 6, 16, 252, 172, 42, 180, 0, 9, 42, 180, 0, 112, 182, 1, 15]
abbrev dktX0_undo_0 : List UInt8 := dkwX0_undo_0 ++ dktX0_undo_1
theorem dksX0_undo_0 : cX0_undo.data.toList.drop 0 = dktX0_undo_0 := by decide +kernel
theorem dksX0_undo_1 : cX0_undo.data.toList.drop 24 = dktX0_undo_1 := dk_seg dksX0_undo_0 24 rfl rfl
theorem dX0_undo_0 : decode cX0_undo 0 = .ok (.aload_n 0, 1) := dk_42 (dk_at dksX0_undo_0 0 rfl rfl)
theorem dX0_undo_1 : decode cX0_undo 1 = .ok (.getfield 112, 3) := dk_180 0 112 (dk_at dksX0_undo_0 1 rfl rfl)
theorem dX0_undo_4 : decode cX0_undo 4 = .ok (.invokevirtual 267, 3) := dk_182 1 11 (dk_at dksX0_undo_0 4 rfl rfl)
theorem dX0_undo_7 : decode cX0_undo 7 = .ok (.ifCond .eq 6, 3) := dk_153 0 6 (dk_at dksX0_undo_0 7 rfl rfl)
theorem dX0_undo_10 : decode cX0_undo 10 = .ok (.bipush (-4), 2) := dk_16 252 (dk_at dksX0_undo_0 10 rfl rfl)
theorem dX0_undo_12 : decode cX0_undo 12 = .ok (.ireturn, 1) := dk_172 (dk_at dksX0_undo_0 12 rfl rfl)
theorem dX0_undo_13 : decode cX0_undo 13 = .ok (.aload_n 0, 1) := dk_42 (dk_at dksX0_undo_0 13 rfl rfl)
theorem dX0_undo_14 : decode cX0_undo 14 = .ok (.getfield 9, 3) := dk_180 0 9 (dk_at dksX0_undo_0 14 rfl rfl)
theorem dX0_undo_17 : decode cX0_undo 17 = .ok (.aload_n 0, 1) := dk_42 (dk_at dksX0_undo_0 17 rfl rfl)
theorem dX0_undo_18 : decode cX0_undo 18 = .ok (.getfield 112, 3) := dk_180 0 112 (dk_at dksX0_undo_0 18 rfl rfl)
theorem dX0_undo_21 : decode cX0_undo 21 = .ok (.invokevirtual 271, 3) := dk_182 1 15 (dk_at dksX0_undo_0 21 rfl rfl)
theorem dX0_undo_24 : decode cX0_undo 24 = .ok (.checkcast 14, 3) := dk_192 0 14 (dk_at dksX0_undo_1 0 rfl rfl)
theorem dX0_undo_27 : decode cX0_undo 27 = .ok (.invokevirtual 216, 3) := dk_182 0 216 (dk_at dksX0_undo_1 3 rfl rfl)
theorem dX0_undo_30 : decode cX0_undo 30 = .ok (.pop, 1) := dk_87 (dk_at dksX0_undo_1 6 rfl rfl)
theorem dX0_undo_31 : decode cX0_undo 31 = .ok (.aload_n 0, 1) := dk_42 (dk_at dksX0_undo_1 7 rfl rfl)
theorem dX0_undo_32 : decode cX0_undo 32 = .ok (.getfield 112, 3) := dk_180 0 112 (dk_at dksX0_undo_1 8 rfl rfl)
theorem dX0_undo_35 : decode cX0_undo 35 = .ok (.invokevirtual 154, 3) := dk_182 0 154 (dk_at dksX0_undo_1 11 rfl rfl)
theorem dX0_undo_38 : decode cX0_undo 38 = .ok (.ireturn, 1) := dk_172 (dk_at dksX0_undo_1 14 rfl rfl)
abbrev cX0_seed : ByteArray := prog_1_method_40_code
def yX0_seed : MethodName := ⟨RX0, "seed", "(I)I"⟩
def dkwX0_seed_0 : List UInt8 := [27, 156, 0, 5, 2, 172, 42, 180, 0, 9, 180, 0, 251, 61, 42, 180, 0, 9, 27, 181, 0, 251, 28, 172]
abbrev dktX0_seed_0 : List UInt8 := dkwX0_seed_0 ++ []
theorem dksX0_seed_0 : cX0_seed.data.toList.drop 0 = dktX0_seed_0 := by decide +kernel
theorem dX0_seed_0 : decode cX0_seed 0 = .ok (.iload_n 1, 1) := dk_27 (dk_at dksX0_seed_0 0 rfl rfl)
theorem dX0_seed_1 : decode cX0_seed 1 = .ok (.ifCond .ge 5, 3) := dk_156 0 5 (dk_at dksX0_seed_0 1 rfl rfl)
theorem dX0_seed_4 : decode cX0_seed 4 = .ok (.iconst (-1), 1) := dk_2 (dk_at dksX0_seed_0 4 rfl rfl)
theorem dX0_seed_5 : decode cX0_seed 5 = .ok (.ireturn, 1) := dk_172 (dk_at dksX0_seed_0 5 rfl rfl)
theorem dX0_seed_6 : decode cX0_seed 6 = .ok (.aload_n 0, 1) := dk_42 (dk_at dksX0_seed_0 6 rfl rfl)
theorem dX0_seed_7 : decode cX0_seed 7 = .ok (.getfield 9, 3) := dk_180 0 9 (dk_at dksX0_seed_0 7 rfl rfl)
theorem dX0_seed_10 : decode cX0_seed 10 = .ok (.getfield 251, 3) := dk_180 0 251 (dk_at dksX0_seed_0 10 rfl rfl)
theorem dX0_seed_13 : decode cX0_seed 13 = .ok (.istore_n 2, 1) := dk_61 (dk_at dksX0_seed_0 13 rfl rfl)
theorem dX0_seed_14 : decode cX0_seed 14 = .ok (.aload_n 0, 1) := dk_42 (dk_at dksX0_seed_0 14 rfl rfl)
theorem dX0_seed_15 : decode cX0_seed 15 = .ok (.getfield 9, 3) := dk_180 0 9 (dk_at dksX0_seed_0 15 rfl rfl)
theorem dX0_seed_18 : decode cX0_seed 18 = .ok (.iload_n 1, 1) := dk_27 (dk_at dksX0_seed_0 18 rfl rfl)
theorem dX0_seed_19 : decode cX0_seed 19 = .ok (.putfield 251, 3) := dk_181 0 251 (dk_at dksX0_seed_0 19 rfl rfl)
theorem dX0_seed_22 : decode cX0_seed 22 = .ok (.iload_n 2, 1) := dk_28 (dk_at dksX0_seed_0 22 rfl rfl)
theorem dX0_seed_23 : decode cX0_seed 23 = .ok (.ireturn, 1) := dk_172 (dk_at dksX0_seed_0 23 rfl rfl)
abbrev cX0_far : ByteArray := prog_1_method_42_code
def yX0_far : MethodName := ⟨RX0, "far", "(II)I"⟩
def dkwX0_far_4 : List UInt8 := [96, 145, 84, 42, 25, 5, 182, 1, 24, 154, 0, 6, 167, 0, 9, 132, 4, 1, 167, 255, 190, 21, 4, 172]
abbrev dktX0_far_4 : List UInt8 := dkwX0_far_4 ++ []
def dkwX0_far_3 : List UInt8 := [153, 0, 45, 42, 182, 1, 21, 58, 5, 25, 5, 180, 0, 226, 27, 92, 51, 29, 21, 4, 4, 96, 104, 145]
abbrev dktX0_far_3 : List UInt8 := dkwX0_far_3 ++ dktX0_far_4
def dkwX0_far_2 : List UInt8 := [180, 0, 9, 180, 0, 226, 27, 51, 29, 21, 4, 4, 96, 104, 96, 133, 9, 20, 0, 102, 184, 0, 19]
abbrev dktX0_far_2 : List UInt8 := dkwX0_far_2 ++ dktX0_far_3
def dkwX0_far_1 : List UInt8 := [27, 182, 0, 46, 154, 0, 6, 16, 254, 172, 28, 154, 0, 7, 2, 167, 0, 4, 4, 62, 3, 54, 4, 42]
abbrev dktX0_far_1 : List UInt8 := dkwX0_far_1 ++ dktX0_far_2
def dkwX0_far_0 : List UInt8 := [42, 27, 182, 0, 122, 153, 0, 13, 28, 133, 9, 10, 184, 0, 19, 154, 0, 5, 2, 172, 42, 180, 0, 9]
abbrev dktX0_far_0 : List UInt8 := dkwX0_far_0 ++ dktX0_far_1
theorem dksX0_far_0 : cX0_far.data.toList.drop 0 = dktX0_far_0 := by decide +kernel
theorem dksX0_far_1 : cX0_far.data.toList.drop 24 = dktX0_far_1 := dk_seg dksX0_far_0 24 rfl rfl
theorem dksX0_far_2 : cX0_far.data.toList.drop 48 = dktX0_far_2 := dk_seg dksX0_far_1 24 rfl rfl
theorem dksX0_far_3 : cX0_far.data.toList.drop 71 = dktX0_far_3 := dk_seg dksX0_far_2 23 rfl rfl
theorem dksX0_far_4 : cX0_far.data.toList.drop 95 = dktX0_far_4 := dk_seg dksX0_far_3 24 rfl rfl
theorem dX0_far_0 : decode cX0_far 0 = .ok (.aload_n 0, 1) := dk_42 (dk_at dksX0_far_0 0 rfl rfl)
theorem dX0_far_1 : decode cX0_far 1 = .ok (.iload_n 1, 1) := dk_27 (dk_at dksX0_far_0 1 rfl rfl)
theorem dX0_far_2 : decode cX0_far 2 = .ok (.invokevirtual 122, 3) := dk_182 0 122 (dk_at dksX0_far_0 2 rfl rfl)
theorem dX0_far_5 : decode cX0_far 5 = .ok (.ifCond .eq 13, 3) := dk_153 0 13 (dk_at dksX0_far_0 5 rfl rfl)
theorem dX0_far_8 : decode cX0_far 8 = .ok (.iload_n 2, 1) := dk_28 (dk_at dksX0_far_0 8 rfl rfl)
theorem dX0_far_9 : decode cX0_far 9 = .ok (.i2l, 1) := dk_133 (dk_at dksX0_far_0 9 rfl rfl)
theorem dX0_far_10 : decode cX0_far 10 = .ok (.lconst 0, 1) := dk_9 (dk_at dksX0_far_0 10 rfl rfl)
theorem dX0_far_11 : decode cX0_far 11 = .ok (.lconst 1, 1) := dk_10 (dk_at dksX0_far_0 11 rfl rfl)
theorem dX0_far_12 : decode cX0_far 12 = .ok (.invokestatic 19, 3) := dk_184 0 19 (dk_at dksX0_far_0 12 rfl rfl)
theorem dX0_far_15 : decode cX0_far 15 = .ok (.ifCond .ne 5, 3) := dk_154 0 5 (dk_at dksX0_far_0 15 rfl rfl)
theorem dX0_far_18 : decode cX0_far 18 = .ok (.iconst (-1), 1) := dk_2 (dk_at dksX0_far_0 18 rfl rfl)
theorem dX0_far_19 : decode cX0_far 19 = .ok (.ireturn, 1) := dk_172 (dk_at dksX0_far_0 19 rfl rfl)
theorem dX0_far_20 : decode cX0_far 20 = .ok (.aload_n 0, 1) := dk_42 (dk_at dksX0_far_0 20 rfl rfl)
theorem dX0_far_21 : decode cX0_far 21 = .ok (.getfield 9, 3) := dk_180 0 9 (dk_at dksX0_far_0 21 rfl rfl)
theorem dX0_far_24 : decode cX0_far 24 = .ok (.iload_n 1, 1) := dk_27 (dk_at dksX0_far_1 0 rfl rfl)
theorem dX0_far_25 : decode cX0_far 25 = .ok (.invokevirtual 46, 3) := dk_182 0 46 (dk_at dksX0_far_1 1 rfl rfl)
theorem dX0_far_28 : decode cX0_far 28 = .ok (.ifCond .ne 6, 3) := dk_154 0 6 (dk_at dksX0_far_1 4 rfl rfl)
theorem dX0_far_31 : decode cX0_far 31 = .ok (.bipush (-2), 2) := dk_16 254 (dk_at dksX0_far_1 7 rfl rfl)
theorem dX0_far_33 : decode cX0_far 33 = .ok (.ireturn, 1) := dk_172 (dk_at dksX0_far_1 9 rfl rfl)
theorem dX0_far_34 : decode cX0_far 34 = .ok (.iload_n 2, 1) := dk_28 (dk_at dksX0_far_1 10 rfl rfl)
theorem dX0_far_35 : decode cX0_far 35 = .ok (.ifCond .ne 7, 3) := dk_154 0 7 (dk_at dksX0_far_1 11 rfl rfl)
theorem dX0_far_38 : decode cX0_far 38 = .ok (.iconst (-1), 1) := dk_2 (dk_at dksX0_far_1 14 rfl rfl)
theorem dX0_far_39 : decode cX0_far 39 = .ok (.goto 4, 3) := dk_167 0 4 (dk_at dksX0_far_1 15 rfl rfl)
theorem dX0_far_42 : decode cX0_far 42 = .ok (.iconst 1, 1) := dk_4 (dk_at dksX0_far_1 18 rfl rfl)
theorem dX0_far_43 : decode cX0_far 43 = .ok (.istore_n 3, 1) := dk_62 (dk_at dksX0_far_1 19 rfl rfl)
theorem dX0_far_44 : decode cX0_far 44 = .ok (.iconst 0, 1) := dk_3 (dk_at dksX0_far_1 20 rfl rfl)
theorem dX0_far_45 : decode cX0_far 45 = .ok (.istore 4, 2) := dk_54 4 (dk_at dksX0_far_1 21 rfl rfl)
theorem dX0_far_47 : decode cX0_far 47 = .ok (.aload_n 0, 1) := dk_42 (dk_at dksX0_far_1 23 rfl rfl)
theorem dX0_far_48 : decode cX0_far 48 = .ok (.getfield 9, 3) := dk_180 0 9 (dk_at dksX0_far_2 0 rfl rfl)
theorem dX0_far_51 : decode cX0_far 51 = .ok (.getfield 226, 3) := dk_180 0 226 (dk_at dksX0_far_2 3 rfl rfl)
theorem dX0_far_54 : decode cX0_far 54 = .ok (.iload_n 1, 1) := dk_27 (dk_at dksX0_far_2 6 rfl rfl)
theorem dX0_far_55 : decode cX0_far 55 = .ok (.baload, 1) := dk_51 (dk_at dksX0_far_2 7 rfl rfl)
theorem dX0_far_56 : decode cX0_far 56 = .ok (.iload_n 3, 1) := dk_29 (dk_at dksX0_far_2 8 rfl rfl)
theorem dX0_far_57 : decode cX0_far 57 = .ok (.iload 4, 2) := dk_21 4 (dk_at dksX0_far_2 9 rfl rfl)
theorem dX0_far_59 : decode cX0_far 59 = .ok (.iconst 1, 1) := dk_4 (dk_at dksX0_far_2 11 rfl rfl)
theorem dX0_far_60 : decode cX0_far 60 = .ok (.iadd, 1) := dk_96 (dk_at dksX0_far_2 12 rfl rfl)
theorem dX0_far_61 : decode cX0_far 61 = .ok (.imul, 1) := dk_104 (dk_at dksX0_far_2 13 rfl rfl)
theorem dX0_far_62 : decode cX0_far 62 = .ok (.iadd, 1) := dk_96 (dk_at dksX0_far_2 14 rfl rfl)
theorem dX0_far_63 : decode cX0_far 63 = .ok (.i2l, 1) := dk_133 (dk_at dksX0_far_2 15 rfl rfl)
theorem dX0_far_64 : decode cX0_far 64 = .ok (.lconst 0, 1) := dk_9 (dk_at dksX0_far_2 16 rfl rfl)
theorem dX0_far_65 : decode cX0_far 65 = .ok (.ldc2_w 102, 3) := dk_20 0 102 (dk_at dksX0_far_2 17 rfl rfl)
theorem dX0_far_68 : decode cX0_far 68 = .ok (.invokestatic 19, 3) := dk_184 0 19 (dk_at dksX0_far_2 20 rfl rfl)
theorem dX0_far_71 : decode cX0_far 71 = .ok (.ifCond .eq 45, 3) := dk_153 0 45 (dk_at dksX0_far_3 0 rfl rfl)
theorem dX0_far_74 : decode cX0_far 74 = .ok (.aload_n 0, 1) := dk_42 (dk_at dksX0_far_3 3 rfl rfl)
theorem dX0_far_75 : decode cX0_far 75 = .ok (.invokevirtual 277, 3) := dk_182 1 21 (dk_at dksX0_far_3 4 rfl rfl)
theorem dX0_far_78 : decode cX0_far 78 = .ok (.astore 5, 2) := dk_58 5 (dk_at dksX0_far_3 7 rfl rfl)
theorem dX0_far_80 : decode cX0_far 80 = .ok (.aload 5, 2) := dk_25 5 (dk_at dksX0_far_3 9 rfl rfl)
theorem dX0_far_82 : decode cX0_far 82 = .ok (.getfield 226, 3) := dk_180 0 226 (dk_at dksX0_far_3 11 rfl rfl)
theorem dX0_far_85 : decode cX0_far 85 = .ok (.iload_n 1, 1) := dk_27 (dk_at dksX0_far_3 14 rfl rfl)
theorem dX0_far_86 : decode cX0_far 86 = .ok (.dup2, 1) := dk_92 (dk_at dksX0_far_3 15 rfl rfl)
theorem dX0_far_87 : decode cX0_far 87 = .ok (.baload, 1) := dk_51 (dk_at dksX0_far_3 16 rfl rfl)
theorem dX0_far_88 : decode cX0_far 88 = .ok (.iload_n 3, 1) := dk_29 (dk_at dksX0_far_3 17 rfl rfl)
theorem dX0_far_89 : decode cX0_far 89 = .ok (.iload 4, 2) := dk_21 4 (dk_at dksX0_far_3 18 rfl rfl)
theorem dX0_far_91 : decode cX0_far 91 = .ok (.iconst 1, 1) := dk_4 (dk_at dksX0_far_3 20 rfl rfl)
theorem dX0_far_92 : decode cX0_far 92 = .ok (.iadd, 1) := dk_96 (dk_at dksX0_far_3 21 rfl rfl)
theorem dX0_far_93 : decode cX0_far 93 = .ok (.imul, 1) := dk_104 (dk_at dksX0_far_3 22 rfl rfl)
theorem dX0_far_94 : decode cX0_far 94 = .ok (.i2b, 1) := dk_145 (dk_at dksX0_far_3 23 rfl rfl)
theorem dX0_far_95 : decode cX0_far 95 = .ok (.iadd, 1) := dk_96 (dk_at dksX0_far_4 0 rfl rfl)
theorem dX0_far_96 : decode cX0_far 96 = .ok (.i2b, 1) := dk_145 (dk_at dksX0_far_4 1 rfl rfl)
theorem dX0_far_97 : decode cX0_far 97 = .ok (.bastore, 1) := dk_84 (dk_at dksX0_far_4 2 rfl rfl)
theorem dX0_far_98 : decode cX0_far 98 = .ok (.aload_n 0, 1) := dk_42 (dk_at dksX0_far_4 3 rfl rfl)
theorem dX0_far_99 : decode cX0_far 99 = .ok (.aload 5, 2) := dk_25 5 (dk_at dksX0_far_4 4 rfl rfl)
theorem dX0_far_101 : decode cX0_far 101 = .ok (.invokevirtual 280, 3) := dk_182 1 24 (dk_at dksX0_far_4 6 rfl rfl)
theorem dX0_far_104 : decode cX0_far 104 = .ok (.ifCond .ne 6, 3) := dk_154 0 6 (dk_at dksX0_far_4 9 rfl rfl)
theorem dX0_far_107 : decode cX0_far 107 = .ok (.goto 9, 3) := dk_167 0 9 (dk_at dksX0_far_4 12 rfl rfl)
theorem dX0_far_110 : decode cX0_far 110 = .ok (.iinc 4 1, 3) := dk_132 4 1 (dk_at dksX0_far_4 15 rfl rfl)
theorem dX0_far_113 : decode cX0_far 113 = .ok (.goto (-66), 3) := dk_167 255 190 (dk_at dksX0_far_4 18 rfl rfl)
theorem dX0_far_116 : decode cX0_far 116 = .ok (.iload 4, 2) := dk_21 4 (dk_at dksX0_far_4 21 rfl rfl)
theorem dX0_far_118 : decode cX0_far 118 = .ok (.ireturn, 1) := dk_172 (dk_at dksX0_far_4 23 rfl rfl)
abbrev cX0_tries : ByteArray := prog_1_method_41_code
def yX0_tries : MethodName := ⟨RX0, "tries", "()LOneElastic$Town;"⟩
def dkwX0_tries_0 : List UInt8 := [42, 180, 1, 18, 42, 180, 0, 9, 182, 0, 216, 176]
abbrev dktX0_tries_0 : List UInt8 := dkwX0_tries_0 ++ []
theorem dksX0_tries_0 : cX0_tries.data.toList.drop 0 = dktX0_tries_0 := by decide +kernel
theorem dX0_tries_0 : decode cX0_tries 0 = .ok (.aload_n 0, 1) := dk_42 (dk_at dksX0_tries_0 0 rfl rfl)
theorem dX0_tries_1 : decode cX0_tries 1 = .ok (.getfield 274, 3) := dk_180 1 18 (dk_at dksX0_tries_0 1 rfl rfl)
theorem dX0_tries_4 : decode cX0_tries 4 = .ok (.aload_n 0, 1) := dk_42 (dk_at dksX0_tries_0 4 rfl rfl)
theorem dX0_tries_5 : decode cX0_tries 5 = .ok (.getfield 9, 3) := dk_180 0 9 (dk_at dksX0_tries_0 5 rfl rfl)
theorem dX0_tries_8 : decode cX0_tries 8 = .ok (.invokevirtual 216, 3) := dk_182 0 216 (dk_at dksX0_tries_0 8 rfl rfl)
theorem dX0_tries_11 : decode cX0_tries 11 = .ok (.areturn, 1) := dk_176 (dk_at dksX0_tries_0 11 rfl rfl)
abbrev cX0_isStill : ByteArray := prog_1_method_10_code
def yX0_isStill : MethodName := ⟨RX0, "isStill", "(LOneElastic$Town;)Z"⟩
def dkwX0_isStill_0 : List UInt8 := [42, 43, 182, 0, 81, 154, 0, 14, 42, 180, 0, 26, 154, 0, 7, 4, 167, 0, 4, 3, 172]
abbrev dktX0_isStill_0 : List UInt8 := dkwX0_isStill_0 ++ []
theorem dksX0_isStill_0 : cX0_isStill.data.toList.drop 0 = dktX0_isStill_0 := by decide +kernel
theorem dX0_isStill_0 : decode cX0_isStill 0 = .ok (.aload_n 0, 1) := dk_42 (dk_at dksX0_isStill_0 0 rfl rfl)
theorem dX0_isStill_1 : decode cX0_isStill 1 = .ok (.aload_n 1, 1) := dk_43 (dk_at dksX0_isStill_0 1 rfl rfl)
theorem dX0_isStill_2 : decode cX0_isStill 2 = .ok (.invokevirtual 81, 3) := dk_182 0 81 (dk_at dksX0_isStill_0 2 rfl rfl)
theorem dX0_isStill_5 : decode cX0_isStill 5 = .ok (.ifCond .ne 14, 3) := dk_154 0 14 (dk_at dksX0_isStill_0 5 rfl rfl)
theorem dX0_isStill_8 : decode cX0_isStill 8 = .ok (.aload_n 0, 1) := dk_42 (dk_at dksX0_isStill_0 8 rfl rfl)
theorem dX0_isStill_9 : decode cX0_isStill 9 = .ok (.getfield 26, 3) := dk_180 0 26 (dk_at dksX0_isStill_0 9 rfl rfl)
theorem dX0_isStill_12 : decode cX0_isStill 12 = .ok (.ifCond .ne 7, 3) := dk_154 0 7 (dk_at dksX0_isStill_0 12 rfl rfl)
theorem dX0_isStill_15 : decode cX0_isStill 15 = .ok (.iconst 1, 1) := dk_4 (dk_at dksX0_isStill_0 15 rfl rfl)
theorem dX0_isStill_16 : decode cX0_isStill 16 = .ok (.goto 4, 3) := dk_167 0 4 (dk_at dksX0_isStill_0 16 rfl rfl)
theorem dX0_isStill_19 : decode cX0_isStill 19 = .ok (.iconst 0, 1) := dk_3 (dk_at dksX0_isStill_0 19 rfl rfl)
theorem dX0_isStill_20 : decode cX0_isStill 20 = .ok (.ireturn, 1) := dk_172 (dk_at dksX0_isStill_0 20 rfl rfl)
abbrev cX0_fall : ByteArray := prog_1_method_43_code
def yX0_fall : MethodName := ⟨RX0, "fall", "(II)I"⟩
def dkwX0_fall_3 : List UInt8 := [167, 0, 5, 16, 252, 172]
abbrev dktX0_fall_3 : List UInt8 := dkwX0_fall_3 ++ []
def dkwX0_fall_2 : List UInt8 := [156, 0, 10, 42, 180, 0, 23, 167, 0, 22, 28, 42, 180, 0, 23, 162, 0, 12, 42, 180, 0, 71, 28, 46]
abbrev dktX0_fall_2 : List UInt8 := dkwX0_fall_2 ++ dktX0_fall_3
def dkwX0_fall_1 : List UInt8 := [154, 0, 6, 16, 254, 172, 42, 182, 1, 21, 78, 45, 27, 182, 0, 67, 42, 45, 182, 0, 81, 87, 28]
abbrev dktX0_fall_1 : List UInt8 := dkwX0_fall_1 ++ dktX0_fall_2
def dkwX0_fall_0 : List UInt8 := [42, 27, 182, 0, 122, 153, 0, 8, 28, 2, 162, 0, 5, 2, 172, 42, 180, 0, 9, 27, 182, 0, 46]
abbrev dktX0_fall_0 : List UInt8 := dkwX0_fall_0 ++ dktX0_fall_1
theorem dksX0_fall_0 : cX0_fall.data.toList.drop 0 = dktX0_fall_0 := by decide +kernel
theorem dksX0_fall_1 : cX0_fall.data.toList.drop 23 = dktX0_fall_1 := dk_seg dksX0_fall_0 23 rfl rfl
theorem dksX0_fall_2 : cX0_fall.data.toList.drop 46 = dktX0_fall_2 := dk_seg dksX0_fall_1 23 rfl rfl
theorem dksX0_fall_3 : cX0_fall.data.toList.drop 70 = dktX0_fall_3 := dk_seg dksX0_fall_2 24 rfl rfl
theorem dX0_fall_0 : decode cX0_fall 0 = .ok (.aload_n 0, 1) := dk_42 (dk_at dksX0_fall_0 0 rfl rfl)
theorem dX0_fall_1 : decode cX0_fall 1 = .ok (.iload_n 1, 1) := dk_27 (dk_at dksX0_fall_0 1 rfl rfl)
theorem dX0_fall_2 : decode cX0_fall 2 = .ok (.invokevirtual 122, 3) := dk_182 0 122 (dk_at dksX0_fall_0 2 rfl rfl)
theorem dX0_fall_5 : decode cX0_fall 5 = .ok (.ifCond .eq 8, 3) := dk_153 0 8 (dk_at dksX0_fall_0 5 rfl rfl)
theorem dX0_fall_8 : decode cX0_fall 8 = .ok (.iload_n 2, 1) := dk_28 (dk_at dksX0_fall_0 8 rfl rfl)
theorem dX0_fall_9 : decode cX0_fall 9 = .ok (.iconst (-1), 1) := dk_2 (dk_at dksX0_fall_0 9 rfl rfl)
theorem dX0_fall_10 : decode cX0_fall 10 = .ok (.if_icmp .ge 5, 3) := dk_162 0 5 (dk_at dksX0_fall_0 10 rfl rfl)
theorem dX0_fall_13 : decode cX0_fall 13 = .ok (.iconst (-1), 1) := dk_2 (dk_at dksX0_fall_0 13 rfl rfl)
theorem dX0_fall_14 : decode cX0_fall 14 = .ok (.ireturn, 1) := dk_172 (dk_at dksX0_fall_0 14 rfl rfl)
theorem dX0_fall_15 : decode cX0_fall 15 = .ok (.aload_n 0, 1) := dk_42 (dk_at dksX0_fall_0 15 rfl rfl)
theorem dX0_fall_16 : decode cX0_fall 16 = .ok (.getfield 9, 3) := dk_180 0 9 (dk_at dksX0_fall_0 16 rfl rfl)
theorem dX0_fall_19 : decode cX0_fall 19 = .ok (.iload_n 1, 1) := dk_27 (dk_at dksX0_fall_0 19 rfl rfl)
theorem dX0_fall_20 : decode cX0_fall 20 = .ok (.invokevirtual 46, 3) := dk_182 0 46 (dk_at dksX0_fall_0 20 rfl rfl)
theorem dX0_fall_23 : decode cX0_fall 23 = .ok (.ifCond .ne 6, 3) := dk_154 0 6 (dk_at dksX0_fall_1 0 rfl rfl)
theorem dX0_fall_26 : decode cX0_fall 26 = .ok (.bipush (-2), 2) := dk_16 254 (dk_at dksX0_fall_1 3 rfl rfl)
theorem dX0_fall_28 : decode cX0_fall 28 = .ok (.ireturn, 1) := dk_172 (dk_at dksX0_fall_1 5 rfl rfl)
theorem dX0_fall_29 : decode cX0_fall 29 = .ok (.aload_n 0, 1) := dk_42 (dk_at dksX0_fall_1 6 rfl rfl)
theorem dX0_fall_30 : decode cX0_fall 30 = .ok (.invokevirtual 277, 3) := dk_182 1 21 (dk_at dksX0_fall_1 7 rfl rfl)
theorem dX0_fall_33 : decode cX0_fall 33 = .ok (.astore_n 3, 1) := dk_78 (dk_at dksX0_fall_1 10 rfl rfl)
theorem dX0_fall_34 : decode cX0_fall 34 = .ok (.aload_n 3, 1) := dk_45 (dk_at dksX0_fall_1 11 rfl rfl)
theorem dX0_fall_35 : decode cX0_fall 35 = .ok (.iload_n 1, 1) := dk_27 (dk_at dksX0_fall_1 12 rfl rfl)
theorem dX0_fall_36 : decode cX0_fall 36 = .ok (.invokevirtual 67, 3) := dk_182 0 67 (dk_at dksX0_fall_1 13 rfl rfl)
theorem dX0_fall_39 : decode cX0_fall 39 = .ok (.aload_n 0, 1) := dk_42 (dk_at dksX0_fall_1 16 rfl rfl)
theorem dX0_fall_40 : decode cX0_fall 40 = .ok (.aload_n 3, 1) := dk_45 (dk_at dksX0_fall_1 17 rfl rfl)
theorem dX0_fall_41 : decode cX0_fall 41 = .ok (.invokevirtual 81, 3) := dk_182 0 81 (dk_at dksX0_fall_1 18 rfl rfl)
theorem dX0_fall_44 : decode cX0_fall 44 = .ok (.pop, 1) := dk_87 (dk_at dksX0_fall_1 21 rfl rfl)
theorem dX0_fall_45 : decode cX0_fall 45 = .ok (.iload_n 2, 1) := dk_28 (dk_at dksX0_fall_1 22 rfl rfl)
theorem dX0_fall_46 : decode cX0_fall 46 = .ok (.ifCond .ge 10, 3) := dk_156 0 10 (dk_at dksX0_fall_2 0 rfl rfl)
theorem dX0_fall_49 : decode cX0_fall 49 = .ok (.aload_n 0, 1) := dk_42 (dk_at dksX0_fall_2 3 rfl rfl)
theorem dX0_fall_50 : decode cX0_fall 50 = .ok (.getfield 23, 3) := dk_180 0 23 (dk_at dksX0_fall_2 4 rfl rfl)
theorem dX0_fall_53 : decode cX0_fall 53 = .ok (.goto 22, 3) := dk_167 0 22 (dk_at dksX0_fall_2 7 rfl rfl)
theorem dX0_fall_56 : decode cX0_fall 56 = .ok (.iload_n 2, 1) := dk_28 (dk_at dksX0_fall_2 10 rfl rfl)
theorem dX0_fall_57 : decode cX0_fall 57 = .ok (.aload_n 0, 1) := dk_42 (dk_at dksX0_fall_2 11 rfl rfl)
theorem dX0_fall_58 : decode cX0_fall 58 = .ok (.getfield 23, 3) := dk_180 0 23 (dk_at dksX0_fall_2 12 rfl rfl)
theorem dX0_fall_61 : decode cX0_fall 61 = .ok (.if_icmp .ge 12, 3) := dk_162 0 12 (dk_at dksX0_fall_2 15 rfl rfl)
theorem dX0_fall_64 : decode cX0_fall 64 = .ok (.aload_n 0, 1) := dk_42 (dk_at dksX0_fall_2 18 rfl rfl)
theorem dX0_fall_65 : decode cX0_fall 65 = .ok (.getfield 71, 3) := dk_180 0 71 (dk_at dksX0_fall_2 19 rfl rfl)
theorem dX0_fall_68 : decode cX0_fall 68 = .ok (.iload_n 2, 1) := dk_28 (dk_at dksX0_fall_2 22 rfl rfl)
theorem dX0_fall_69 : decode cX0_fall 69 = .ok (.iaload, 1) := dk_46 (dk_at dksX0_fall_2 23 rfl rfl)
theorem dX0_fall_70 : decode cX0_fall 70 = .ok (.goto 5, 3) := dk_167 0 5 (dk_at dksX0_fall_3 0 rfl rfl)
theorem dX0_fall_73 : decode cX0_fall 73 = .ok (.bipush (-4), 2) := dk_16 252 (dk_at dksX0_fall_3 3 rfl rfl)
theorem dX0_fall_75 : decode cX0_fall 75 = .ok (.ireturn, 1) := dk_172 (dk_at dksX0_fall_3 5 rfl rfl)
abbrev cX0_tie : ByteArray := prog_1_method_44_code
def yX0_tie : MethodName := ⟨RX0, "tie", "(II)I"⟩
def dkwX0_tie_4 : List UInt8 := [28, 154, 0, 8, 21, 4, 167, 0, 13, 29, 184, 1, 34, 28, 4, 100, 182, 0, 129, 172]
abbrev dktX0_tie_4 : List UInt8 := dkwX0_tie_4 ++ []
def dkwX0_tie_3 : List UInt8 := [21, 7, 184, 1, 30, 154, 0, 6, 167, 0, 10, 21, 7, 62, 21, 6, 54, 4, 132, 6, 1, 167, 255, 202]
abbrev dktX0_tie_3 : List UInt8 := dkwX0_tie_3 ++ dktX0_tie_4
def dkwX0_tie_2 : List UInt8 := [21, 6, 133, 182, 0, 91, 25, 5, 182, 0, 29, 182, 0, 148, 54, 7, 29, 16, 252, 159, 0, 15, 29]
abbrev dktX0_tie_2 : List UInt8 := dkwX0_tie_2 ++ dktX0_tie_3
def dkwX0_tie_1 : List UInt8 := [62, 3, 54, 4, 42, 182, 1, 21, 58, 5, 3, 54, 6, 21, 6, 16, 99, 163, 0, 53, 25, 5, 27]
abbrev dktX0_tie_1 : List UInt8 := dkwX0_tie_1 ++ dktX0_tie_2
def dkwX0_tie_0 : List UInt8 := [42, 27, 182, 0, 122, 153, 0, 15, 28, 133, 9, 20, 1, 28, 184, 0, 19, 154, 0, 5, 2, 172, 16, 252]
abbrev dktX0_tie_0 : List UInt8 := dkwX0_tie_0 ++ dktX0_tie_1
theorem dksX0_tie_0 : cX0_tie.data.toList.drop 0 = dktX0_tie_0 := by decide +kernel
theorem dksX0_tie_1 : cX0_tie.data.toList.drop 24 = dktX0_tie_1 := dk_seg dksX0_tie_0 24 rfl rfl
theorem dksX0_tie_2 : cX0_tie.data.toList.drop 47 = dktX0_tie_2 := dk_seg dksX0_tie_1 23 rfl rfl
theorem dksX0_tie_3 : cX0_tie.data.toList.drop 70 = dktX0_tie_3 := dk_seg dksX0_tie_2 23 rfl rfl
theorem dksX0_tie_4 : cX0_tie.data.toList.drop 94 = dktX0_tie_4 := dk_seg dksX0_tie_3 24 rfl rfl
theorem dX0_tie_0 : decode cX0_tie 0 = .ok (.aload_n 0, 1) := dk_42 (dk_at dksX0_tie_0 0 rfl rfl)
theorem dX0_tie_1 : decode cX0_tie 1 = .ok (.iload_n 1, 1) := dk_27 (dk_at dksX0_tie_0 1 rfl rfl)
theorem dX0_tie_2 : decode cX0_tie 2 = .ok (.invokevirtual 122, 3) := dk_182 0 122 (dk_at dksX0_tie_0 2 rfl rfl)
theorem dX0_tie_5 : decode cX0_tie 5 = .ok (.ifCond .eq 15, 3) := dk_153 0 15 (dk_at dksX0_tie_0 5 rfl rfl)
theorem dX0_tie_8 : decode cX0_tie 8 = .ok (.iload_n 2, 1) := dk_28 (dk_at dksX0_tie_0 8 rfl rfl)
theorem dX0_tie_9 : decode cX0_tie 9 = .ok (.i2l, 1) := dk_133 (dk_at dksX0_tie_0 9 rfl rfl)
theorem dX0_tie_10 : decode cX0_tie 10 = .ok (.lconst 0, 1) := dk_9 (dk_at dksX0_tie_0 10 rfl rfl)
theorem dX0_tie_11 : decode cX0_tie 11 = .ok (.ldc2_w 284, 3) := dk_20 1 28 (dk_at dksX0_tie_0 11 rfl rfl)
theorem dX0_tie_14 : decode cX0_tie 14 = .ok (.invokestatic 19, 3) := dk_184 0 19 (dk_at dksX0_tie_0 14 rfl rfl)
theorem dX0_tie_17 : decode cX0_tie 17 = .ok (.ifCond .ne 5, 3) := dk_154 0 5 (dk_at dksX0_tie_0 17 rfl rfl)
theorem dX0_tie_20 : decode cX0_tie 20 = .ok (.iconst (-1), 1) := dk_2 (dk_at dksX0_tie_0 20 rfl rfl)
theorem dX0_tie_21 : decode cX0_tie 21 = .ok (.ireturn, 1) := dk_172 (dk_at dksX0_tie_0 21 rfl rfl)
theorem dX0_tie_22 : decode cX0_tie 22 = .ok (.bipush (-4), 2) := dk_16 252 (dk_at dksX0_tie_0 22 rfl rfl)
theorem dX0_tie_24 : decode cX0_tie 24 = .ok (.istore_n 3, 1) := dk_62 (dk_at dksX0_tie_1 0 rfl rfl)
theorem dX0_tie_25 : decode cX0_tie 25 = .ok (.iconst 0, 1) := dk_3 (dk_at dksX0_tie_1 1 rfl rfl)
theorem dX0_tie_26 : decode cX0_tie 26 = .ok (.istore 4, 2) := dk_54 4 (dk_at dksX0_tie_1 2 rfl rfl)
theorem dX0_tie_28 : decode cX0_tie 28 = .ok (.aload_n 0, 1) := dk_42 (dk_at dksX0_tie_1 4 rfl rfl)
theorem dX0_tie_29 : decode cX0_tie 29 = .ok (.invokevirtual 277, 3) := dk_182 1 21 (dk_at dksX0_tie_1 5 rfl rfl)
theorem dX0_tie_32 : decode cX0_tie 32 = .ok (.astore 5, 2) := dk_58 5 (dk_at dksX0_tie_1 8 rfl rfl)
theorem dX0_tie_34 : decode cX0_tie 34 = .ok (.iconst 0, 1) := dk_3 (dk_at dksX0_tie_1 10 rfl rfl)
theorem dX0_tie_35 : decode cX0_tie 35 = .ok (.istore 6, 2) := dk_54 6 (dk_at dksX0_tie_1 11 rfl rfl)
theorem dX0_tie_37 : decode cX0_tie 37 = .ok (.iload 6, 2) := dk_21 6 (dk_at dksX0_tie_1 13 rfl rfl)
theorem dX0_tie_39 : decode cX0_tie 39 = .ok (.bipush 99, 2) := dk_16 99 (dk_at dksX0_tie_1 15 rfl rfl)
theorem dX0_tie_41 : decode cX0_tie 41 = .ok (.if_icmp .gt 53, 3) := dk_163 0 53 (dk_at dksX0_tie_1 17 rfl rfl)
theorem dX0_tie_44 : decode cX0_tie 44 = .ok (.aload 5, 2) := dk_25 5 (dk_at dksX0_tie_1 20 rfl rfl)
theorem dX0_tie_46 : decode cX0_tie 46 = .ok (.iload_n 1, 1) := dk_27 (dk_at dksX0_tie_1 22 rfl rfl)
theorem dX0_tie_47 : decode cX0_tie 47 = .ok (.iload 6, 2) := dk_21 6 (dk_at dksX0_tie_2 0 rfl rfl)
theorem dX0_tie_49 : decode cX0_tie 49 = .ok (.i2l, 1) := dk_133 (dk_at dksX0_tie_2 2 rfl rfl)
theorem dX0_tie_50 : decode cX0_tie 50 = .ok (.invokevirtual 91, 3) := dk_182 0 91 (dk_at dksX0_tie_2 3 rfl rfl)
theorem dX0_tie_53 : decode cX0_tie 53 = .ok (.aload 5, 2) := dk_25 5 (dk_at dksX0_tie_2 6 rfl rfl)
theorem dX0_tie_55 : decode cX0_tie 55 = .ok (.invokevirtual 29, 3) := dk_182 0 29 (dk_at dksX0_tie_2 8 rfl rfl)
theorem dX0_tie_58 : decode cX0_tie 58 = .ok (.invokevirtual 148, 3) := dk_182 0 148 (dk_at dksX0_tie_2 11 rfl rfl)
theorem dX0_tie_61 : decode cX0_tie 61 = .ok (.istore 7, 2) := dk_54 7 (dk_at dksX0_tie_2 14 rfl rfl)
theorem dX0_tie_63 : decode cX0_tie 63 = .ok (.iload_n 3, 1) := dk_29 (dk_at dksX0_tie_2 16 rfl rfl)
theorem dX0_tie_64 : decode cX0_tie 64 = .ok (.bipush (-4), 2) := dk_16 252 (dk_at dksX0_tie_2 17 rfl rfl)
theorem dX0_tie_66 : decode cX0_tie 66 = .ok (.if_icmp .eq 15, 3) := dk_159 0 15 (dk_at dksX0_tie_2 19 rfl rfl)
theorem dX0_tie_69 : decode cX0_tie 69 = .ok (.iload_n 3, 1) := dk_29 (dk_at dksX0_tie_2 22 rfl rfl)
theorem dX0_tie_70 : decode cX0_tie 70 = .ok (.iload 7, 2) := dk_21 7 (dk_at dksX0_tie_3 0 rfl rfl)
theorem dX0_tie_72 : decode cX0_tie 72 = .ok (.invokestatic 286, 3) := dk_184 1 30 (dk_at dksX0_tie_3 2 rfl rfl)
theorem dX0_tie_75 : decode cX0_tie 75 = .ok (.ifCond .ne 6, 3) := dk_154 0 6 (dk_at dksX0_tie_3 5 rfl rfl)
theorem dX0_tie_78 : decode cX0_tie 78 = .ok (.goto 10, 3) := dk_167 0 10 (dk_at dksX0_tie_3 8 rfl rfl)
theorem dX0_tie_81 : decode cX0_tie 81 = .ok (.iload 7, 2) := dk_21 7 (dk_at dksX0_tie_3 11 rfl rfl)
theorem dX0_tie_83 : decode cX0_tie 83 = .ok (.istore_n 3, 1) := dk_62 (dk_at dksX0_tie_3 13 rfl rfl)
theorem dX0_tie_84 : decode cX0_tie 84 = .ok (.iload 6, 2) := dk_21 6 (dk_at dksX0_tie_3 14 rfl rfl)
theorem dX0_tie_86 : decode cX0_tie 86 = .ok (.istore 4, 2) := dk_54 4 (dk_at dksX0_tie_3 16 rfl rfl)
theorem dX0_tie_88 : decode cX0_tie 88 = .ok (.iinc 6 1, 3) := dk_132 6 1 (dk_at dksX0_tie_3 18 rfl rfl)
theorem dX0_tie_91 : decode cX0_tie 91 = .ok (.goto (-54), 3) := dk_167 255 202 (dk_at dksX0_tie_3 21 rfl rfl)
theorem dX0_tie_94 : decode cX0_tie 94 = .ok (.iload_n 2, 1) := dk_28 (dk_at dksX0_tie_4 0 rfl rfl)
theorem dX0_tie_95 : decode cX0_tie 95 = .ok (.ifCond .ne 8, 3) := dk_154 0 8 (dk_at dksX0_tie_4 1 rfl rfl)
theorem dX0_tie_98 : decode cX0_tie 98 = .ok (.iload 4, 2) := dk_21 4 (dk_at dksX0_tie_4 4 rfl rfl)
theorem dX0_tie_100 : decode cX0_tie 100 = .ok (.goto 13, 3) := dk_167 0 13 (dk_at dksX0_tie_4 6 rfl rfl)
theorem dX0_tie_103 : decode cX0_tie 103 = .ok (.iload_n 3, 1) := dk_29 (dk_at dksX0_tie_4 9 rfl rfl)
theorem dX0_tie_104 : decode cX0_tie 104 = .ok (.invokestatic 290, 3) := dk_184 1 34 (dk_at dksX0_tie_4 10 rfl rfl)
theorem dX0_tie_107 : decode cX0_tie 107 = .ok (.iload_n 2, 1) := dk_28 (dk_at dksX0_tie_4 13 rfl rfl)
theorem dX0_tie_108 : decode cX0_tie 108 = .ok (.iconst 1, 1) := dk_4 (dk_at dksX0_tie_4 14 rfl rfl)
theorem dX0_tie_109 : decode cX0_tie 109 = .ok (.isub, 1) := dk_100 (dk_at dksX0_tie_4 15 rfl rfl)
theorem dX0_tie_110 : decode cX0_tie 110 = .ok (.invokevirtual 129, 3) := dk_182 0 129 (dk_at dksX0_tie_4 16 rfl rfl)
theorem dX0_tie_113 : decode cX0_tie 113 = .ok (.ireturn, 1) := dk_172 (dk_at dksX0_tie_4 19 rfl rfl)
abbrev cX0_isMore : ByteArray := prog_1_method_3_code
def yX0_isMore : MethodName := ⟨RX0, "isMore", "(II)Z"⟩
def dkwX0_isMore_1 : List UInt8 := [167, 0, 4, 3, 172]
abbrev dktX0_isMore_1 : List UInt8 := dkwX0_isMore_1 ++ []
def dkwX0_isMore_0 : List UInt8 := [26, 16, 64, 108, 27, 16, 64, 112, 104, 27, 16, 64, 108, 26, 16, 64, 112, 104, 164, 0, 7, 4]
abbrev dktX0_isMore_0 : List UInt8 := dkwX0_isMore_0 ++ dktX0_isMore_1
theorem dksX0_isMore_0 : cX0_isMore.data.toList.drop 0 = dktX0_isMore_0 := by decide +kernel
theorem dksX0_isMore_1 : cX0_isMore.data.toList.drop 22 = dktX0_isMore_1 := dk_seg dksX0_isMore_0 22 rfl rfl
theorem dX0_isMore_0 : decode cX0_isMore 0 = .ok (.iload_n 0, 1) := dk_26 (dk_at dksX0_isMore_0 0 rfl rfl)
theorem dX0_isMore_1 : decode cX0_isMore 1 = .ok (.bipush 64, 2) := dk_16 64 (dk_at dksX0_isMore_0 1 rfl rfl)
theorem dX0_isMore_3 : decode cX0_isMore 3 = .ok (.idiv, 1) := dk_108 (dk_at dksX0_isMore_0 3 rfl rfl)
theorem dX0_isMore_4 : decode cX0_isMore 4 = .ok (.iload_n 1, 1) := dk_27 (dk_at dksX0_isMore_0 4 rfl rfl)
theorem dX0_isMore_5 : decode cX0_isMore 5 = .ok (.bipush 64, 2) := dk_16 64 (dk_at dksX0_isMore_0 5 rfl rfl)
theorem dX0_isMore_7 : decode cX0_isMore 7 = .ok (.irem, 1) := dk_112 (dk_at dksX0_isMore_0 7 rfl rfl)
theorem dX0_isMore_8 : decode cX0_isMore 8 = .ok (.imul, 1) := dk_104 (dk_at dksX0_isMore_0 8 rfl rfl)
theorem dX0_isMore_9 : decode cX0_isMore 9 = .ok (.iload_n 1, 1) := dk_27 (dk_at dksX0_isMore_0 9 rfl rfl)
theorem dX0_isMore_10 : decode cX0_isMore 10 = .ok (.bipush 64, 2) := dk_16 64 (dk_at dksX0_isMore_0 10 rfl rfl)
theorem dX0_isMore_12 : decode cX0_isMore 12 = .ok (.idiv, 1) := dk_108 (dk_at dksX0_isMore_0 12 rfl rfl)
theorem dX0_isMore_13 : decode cX0_isMore 13 = .ok (.iload_n 0, 1) := dk_26 (dk_at dksX0_isMore_0 13 rfl rfl)
theorem dX0_isMore_14 : decode cX0_isMore 14 = .ok (.bipush 64, 2) := dk_16 64 (dk_at dksX0_isMore_0 14 rfl rfl)
theorem dX0_isMore_16 : decode cX0_isMore 16 = .ok (.irem, 1) := dk_112 (dk_at dksX0_isMore_0 16 rfl rfl)
theorem dX0_isMore_17 : decode cX0_isMore 17 = .ok (.imul, 1) := dk_104 (dk_at dksX0_isMore_0 17 rfl rfl)
theorem dX0_isMore_18 : decode cX0_isMore 18 = .ok (.if_icmp .le 7, 3) := dk_164 0 7 (dk_at dksX0_isMore_0 18 rfl rfl)
theorem dX0_isMore_21 : decode cX0_isMore 21 = .ok (.iconst 1, 1) := dk_4 (dk_at dksX0_isMore_0 21 rfl rfl)
theorem dX0_isMore_22 : decode cX0_isMore 22 = .ok (.goto 4, 3) := dk_167 0 4 (dk_at dksX0_isMore_1 0 rfl rfl)
theorem dX0_isMore_25 : decode cX0_isMore 25 = .ok (.iconst 0, 1) := dk_3 (dk_at dksX0_isMore_1 3 rfl rfl)
theorem dX0_isMore_26 : decode cX0_isMore 26 = .ok (.ireturn, 1) := dk_172 (dk_at dksX0_isMore_1 4 rfl rfl)
abbrev cX0_part : ByteArray := prog_1_method_5_code
def yX0_part : MethodName := ⟨RX0, "part", "(I)LOneElastic$Part;"⟩
def dkwX0_part_0 : List UInt8 := [187, 0, 1, 89, 26, 16, 64, 108, 133, 26, 16, 64, 112, 133, 183, 0, 3, 176]
abbrev dktX0_part_0 : List UInt8 := dkwX0_part_0 ++ []
theorem dksX0_part_0 : cX0_part.data.toList.drop 0 = dktX0_part_0 := by decide +kernel
theorem dX0_part_0 : decode cX0_part 0 = .ok (.new 1, 3) := dk_187 0 1 (dk_at dksX0_part_0 0 rfl rfl)
theorem dX0_part_3 : decode cX0_part 3 = .ok (.dup, 1) := dk_89 (dk_at dksX0_part_0 3 rfl rfl)
theorem dX0_part_4 : decode cX0_part 4 = .ok (.iload_n 0, 1) := dk_26 (dk_at dksX0_part_0 4 rfl rfl)
theorem dX0_part_5 : decode cX0_part 5 = .ok (.bipush 64, 2) := dk_16 64 (dk_at dksX0_part_0 5 rfl rfl)
theorem dX0_part_7 : decode cX0_part 7 = .ok (.idiv, 1) := dk_108 (dk_at dksX0_part_0 7 rfl rfl)
theorem dX0_part_8 : decode cX0_part 8 = .ok (.i2l, 1) := dk_133 (dk_at dksX0_part_0 8 rfl rfl)
theorem dX0_part_9 : decode cX0_part 9 = .ok (.iload_n 0, 1) := dk_26 (dk_at dksX0_part_0 9 rfl rfl)
theorem dX0_part_10 : decode cX0_part 10 = .ok (.bipush 64, 2) := dk_16 64 (dk_at dksX0_part_0 10 rfl rfl)
theorem dX0_part_12 : decode cX0_part 12 = .ok (.irem, 1) := dk_112 (dk_at dksX0_part_0 12 rfl rfl)
theorem dX0_part_13 : decode cX0_part 13 = .ok (.i2l, 1) := dk_133 (dk_at dksX0_part_0 13 rfl rfl)
theorem dX0_part_14 : decode cX0_part 14 = .ok (.invokespecial 3, 3) := dk_183 0 3 (dk_at dksX0_part_0 14 rfl rfl)
theorem dX0_part_17 : decode cX0_part 17 = .ok (.areturn, 1) := dk_176 (dk_at dksX0_part_0 17 rfl rfl)
abbrev cX0_when : ByteArray := prog_1_method_45_code
def yX0_when : MethodName := ⟨RX0, "when", "()I"⟩
def dkwX0_when_1 : List UInt8 := [154, 0, 5, 28, 172, 132, 2, 1, 167, 255, 233, 16, 252, 172]
abbrev dktX0_when_1 : List UInt8 := dkwX0_when_1 ++ []
def dkwX0_when_0 : List UInt8 := [42, 182, 1, 21, 76, 4, 61, 28, 16, 24, 163, 0, 23, 43, 184, 0, 247, 42, 43, 182, 1, 24]
abbrev dktX0_when_0 : List UInt8 := dkwX0_when_0 ++ dktX0_when_1
theorem dksX0_when_0 : cX0_when.data.toList.drop 0 = dktX0_when_0 := by decide +kernel
theorem dksX0_when_1 : cX0_when.data.toList.drop 22 = dktX0_when_1 := dk_seg dksX0_when_0 22 rfl rfl
theorem dX0_when_0 : decode cX0_when 0 = .ok (.aload_n 0, 1) := dk_42 (dk_at dksX0_when_0 0 rfl rfl)
theorem dX0_when_1 : decode cX0_when 1 = .ok (.invokevirtual 277, 3) := dk_182 1 21 (dk_at dksX0_when_0 1 rfl rfl)
theorem dX0_when_4 : decode cX0_when 4 = .ok (.astore_n 1, 1) := dk_76 (dk_at dksX0_when_0 4 rfl rfl)
theorem dX0_when_5 : decode cX0_when 5 = .ok (.iconst 1, 1) := dk_4 (dk_at dksX0_when_0 5 rfl rfl)
theorem dX0_when_6 : decode cX0_when 6 = .ok (.istore_n 2, 1) := dk_61 (dk_at dksX0_when_0 6 rfl rfl)
theorem dX0_when_7 : decode cX0_when 7 = .ok (.iload_n 2, 1) := dk_28 (dk_at dksX0_when_0 7 rfl rfl)
theorem dX0_when_8 : decode cX0_when 8 = .ok (.bipush 24, 2) := dk_16 24 (dk_at dksX0_when_0 8 rfl rfl)
theorem dX0_when_10 : decode cX0_when 10 = .ok (.if_icmp .gt 23, 3) := dk_163 0 23 (dk_at dksX0_when_0 10 rfl rfl)
theorem dX0_when_13 : decode cX0_when 13 = .ok (.aload_n 1, 1) := dk_43 (dk_at dksX0_when_0 13 rfl rfl)
theorem dX0_when_14 : decode cX0_when 14 = .ok (.invokestatic 247, 3) := dk_184 0 247 (dk_at dksX0_when_0 14 rfl rfl)
theorem dX0_when_17 : decode cX0_when 17 = .ok (.aload_n 0, 1) := dk_42 (dk_at dksX0_when_0 17 rfl rfl)
theorem dX0_when_18 : decode cX0_when 18 = .ok (.aload_n 1, 1) := dk_43 (dk_at dksX0_when_0 18 rfl rfl)
theorem dX0_when_19 : decode cX0_when 19 = .ok (.invokevirtual 280, 3) := dk_182 1 24 (dk_at dksX0_when_0 19 rfl rfl)
theorem dX0_when_22 : decode cX0_when 22 = .ok (.ifCond .ne 5, 3) := dk_154 0 5 (dk_at dksX0_when_1 0 rfl rfl)
theorem dX0_when_25 : decode cX0_when 25 = .ok (.iload_n 2, 1) := dk_28 (dk_at dksX0_when_1 3 rfl rfl)
theorem dX0_when_26 : decode cX0_when 26 = .ok (.ireturn, 1) := dk_172 (dk_at dksX0_when_1 4 rfl rfl)
theorem dX0_when_27 : decode cX0_when 27 = .ok (.iinc 2 1, 3) := dk_132 2 1 (dk_at dksX0_when_1 5 rfl rfl)
theorem dX0_when_30 : decode cX0_when 30 = .ok (.goto (-23), 3) := dk_167 255 233 (dk_at dksX0_when_1 8 rfl rfl)
theorem dX0_when_33 : decode cX0_when 33 = .ok (.bipush (-4), 2) := dk_16 252 (dk_at dksX0_when_1 11 rfl rfl)
theorem dX0_when_35 : decode cX0_when 35 = .ok (.ireturn, 1) := dk_172 (dk_at dksX0_when_1 13 rfl rfl)
abbrev cX0_odds : ByteArray := prog_1_method_46_code
def yX0_odds : MethodName := ⟨RX0, "odds", "(II)I"⟩
def dkwX0_odds_9 : List UInt8 := [167, 255, 118, 187, 0, 1, 89, 33, 22, 5, 183, 0, 3, 28, 182, 0, 129, 172]
abbrev dktX0_odds_9 : List UInt8 := dkwX0_odds_9 ++ []
def dkwX0_odds_8 : List UInt8 := [22, 8, 9, 148, 158, 0, 17, 42, 25, 10, 182, 1, 24, 153, 0, 8, 33, 22, 8, 97, 66, 132, 7, 1]
abbrev dktX0_odds_8 : List UInt8 := dkwX0_odds_8 ++ dktX0_odds_9
def dkwX0_odds_7 : List UInt8 := [167, 255, 203, 42, 182, 1, 21, 58, 10, 25, 10, 89, 180, 0, 138, 21, 7, 2, 130, 126, 181, 0, 138]
abbrev dktX0_odds_7 : List UInt8 := dkwX0_odds_7 ++ dktX0_odds_8
def dkwX0_odds_6 : List UInt8 := [122, 4, 126, 4, 160, 0, 8, 27, 133, 167, 0, 8, 16, 10, 27, 100, 133, 105, 55, 8, 132, 10, 1]
abbrev dktX0_odds_6 : List UInt8 := dkwX0_odds_6 ++ dktX0_odds_7
def dkwX0_odds_5 : List UInt8 := [180, 0, 13, 162, 0, 47, 42, 180, 0, 9, 21, 10, 182, 0, 46, 153, 0, 29, 22, 8, 21, 7, 21, 10]
abbrev dktX0_odds_5 : List UInt8 := dkwX0_odds_5 ++ dktX0_odds_6
def dkwX0_odds_4 : List UInt8 := [180, 0, 138, 2, 130, 126, 153, 0, 6, 167, 0, 106, 10, 55, 8, 3, 54, 10, 21, 10, 42, 180, 0, 9]
abbrev dktX0_odds_4 : List UInt8 := dkwX0_odds_4 ++ dktX0_odds_5
def dkwX0_odds_3 : List UInt8 := [54, 7, 21, 7, 4, 42, 180, 0, 9, 180, 0, 13, 120, 162, 0, 130, 21, 7, 42, 180, 0, 9]
abbrev dktX0_odds_3 : List UInt8 := dkwX0_odds_3 ++ dktX0_odds_4
def dkwX0_odds_2 : List UInt8 := [21, 7, 182, 0, 46, 153, 0, 11, 22, 5, 20, 1, 37, 105, 55, 5, 132, 7, 1, 167, 255, 221, 3]
abbrev dktX0_odds_2 : List UInt8 := dkwX0_odds_2 ++ dktX0_odds_3
def dkwX0_odds_1 : List UInt8 := [9, 66, 10, 55, 5, 3, 54, 7, 21, 7, 42, 180, 0, 9, 180, 0, 13, 162, 0, 29, 42, 180, 0, 9]
abbrev dktX0_odds_1 : List UInt8 := dkwX0_odds_1 ++ dktX0_odds_2
def dkwX0_odds_0 : List UInt8 := [27, 133, 9, 20, 1, 37, 184, 0, 19, 153, 0, 13, 28, 133, 9, 10, 184, 0, 19, 154, 0, 5, 2, 172]
abbrev dktX0_odds_0 : List UInt8 := dkwX0_odds_0 ++ dktX0_odds_1
theorem dksX0_odds_0 : cX0_odds.data.toList.drop 0 = dktX0_odds_0 := by decide +kernel
theorem dksX0_odds_1 : cX0_odds.data.toList.drop 24 = dktX0_odds_1 := dk_seg dksX0_odds_0 24 rfl rfl
theorem dksX0_odds_2 : cX0_odds.data.toList.drop 48 = dktX0_odds_2 := dk_seg dksX0_odds_1 24 rfl rfl
theorem dksX0_odds_3 : cX0_odds.data.toList.drop 71 = dktX0_odds_3 := dk_seg dksX0_odds_2 23 rfl rfl
theorem dksX0_odds_4 : cX0_odds.data.toList.drop 93 = dktX0_odds_4 := dk_seg dksX0_odds_3 22 rfl rfl
theorem dksX0_odds_5 : cX0_odds.data.toList.drop 117 = dktX0_odds_5 := dk_seg dksX0_odds_4 24 rfl rfl
theorem dksX0_odds_6 : cX0_odds.data.toList.drop 141 = dktX0_odds_6 := dk_seg dksX0_odds_5 24 rfl rfl
theorem dksX0_odds_7 : cX0_odds.data.toList.drop 164 = dktX0_odds_7 := dk_seg dksX0_odds_6 23 rfl rfl
theorem dksX0_odds_8 : cX0_odds.data.toList.drop 187 = dktX0_odds_8 := dk_seg dksX0_odds_7 23 rfl rfl
theorem dksX0_odds_9 : cX0_odds.data.toList.drop 211 = dktX0_odds_9 := dk_seg dksX0_odds_8 24 rfl rfl
theorem dX0_odds_0 : decode cX0_odds 0 = .ok (.iload_n 1, 1) := dk_27 (dk_at dksX0_odds_0 0 rfl rfl)
theorem dX0_odds_1 : decode cX0_odds 1 = .ok (.i2l, 1) := dk_133 (dk_at dksX0_odds_0 1 rfl rfl)
theorem dX0_odds_2 : decode cX0_odds 2 = .ok (.lconst 0, 1) := dk_9 (dk_at dksX0_odds_0 2 rfl rfl)
theorem dX0_odds_3 : decode cX0_odds 3 = .ok (.ldc2_w 293, 3) := dk_20 1 37 (dk_at dksX0_odds_0 3 rfl rfl)
theorem dX0_odds_6 : decode cX0_odds 6 = .ok (.invokestatic 19, 3) := dk_184 0 19 (dk_at dksX0_odds_0 6 rfl rfl)
theorem dX0_odds_9 : decode cX0_odds 9 = .ok (.ifCond .eq 13, 3) := dk_153 0 13 (dk_at dksX0_odds_0 9 rfl rfl)
theorem dX0_odds_12 : decode cX0_odds 12 = .ok (.iload_n 2, 1) := dk_28 (dk_at dksX0_odds_0 12 rfl rfl)
theorem dX0_odds_13 : decode cX0_odds 13 = .ok (.i2l, 1) := dk_133 (dk_at dksX0_odds_0 13 rfl rfl)
theorem dX0_odds_14 : decode cX0_odds 14 = .ok (.lconst 0, 1) := dk_9 (dk_at dksX0_odds_0 14 rfl rfl)
theorem dX0_odds_15 : decode cX0_odds 15 = .ok (.lconst 1, 1) := dk_10 (dk_at dksX0_odds_0 15 rfl rfl)
theorem dX0_odds_16 : decode cX0_odds 16 = .ok (.invokestatic 19, 3) := dk_184 0 19 (dk_at dksX0_odds_0 16 rfl rfl)
theorem dX0_odds_19 : decode cX0_odds 19 = .ok (.ifCond .ne 5, 3) := dk_154 0 5 (dk_at dksX0_odds_0 19 rfl rfl)
theorem dX0_odds_22 : decode cX0_odds 22 = .ok (.iconst (-1), 1) := dk_2 (dk_at dksX0_odds_0 22 rfl rfl)
theorem dX0_odds_23 : decode cX0_odds 23 = .ok (.ireturn, 1) := dk_172 (dk_at dksX0_odds_0 23 rfl rfl)
theorem dX0_odds_24 : decode cX0_odds 24 = .ok (.lconst 0, 1) := dk_9 (dk_at dksX0_odds_1 0 rfl rfl)
theorem dX0_odds_25 : decode cX0_odds 25 = .ok (.lstore_n 3, 1) := dk_66 (dk_at dksX0_odds_1 1 rfl rfl)
theorem dX0_odds_26 : decode cX0_odds 26 = .ok (.lconst 1, 1) := dk_10 (dk_at dksX0_odds_1 2 rfl rfl)
theorem dX0_odds_27 : decode cX0_odds 27 = .ok (.lstore 5, 2) := dk_55 5 (dk_at dksX0_odds_1 3 rfl rfl)
theorem dX0_odds_29 : decode cX0_odds 29 = .ok (.iconst 0, 1) := dk_3 (dk_at dksX0_odds_1 5 rfl rfl)
theorem dX0_odds_30 : decode cX0_odds 30 = .ok (.istore 7, 2) := dk_54 7 (dk_at dksX0_odds_1 6 rfl rfl)
theorem dX0_odds_32 : decode cX0_odds 32 = .ok (.iload 7, 2) := dk_21 7 (dk_at dksX0_odds_1 8 rfl rfl)
theorem dX0_odds_34 : decode cX0_odds 34 = .ok (.aload_n 0, 1) := dk_42 (dk_at dksX0_odds_1 10 rfl rfl)
theorem dX0_odds_35 : decode cX0_odds 35 = .ok (.getfield 9, 3) := dk_180 0 9 (dk_at dksX0_odds_1 11 rfl rfl)
theorem dX0_odds_38 : decode cX0_odds 38 = .ok (.getfield 13, 3) := dk_180 0 13 (dk_at dksX0_odds_1 14 rfl rfl)
theorem dX0_odds_41 : decode cX0_odds 41 = .ok (.if_icmp .ge 29, 3) := dk_162 0 29 (dk_at dksX0_odds_1 17 rfl rfl)
theorem dX0_odds_44 : decode cX0_odds 44 = .ok (.aload_n 0, 1) := dk_42 (dk_at dksX0_odds_1 20 rfl rfl)
theorem dX0_odds_45 : decode cX0_odds 45 = .ok (.getfield 9, 3) := dk_180 0 9 (dk_at dksX0_odds_1 21 rfl rfl)
theorem dX0_odds_48 : decode cX0_odds 48 = .ok (.iload 7, 2) := dk_21 7 (dk_at dksX0_odds_2 0 rfl rfl)
theorem dX0_odds_50 : decode cX0_odds 50 = .ok (.invokevirtual 46, 3) := dk_182 0 46 (dk_at dksX0_odds_2 2 rfl rfl)
theorem dX0_odds_53 : decode cX0_odds 53 = .ok (.ifCond .eq 11, 3) := dk_153 0 11 (dk_at dksX0_odds_2 5 rfl rfl)
theorem dX0_odds_56 : decode cX0_odds 56 = .ok (.lload 5, 2) := dk_22 5 (dk_at dksX0_odds_2 8 rfl rfl)
theorem dX0_odds_58 : decode cX0_odds 58 = .ok (.ldc2_w 293, 3) := dk_20 1 37 (dk_at dksX0_odds_2 10 rfl rfl)
theorem dX0_odds_61 : decode cX0_odds 61 = .ok (.lmul, 1) := dk_105 (dk_at dksX0_odds_2 13 rfl rfl)
theorem dX0_odds_62 : decode cX0_odds 62 = .ok (.lstore 5, 2) := dk_55 5 (dk_at dksX0_odds_2 14 rfl rfl)
theorem dX0_odds_64 : decode cX0_odds 64 = .ok (.iinc 7 1, 3) := dk_132 7 1 (dk_at dksX0_odds_2 16 rfl rfl)
theorem dX0_odds_67 : decode cX0_odds 67 = .ok (.goto (-35), 3) := dk_167 255 221 (dk_at dksX0_odds_2 19 rfl rfl)
theorem dX0_odds_70 : decode cX0_odds 70 = .ok (.iconst 0, 1) := dk_3 (dk_at dksX0_odds_2 22 rfl rfl)
theorem dX0_odds_71 : decode cX0_odds 71 = .ok (.istore 7, 2) := dk_54 7 (dk_at dksX0_odds_3 0 rfl rfl)
theorem dX0_odds_73 : decode cX0_odds 73 = .ok (.iload 7, 2) := dk_21 7 (dk_at dksX0_odds_3 2 rfl rfl)
theorem dX0_odds_75 : decode cX0_odds 75 = .ok (.iconst 1, 1) := dk_4 (dk_at dksX0_odds_3 4 rfl rfl)
theorem dX0_odds_76 : decode cX0_odds 76 = .ok (.aload_n 0, 1) := dk_42 (dk_at dksX0_odds_3 5 rfl rfl)
theorem dX0_odds_77 : decode cX0_odds 77 = .ok (.getfield 9, 3) := dk_180 0 9 (dk_at dksX0_odds_3 6 rfl rfl)
theorem dX0_odds_80 : decode cX0_odds 80 = .ok (.getfield 13, 3) := dk_180 0 13 (dk_at dksX0_odds_3 9 rfl rfl)
theorem dX0_odds_83 : decode cX0_odds 83 = .ok (.ishl, 1) := dk_120 (dk_at dksX0_odds_3 12 rfl rfl)
theorem dX0_odds_84 : decode cX0_odds 84 = .ok (.if_icmp .ge 130, 3) := dk_162 0 130 (dk_at dksX0_odds_3 13 rfl rfl)
theorem dX0_odds_87 : decode cX0_odds 87 = .ok (.iload 7, 2) := dk_21 7 (dk_at dksX0_odds_3 16 rfl rfl)
theorem dX0_odds_89 : decode cX0_odds 89 = .ok (.aload_n 0, 1) := dk_42 (dk_at dksX0_odds_3 18 rfl rfl)
theorem dX0_odds_90 : decode cX0_odds 90 = .ok (.getfield 9, 3) := dk_180 0 9 (dk_at dksX0_odds_3 19 rfl rfl)
theorem dX0_odds_93 : decode cX0_odds 93 = .ok (.getfield 138, 3) := dk_180 0 138 (dk_at dksX0_odds_4 0 rfl rfl)
theorem dX0_odds_96 : decode cX0_odds 96 = .ok (.iconst (-1), 1) := dk_2 (dk_at dksX0_odds_4 3 rfl rfl)
theorem dX0_odds_97 : decode cX0_odds 97 = .ok (.ixor, 1) := dk_130 (dk_at dksX0_odds_4 4 rfl rfl)
theorem dX0_odds_98 : decode cX0_odds 98 = .ok (.iand, 1) := dk_126 (dk_at dksX0_odds_4 5 rfl rfl)
theorem dX0_odds_99 : decode cX0_odds 99 = .ok (.ifCond .eq 6, 3) := dk_153 0 6 (dk_at dksX0_odds_4 6 rfl rfl)
theorem dX0_odds_102 : decode cX0_odds 102 = .ok (.goto 106, 3) := dk_167 0 106 (dk_at dksX0_odds_4 9 rfl rfl)
theorem dX0_odds_105 : decode cX0_odds 105 = .ok (.lconst 1, 1) := dk_10 (dk_at dksX0_odds_4 12 rfl rfl)
theorem dX0_odds_106 : decode cX0_odds 106 = .ok (.lstore 8, 2) := dk_55 8 (dk_at dksX0_odds_4 13 rfl rfl)
theorem dX0_odds_108 : decode cX0_odds 108 = .ok (.iconst 0, 1) := dk_3 (dk_at dksX0_odds_4 15 rfl rfl)
theorem dX0_odds_109 : decode cX0_odds 109 = .ok (.istore 10, 2) := dk_54 10 (dk_at dksX0_odds_4 16 rfl rfl)
theorem dX0_odds_111 : decode cX0_odds 111 = .ok (.iload 10, 2) := dk_21 10 (dk_at dksX0_odds_4 18 rfl rfl)
theorem dX0_odds_113 : decode cX0_odds 113 = .ok (.aload_n 0, 1) := dk_42 (dk_at dksX0_odds_4 20 rfl rfl)
theorem dX0_odds_114 : decode cX0_odds 114 = .ok (.getfield 9, 3) := dk_180 0 9 (dk_at dksX0_odds_4 21 rfl rfl)
theorem dX0_odds_117 : decode cX0_odds 117 = .ok (.getfield 13, 3) := dk_180 0 13 (dk_at dksX0_odds_5 0 rfl rfl)
theorem dX0_odds_120 : decode cX0_odds 120 = .ok (.if_icmp .ge 47, 3) := dk_162 0 47 (dk_at dksX0_odds_5 3 rfl rfl)
theorem dX0_odds_123 : decode cX0_odds 123 = .ok (.aload_n 0, 1) := dk_42 (dk_at dksX0_odds_5 6 rfl rfl)
theorem dX0_odds_124 : decode cX0_odds 124 = .ok (.getfield 9, 3) := dk_180 0 9 (dk_at dksX0_odds_5 7 rfl rfl)
theorem dX0_odds_127 : decode cX0_odds 127 = .ok (.iload 10, 2) := dk_21 10 (dk_at dksX0_odds_5 10 rfl rfl)
theorem dX0_odds_129 : decode cX0_odds 129 = .ok (.invokevirtual 46, 3) := dk_182 0 46 (dk_at dksX0_odds_5 12 rfl rfl)
theorem dX0_odds_132 : decode cX0_odds 132 = .ok (.ifCond .eq 29, 3) := dk_153 0 29 (dk_at dksX0_odds_5 15 rfl rfl)
theorem dX0_odds_135 : decode cX0_odds 135 = .ok (.lload 8, 2) := dk_22 8 (dk_at dksX0_odds_5 18 rfl rfl)
theorem dX0_odds_137 : decode cX0_odds 137 = .ok (.iload 7, 2) := dk_21 7 (dk_at dksX0_odds_5 20 rfl rfl)
theorem dX0_odds_139 : decode cX0_odds 139 = .ok (.iload 10, 2) := dk_21 10 (dk_at dksX0_odds_5 22 rfl rfl)
theorem dX0_odds_141 : decode cX0_odds 141 = .ok (.ishr, 1) := dk_122 (dk_at dksX0_odds_6 0 rfl rfl)
theorem dX0_odds_142 : decode cX0_odds 142 = .ok (.iconst 1, 1) := dk_4 (dk_at dksX0_odds_6 1 rfl rfl)
theorem dX0_odds_143 : decode cX0_odds 143 = .ok (.iand, 1) := dk_126 (dk_at dksX0_odds_6 2 rfl rfl)
theorem dX0_odds_144 : decode cX0_odds 144 = .ok (.iconst 1, 1) := dk_4 (dk_at dksX0_odds_6 3 rfl rfl)
theorem dX0_odds_145 : decode cX0_odds 145 = .ok (.if_icmp .ne 8, 3) := dk_160 0 8 (dk_at dksX0_odds_6 4 rfl rfl)
theorem dX0_odds_148 : decode cX0_odds 148 = .ok (.iload_n 1, 1) := dk_27 (dk_at dksX0_odds_6 7 rfl rfl)
theorem dX0_odds_149 : decode cX0_odds 149 = .ok (.i2l, 1) := dk_133 (dk_at dksX0_odds_6 8 rfl rfl)
theorem dX0_odds_150 : decode cX0_odds 150 = .ok (.goto 8, 3) := dk_167 0 8 (dk_at dksX0_odds_6 9 rfl rfl)
theorem dX0_odds_153 : decode cX0_odds 153 = .ok (.bipush 10, 2) := dk_16 10 (dk_at dksX0_odds_6 12 rfl rfl)
theorem dX0_odds_155 : decode cX0_odds 155 = .ok (.iload_n 1, 1) := dk_27 (dk_at dksX0_odds_6 14 rfl rfl)
theorem dX0_odds_156 : decode cX0_odds 156 = .ok (.isub, 1) := dk_100 (dk_at dksX0_odds_6 15 rfl rfl)
theorem dX0_odds_157 : decode cX0_odds 157 = .ok (.i2l, 1) := dk_133 (dk_at dksX0_odds_6 16 rfl rfl)
theorem dX0_odds_158 : decode cX0_odds 158 = .ok (.lmul, 1) := dk_105 (dk_at dksX0_odds_6 17 rfl rfl)
theorem dX0_odds_159 : decode cX0_odds 159 = .ok (.lstore 8, 2) := dk_55 8 (dk_at dksX0_odds_6 18 rfl rfl)
theorem dX0_odds_161 : decode cX0_odds 161 = .ok (.iinc 10 1, 3) := dk_132 10 1 (dk_at dksX0_odds_6 20 rfl rfl)
theorem dX0_odds_164 : decode cX0_odds 164 = .ok (.goto (-53), 3) := dk_167 255 203 (dk_at dksX0_odds_7 0 rfl rfl)
theorem dX0_odds_167 : decode cX0_odds 167 = .ok (.aload_n 0, 1) := dk_42 (dk_at dksX0_odds_7 3 rfl rfl)
theorem dX0_odds_168 : decode cX0_odds 168 = .ok (.invokevirtual 277, 3) := dk_182 1 21 (dk_at dksX0_odds_7 4 rfl rfl)
theorem dX0_odds_171 : decode cX0_odds 171 = .ok (.astore 10, 2) := dk_58 10 (dk_at dksX0_odds_7 7 rfl rfl)
theorem dX0_odds_173 : decode cX0_odds 173 = .ok (.aload 10, 2) := dk_25 10 (dk_at dksX0_odds_7 9 rfl rfl)
theorem dX0_odds_175 : decode cX0_odds 175 = .ok (.dup, 1) := dk_89 (dk_at dksX0_odds_7 11 rfl rfl)
theorem dX0_odds_176 : decode cX0_odds 176 = .ok (.getfield 138, 3) := dk_180 0 138 (dk_at dksX0_odds_7 12 rfl rfl)
theorem dX0_odds_179 : decode cX0_odds 179 = .ok (.iload 7, 2) := dk_21 7 (dk_at dksX0_odds_7 15 rfl rfl)
theorem dX0_odds_181 : decode cX0_odds 181 = .ok (.iconst (-1), 1) := dk_2 (dk_at dksX0_odds_7 17 rfl rfl)
theorem dX0_odds_182 : decode cX0_odds 182 = .ok (.ixor, 1) := dk_130 (dk_at dksX0_odds_7 18 rfl rfl)
theorem dX0_odds_183 : decode cX0_odds 183 = .ok (.iand, 1) := dk_126 (dk_at dksX0_odds_7 19 rfl rfl)
theorem dX0_odds_184 : decode cX0_odds 184 = .ok (.putfield 138, 3) := dk_181 0 138 (dk_at dksX0_odds_7 20 rfl rfl)
theorem dX0_odds_187 : decode cX0_odds 187 = .ok (.lload 8, 2) := dk_22 8 (dk_at dksX0_odds_8 0 rfl rfl)
theorem dX0_odds_189 : decode cX0_odds 189 = .ok (.lconst 0, 1) := dk_9 (dk_at dksX0_odds_8 2 rfl rfl)
theorem dX0_odds_190 : decode cX0_odds 190 = .ok (.lcmp, 1) := dk_148 (dk_at dksX0_odds_8 3 rfl rfl)
theorem dX0_odds_191 : decode cX0_odds 191 = .ok (.ifCond .le 17, 3) := dk_158 0 17 (dk_at dksX0_odds_8 4 rfl rfl)
theorem dX0_odds_194 : decode cX0_odds 194 = .ok (.aload_n 0, 1) := dk_42 (dk_at dksX0_odds_8 7 rfl rfl)
theorem dX0_odds_195 : decode cX0_odds 195 = .ok (.aload 10, 2) := dk_25 10 (dk_at dksX0_odds_8 8 rfl rfl)
theorem dX0_odds_197 : decode cX0_odds 197 = .ok (.invokevirtual 280, 3) := dk_182 1 24 (dk_at dksX0_odds_8 10 rfl rfl)
theorem dX0_odds_200 : decode cX0_odds 200 = .ok (.ifCond .eq 8, 3) := dk_153 0 8 (dk_at dksX0_odds_8 13 rfl rfl)
theorem dX0_odds_203 : decode cX0_odds 203 = .ok (.lload_n 3, 1) := dk_33 (dk_at dksX0_odds_8 16 rfl rfl)
theorem dX0_odds_204 : decode cX0_odds 204 = .ok (.lload 8, 2) := dk_22 8 (dk_at dksX0_odds_8 17 rfl rfl)
theorem dX0_odds_206 : decode cX0_odds 206 = .ok (.ladd, 1) := dk_97 (dk_at dksX0_odds_8 19 rfl rfl)
theorem dX0_odds_207 : decode cX0_odds 207 = .ok (.lstore_n 3, 1) := dk_66 (dk_at dksX0_odds_8 20 rfl rfl)
theorem dX0_odds_208 : decode cX0_odds 208 = .ok (.iinc 7 1, 3) := dk_132 7 1 (dk_at dksX0_odds_8 21 rfl rfl)
theorem dX0_odds_211 : decode cX0_odds 211 = .ok (.goto (-138), 3) := dk_167 255 118 (dk_at dksX0_odds_9 0 rfl rfl)
theorem dX0_odds_214 : decode cX0_odds 214 = .ok (.new 1, 3) := dk_187 0 1 (dk_at dksX0_odds_9 3 rfl rfl)
theorem dX0_odds_217 : decode cX0_odds 217 = .ok (.dup, 1) := dk_89 (dk_at dksX0_odds_9 6 rfl rfl)
theorem dX0_odds_218 : decode cX0_odds 218 = .ok (.lload_n 3, 1) := dk_33 (dk_at dksX0_odds_9 7 rfl rfl)
theorem dX0_odds_219 : decode cX0_odds 219 = .ok (.lload 5, 2) := dk_22 5 (dk_at dksX0_odds_9 8 rfl rfl)
theorem dX0_odds_221 : decode cX0_odds 221 = .ok (.invokespecial 3, 3) := dk_183 0 3 (dk_at dksX0_odds_9 10 rfl rfl)
theorem dX0_odds_224 : decode cX0_odds 224 = .ok (.iload_n 2, 1) := dk_28 (dk_at dksX0_odds_9 13 rfl rfl)
theorem dX0_odds_225 : decode cX0_odds 225 = .ok (.invokevirtual 129, 3) := dk_182 0 129 (dk_at dksX0_odds_9 14 rfl rfl)
theorem dX0_odds_228 : decode cX0_odds 228 = .ok (.ireturn, 1) := dk_172 (dk_at dksX0_odds_9 17 rfl rfl)
abbrev cX0_war : ByteArray := prog_1_method_49_code
def yX0_war : MethodName := ⟨RX0, "war", "(II)I"⟩
def dkwX0_war_1 : List UInt8 := [182, 1, 21, 3, 27, 182, 1, 49, 184, 1, 34, 28, 182, 0, 129, 167, 0, 4, 2, 172]
abbrev dktX0_war_1 : List UInt8 := dkwX0_war_1 ++ []
def dkwX0_war_0 : List UInt8 := [27, 133, 9, 20, 1, 53, 184, 0, 19, 153, 0, 33, 28, 133, 9, 10, 184, 0, 19, 153, 0, 23, 42, 42]
abbrev dktX0_war_0 : List UInt8 := dkwX0_war_0 ++ dktX0_war_1
theorem dksX0_war_0 : cX0_war.data.toList.drop 0 = dktX0_war_0 := by decide +kernel
theorem dksX0_war_1 : cX0_war.data.toList.drop 24 = dktX0_war_1 := dk_seg dksX0_war_0 24 rfl rfl
theorem dX0_war_0 : decode cX0_war 0 = .ok (.iload_n 1, 1) := dk_27 (dk_at dksX0_war_0 0 rfl rfl)
theorem dX0_war_1 : decode cX0_war 1 = .ok (.i2l, 1) := dk_133 (dk_at dksX0_war_0 1 rfl rfl)
theorem dX0_war_2 : decode cX0_war 2 = .ok (.lconst 0, 1) := dk_9 (dk_at dksX0_war_0 2 rfl rfl)
theorem dX0_war_3 : decode cX0_war 3 = .ok (.ldc2_w 309, 3) := dk_20 1 53 (dk_at dksX0_war_0 3 rfl rfl)
theorem dX0_war_6 : decode cX0_war 6 = .ok (.invokestatic 19, 3) := dk_184 0 19 (dk_at dksX0_war_0 6 rfl rfl)
theorem dX0_war_9 : decode cX0_war 9 = .ok (.ifCond .eq 33, 3) := dk_153 0 33 (dk_at dksX0_war_0 9 rfl rfl)
theorem dX0_war_12 : decode cX0_war 12 = .ok (.iload_n 2, 1) := dk_28 (dk_at dksX0_war_0 12 rfl rfl)
theorem dX0_war_13 : decode cX0_war 13 = .ok (.i2l, 1) := dk_133 (dk_at dksX0_war_0 13 rfl rfl)
theorem dX0_war_14 : decode cX0_war 14 = .ok (.lconst 0, 1) := dk_9 (dk_at dksX0_war_0 14 rfl rfl)
theorem dX0_war_15 : decode cX0_war 15 = .ok (.lconst 1, 1) := dk_10 (dk_at dksX0_war_0 15 rfl rfl)
theorem dX0_war_16 : decode cX0_war 16 = .ok (.invokestatic 19, 3) := dk_184 0 19 (dk_at dksX0_war_0 16 rfl rfl)
theorem dX0_war_19 : decode cX0_war 19 = .ok (.ifCond .eq 23, 3) := dk_153 0 23 (dk_at dksX0_war_0 19 rfl rfl)
theorem dX0_war_22 : decode cX0_war 22 = .ok (.aload_n 0, 1) := dk_42 (dk_at dksX0_war_0 22 rfl rfl)
theorem dX0_war_23 : decode cX0_war 23 = .ok (.aload_n 0, 1) := dk_42 (dk_at dksX0_war_0 23 rfl rfl)
theorem dX0_war_24 : decode cX0_war 24 = .ok (.invokevirtual 277, 3) := dk_182 1 21 (dk_at dksX0_war_1 0 rfl rfl)
theorem dX0_war_27 : decode cX0_war 27 = .ok (.iconst 0, 1) := dk_3 (dk_at dksX0_war_1 3 rfl rfl)
theorem dX0_war_28 : decode cX0_war 28 = .ok (.iload_n 1, 1) := dk_27 (dk_at dksX0_war_1 4 rfl rfl)
theorem dX0_war_29 : decode cX0_war 29 = .ok (.invokevirtual 305, 3) := dk_182 1 49 (dk_at dksX0_war_1 5 rfl rfl)
theorem dX0_war_32 : decode cX0_war 32 = .ok (.invokestatic 290, 3) := dk_184 1 34 (dk_at dksX0_war_1 8 rfl rfl)
theorem dX0_war_35 : decode cX0_war 35 = .ok (.iload_n 2, 1) := dk_28 (dk_at dksX0_war_1 11 rfl rfl)
theorem dX0_war_36 : decode cX0_war 36 = .ok (.invokevirtual 129, 3) := dk_182 0 129 (dk_at dksX0_war_1 12 rfl rfl)
theorem dX0_war_39 : decode cX0_war 39 = .ok (.goto 4, 3) := dk_167 0 4 (dk_at dksX0_war_1 15 rfl rfl)
theorem dX0_war_42 : decode cX0_war 42 = .ok (.iconst (-1), 1) := dk_2 (dk_at dksX0_war_1 18 rfl rfl)
theorem dX0_war_43 : decode cX0_war 43 = .ok (.ireturn, 1) := dk_172 (dk_at dksX0_war_1 19 rfl rfl)
abbrev cX0_comesTo : ByteArray := prog_1_method_48_code
def yX0_comesTo : MethodName := ⟨RX0, "comesTo", "(LOneElastic$Town;II)I"⟩
def dkwX0_comesTo_6 : List UInt8 := [180, 0, 226, 21, 4, 21, 5, 145, 84, 21, 6, 172]
abbrev dktX0_comesTo_6 : List UInt8 := dkwX0_comesTo_6 ++ []
def dkwX0_comesTo_5 : List UInt8 := [167, 0, 13, 21, 8, 21, 6, 184, 1, 30, 153, 0, 7, 21, 8, 54, 6, 132, 7, 1, 167, 255, 164, 43]
abbrev dktX0_comesTo_5 : List UInt8 := dkwX0_comesTo_5 ++ dktX0_comesTo_6
def dkwX0_comesTo_4 : List UInt8 := [21, 6, 16, 252, 159, 0, 32, 28, 5, 112, 154, 0, 16, 21, 6, 21, 8, 184, 1, 30, 153, 0, 20]
abbrev dktX0_comesTo_4 : List UInt8 := dkwX0_comesTo_4 ++ dktX0_comesTo_5
def dkwX0_comesTo_3 : List UInt8 := [180, 0, 226, 21, 4, 21, 5, 21, 7, 96, 145, 84, 42, 43, 28, 4, 96, 29, 182, 1, 49, 54, 8]
abbrev dktX0_comesTo_3 : List UInt8 := dkwX0_comesTo_3 ++ dktX0_comesTo_4
def dkwX0_comesTo_2 : List UInt8 := [162, 0, 92, 21, 5, 21, 7, 96, 133, 9, 20, 0, 102, 184, 0, 19, 154, 0, 6, 167, 0, 67, 43]
abbrev dktX0_comesTo_2 : List UInt8 := dkwX0_comesTo_2 ++ dktX0_comesTo_3
def dkwX0_comesTo_1 : List UInt8 := [182, 1, 45, 54, 4, 43, 180, 0, 226, 21, 4, 51, 54, 5, 16, 252, 54, 6, 2, 54, 7, 21, 7, 5]
abbrev dktX0_comesTo_1 : List UInt8 := dkwX0_comesTo_1 ++ dktX0_comesTo_2
def dkwX0_comesTo_0 : List UInt8 := [28, 29, 159, 0, 10, 43, 180, 0, 138, 154, 0, 11, 43, 182, 0, 29, 182, 0, 148, 172, 42, 43, 28]
abbrev dktX0_comesTo_0 : List UInt8 := dkwX0_comesTo_0 ++ dktX0_comesTo_1
theorem dksX0_comesTo_0 : cX0_comesTo.data.toList.drop 0 = dktX0_comesTo_0 := by decide +kernel
theorem dksX0_comesTo_1 : cX0_comesTo.data.toList.drop 23 = dktX0_comesTo_1 := dk_seg dksX0_comesTo_0 23 rfl rfl
theorem dksX0_comesTo_2 : cX0_comesTo.data.toList.drop 47 = dktX0_comesTo_2 := dk_seg dksX0_comesTo_1 24 rfl rfl
theorem dksX0_comesTo_3 : cX0_comesTo.data.toList.drop 70 = dktX0_comesTo_3 := dk_seg dksX0_comesTo_2 23 rfl rfl
theorem dksX0_comesTo_4 : cX0_comesTo.data.toList.drop 93 = dktX0_comesTo_4 := dk_seg dksX0_comesTo_3 23 rfl rfl
theorem dksX0_comesTo_5 : cX0_comesTo.data.toList.drop 116 = dktX0_comesTo_5 := dk_seg dksX0_comesTo_4 23 rfl rfl
theorem dksX0_comesTo_6 : cX0_comesTo.data.toList.drop 140 = dktX0_comesTo_6 := dk_seg dksX0_comesTo_5 24 rfl rfl
theorem dX0_comesTo_0 : decode cX0_comesTo 0 = .ok (.iload_n 2, 1) := dk_28 (dk_at dksX0_comesTo_0 0 rfl rfl)
theorem dX0_comesTo_1 : decode cX0_comesTo 1 = .ok (.iload_n 3, 1) := dk_29 (dk_at dksX0_comesTo_0 1 rfl rfl)
theorem dX0_comesTo_2 : decode cX0_comesTo 2 = .ok (.if_icmp .eq 10, 3) := dk_159 0 10 (dk_at dksX0_comesTo_0 2 rfl rfl)
theorem dX0_comesTo_5 : decode cX0_comesTo 5 = .ok (.aload_n 1, 1) := dk_43 (dk_at dksX0_comesTo_0 5 rfl rfl)
theorem dX0_comesTo_6 : decode cX0_comesTo 6 = .ok (.getfield 138, 3) := dk_180 0 138 (dk_at dksX0_comesTo_0 6 rfl rfl)
theorem dX0_comesTo_9 : decode cX0_comesTo 9 = .ok (.ifCond .ne 11, 3) := dk_154 0 11 (dk_at dksX0_comesTo_0 9 rfl rfl)
theorem dX0_comesTo_12 : decode cX0_comesTo 12 = .ok (.aload_n 1, 1) := dk_43 (dk_at dksX0_comesTo_0 12 rfl rfl)
theorem dX0_comesTo_13 : decode cX0_comesTo 13 = .ok (.invokevirtual 29, 3) := dk_182 0 29 (dk_at dksX0_comesTo_0 13 rfl rfl)
theorem dX0_comesTo_16 : decode cX0_comesTo 16 = .ok (.invokevirtual 148, 3) := dk_182 0 148 (dk_at dksX0_comesTo_0 16 rfl rfl)
theorem dX0_comesTo_19 : decode cX0_comesTo 19 = .ok (.ireturn, 1) := dk_172 (dk_at dksX0_comesTo_0 19 rfl rfl)
theorem dX0_comesTo_20 : decode cX0_comesTo 20 = .ok (.aload_n 0, 1) := dk_42 (dk_at dksX0_comesTo_0 20 rfl rfl)
theorem dX0_comesTo_21 : decode cX0_comesTo 21 = .ok (.aload_n 1, 1) := dk_43 (dk_at dksX0_comesTo_0 21 rfl rfl)
theorem dX0_comesTo_22 : decode cX0_comesTo 22 = .ok (.iload_n 2, 1) := dk_28 (dk_at dksX0_comesTo_0 22 rfl rfl)
theorem dX0_comesTo_23 : decode cX0_comesTo 23 = .ok (.invokevirtual 301, 3) := dk_182 1 45 (dk_at dksX0_comesTo_1 0 rfl rfl)
theorem dX0_comesTo_26 : decode cX0_comesTo 26 = .ok (.istore 4, 2) := dk_54 4 (dk_at dksX0_comesTo_1 3 rfl rfl)
theorem dX0_comesTo_28 : decode cX0_comesTo 28 = .ok (.aload_n 1, 1) := dk_43 (dk_at dksX0_comesTo_1 5 rfl rfl)
theorem dX0_comesTo_29 : decode cX0_comesTo 29 = .ok (.getfield 226, 3) := dk_180 0 226 (dk_at dksX0_comesTo_1 6 rfl rfl)
theorem dX0_comesTo_32 : decode cX0_comesTo 32 = .ok (.iload 4, 2) := dk_21 4 (dk_at dksX0_comesTo_1 9 rfl rfl)
theorem dX0_comesTo_34 : decode cX0_comesTo 34 = .ok (.baload, 1) := dk_51 (dk_at dksX0_comesTo_1 11 rfl rfl)
theorem dX0_comesTo_35 : decode cX0_comesTo 35 = .ok (.istore 5, 2) := dk_54 5 (dk_at dksX0_comesTo_1 12 rfl rfl)
theorem dX0_comesTo_37 : decode cX0_comesTo 37 = .ok (.bipush (-4), 2) := dk_16 252 (dk_at dksX0_comesTo_1 14 rfl rfl)
theorem dX0_comesTo_39 : decode cX0_comesTo 39 = .ok (.istore 6, 2) := dk_54 6 (dk_at dksX0_comesTo_1 16 rfl rfl)
theorem dX0_comesTo_41 : decode cX0_comesTo 41 = .ok (.iconst (-1), 1) := dk_2 (dk_at dksX0_comesTo_1 18 rfl rfl)
theorem dX0_comesTo_42 : decode cX0_comesTo 42 = .ok (.istore 7, 2) := dk_54 7 (dk_at dksX0_comesTo_1 19 rfl rfl)
theorem dX0_comesTo_44 : decode cX0_comesTo 44 = .ok (.iload 7, 2) := dk_21 7 (dk_at dksX0_comesTo_1 21 rfl rfl)
theorem dX0_comesTo_46 : decode cX0_comesTo 46 = .ok (.iconst 2, 1) := dk_5 (dk_at dksX0_comesTo_1 23 rfl rfl)
theorem dX0_comesTo_47 : decode cX0_comesTo 47 = .ok (.if_icmp .ge 92, 3) := dk_162 0 92 (dk_at dksX0_comesTo_2 0 rfl rfl)
theorem dX0_comesTo_50 : decode cX0_comesTo 50 = .ok (.iload 5, 2) := dk_21 5 (dk_at dksX0_comesTo_2 3 rfl rfl)
theorem dX0_comesTo_52 : decode cX0_comesTo 52 = .ok (.iload 7, 2) := dk_21 7 (dk_at dksX0_comesTo_2 5 rfl rfl)
theorem dX0_comesTo_54 : decode cX0_comesTo 54 = .ok (.iadd, 1) := dk_96 (dk_at dksX0_comesTo_2 7 rfl rfl)
theorem dX0_comesTo_55 : decode cX0_comesTo 55 = .ok (.i2l, 1) := dk_133 (dk_at dksX0_comesTo_2 8 rfl rfl)
theorem dX0_comesTo_56 : decode cX0_comesTo 56 = .ok (.lconst 0, 1) := dk_9 (dk_at dksX0_comesTo_2 9 rfl rfl)
theorem dX0_comesTo_57 : decode cX0_comesTo 57 = .ok (.ldc2_w 102, 3) := dk_20 0 102 (dk_at dksX0_comesTo_2 10 rfl rfl)
theorem dX0_comesTo_60 : decode cX0_comesTo 60 = .ok (.invokestatic 19, 3) := dk_184 0 19 (dk_at dksX0_comesTo_2 13 rfl rfl)
theorem dX0_comesTo_63 : decode cX0_comesTo 63 = .ok (.ifCond .ne 6, 3) := dk_154 0 6 (dk_at dksX0_comesTo_2 16 rfl rfl)
theorem dX0_comesTo_66 : decode cX0_comesTo 66 = .ok (.goto 67, 3) := dk_167 0 67 (dk_at dksX0_comesTo_2 19 rfl rfl)
theorem dX0_comesTo_69 : decode cX0_comesTo 69 = .ok (.aload_n 1, 1) := dk_43 (dk_at dksX0_comesTo_2 22 rfl rfl)
theorem dX0_comesTo_70 : decode cX0_comesTo 70 = .ok (.getfield 226, 3) := dk_180 0 226 (dk_at dksX0_comesTo_3 0 rfl rfl)
theorem dX0_comesTo_73 : decode cX0_comesTo 73 = .ok (.iload 4, 2) := dk_21 4 (dk_at dksX0_comesTo_3 3 rfl rfl)
theorem dX0_comesTo_75 : decode cX0_comesTo 75 = .ok (.iload 5, 2) := dk_21 5 (dk_at dksX0_comesTo_3 5 rfl rfl)
theorem dX0_comesTo_77 : decode cX0_comesTo 77 = .ok (.iload 7, 2) := dk_21 7 (dk_at dksX0_comesTo_3 7 rfl rfl)
theorem dX0_comesTo_79 : decode cX0_comesTo 79 = .ok (.iadd, 1) := dk_96 (dk_at dksX0_comesTo_3 9 rfl rfl)
theorem dX0_comesTo_80 : decode cX0_comesTo 80 = .ok (.i2b, 1) := dk_145 (dk_at dksX0_comesTo_3 10 rfl rfl)
theorem dX0_comesTo_81 : decode cX0_comesTo 81 = .ok (.bastore, 1) := dk_84 (dk_at dksX0_comesTo_3 11 rfl rfl)
theorem dX0_comesTo_82 : decode cX0_comesTo 82 = .ok (.aload_n 0, 1) := dk_42 (dk_at dksX0_comesTo_3 12 rfl rfl)
theorem dX0_comesTo_83 : decode cX0_comesTo 83 = .ok (.aload_n 1, 1) := dk_43 (dk_at dksX0_comesTo_3 13 rfl rfl)
theorem dX0_comesTo_84 : decode cX0_comesTo 84 = .ok (.iload_n 2, 1) := dk_28 (dk_at dksX0_comesTo_3 14 rfl rfl)
theorem dX0_comesTo_85 : decode cX0_comesTo 85 = .ok (.iconst 1, 1) := dk_4 (dk_at dksX0_comesTo_3 15 rfl rfl)
theorem dX0_comesTo_86 : decode cX0_comesTo 86 = .ok (.iadd, 1) := dk_96 (dk_at dksX0_comesTo_3 16 rfl rfl)
theorem dX0_comesTo_87 : decode cX0_comesTo 87 = .ok (.iload_n 3, 1) := dk_29 (dk_at dksX0_comesTo_3 17 rfl rfl)
theorem dX0_comesTo_88 : decode cX0_comesTo 88 = .ok (.invokevirtual 305, 3) := dk_182 1 49 (dk_at dksX0_comesTo_3 18 rfl rfl)
theorem dX0_comesTo_91 : decode cX0_comesTo 91 = .ok (.istore 8, 2) := dk_54 8 (dk_at dksX0_comesTo_3 21 rfl rfl)
theorem dX0_comesTo_93 : decode cX0_comesTo 93 = .ok (.iload 6, 2) := dk_21 6 (dk_at dksX0_comesTo_4 0 rfl rfl)
theorem dX0_comesTo_95 : decode cX0_comesTo 95 = .ok (.bipush (-4), 2) := dk_16 252 (dk_at dksX0_comesTo_4 2 rfl rfl)
theorem dX0_comesTo_97 : decode cX0_comesTo 97 = .ok (.if_icmp .eq 32, 3) := dk_159 0 32 (dk_at dksX0_comesTo_4 4 rfl rfl)
theorem dX0_comesTo_100 : decode cX0_comesTo 100 = .ok (.iload_n 2, 1) := dk_28 (dk_at dksX0_comesTo_4 7 rfl rfl)
theorem dX0_comesTo_101 : decode cX0_comesTo 101 = .ok (.iconst 2, 1) := dk_5 (dk_at dksX0_comesTo_4 8 rfl rfl)
theorem dX0_comesTo_102 : decode cX0_comesTo 102 = .ok (.irem, 1) := dk_112 (dk_at dksX0_comesTo_4 9 rfl rfl)
theorem dX0_comesTo_103 : decode cX0_comesTo 103 = .ok (.ifCond .ne 16, 3) := dk_154 0 16 (dk_at dksX0_comesTo_4 10 rfl rfl)
theorem dX0_comesTo_106 : decode cX0_comesTo 106 = .ok (.iload 6, 2) := dk_21 6 (dk_at dksX0_comesTo_4 13 rfl rfl)
theorem dX0_comesTo_108 : decode cX0_comesTo 108 = .ok (.iload 8, 2) := dk_21 8 (dk_at dksX0_comesTo_4 15 rfl rfl)
theorem dX0_comesTo_110 : decode cX0_comesTo 110 = .ok (.invokestatic 286, 3) := dk_184 1 30 (dk_at dksX0_comesTo_4 17 rfl rfl)
theorem dX0_comesTo_113 : decode cX0_comesTo 113 = .ok (.ifCond .eq 20, 3) := dk_153 0 20 (dk_at dksX0_comesTo_4 20 rfl rfl)
theorem dX0_comesTo_116 : decode cX0_comesTo 116 = .ok (.goto 13, 3) := dk_167 0 13 (dk_at dksX0_comesTo_5 0 rfl rfl)
theorem dX0_comesTo_119 : decode cX0_comesTo 119 = .ok (.iload 8, 2) := dk_21 8 (dk_at dksX0_comesTo_5 3 rfl rfl)
theorem dX0_comesTo_121 : decode cX0_comesTo 121 = .ok (.iload 6, 2) := dk_21 6 (dk_at dksX0_comesTo_5 5 rfl rfl)
theorem dX0_comesTo_123 : decode cX0_comesTo 123 = .ok (.invokestatic 286, 3) := dk_184 1 30 (dk_at dksX0_comesTo_5 7 rfl rfl)
theorem dX0_comesTo_126 : decode cX0_comesTo 126 = .ok (.ifCond .eq 7, 3) := dk_153 0 7 (dk_at dksX0_comesTo_5 10 rfl rfl)
theorem dX0_comesTo_129 : decode cX0_comesTo 129 = .ok (.iload 8, 2) := dk_21 8 (dk_at dksX0_comesTo_5 13 rfl rfl)
theorem dX0_comesTo_131 : decode cX0_comesTo 131 = .ok (.istore 6, 2) := dk_54 6 (dk_at dksX0_comesTo_5 15 rfl rfl)
theorem dX0_comesTo_133 : decode cX0_comesTo 133 = .ok (.iinc 7 1, 3) := dk_132 7 1 (dk_at dksX0_comesTo_5 17 rfl rfl)
theorem dX0_comesTo_136 : decode cX0_comesTo 136 = .ok (.goto (-92), 3) := dk_167 255 164 (dk_at dksX0_comesTo_5 20 rfl rfl)
theorem dX0_comesTo_139 : decode cX0_comesTo 139 = .ok (.aload_n 1, 1) := dk_43 (dk_at dksX0_comesTo_5 23 rfl rfl)
theorem dX0_comesTo_140 : decode cX0_comesTo 140 = .ok (.getfield 226, 3) := dk_180 0 226 (dk_at dksX0_comesTo_6 0 rfl rfl)
theorem dX0_comesTo_143 : decode cX0_comesTo 143 = .ok (.iload 4, 2) := dk_21 4 (dk_at dksX0_comesTo_6 3 rfl rfl)
theorem dX0_comesTo_145 : decode cX0_comesTo 145 = .ok (.iload 5, 2) := dk_21 5 (dk_at dksX0_comesTo_6 5 rfl rfl)
theorem dX0_comesTo_147 : decode cX0_comesTo 147 = .ok (.i2b, 1) := dk_145 (dk_at dksX0_comesTo_6 7 rfl rfl)
theorem dX0_comesTo_148 : decode cX0_comesTo 148 = .ok (.bastore, 1) := dk_84 (dk_at dksX0_comesTo_6 8 rfl rfl)
theorem dX0_comesTo_149 : decode cX0_comesTo 149 = .ok (.iload 6, 2) := dk_21 6 (dk_at dksX0_comesTo_6 9 rfl rfl)
theorem dX0_comesTo_151 : decode cX0_comesTo 151 = .ok (.ireturn, 1) := dk_172 (dk_at dksX0_comesTo_6 11 rfl rfl)
abbrev cX0_mover : ByteArray := prog_1_method_47_code
def yX0_mover : MethodName := ⟨RX0, "mover", "(LOneElastic$Town;I)I"⟩
def dkwX0_mover_1 : List UInt8 := [184, 1, 42, 100, 172]
abbrev dktX0_mover_1 : List UInt8 := dkwX0_mover_1 ++ []
def dkwX0_mover_0 : List UInt8 := [28, 5, 112, 154, 0, 13, 43, 180, 0, 138, 184, 1, 39, 167, 0, 13, 16, 31, 43, 180, 0, 138]
abbrev dktX0_mover_0 : List UInt8 := dkwX0_mover_0 ++ dktX0_mover_1
theorem dksX0_mover_0 : cX0_mover.data.toList.drop 0 = dktX0_mover_0 := by decide +kernel
theorem dksX0_mover_1 : cX0_mover.data.toList.drop 22 = dktX0_mover_1 := dk_seg dksX0_mover_0 22 rfl rfl
theorem dX0_mover_0 : decode cX0_mover 0 = .ok (.iload_n 2, 1) := dk_28 (dk_at dksX0_mover_0 0 rfl rfl)
theorem dX0_mover_1 : decode cX0_mover 1 = .ok (.iconst 2, 1) := dk_5 (dk_at dksX0_mover_0 1 rfl rfl)
theorem dX0_mover_2 : decode cX0_mover 2 = .ok (.irem, 1) := dk_112 (dk_at dksX0_mover_0 2 rfl rfl)
theorem dX0_mover_3 : decode cX0_mover 3 = .ok (.ifCond .ne 13, 3) := dk_154 0 13 (dk_at dksX0_mover_0 3 rfl rfl)
theorem dX0_mover_6 : decode cX0_mover 6 = .ok (.aload_n 1, 1) := dk_43 (dk_at dksX0_mover_0 6 rfl rfl)
theorem dX0_mover_7 : decode cX0_mover 7 = .ok (.getfield 138, 3) := dk_180 0 138 (dk_at dksX0_mover_0 7 rfl rfl)
theorem dX0_mover_10 : decode cX0_mover 10 = .ok (.invokestatic 295, 3) := dk_184 1 39 (dk_at dksX0_mover_0 10 rfl rfl)
theorem dX0_mover_13 : decode cX0_mover 13 = .ok (.goto 13, 3) := dk_167 0 13 (dk_at dksX0_mover_0 13 rfl rfl)
theorem dX0_mover_16 : decode cX0_mover 16 = .ok (.bipush 31, 2) := dk_16 31 (dk_at dksX0_mover_0 16 rfl rfl)
theorem dX0_mover_18 : decode cX0_mover 18 = .ok (.aload_n 1, 1) := dk_43 (dk_at dksX0_mover_0 18 rfl rfl)
theorem dX0_mover_19 : decode cX0_mover 19 = .ok (.getfield 138, 3) := dk_180 0 138 (dk_at dksX0_mover_0 19 rfl rfl)
theorem dX0_mover_22 : decode cX0_mover 22 = .ok (.invokestatic 298, 3) := dk_184 1 42 (dk_at dksX0_mover_1 0 rfl rfl)
theorem dX0_mover_25 : decode cX0_mover 25 = .ok (.isub, 1) := dk_100 (dk_at dksX0_mover_1 3 rfl rfl)
theorem dX0_mover_26 : decode cX0_mover 26 = .ok (.ireturn, 1) := dk_172 (dk_at dksX0_mover_1 4 rfl rfl)
abbrev cX0_image : ByteArray := prog_1_method_51_code
def yX0_image : MethodName := ⟨RX0, "image", "()I"⟩
def dkwX0_image_1 : List UInt8 := [42, 4, 181, 1, 77, 4, 172]
abbrev dktX0_image_1 : List UInt8 := dkwX0_image_1 ++ []
def dkwX0_image_0 : List UInt8 := [42, 180, 1, 67, 42, 180, 0, 9, 182, 0, 216, 87, 42, 42, 180, 0, 112, 42, 180, 1, 70, 182, 1, 73]
abbrev dktX0_image_0 : List UInt8 := dkwX0_image_0 ++ dktX0_image_1
theorem dksX0_image_0 : cX0_image.data.toList.drop 0 = dktX0_image_0 := by decide +kernel
theorem dksX0_image_1 : cX0_image.data.toList.drop 24 = dktX0_image_1 := dk_seg dksX0_image_0 24 rfl rfl
theorem dX0_image_0 : decode cX0_image 0 = .ok (.aload_n 0, 1) := dk_42 (dk_at dksX0_image_0 0 rfl rfl)
theorem dX0_image_1 : decode cX0_image 1 = .ok (.getfield 323, 3) := dk_180 1 67 (dk_at dksX0_image_0 1 rfl rfl)
theorem dX0_image_4 : decode cX0_image 4 = .ok (.aload_n 0, 1) := dk_42 (dk_at dksX0_image_0 4 rfl rfl)
theorem dX0_image_5 : decode cX0_image 5 = .ok (.getfield 9, 3) := dk_180 0 9 (dk_at dksX0_image_0 5 rfl rfl)
theorem dX0_image_8 : decode cX0_image 8 = .ok (.invokevirtual 216, 3) := dk_182 0 216 (dk_at dksX0_image_0 8 rfl rfl)
theorem dX0_image_11 : decode cX0_image 11 = .ok (.pop, 1) := dk_87 (dk_at dksX0_image_0 11 rfl rfl)
theorem dX0_image_12 : decode cX0_image 12 = .ok (.aload_n 0, 1) := dk_42 (dk_at dksX0_image_0 12 rfl rfl)
theorem dX0_image_13 : decode cX0_image 13 = .ok (.aload_n 0, 1) := dk_42 (dk_at dksX0_image_0 13 rfl rfl)
theorem dX0_image_14 : decode cX0_image 14 = .ok (.getfield 112, 3) := dk_180 0 112 (dk_at dksX0_image_0 14 rfl rfl)
theorem dX0_image_17 : decode cX0_image 17 = .ok (.aload_n 0, 1) := dk_42 (dk_at dksX0_image_0 17 rfl rfl)
theorem dX0_image_18 : decode cX0_image 18 = .ok (.getfield 326, 3) := dk_180 1 70 (dk_at dksX0_image_0 18 rfl rfl)
theorem dX0_image_21 : decode cX0_image 21 = .ok (.invokevirtual 329, 3) := dk_182 1 73 (dk_at dksX0_image_0 21 rfl rfl)
theorem dX0_image_24 : decode cX0_image 24 = .ok (.aload_n 0, 1) := dk_42 (dk_at dksX0_image_1 0 rfl rfl)
theorem dX0_image_25 : decode cX0_image 25 = .ok (.iconst 1, 1) := dk_4 (dk_at dksX0_image_1 1 rfl rfl)
theorem dX0_image_26 : decode cX0_image 26 = .ok (.putfield 333, 3) := dk_181 1 77 (dk_at dksX0_image_1 2 rfl rfl)
theorem dX0_image_29 : decode cX0_image 29 = .ok (.iconst 1, 1) := dk_4 (dk_at dksX0_image_1 5 rfl rfl)
theorem dX0_image_30 : decode cX0_image 30 = .ok (.ireturn, 1) := dk_172 (dk_at dksX0_image_1 6 rfl rfl)
abbrev cX0_copies : ByteArray := prog_1_method_50_code
def yX0_copies : MethodName := ⟨RX0, "copies", "(Ljava/util/ArrayDeque;Ljava/util/ArrayDeque;)V"⟩
def dkwX0_copies_2 : List UInt8 := [167, 255, 219, 177]
abbrev dktX0_copies_2 : List UInt8 := dkwX0_copies_2 ++ []
def dkwX0_copies_1 : List UInt8 := [192, 0, 14, 58, 4, 44, 187, 0, 14, 89, 42, 183, 0, 213, 25, 4, 182, 0, 216, 182, 0, 220]
abbrev dktX0_copies_1 : List UInt8 := dkwX0_copies_1 ++ dktX0_copies_2
def dkwX0_copies_0 : List UInt8 := [44, 182, 0, 116, 43, 182, 1, 55, 78, 45, 185, 1, 59, 1, 0, 153, 0, 34, 45, 185, 1, 64, 1, 0]
abbrev dktX0_copies_0 : List UInt8 := dkwX0_copies_0 ++ dktX0_copies_1
theorem dksX0_copies_0 : cX0_copies.data.toList.drop 0 = dktX0_copies_0 := by decide +kernel
theorem dksX0_copies_1 : cX0_copies.data.toList.drop 24 = dktX0_copies_1 := dk_seg dksX0_copies_0 24 rfl rfl
theorem dksX0_copies_2 : cX0_copies.data.toList.drop 46 = dktX0_copies_2 := dk_seg dksX0_copies_1 22 rfl rfl
theorem dX0_copies_0 : decode cX0_copies 0 = .ok (.aload_n 2, 1) := dk_44 (dk_at dksX0_copies_0 0 rfl rfl)
theorem dX0_copies_1 : decode cX0_copies 1 = .ok (.invokevirtual 116, 3) := dk_182 0 116 (dk_at dksX0_copies_0 1 rfl rfl)
theorem dX0_copies_4 : decode cX0_copies 4 = .ok (.aload_n 1, 1) := dk_43 (dk_at dksX0_copies_0 4 rfl rfl)
theorem dX0_copies_5 : decode cX0_copies 5 = .ok (.invokevirtual 311, 3) := dk_182 1 55 (dk_at dksX0_copies_0 5 rfl rfl)
theorem dX0_copies_8 : decode cX0_copies 8 = .ok (.astore_n 3, 1) := dk_78 (dk_at dksX0_copies_0 8 rfl rfl)
theorem dX0_copies_9 : decode cX0_copies 9 = .ok (.aload_n 3, 1) := dk_45 (dk_at dksX0_copies_0 9 rfl rfl)
theorem dX0_copies_10 : decode cX0_copies 10 = .ok (.invokeinterface 315 1, 5) := by decide +kernel
theorem dX0_copies_15 : decode cX0_copies 15 = .ok (.ifCond .eq 34, 3) := dk_153 0 34 (dk_at dksX0_copies_0 15 rfl rfl)
theorem dX0_copies_18 : decode cX0_copies 18 = .ok (.aload_n 3, 1) := dk_45 (dk_at dksX0_copies_0 18 rfl rfl)
theorem dX0_copies_19 : decode cX0_copies 19 = .ok (.invokeinterface 320 1, 5) := by decide +kernel
theorem dX0_copies_24 : decode cX0_copies 24 = .ok (.checkcast 14, 3) := dk_192 0 14 (dk_at dksX0_copies_1 0 rfl rfl)
theorem dX0_copies_27 : decode cX0_copies 27 = .ok (.astore 4, 2) := dk_58 4 (dk_at dksX0_copies_1 3 rfl rfl)
theorem dX0_copies_29 : decode cX0_copies 29 = .ok (.aload_n 2, 1) := dk_44 (dk_at dksX0_copies_1 5 rfl rfl)
theorem dX0_copies_30 : decode cX0_copies 30 = .ok (.new 14, 3) := dk_187 0 14 (dk_at dksX0_copies_1 6 rfl rfl)
theorem dX0_copies_33 : decode cX0_copies 33 = .ok (.dup, 1) := dk_89 (dk_at dksX0_copies_1 9 rfl rfl)
theorem dX0_copies_34 : decode cX0_copies 34 = .ok (.aload_n 0, 1) := dk_42 (dk_at dksX0_copies_1 10 rfl rfl)
theorem dX0_copies_35 : decode cX0_copies 35 = .ok (.invokespecial 213, 3) := dk_183 0 213 (dk_at dksX0_copies_1 11 rfl rfl)
theorem dX0_copies_38 : decode cX0_copies 38 = .ok (.aload 4, 2) := dk_25 4 (dk_at dksX0_copies_1 14 rfl rfl)
theorem dX0_copies_40 : decode cX0_copies 40 = .ok (.invokevirtual 216, 3) := dk_182 0 216 (dk_at dksX0_copies_1 16 rfl rfl)
theorem dX0_copies_43 : decode cX0_copies 43 = .ok (.invokevirtual 220, 3) := dk_182 0 220 (dk_at dksX0_copies_1 19 rfl rfl)
theorem dX0_copies_46 : decode cX0_copies 46 = .ok (.goto (-37), 3) := dk_167 255 219 (dk_at dksX0_copies_2 0 rfl rfl)
theorem dX0_copies_49 : decode cX0_copies 49 = .ok (.return_, 1) := dk_177 (dk_at dksX0_copies_2 3 rfl rfl)
abbrev cX0_restore : ByteArray := prog_1_method_52_code
def yX0_restore : MethodName := ⟨RX0, "restore", "()I"⟩
def dkwX0_restore_1 : List UInt8 := [180, 1, 70, 42, 180, 0, 112, 182, 1, 73, 4, 172]
abbrev dktX0_restore_1 : List UInt8 := dkwX0_restore_1 ++ []
def dkwX0_restore_0 : List UInt8 := [42, 180, 1, 77, 154, 0, 6, 16, 252, 172, 42, 180, 0, 9, 42, 180, 1, 67, 182, 0, 216, 87, 42, 42]
abbrev dktX0_restore_0 : List UInt8 := dkwX0_restore_0 ++ dktX0_restore_1
theorem dksX0_restore_0 : cX0_restore.data.toList.drop 0 = dktX0_restore_0 := by decide +kernel
theorem dksX0_restore_1 : cX0_restore.data.toList.drop 24 = dktX0_restore_1 := dk_seg dksX0_restore_0 24 rfl rfl
theorem dX0_restore_0 : decode cX0_restore 0 = .ok (.aload_n 0, 1) := dk_42 (dk_at dksX0_restore_0 0 rfl rfl)
theorem dX0_restore_1 : decode cX0_restore 1 = .ok (.getfield 333, 3) := dk_180 1 77 (dk_at dksX0_restore_0 1 rfl rfl)
theorem dX0_restore_4 : decode cX0_restore 4 = .ok (.ifCond .ne 6, 3) := dk_154 0 6 (dk_at dksX0_restore_0 4 rfl rfl)
theorem dX0_restore_7 : decode cX0_restore 7 = .ok (.bipush (-4), 2) := dk_16 252 (dk_at dksX0_restore_0 7 rfl rfl)
theorem dX0_restore_9 : decode cX0_restore 9 = .ok (.ireturn, 1) := dk_172 (dk_at dksX0_restore_0 9 rfl rfl)
theorem dX0_restore_10 : decode cX0_restore 10 = .ok (.aload_n 0, 1) := dk_42 (dk_at dksX0_restore_0 10 rfl rfl)
theorem dX0_restore_11 : decode cX0_restore 11 = .ok (.getfield 9, 3) := dk_180 0 9 (dk_at dksX0_restore_0 11 rfl rfl)
theorem dX0_restore_14 : decode cX0_restore 14 = .ok (.aload_n 0, 1) := dk_42 (dk_at dksX0_restore_0 14 rfl rfl)
theorem dX0_restore_15 : decode cX0_restore 15 = .ok (.getfield 323, 3) := dk_180 1 67 (dk_at dksX0_restore_0 15 rfl rfl)
theorem dX0_restore_18 : decode cX0_restore 18 = .ok (.invokevirtual 216, 3) := dk_182 0 216 (dk_at dksX0_restore_0 18 rfl rfl)
theorem dX0_restore_21 : decode cX0_restore 21 = .ok (.pop, 1) := dk_87 (dk_at dksX0_restore_0 21 rfl rfl)
theorem dX0_restore_22 : decode cX0_restore 22 = .ok (.aload_n 0, 1) := dk_42 (dk_at dksX0_restore_0 22 rfl rfl)
theorem dX0_restore_23 : decode cX0_restore 23 = .ok (.aload_n 0, 1) := dk_42 (dk_at dksX0_restore_0 23 rfl rfl)
theorem dX0_restore_24 : decode cX0_restore 24 = .ok (.getfield 326, 3) := dk_180 1 70 (dk_at dksX0_restore_1 0 rfl rfl)
theorem dX0_restore_27 : decode cX0_restore 27 = .ok (.aload_n 0, 1) := dk_42 (dk_at dksX0_restore_1 3 rfl rfl)
theorem dX0_restore_28 : decode cX0_restore 28 = .ok (.getfield 112, 3) := dk_180 0 112 (dk_at dksX0_restore_1 4 rfl rfl)
theorem dX0_restore_31 : decode cX0_restore 31 = .ok (.invokevirtual 329, 3) := dk_182 1 73 (dk_at dksX0_restore_1 7 rfl rfl)
theorem dX0_restore_34 : decode cX0_restore 34 = .ok (.iconst 1, 1) := dk_4 (dk_at dksX0_restore_1 10 rfl rfl)
theorem dX0_restore_35 : decode cX0_restore 35 = .ok (.ireturn, 1) := dk_172 (dk_at dksX0_restore_1 11 rfl rfl)
abbrev cX0_sheet : ByteArray := prog_1_method_59_code
def yX0_sheet : MethodName := ⟨RX0, "sheet", "(III)I"⟩
def dkwX0_sheet_1 : List UInt8 := [180, 1, 95, 27, 50, 28, 29, 184, 1, 99, 181, 1, 103, 29, 172, 58, 4, 16, 242, 172]
abbrev dktX0_sheet_1 : List UInt8 := dkwX0_sheet_1 ++ []
def dkwX0_sheet_0 : List UInt8 := [27, 184, 1, 89, 153, 0, 16, 28, 184, 1, 92, 153, 0, 9, 29, 16, 24, 164, 0, 5, 2, 172, 42]
abbrev dktX0_sheet_0 : List UInt8 := dkwX0_sheet_0 ++ dktX0_sheet_1
theorem dksX0_sheet_0 : cX0_sheet.data.toList.drop 0 = dktX0_sheet_0 := by decide +kernel
theorem dksX0_sheet_1 : cX0_sheet.data.toList.drop 23 = dktX0_sheet_1 := dk_seg dksX0_sheet_0 23 rfl rfl
theorem dX0_sheet_0 : decode cX0_sheet 0 = .ok (.iload_n 1, 1) := dk_27 (dk_at dksX0_sheet_0 0 rfl rfl)
theorem dX0_sheet_1 : decode cX0_sheet 1 = .ok (.invokestatic 345, 3) := dk_184 1 89 (dk_at dksX0_sheet_0 1 rfl rfl)
theorem dX0_sheet_4 : decode cX0_sheet 4 = .ok (.ifCond .eq 16, 3) := dk_153 0 16 (dk_at dksX0_sheet_0 4 rfl rfl)
theorem dX0_sheet_7 : decode cX0_sheet 7 = .ok (.iload_n 2, 1) := dk_28 (dk_at dksX0_sheet_0 7 rfl rfl)
theorem dX0_sheet_8 : decode cX0_sheet 8 = .ok (.invokestatic 348, 3) := dk_184 1 92 (dk_at dksX0_sheet_0 8 rfl rfl)
theorem dX0_sheet_11 : decode cX0_sheet 11 = .ok (.ifCond .eq 9, 3) := dk_153 0 9 (dk_at dksX0_sheet_0 11 rfl rfl)
theorem dX0_sheet_14 : decode cX0_sheet 14 = .ok (.iload_n 3, 1) := dk_29 (dk_at dksX0_sheet_0 14 rfl rfl)
theorem dX0_sheet_15 : decode cX0_sheet 15 = .ok (.bipush 24, 2) := dk_16 24 (dk_at dksX0_sheet_0 15 rfl rfl)
theorem dX0_sheet_17 : decode cX0_sheet 17 = .ok (.if_icmp .le 5, 3) := dk_164 0 5 (dk_at dksX0_sheet_0 17 rfl rfl)
theorem dX0_sheet_20 : decode cX0_sheet 20 = .ok (.iconst (-1), 1) := dk_2 (dk_at dksX0_sheet_0 20 rfl rfl)
theorem dX0_sheet_21 : decode cX0_sheet 21 = .ok (.ireturn, 1) := dk_172 (dk_at dksX0_sheet_0 21 rfl rfl)
theorem dX0_sheet_22 : decode cX0_sheet 22 = .ok (.aload_n 0, 1) := dk_42 (dk_at dksX0_sheet_0 22 rfl rfl)
theorem dX0_sheet_23 : decode cX0_sheet 23 = .ok (.getfield 351, 3) := dk_180 1 95 (dk_at dksX0_sheet_1 0 rfl rfl)
theorem dX0_sheet_26 : decode cX0_sheet 26 = .ok (.iload_n 1, 1) := dk_27 (dk_at dksX0_sheet_1 3 rfl rfl)
theorem dX0_sheet_27 : decode cX0_sheet 27 = .ok (.aaload, 1) := dk_50 (dk_at dksX0_sheet_1 4 rfl rfl)
theorem dX0_sheet_28 : decode cX0_sheet 28 = .ok (.iload_n 2, 1) := dk_28 (dk_at dksX0_sheet_1 5 rfl rfl)
theorem dX0_sheet_29 : decode cX0_sheet 29 = .ok (.iload_n 3, 1) := dk_29 (dk_at dksX0_sheet_1 6 rfl rfl)
theorem dX0_sheet_30 : decode cX0_sheet 30 = .ok (.invokestatic 355, 3) := dk_184 1 99 (dk_at dksX0_sheet_1 7 rfl rfl)
theorem dX0_sheet_33 : decode cX0_sheet 33 = .ok (.putfield 359, 3) := dk_181 1 103 (dk_at dksX0_sheet_1 10 rfl rfl)
theorem dX0_sheet_36 : decode cX0_sheet 36 = .ok (.iload_n 3, 1) := dk_29 (dk_at dksX0_sheet_1 13 rfl rfl)
theorem dX0_sheet_37 : decode cX0_sheet 37 = .ok (.ireturn, 1) := dk_172 (dk_at dksX0_sheet_1 14 rfl rfl)
theorem dX0_sheet_38 : decode cX0_sheet 38 = .ok (.astore 4, 2) := dk_58 4 (dk_at dksX0_sheet_1 15 rfl rfl)
theorem dX0_sheet_40 : decode cX0_sheet 40 = .ok (.bipush (-14), 2) := dk_16 242 (dk_at dksX0_sheet_1 17 rfl rfl)
theorem dX0_sheet_42 : decode cX0_sheet 42 = .ok (.ireturn, 1) := dk_172 (dk_at dksX0_sheet_1 19 rfl rfl)
abbrev cX0_isSheet : ByteArray := prog_1_method_53_code
def yX0_isSheet : MethodName := ⟨RX0, "isSheet", "(I)Z"⟩
def dkwX0_isSheet_0 : List UInt8 := [26, 133, 9, 20, 1, 81, 184, 0, 19, 172]
abbrev dktX0_isSheet_0 : List UInt8 := dkwX0_isSheet_0 ++ []
theorem dksX0_isSheet_0 : cX0_isSheet.data.toList.drop 0 = dktX0_isSheet_0 := by decide +kernel
theorem dX0_isSheet_0 : decode cX0_isSheet 0 = .ok (.iload_n 0, 1) := dk_26 (dk_at dksX0_isSheet_0 0 rfl rfl)
theorem dX0_isSheet_1 : decode cX0_isSheet 1 = .ok (.i2l, 1) := dk_133 (dk_at dksX0_isSheet_0 1 rfl rfl)
theorem dX0_isSheet_2 : decode cX0_isSheet 2 = .ok (.lconst 0, 1) := dk_9 (dk_at dksX0_isSheet_0 2 rfl rfl)
theorem dX0_isSheet_3 : decode cX0_isSheet 3 = .ok (.ldc2_w 337, 3) := dk_20 1 81 (dk_at dksX0_isSheet_0 3 rfl rfl)
theorem dX0_isSheet_6 : decode cX0_isSheet 6 = .ok (.invokestatic 19, 3) := dk_184 0 19 (dk_at dksX0_isSheet_0 6 rfl rfl)
theorem dX0_isSheet_9 : decode cX0_isSheet 9 = .ok (.ireturn, 1) := dk_172 (dk_at dksX0_isSheet_0 9 rfl rfl)
abbrev cX0_isLane : ByteArray := prog_1_method_54_code
def yX0_isLane : MethodName := ⟨RX0, "isLane", "(I)Z"⟩
def dkwX0_isLane_0 : List UInt8 := [26, 133, 9, 20, 1, 81, 184, 0, 19, 172]
abbrev dktX0_isLane_0 : List UInt8 := dkwX0_isLane_0 ++ []
theorem dksX0_isLane_0 : cX0_isLane.data.toList.drop 0 = dktX0_isLane_0 := by decide +kernel
theorem dX0_isLane_0 : decode cX0_isLane 0 = .ok (.iload_n 0, 1) := dk_26 (dk_at dksX0_isLane_0 0 rfl rfl)
theorem dX0_isLane_1 : decode cX0_isLane 1 = .ok (.i2l, 1) := dk_133 (dk_at dksX0_isLane_0 1 rfl rfl)
theorem dX0_isLane_2 : decode cX0_isLane 2 = .ok (.lconst 0, 1) := dk_9 (dk_at dksX0_isLane_0 2 rfl rfl)
theorem dX0_isLane_3 : decode cX0_isLane 3 = .ok (.ldc2_w 337, 3) := dk_20 1 81 (dk_at dksX0_isLane_0 3 rfl rfl)
theorem dX0_isLane_6 : decode cX0_isLane 6 = .ok (.invokestatic 19, 3) := dk_184 0 19 (dk_at dksX0_isLane_0 6 rfl rfl)
theorem dX0_isLane_9 : decode cX0_isLane 9 = .ok (.ireturn, 1) := dk_172 (dk_at dksX0_isLane_0 9 rfl rfl)
abbrev cX0_laid : ByteArray := prog_1_method_55_code
def yX0_laid : MethodName := ⟨RX0, "laid", "(II)Ljava/lang/Object;"⟩
def dkwX0_laid_2 : List UInt8 := [27, 188, 8, 176, 27, 188, 9, 176, 27, 188, 10, 176, 27, 188, 11, 176]
abbrev dktX0_laid_2 : List UInt8 := dkwX0_laid_2 ++ []
def dkwX0_laid_1 : List UInt8 := [170, 0, 0, 0, 0, 0, 39, 0, 0, 0, 0, 0, 0, 0, 2, 0, 0, 0, 27, 0, 0, 0, 31, 0, 0, 0, 35]
abbrev dktX0_laid_1 : List UInt8 := dkwX0_laid_1 ++ dktX0_laid_2
def dkwX0_laid_0 : List UInt8 := [26]
abbrev dktX0_laid_0 : List UInt8 := dkwX0_laid_0 ++ dktX0_laid_1
theorem dksX0_laid_0 : cX0_laid.data.toList.drop 0 = dktX0_laid_0 := by decide +kernel
theorem dksX0_laid_1 : cX0_laid.data.toList.drop 1 = dktX0_laid_1 := dk_seg dksX0_laid_0 1 rfl rfl
theorem dksX0_laid_2 : cX0_laid.data.toList.drop 28 = dktX0_laid_2 := dk_seg dksX0_laid_1 27 rfl rfl
theorem dX0_laid_0 : decode cX0_laid 0 = .ok (.iload_n 0, 1) := dk_26 (dk_at dksX0_laid_0 0 rfl rfl)
theorem dX0_laid_1 : decode cX0_laid 1 = .ok (.tableswitch 39 0 2 #[27, 31, 35], 27) := by decide +kernel
theorem dX0_laid_28 : decode cX0_laid 28 = .ok (.iload_n 1, 1) := dk_27 (dk_at dksX0_laid_2 0 rfl rfl)
theorem dX0_laid_29 : decode cX0_laid 29 = .ok (.newarray .byte, 2) := dk_188_8 (dk_at dksX0_laid_2 1 rfl rfl)
theorem dX0_laid_31 : decode cX0_laid 31 = .ok (.areturn, 1) := dk_176 (dk_at dksX0_laid_2 3 rfl rfl)
theorem dX0_laid_32 : decode cX0_laid 32 = .ok (.iload_n 1, 1) := dk_27 (dk_at dksX0_laid_2 4 rfl rfl)
theorem dX0_laid_33 : decode cX0_laid 33 = .ok (.newarray .short, 2) := dk_188_9 (dk_at dksX0_laid_2 5 rfl rfl)
theorem dX0_laid_35 : decode cX0_laid 35 = .ok (.areturn, 1) := dk_176 (dk_at dksX0_laid_2 7 rfl rfl)
theorem dX0_laid_36 : decode cX0_laid 36 = .ok (.iload_n 1, 1) := dk_27 (dk_at dksX0_laid_2 8 rfl rfl)
theorem dX0_laid_37 : decode cX0_laid 37 = .ok (.newarray .int, 2) := dk_188_10 (dk_at dksX0_laid_2 9 rfl rfl)
theorem dX0_laid_39 : decode cX0_laid 39 = .ok (.areturn, 1) := dk_176 (dk_at dksX0_laid_2 11 rfl rfl)
theorem dX0_laid_40 : decode cX0_laid 40 = .ok (.iload_n 1, 1) := dk_27 (dk_at dksX0_laid_2 12 rfl rfl)
theorem dX0_laid_41 : decode cX0_laid 41 = .ok (.newarray .long, 2) := dk_188_11 (dk_at dksX0_laid_2 13 rfl rfl)
theorem dX0_laid_43 : decode cX0_laid 43 = .ok (.areturn, 1) := dk_176 (dk_at dksX0_laid_2 15 rfl rfl)
abbrev cX0_drop : ByteArray := prog_1_method_60_code
def yX0_drop : MethodName := ⟨RX0, "drop", "(I)I"⟩
def dkwX0_drop_1 : List UInt8 := [16, 245, 172, 42, 180, 1, 95, 27, 50, 1, 181, 1, 103, 44, 184, 1, 111, 172]
abbrev dktX0_drop_1 : List UInt8 := dkwX0_drop_1 ++ []
def dkwX0_drop_0 : List UInt8 := [27, 184, 1, 89, 154, 0, 5, 2, 172, 42, 180, 1, 95, 27, 50, 180, 1, 103, 77, 44, 199, 0, 6]
abbrev dktX0_drop_0 : List UInt8 := dkwX0_drop_0 ++ dktX0_drop_1
theorem dksX0_drop_0 : cX0_drop.data.toList.drop 0 = dktX0_drop_0 := by decide +kernel
theorem dksX0_drop_1 : cX0_drop.data.toList.drop 23 = dktX0_drop_1 := dk_seg dksX0_drop_0 23 rfl rfl
theorem dX0_drop_0 : decode cX0_drop 0 = .ok (.iload_n 1, 1) := dk_27 (dk_at dksX0_drop_0 0 rfl rfl)
theorem dX0_drop_1 : decode cX0_drop 1 = .ok (.invokestatic 345, 3) := dk_184 1 89 (dk_at dksX0_drop_0 1 rfl rfl)
theorem dX0_drop_4 : decode cX0_drop 4 = .ok (.ifCond .ne 5, 3) := dk_154 0 5 (dk_at dksX0_drop_0 4 rfl rfl)
theorem dX0_drop_7 : decode cX0_drop 7 = .ok (.iconst (-1), 1) := dk_2 (dk_at dksX0_drop_0 7 rfl rfl)
theorem dX0_drop_8 : decode cX0_drop 8 = .ok (.ireturn, 1) := dk_172 (dk_at dksX0_drop_0 8 rfl rfl)
theorem dX0_drop_9 : decode cX0_drop 9 = .ok (.aload_n 0, 1) := dk_42 (dk_at dksX0_drop_0 9 rfl rfl)
theorem dX0_drop_10 : decode cX0_drop 10 = .ok (.getfield 351, 3) := dk_180 1 95 (dk_at dksX0_drop_0 10 rfl rfl)
theorem dX0_drop_13 : decode cX0_drop 13 = .ok (.iload_n 1, 1) := dk_27 (dk_at dksX0_drop_0 13 rfl rfl)
theorem dX0_drop_14 : decode cX0_drop 14 = .ok (.aaload, 1) := dk_50 (dk_at dksX0_drop_0 14 rfl rfl)
theorem dX0_drop_15 : decode cX0_drop 15 = .ok (.getfield 359, 3) := dk_180 1 103 (dk_at dksX0_drop_0 15 rfl rfl)
theorem dX0_drop_18 : decode cX0_drop 18 = .ok (.astore_n 2, 1) := dk_77 (dk_at dksX0_drop_0 18 rfl rfl)
theorem dX0_drop_19 : decode cX0_drop 19 = .ok (.aload_n 2, 1) := dk_44 (dk_at dksX0_drop_0 19 rfl rfl)
theorem dX0_drop_20 : decode cX0_drop 20 = .ok (.ifnonnull 6, 3) := dk_199 0 6 (dk_at dksX0_drop_0 20 rfl rfl)
theorem dX0_drop_23 : decode cX0_drop 23 = .ok (.bipush (-11), 2) := dk_16 245 (dk_at dksX0_drop_1 0 rfl rfl)
theorem dX0_drop_25 : decode cX0_drop 25 = .ok (.ireturn, 1) := dk_172 (dk_at dksX0_drop_1 2 rfl rfl)
theorem dX0_drop_26 : decode cX0_drop 26 = .ok (.aload_n 0, 1) := dk_42 (dk_at dksX0_drop_1 3 rfl rfl)
theorem dX0_drop_27 : decode cX0_drop 27 = .ok (.getfield 351, 3) := dk_180 1 95 (dk_at dksX0_drop_1 4 rfl rfl)
theorem dX0_drop_30 : decode cX0_drop 30 = .ok (.iload_n 1, 1) := dk_27 (dk_at dksX0_drop_1 7 rfl rfl)
theorem dX0_drop_31 : decode cX0_drop 31 = .ok (.aaload, 1) := dk_50 (dk_at dksX0_drop_1 8 rfl rfl)
theorem dX0_drop_32 : decode cX0_drop 32 = .ok (.aconst_null, 1) := dk_1 (dk_at dksX0_drop_1 9 rfl rfl)
theorem dX0_drop_33 : decode cX0_drop 33 = .ok (.putfield 359, 3) := dk_181 1 103 (dk_at dksX0_drop_1 10 rfl rfl)
theorem dX0_drop_36 : decode cX0_drop 36 = .ok (.aload_n 2, 1) := dk_44 (dk_at dksX0_drop_1 13 rfl rfl)
theorem dX0_drop_37 : decode cX0_drop 37 = .ok (.invokestatic 367, 3) := dk_184 1 111 (dk_at dksX0_drop_1 14 rfl rfl)
theorem dX0_drop_40 : decode cX0_drop 40 = .ok (.ireturn, 1) := dk_172 (dk_at dksX0_drop_1 17 rfl rfl)
abbrev cX0_sizeOf : ByteArray := prog_1_method_56_code
def yX0_sizeOf : MethodName := ⟨RX0, "sizeOf", "(Ljava/lang/Object;)I"⟩
def dkwX0_sizeOf_1 : List UInt8 := [190, 172, 42, 193, 1, 86, 153, 0, 9, 42, 192, 1, 86, 190, 172, 42, 192, 1, 87, 190, 172]
abbrev dktX0_sizeOf_1 : List UInt8 := dkwX0_sizeOf_1 ++ []
def dkwX0_sizeOf_0 : List UInt8 := [42, 193, 1, 83, 153, 0, 9, 42, 192, 1, 83, 190, 172, 42, 193, 1, 84, 153, 0, 9, 42, 192, 1, 84]
abbrev dktX0_sizeOf_0 : List UInt8 := dkwX0_sizeOf_0 ++ dktX0_sizeOf_1
theorem dksX0_sizeOf_0 : cX0_sizeOf.data.toList.drop 0 = dktX0_sizeOf_0 := by decide +kernel
theorem dksX0_sizeOf_1 : cX0_sizeOf.data.toList.drop 24 = dktX0_sizeOf_1 := dk_seg dksX0_sizeOf_0 24 rfl rfl
theorem dX0_sizeOf_0 : decode cX0_sizeOf 0 = .ok (.aload_n 0, 1) := dk_42 (dk_at dksX0_sizeOf_0 0 rfl rfl)
theorem dX0_sizeOf_1 : decode cX0_sizeOf 1 = .ok (.instanceof 339, 3) := dk_193 1 83 (dk_at dksX0_sizeOf_0 1 rfl rfl)
theorem dX0_sizeOf_4 : decode cX0_sizeOf 4 = .ok (.ifCond .eq 9, 3) := dk_153 0 9 (dk_at dksX0_sizeOf_0 4 rfl rfl)
theorem dX0_sizeOf_7 : decode cX0_sizeOf 7 = .ok (.aload_n 0, 1) := dk_42 (dk_at dksX0_sizeOf_0 7 rfl rfl)
theorem dX0_sizeOf_8 : decode cX0_sizeOf 8 = .ok (.checkcast 339, 3) := dk_192 1 83 (dk_at dksX0_sizeOf_0 8 rfl rfl)
theorem dX0_sizeOf_11 : decode cX0_sizeOf 11 = .ok (.arraylength, 1) := dk_190 (dk_at dksX0_sizeOf_0 11 rfl rfl)
theorem dX0_sizeOf_12 : decode cX0_sizeOf 12 = .ok (.ireturn, 1) := dk_172 (dk_at dksX0_sizeOf_0 12 rfl rfl)
theorem dX0_sizeOf_13 : decode cX0_sizeOf 13 = .ok (.aload_n 0, 1) := dk_42 (dk_at dksX0_sizeOf_0 13 rfl rfl)
theorem dX0_sizeOf_14 : decode cX0_sizeOf 14 = .ok (.instanceof 340, 3) := dk_193 1 84 (dk_at dksX0_sizeOf_0 14 rfl rfl)
theorem dX0_sizeOf_17 : decode cX0_sizeOf 17 = .ok (.ifCond .eq 9, 3) := dk_153 0 9 (dk_at dksX0_sizeOf_0 17 rfl rfl)
theorem dX0_sizeOf_20 : decode cX0_sizeOf 20 = .ok (.aload_n 0, 1) := dk_42 (dk_at dksX0_sizeOf_0 20 rfl rfl)
theorem dX0_sizeOf_21 : decode cX0_sizeOf 21 = .ok (.checkcast 340, 3) := dk_192 1 84 (dk_at dksX0_sizeOf_0 21 rfl rfl)
theorem dX0_sizeOf_24 : decode cX0_sizeOf 24 = .ok (.arraylength, 1) := dk_190 (dk_at dksX0_sizeOf_1 0 rfl rfl)
theorem dX0_sizeOf_25 : decode cX0_sizeOf 25 = .ok (.ireturn, 1) := dk_172 (dk_at dksX0_sizeOf_1 1 rfl rfl)
theorem dX0_sizeOf_26 : decode cX0_sizeOf 26 = .ok (.aload_n 0, 1) := dk_42 (dk_at dksX0_sizeOf_1 2 rfl rfl)
theorem dX0_sizeOf_27 : decode cX0_sizeOf 27 = .ok (.instanceof 342, 3) := dk_193 1 86 (dk_at dksX0_sizeOf_1 3 rfl rfl)
theorem dX0_sizeOf_30 : decode cX0_sizeOf 30 = .ok (.ifCond .eq 9, 3) := dk_153 0 9 (dk_at dksX0_sizeOf_1 6 rfl rfl)
theorem dX0_sizeOf_33 : decode cX0_sizeOf 33 = .ok (.aload_n 0, 1) := dk_42 (dk_at dksX0_sizeOf_1 9 rfl rfl)
theorem dX0_sizeOf_34 : decode cX0_sizeOf 34 = .ok (.checkcast 342, 3) := dk_192 1 86 (dk_at dksX0_sizeOf_1 10 rfl rfl)
theorem dX0_sizeOf_37 : decode cX0_sizeOf 37 = .ok (.arraylength, 1) := dk_190 (dk_at dksX0_sizeOf_1 13 rfl rfl)
theorem dX0_sizeOf_38 : decode cX0_sizeOf 38 = .ok (.ireturn, 1) := dk_172 (dk_at dksX0_sizeOf_1 14 rfl rfl)
theorem dX0_sizeOf_39 : decode cX0_sizeOf 39 = .ok (.aload_n 0, 1) := dk_42 (dk_at dksX0_sizeOf_1 15 rfl rfl)
theorem dX0_sizeOf_40 : decode cX0_sizeOf 40 = .ok (.checkcast 343, 3) := dk_192 1 87 (dk_at dksX0_sizeOf_1 16 rfl rfl)
theorem dX0_sizeOf_43 : decode cX0_sizeOf 43 = .ok (.arraylength, 1) := dk_190 (dk_at dksX0_sizeOf_1 19 rfl rfl)
theorem dX0_sizeOf_44 : decode cX0_sizeOf 44 = .ok (.ireturn, 1) := dk_172 (dk_at dksX0_sizeOf_1 20 rfl rfl)
abbrev cX0_item : ByteArray := prog_1_method_61_code
def yX0_item : MethodName := ⟨RX0, "item", "(IIIJ)I"⟩
def dkwX0_item_2 : List UInt8 := [16, 243, 172]
abbrev dktX0_item_2 : List UInt8 := dkwX0_item_2 ++ []
def dkwX0_item_1 : List UInt8 := [180, 1, 103, 28, 29, 22, 4, 184, 1, 115, 4, 172, 58, 6, 16, 245, 172, 58, 6, 16, 244, 172, 58, 6]
abbrev dktX0_item_1 : List UInt8 := dkwX0_item_1 ++ dktX0_item_2
def dkwX0_item_0 : List UInt8 := [27, 184, 1, 89, 153, 0, 10, 28, 184, 1, 92, 154, 0, 5, 2, 172, 42, 180, 1, 95, 27, 50]
abbrev dktX0_item_0 : List UInt8 := dkwX0_item_0 ++ dktX0_item_1
theorem dksX0_item_0 : cX0_item.data.toList.drop 0 = dktX0_item_0 := by decide +kernel
theorem dksX0_item_1 : cX0_item.data.toList.drop 22 = dktX0_item_1 := dk_seg dksX0_item_0 22 rfl rfl
theorem dksX0_item_2 : cX0_item.data.toList.drop 46 = dktX0_item_2 := dk_seg dksX0_item_1 24 rfl rfl
theorem dX0_item_0 : decode cX0_item 0 = .ok (.iload_n 1, 1) := dk_27 (dk_at dksX0_item_0 0 rfl rfl)
theorem dX0_item_1 : decode cX0_item 1 = .ok (.invokestatic 345, 3) := dk_184 1 89 (dk_at dksX0_item_0 1 rfl rfl)
theorem dX0_item_4 : decode cX0_item 4 = .ok (.ifCond .eq 10, 3) := dk_153 0 10 (dk_at dksX0_item_0 4 rfl rfl)
theorem dX0_item_7 : decode cX0_item 7 = .ok (.iload_n 2, 1) := dk_28 (dk_at dksX0_item_0 7 rfl rfl)
theorem dX0_item_8 : decode cX0_item 8 = .ok (.invokestatic 348, 3) := dk_184 1 92 (dk_at dksX0_item_0 8 rfl rfl)
theorem dX0_item_11 : decode cX0_item 11 = .ok (.ifCond .ne 5, 3) := dk_154 0 5 (dk_at dksX0_item_0 11 rfl rfl)
theorem dX0_item_14 : decode cX0_item 14 = .ok (.iconst (-1), 1) := dk_2 (dk_at dksX0_item_0 14 rfl rfl)
theorem dX0_item_15 : decode cX0_item 15 = .ok (.ireturn, 1) := dk_172 (dk_at dksX0_item_0 15 rfl rfl)
theorem dX0_item_16 : decode cX0_item 16 = .ok (.aload_n 0, 1) := dk_42 (dk_at dksX0_item_0 16 rfl rfl)
theorem dX0_item_17 : decode cX0_item 17 = .ok (.getfield 351, 3) := dk_180 1 95 (dk_at dksX0_item_0 17 rfl rfl)
theorem dX0_item_20 : decode cX0_item 20 = .ok (.iload_n 1, 1) := dk_27 (dk_at dksX0_item_0 20 rfl rfl)
theorem dX0_item_21 : decode cX0_item 21 = .ok (.aaload, 1) := dk_50 (dk_at dksX0_item_0 21 rfl rfl)
theorem dX0_item_22 : decode cX0_item 22 = .ok (.getfield 359, 3) := dk_180 1 103 (dk_at dksX0_item_1 0 rfl rfl)
theorem dX0_item_25 : decode cX0_item 25 = .ok (.iload_n 2, 1) := dk_28 (dk_at dksX0_item_1 3 rfl rfl)
theorem dX0_item_26 : decode cX0_item 26 = .ok (.iload_n 3, 1) := dk_29 (dk_at dksX0_item_1 4 rfl rfl)
theorem dX0_item_27 : decode cX0_item 27 = .ok (.lload 4, 2) := dk_22 4 (dk_at dksX0_item_1 5 rfl rfl)
theorem dX0_item_29 : decode cX0_item 29 = .ok (.invokestatic 371, 3) := dk_184 1 115 (dk_at dksX0_item_1 7 rfl rfl)
theorem dX0_item_32 : decode cX0_item 32 = .ok (.iconst 1, 1) := dk_4 (dk_at dksX0_item_1 10 rfl rfl)
theorem dX0_item_33 : decode cX0_item 33 = .ok (.ireturn, 1) := dk_172 (dk_at dksX0_item_1 11 rfl rfl)
theorem dX0_item_34 : decode cX0_item 34 = .ok (.astore 6, 2) := dk_58 6 (dk_at dksX0_item_1 12 rfl rfl)
theorem dX0_item_36 : decode cX0_item 36 = .ok (.bipush (-11), 2) := dk_16 245 (dk_at dksX0_item_1 14 rfl rfl)
theorem dX0_item_38 : decode cX0_item 38 = .ok (.ireturn, 1) := dk_172 (dk_at dksX0_item_1 16 rfl rfl)
theorem dX0_item_39 : decode cX0_item 39 = .ok (.astore 6, 2) := dk_58 6 (dk_at dksX0_item_1 17 rfl rfl)
theorem dX0_item_41 : decode cX0_item 41 = .ok (.bipush (-12), 2) := dk_16 244 (dk_at dksX0_item_1 19 rfl rfl)
theorem dX0_item_43 : decode cX0_item 43 = .ok (.ireturn, 1) := dk_172 (dk_at dksX0_item_1 21 rfl rfl)
theorem dX0_item_44 : decode cX0_item 44 = .ok (.astore 6, 2) := dk_58 6 (dk_at dksX0_item_1 22 rfl rfl)
theorem dX0_item_46 : decode cX0_item 46 = .ok (.bipush (-13), 2) := dk_16 243 (dk_at dksX0_item_2 0 rfl rfl)
theorem dX0_item_48 : decode cX0_item 48 = .ok (.ireturn, 1) := dk_172 (dk_at dksX0_item_2 2 rfl rfl)
abbrev cX0_puts : ByteArray := prog_1_method_58_code
def yX0_puts : MethodName := ⟨RX0, "puts", "(Ljava/lang/Object;IIJ)V"⟩
def dkwX0_puts_2 : List UInt8 := [167, 0, 10, 42, 192, 1, 87, 28, 33, 80, 177]
abbrev dktX0_puts_2 : List UInt8 := dkwX0_puts_2 ++ []
def dkwX0_puts_1 : List UInt8 := [192, 1, 84, 28, 33, 136, 147, 86, 167, 0, 26, 27, 5, 160, 0, 14, 42, 192, 1, 86, 28, 33, 136, 79]
abbrev dktX0_puts_1 : List UInt8 := dkwX0_puts_1 ++ dktX0_puts_2
def dkwX0_puts_0 : List UInt8 := [27, 154, 0, 15, 42, 192, 1, 83, 28, 33, 136, 145, 84, 167, 0, 43, 27, 4, 160, 0, 15, 42]
abbrev dktX0_puts_0 : List UInt8 := dkwX0_puts_0 ++ dktX0_puts_1
theorem dksX0_puts_0 : cX0_puts.data.toList.drop 0 = dktX0_puts_0 := by decide +kernel
theorem dksX0_puts_1 : cX0_puts.data.toList.drop 22 = dktX0_puts_1 := dk_seg dksX0_puts_0 22 rfl rfl
theorem dksX0_puts_2 : cX0_puts.data.toList.drop 46 = dktX0_puts_2 := dk_seg dksX0_puts_1 24 rfl rfl
theorem dX0_puts_0 : decode cX0_puts 0 = .ok (.iload_n 1, 1) := dk_27 (dk_at dksX0_puts_0 0 rfl rfl)
theorem dX0_puts_1 : decode cX0_puts 1 = .ok (.ifCond .ne 15, 3) := dk_154 0 15 (dk_at dksX0_puts_0 1 rfl rfl)
theorem dX0_puts_4 : decode cX0_puts 4 = .ok (.aload_n 0, 1) := dk_42 (dk_at dksX0_puts_0 4 rfl rfl)
theorem dX0_puts_5 : decode cX0_puts 5 = .ok (.checkcast 339, 3) := dk_192 1 83 (dk_at dksX0_puts_0 5 rfl rfl)
theorem dX0_puts_8 : decode cX0_puts 8 = .ok (.iload_n 2, 1) := dk_28 (dk_at dksX0_puts_0 8 rfl rfl)
theorem dX0_puts_9 : decode cX0_puts 9 = .ok (.lload_n 3, 1) := dk_33 (dk_at dksX0_puts_0 9 rfl rfl)
theorem dX0_puts_10 : decode cX0_puts 10 = .ok (.l2i, 1) := dk_136 (dk_at dksX0_puts_0 10 rfl rfl)
theorem dX0_puts_11 : decode cX0_puts 11 = .ok (.i2b, 1) := dk_145 (dk_at dksX0_puts_0 11 rfl rfl)
theorem dX0_puts_12 : decode cX0_puts 12 = .ok (.bastore, 1) := dk_84 (dk_at dksX0_puts_0 12 rfl rfl)
theorem dX0_puts_13 : decode cX0_puts 13 = .ok (.goto 43, 3) := dk_167 0 43 (dk_at dksX0_puts_0 13 rfl rfl)
theorem dX0_puts_16 : decode cX0_puts 16 = .ok (.iload_n 1, 1) := dk_27 (dk_at dksX0_puts_0 16 rfl rfl)
theorem dX0_puts_17 : decode cX0_puts 17 = .ok (.iconst 1, 1) := dk_4 (dk_at dksX0_puts_0 17 rfl rfl)
theorem dX0_puts_18 : decode cX0_puts 18 = .ok (.if_icmp .ne 15, 3) := dk_160 0 15 (dk_at dksX0_puts_0 18 rfl rfl)
theorem dX0_puts_21 : decode cX0_puts 21 = .ok (.aload_n 0, 1) := dk_42 (dk_at dksX0_puts_0 21 rfl rfl)
theorem dX0_puts_22 : decode cX0_puts 22 = .ok (.checkcast 340, 3) := dk_192 1 84 (dk_at dksX0_puts_1 0 rfl rfl)
theorem dX0_puts_25 : decode cX0_puts 25 = .ok (.iload_n 2, 1) := dk_28 (dk_at dksX0_puts_1 3 rfl rfl)
theorem dX0_puts_26 : decode cX0_puts 26 = .ok (.lload_n 3, 1) := dk_33 (dk_at dksX0_puts_1 4 rfl rfl)
theorem dX0_puts_27 : decode cX0_puts 27 = .ok (.l2i, 1) := dk_136 (dk_at dksX0_puts_1 5 rfl rfl)
theorem dX0_puts_28 : decode cX0_puts 28 = .ok (.i2s, 1) := dk_147 (dk_at dksX0_puts_1 6 rfl rfl)
theorem dX0_puts_29 : decode cX0_puts 29 = .ok (.sastore, 1) := dk_86 (dk_at dksX0_puts_1 7 rfl rfl)
theorem dX0_puts_30 : decode cX0_puts 30 = .ok (.goto 26, 3) := dk_167 0 26 (dk_at dksX0_puts_1 8 rfl rfl)
theorem dX0_puts_33 : decode cX0_puts 33 = .ok (.iload_n 1, 1) := dk_27 (dk_at dksX0_puts_1 11 rfl rfl)
theorem dX0_puts_34 : decode cX0_puts 34 = .ok (.iconst 2, 1) := dk_5 (dk_at dksX0_puts_1 12 rfl rfl)
theorem dX0_puts_35 : decode cX0_puts 35 = .ok (.if_icmp .ne 14, 3) := dk_160 0 14 (dk_at dksX0_puts_1 13 rfl rfl)
theorem dX0_puts_38 : decode cX0_puts 38 = .ok (.aload_n 0, 1) := dk_42 (dk_at dksX0_puts_1 16 rfl rfl)
theorem dX0_puts_39 : decode cX0_puts 39 = .ok (.checkcast 342, 3) := dk_192 1 86 (dk_at dksX0_puts_1 17 rfl rfl)
theorem dX0_puts_42 : decode cX0_puts 42 = .ok (.iload_n 2, 1) := dk_28 (dk_at dksX0_puts_1 20 rfl rfl)
theorem dX0_puts_43 : decode cX0_puts 43 = .ok (.lload_n 3, 1) := dk_33 (dk_at dksX0_puts_1 21 rfl rfl)
theorem dX0_puts_44 : decode cX0_puts 44 = .ok (.l2i, 1) := dk_136 (dk_at dksX0_puts_1 22 rfl rfl)
theorem dX0_puts_45 : decode cX0_puts 45 = .ok (.iastore, 1) := dk_79 (dk_at dksX0_puts_1 23 rfl rfl)
theorem dX0_puts_46 : decode cX0_puts 46 = .ok (.goto 10, 3) := dk_167 0 10 (dk_at dksX0_puts_2 0 rfl rfl)
theorem dX0_puts_49 : decode cX0_puts 49 = .ok (.aload_n 0, 1) := dk_42 (dk_at dksX0_puts_2 3 rfl rfl)
theorem dX0_puts_50 : decode cX0_puts 50 = .ok (.checkcast 343, 3) := dk_192 1 87 (dk_at dksX0_puts_2 4 rfl rfl)
theorem dX0_puts_53 : decode cX0_puts 53 = .ok (.iload_n 2, 1) := dk_28 (dk_at dksX0_puts_2 7 rfl rfl)
theorem dX0_puts_54 : decode cX0_puts 54 = .ok (.lload_n 3, 1) := dk_33 (dk_at dksX0_puts_2 8 rfl rfl)
theorem dX0_puts_55 : decode cX0_puts 55 = .ok (.lastore, 1) := dk_80 (dk_at dksX0_puts_2 9 rfl rfl)
theorem dX0_puts_56 : decode cX0_puts 56 = .ok (.return_, 1) := dk_177 (dk_at dksX0_puts_2 10 rfl rfl)
abbrev cX0_moved : ByteArray := prog_1_method_66_code
def yX0_moved : MethodName := ⟨RX0, "moved", "(IIIII)I"⟩
def dkwX0_moved_7 : List UInt8 := [167, 0, 5, 21, 9, 172]
abbrev dktX0_moved_7 : List UInt8 := dkwX0_moved_7 ++ []
def dkwX0_moved_6 : List UInt8 := [132, 11, 1, 167, 255, 209, 21, 5, 154, 0, 8, 21, 7, 167, 0, 16, 21, 5, 4, 160, 0, 8, 21, 8]
abbrev dktX0_moved_6 : List UInt8 := dkwX0_moved_6 ++ dktX0_moved_7
def dkwX0_moved_5 : List UInt8 := [154, 0, 6, 167, 0, 19, 21, 7, 132, 7, 1, 154, 0, 7, 21, 11, 54, 8, 21, 11, 54, 9]
abbrev dktX0_moved_5 : List UInt8 := dkwX0_moved_5 ++ dktX0_moved_6
def dkwX0_moved_4 : List UInt8 := [54, 11, 21, 11, 16, 99, 163, 0, 46, 25, 10, 27, 21, 11, 133, 182, 0, 91, 42, 25, 10, 182, 1, 146]
abbrev dktX0_moved_4 : List UInt8 := dkwX0_moved_4 ++ dktX0_moved_5
def dkwX0_moved_3 : List UInt8 := [156, 0, 6, 21, 6, 172, 3, 54, 7, 16, 252, 54, 8, 16, 252, 54, 9, 42, 182, 1, 21, 58, 10, 3]
abbrev dktX0_moved_3 : List UInt8 := dkwX0_moved_3 ++ dktX0_moved_4
def dkwX0_moved_2 : List UInt8 := [16, 254, 172, 42, 28, 29, 21, 4, 42, 180, 0, 9, 180, 0, 13, 4, 100, 182, 1, 142, 54, 6, 21, 6]
abbrev dktX0_moved_2 : List UInt8 := dkwX0_moved_2 ++ dktX0_moved_3
def dkwX0_moved_1 : List UInt8 := [133, 9, 20, 1, 28, 184, 0, 19, 154, 0, 5, 2, 172, 42, 180, 0, 9, 27, 182, 0, 46, 154, 0, 6]
abbrev dktX0_moved_1 : List UInt8 := dkwX0_moved_1 ++ dktX0_moved_2
def dkwX0_moved_0 : List UInt8 := [42, 27, 182, 0, 122, 153, 0, 30, 28, 184, 1, 89, 153, 0, 23, 29, 184, 1, 92, 153, 0, 16, 21, 5]
abbrev dktX0_moved_0 : List UInt8 := dkwX0_moved_0 ++ dktX0_moved_1
theorem dksX0_moved_0 : cX0_moved.data.toList.drop 0 = dktX0_moved_0 := by decide +kernel
theorem dksX0_moved_1 : cX0_moved.data.toList.drop 24 = dktX0_moved_1 := dk_seg dksX0_moved_0 24 rfl rfl
theorem dksX0_moved_2 : cX0_moved.data.toList.drop 48 = dktX0_moved_2 := dk_seg dksX0_moved_1 24 rfl rfl
theorem dksX0_moved_3 : cX0_moved.data.toList.drop 72 = dktX0_moved_3 := dk_seg dksX0_moved_2 24 rfl rfl
theorem dksX0_moved_4 : cX0_moved.data.toList.drop 96 = dktX0_moved_4 := dk_seg dksX0_moved_3 24 rfl rfl
theorem dksX0_moved_5 : cX0_moved.data.toList.drop 120 = dktX0_moved_5 := dk_seg dksX0_moved_4 24 rfl rfl
theorem dksX0_moved_6 : cX0_moved.data.toList.drop 142 = dktX0_moved_6 := dk_seg dksX0_moved_5 22 rfl rfl
theorem dksX0_moved_7 : cX0_moved.data.toList.drop 166 = dktX0_moved_7 := dk_seg dksX0_moved_6 24 rfl rfl
theorem dX0_moved_0 : decode cX0_moved 0 = .ok (.aload_n 0, 1) := dk_42 (dk_at dksX0_moved_0 0 rfl rfl)
theorem dX0_moved_1 : decode cX0_moved 1 = .ok (.iload_n 1, 1) := dk_27 (dk_at dksX0_moved_0 1 rfl rfl)
theorem dX0_moved_2 : decode cX0_moved 2 = .ok (.invokevirtual 122, 3) := dk_182 0 122 (dk_at dksX0_moved_0 2 rfl rfl)
theorem dX0_moved_5 : decode cX0_moved 5 = .ok (.ifCond .eq 30, 3) := dk_153 0 30 (dk_at dksX0_moved_0 5 rfl rfl)
theorem dX0_moved_8 : decode cX0_moved 8 = .ok (.iload_n 2, 1) := dk_28 (dk_at dksX0_moved_0 8 rfl rfl)
theorem dX0_moved_9 : decode cX0_moved 9 = .ok (.invokestatic 345, 3) := dk_184 1 89 (dk_at dksX0_moved_0 9 rfl rfl)
theorem dX0_moved_12 : decode cX0_moved 12 = .ok (.ifCond .eq 23, 3) := dk_153 0 23 (dk_at dksX0_moved_0 12 rfl rfl)
theorem dX0_moved_15 : decode cX0_moved 15 = .ok (.iload_n 3, 1) := dk_29 (dk_at dksX0_moved_0 15 rfl rfl)
theorem dX0_moved_16 : decode cX0_moved 16 = .ok (.invokestatic 348, 3) := dk_184 1 92 (dk_at dksX0_moved_0 16 rfl rfl)
theorem dX0_moved_19 : decode cX0_moved 19 = .ok (.ifCond .eq 16, 3) := dk_153 0 16 (dk_at dksX0_moved_0 19 rfl rfl)
theorem dX0_moved_22 : decode cX0_moved 22 = .ok (.iload 5, 2) := dk_21 5 (dk_at dksX0_moved_0 22 rfl rfl)
theorem dX0_moved_24 : decode cX0_moved 24 = .ok (.i2l, 1) := dk_133 (dk_at dksX0_moved_1 0 rfl rfl)
theorem dX0_moved_25 : decode cX0_moved 25 = .ok (.lconst 0, 1) := dk_9 (dk_at dksX0_moved_1 1 rfl rfl)
theorem dX0_moved_26 : decode cX0_moved 26 = .ok (.ldc2_w 284, 3) := dk_20 1 28 (dk_at dksX0_moved_1 2 rfl rfl)
theorem dX0_moved_29 : decode cX0_moved 29 = .ok (.invokestatic 19, 3) := dk_184 0 19 (dk_at dksX0_moved_1 5 rfl rfl)
theorem dX0_moved_32 : decode cX0_moved 32 = .ok (.ifCond .ne 5, 3) := dk_154 0 5 (dk_at dksX0_moved_1 8 rfl rfl)
theorem dX0_moved_35 : decode cX0_moved 35 = .ok (.iconst (-1), 1) := dk_2 (dk_at dksX0_moved_1 11 rfl rfl)
theorem dX0_moved_36 : decode cX0_moved 36 = .ok (.ireturn, 1) := dk_172 (dk_at dksX0_moved_1 12 rfl rfl)
theorem dX0_moved_37 : decode cX0_moved 37 = .ok (.aload_n 0, 1) := dk_42 (dk_at dksX0_moved_1 13 rfl rfl)
theorem dX0_moved_38 : decode cX0_moved 38 = .ok (.getfield 9, 3) := dk_180 0 9 (dk_at dksX0_moved_1 14 rfl rfl)
theorem dX0_moved_41 : decode cX0_moved 41 = .ok (.iload_n 1, 1) := dk_27 (dk_at dksX0_moved_1 17 rfl rfl)
theorem dX0_moved_42 : decode cX0_moved 42 = .ok (.invokevirtual 46, 3) := dk_182 0 46 (dk_at dksX0_moved_1 18 rfl rfl)
theorem dX0_moved_45 : decode cX0_moved 45 = .ok (.ifCond .ne 6, 3) := dk_154 0 6 (dk_at dksX0_moved_1 21 rfl rfl)
theorem dX0_moved_48 : decode cX0_moved 48 = .ok (.bipush (-2), 2) := dk_16 254 (dk_at dksX0_moved_2 0 rfl rfl)
theorem dX0_moved_50 : decode cX0_moved 50 = .ok (.ireturn, 1) := dk_172 (dk_at dksX0_moved_2 2 rfl rfl)
theorem dX0_moved_51 : decode cX0_moved 51 = .ok (.aload_n 0, 1) := dk_42 (dk_at dksX0_moved_2 3 rfl rfl)
theorem dX0_moved_52 : decode cX0_moved 52 = .ok (.iload_n 2, 1) := dk_28 (dk_at dksX0_moved_2 4 rfl rfl)
theorem dX0_moved_53 : decode cX0_moved 53 = .ok (.iload_n 3, 1) := dk_29 (dk_at dksX0_moved_2 5 rfl rfl)
theorem dX0_moved_54 : decode cX0_moved 54 = .ok (.iload 4, 2) := dk_21 4 (dk_at dksX0_moved_2 6 rfl rfl)
theorem dX0_moved_56 : decode cX0_moved 56 = .ok (.aload_n 0, 1) := dk_42 (dk_at dksX0_moved_2 8 rfl rfl)
theorem dX0_moved_57 : decode cX0_moved 57 = .ok (.getfield 9, 3) := dk_180 0 9 (dk_at dksX0_moved_2 9 rfl rfl)
theorem dX0_moved_60 : decode cX0_moved 60 = .ok (.getfield 13, 3) := dk_180 0 13 (dk_at dksX0_moved_2 12 rfl rfl)
theorem dX0_moved_63 : decode cX0_moved 63 = .ok (.iconst 1, 1) := dk_4 (dk_at dksX0_moved_2 15 rfl rfl)
theorem dX0_moved_64 : decode cX0_moved 64 = .ok (.isub, 1) := dk_100 (dk_at dksX0_moved_2 16 rfl rfl)
theorem dX0_moved_65 : decode cX0_moved 65 = .ok (.invokevirtual 398, 3) := dk_182 1 142 (dk_at dksX0_moved_2 17 rfl rfl)
theorem dX0_moved_68 : decode cX0_moved 68 = .ok (.istore 6, 2) := dk_54 6 (dk_at dksX0_moved_2 20 rfl rfl)
theorem dX0_moved_70 : decode cX0_moved 70 = .ok (.iload 6, 2) := dk_21 6 (dk_at dksX0_moved_2 22 rfl rfl)
theorem dX0_moved_72 : decode cX0_moved 72 = .ok (.ifCond .ge 6, 3) := dk_156 0 6 (dk_at dksX0_moved_3 0 rfl rfl)
theorem dX0_moved_75 : decode cX0_moved 75 = .ok (.iload 6, 2) := dk_21 6 (dk_at dksX0_moved_3 3 rfl rfl)
theorem dX0_moved_77 : decode cX0_moved 77 = .ok (.ireturn, 1) := dk_172 (dk_at dksX0_moved_3 5 rfl rfl)
theorem dX0_moved_78 : decode cX0_moved 78 = .ok (.iconst 0, 1) := dk_3 (dk_at dksX0_moved_3 6 rfl rfl)
theorem dX0_moved_79 : decode cX0_moved 79 = .ok (.istore 7, 2) := dk_54 7 (dk_at dksX0_moved_3 7 rfl rfl)
theorem dX0_moved_81 : decode cX0_moved 81 = .ok (.bipush (-4), 2) := dk_16 252 (dk_at dksX0_moved_3 9 rfl rfl)
theorem dX0_moved_83 : decode cX0_moved 83 = .ok (.istore 8, 2) := dk_54 8 (dk_at dksX0_moved_3 11 rfl rfl)
theorem dX0_moved_85 : decode cX0_moved 85 = .ok (.bipush (-4), 2) := dk_16 252 (dk_at dksX0_moved_3 13 rfl rfl)
theorem dX0_moved_87 : decode cX0_moved 87 = .ok (.istore 9, 2) := dk_54 9 (dk_at dksX0_moved_3 15 rfl rfl)
theorem dX0_moved_89 : decode cX0_moved 89 = .ok (.aload_n 0, 1) := dk_42 (dk_at dksX0_moved_3 17 rfl rfl)
theorem dX0_moved_90 : decode cX0_moved 90 = .ok (.invokevirtual 277, 3) := dk_182 1 21 (dk_at dksX0_moved_3 18 rfl rfl)
theorem dX0_moved_93 : decode cX0_moved 93 = .ok (.astore 10, 2) := dk_58 10 (dk_at dksX0_moved_3 21 rfl rfl)
theorem dX0_moved_95 : decode cX0_moved 95 = .ok (.iconst 0, 1) := dk_3 (dk_at dksX0_moved_3 23 rfl rfl)
theorem dX0_moved_96 : decode cX0_moved 96 = .ok (.istore 11, 2) := dk_54 11 (dk_at dksX0_moved_4 0 rfl rfl)
theorem dX0_moved_98 : decode cX0_moved 98 = .ok (.iload 11, 2) := dk_21 11 (dk_at dksX0_moved_4 2 rfl rfl)
theorem dX0_moved_100 : decode cX0_moved 100 = .ok (.bipush 99, 2) := dk_16 99 (dk_at dksX0_moved_4 4 rfl rfl)
theorem dX0_moved_102 : decode cX0_moved 102 = .ok (.if_icmp .gt 46, 3) := dk_163 0 46 (dk_at dksX0_moved_4 6 rfl rfl)
theorem dX0_moved_105 : decode cX0_moved 105 = .ok (.aload 10, 2) := dk_25 10 (dk_at dksX0_moved_4 9 rfl rfl)
theorem dX0_moved_107 : decode cX0_moved 107 = .ok (.iload_n 1, 1) := dk_27 (dk_at dksX0_moved_4 11 rfl rfl)
theorem dX0_moved_108 : decode cX0_moved 108 = .ok (.iload 11, 2) := dk_21 11 (dk_at dksX0_moved_4 12 rfl rfl)
theorem dX0_moved_110 : decode cX0_moved 110 = .ok (.i2l, 1) := dk_133 (dk_at dksX0_moved_4 14 rfl rfl)
theorem dX0_moved_111 : decode cX0_moved 111 = .ok (.invokevirtual 91, 3) := dk_182 0 91 (dk_at dksX0_moved_4 15 rfl rfl)
theorem dX0_moved_114 : decode cX0_moved 114 = .ok (.aload_n 0, 1) := dk_42 (dk_at dksX0_moved_4 18 rfl rfl)
theorem dX0_moved_115 : decode cX0_moved 115 = .ok (.aload 10, 2) := dk_25 10 (dk_at dksX0_moved_4 19 rfl rfl)
theorem dX0_moved_117 : decode cX0_moved 117 = .ok (.invokevirtual 402, 3) := dk_182 1 146 (dk_at dksX0_moved_4 21 rfl rfl)
theorem dX0_moved_120 : decode cX0_moved 120 = .ok (.ifCond .ne 6, 3) := dk_154 0 6 (dk_at dksX0_moved_5 0 rfl rfl)
theorem dX0_moved_123 : decode cX0_moved 123 = .ok (.goto 19, 3) := dk_167 0 19 (dk_at dksX0_moved_5 3 rfl rfl)
theorem dX0_moved_126 : decode cX0_moved 126 = .ok (.iload 7, 2) := dk_21 7 (dk_at dksX0_moved_5 6 rfl rfl)
theorem dX0_moved_128 : decode cX0_moved 128 = .ok (.iinc 7 1, 3) := dk_132 7 1 (dk_at dksX0_moved_5 8 rfl rfl)
theorem dX0_moved_131 : decode cX0_moved 131 = .ok (.ifCond .ne 7, 3) := dk_154 0 7 (dk_at dksX0_moved_5 11 rfl rfl)
theorem dX0_moved_134 : decode cX0_moved 134 = .ok (.iload 11, 2) := dk_21 11 (dk_at dksX0_moved_5 14 rfl rfl)
theorem dX0_moved_136 : decode cX0_moved 136 = .ok (.istore 8, 2) := dk_54 8 (dk_at dksX0_moved_5 16 rfl rfl)
theorem dX0_moved_138 : decode cX0_moved 138 = .ok (.iload 11, 2) := dk_21 11 (dk_at dksX0_moved_5 18 rfl rfl)
theorem dX0_moved_140 : decode cX0_moved 140 = .ok (.istore 9, 2) := dk_54 9 (dk_at dksX0_moved_5 20 rfl rfl)
theorem dX0_moved_142 : decode cX0_moved 142 = .ok (.iinc 11 1, 3) := dk_132 11 1 (dk_at dksX0_moved_6 0 rfl rfl)
theorem dX0_moved_145 : decode cX0_moved 145 = .ok (.goto (-47), 3) := dk_167 255 209 (dk_at dksX0_moved_6 3 rfl rfl)
theorem dX0_moved_148 : decode cX0_moved 148 = .ok (.iload 5, 2) := dk_21 5 (dk_at dksX0_moved_6 6 rfl rfl)
theorem dX0_moved_150 : decode cX0_moved 150 = .ok (.ifCond .ne 8, 3) := dk_154 0 8 (dk_at dksX0_moved_6 8 rfl rfl)
theorem dX0_moved_153 : decode cX0_moved 153 = .ok (.iload 7, 2) := dk_21 7 (dk_at dksX0_moved_6 11 rfl rfl)
theorem dX0_moved_155 : decode cX0_moved 155 = .ok (.goto 16, 3) := dk_167 0 16 (dk_at dksX0_moved_6 13 rfl rfl)
theorem dX0_moved_158 : decode cX0_moved 158 = .ok (.iload 5, 2) := dk_21 5 (dk_at dksX0_moved_6 16 rfl rfl)
theorem dX0_moved_160 : decode cX0_moved 160 = .ok (.iconst 1, 1) := dk_4 (dk_at dksX0_moved_6 18 rfl rfl)
theorem dX0_moved_161 : decode cX0_moved 161 = .ok (.if_icmp .ne 8, 3) := dk_160 0 8 (dk_at dksX0_moved_6 19 rfl rfl)
theorem dX0_moved_164 : decode cX0_moved 164 = .ok (.iload 8, 2) := dk_21 8 (dk_at dksX0_moved_6 22 rfl rfl)
theorem dX0_moved_166 : decode cX0_moved 166 = .ok (.goto 5, 3) := dk_167 0 5 (dk_at dksX0_moved_7 0 rfl rfl)
theorem dX0_moved_169 : decode cX0_moved 169 = .ok (.iload 9, 2) := dk_21 9 (dk_at dksX0_moved_7 3 rfl rfl)
theorem dX0_moved_171 : decode cX0_moved 171 = .ok (.ireturn, 1) := dk_172 (dk_at dksX0_moved_7 5 rfl rfl)
abbrev cX0_refusal : ByteArray := prog_1_method_64_code
def yX0_refusal : MethodName := ⟨RX0, "refusal", "(IIII)I"⟩
def dkwX0_refusal_1 : List UInt8 := [58, 5, 16, 244, 172, 58, 5, 16, 243, 172]
abbrev dktX0_refusal_1 : List UInt8 := dkwX0_refusal_1 ++ []
def dkwX0_refusal_0 : List UInt8 := [42, 42, 180, 1, 95, 27, 50, 180, 1, 103, 28, 29, 21, 4, 182, 1, 138, 3, 172, 58, 5, 16, 245, 172]
abbrev dktX0_refusal_0 : List UInt8 := dkwX0_refusal_0 ++ dktX0_refusal_1
theorem dksX0_refusal_0 : cX0_refusal.data.toList.drop 0 = dktX0_refusal_0 := by decide +kernel
theorem dksX0_refusal_1 : cX0_refusal.data.toList.drop 24 = dktX0_refusal_1 := dk_seg dksX0_refusal_0 24 rfl rfl
theorem dX0_refusal_0 : decode cX0_refusal 0 = .ok (.aload_n 0, 1) := dk_42 (dk_at dksX0_refusal_0 0 rfl rfl)
theorem dX0_refusal_1 : decode cX0_refusal 1 = .ok (.aload_n 0, 1) := dk_42 (dk_at dksX0_refusal_0 1 rfl rfl)
theorem dX0_refusal_2 : decode cX0_refusal 2 = .ok (.getfield 351, 3) := dk_180 1 95 (dk_at dksX0_refusal_0 2 rfl rfl)
theorem dX0_refusal_5 : decode cX0_refusal 5 = .ok (.iload_n 1, 1) := dk_27 (dk_at dksX0_refusal_0 5 rfl rfl)
theorem dX0_refusal_6 : decode cX0_refusal 6 = .ok (.aaload, 1) := dk_50 (dk_at dksX0_refusal_0 6 rfl rfl)
theorem dX0_refusal_7 : decode cX0_refusal 7 = .ok (.getfield 359, 3) := dk_180 1 103 (dk_at dksX0_refusal_0 7 rfl rfl)
theorem dX0_refusal_10 : decode cX0_refusal 10 = .ok (.iload_n 2, 1) := dk_28 (dk_at dksX0_refusal_0 10 rfl rfl)
theorem dX0_refusal_11 : decode cX0_refusal 11 = .ok (.iload_n 3, 1) := dk_29 (dk_at dksX0_refusal_0 11 rfl rfl)
theorem dX0_refusal_12 : decode cX0_refusal 12 = .ok (.iload 4, 2) := dk_21 4 (dk_at dksX0_refusal_0 12 rfl rfl)
theorem dX0_refusal_14 : decode cX0_refusal 14 = .ok (.invokevirtual 394, 3) := dk_182 1 138 (dk_at dksX0_refusal_0 14 rfl rfl)
theorem dX0_refusal_17 : decode cX0_refusal 17 = .ok (.iconst 0, 1) := dk_3 (dk_at dksX0_refusal_0 17 rfl rfl)
theorem dX0_refusal_18 : decode cX0_refusal 18 = .ok (.ireturn, 1) := dk_172 (dk_at dksX0_refusal_0 18 rfl rfl)
theorem dX0_refusal_19 : decode cX0_refusal 19 = .ok (.astore 5, 2) := dk_58 5 (dk_at dksX0_refusal_0 19 rfl rfl)
theorem dX0_refusal_21 : decode cX0_refusal 21 = .ok (.bipush (-11), 2) := dk_16 245 (dk_at dksX0_refusal_0 21 rfl rfl)
theorem dX0_refusal_23 : decode cX0_refusal 23 = .ok (.ireturn, 1) := dk_172 (dk_at dksX0_refusal_0 23 rfl rfl)
theorem dX0_refusal_24 : decode cX0_refusal 24 = .ok (.astore 5, 2) := dk_58 5 (dk_at dksX0_refusal_1 0 rfl rfl)
theorem dX0_refusal_26 : decode cX0_refusal 26 = .ok (.bipush (-12), 2) := dk_16 244 (dk_at dksX0_refusal_1 2 rfl rfl)
theorem dX0_refusal_28 : decode cX0_refusal 28 = .ok (.ireturn, 1) := dk_172 (dk_at dksX0_refusal_1 4 rfl rfl)
theorem dX0_refusal_29 : decode cX0_refusal 29 = .ok (.astore 5, 2) := dk_58 5 (dk_at dksX0_refusal_1 5 rfl rfl)
theorem dX0_refusal_31 : decode cX0_refusal 31 = .ok (.bipush (-13), 2) := dk_16 243 (dk_at dksX0_refusal_1 7 rfl rfl)
theorem dX0_refusal_33 : decode cX0_refusal 33 = .ok (.ireturn, 1) := dk_172 (dk_at dksX0_refusal_1 9 rfl rfl)
abbrev cX0_looksAt : ByteArray := prog_1_method_63_code
def yX0_looksAt : MethodName := ⟨RX0, "looksAt", "(Ljava/lang/Object;III)V"⟩
def dkwX0_looksAt_2 : List UInt8 := [180, 1, 131, 21, 6, 43, 28, 29, 21, 6, 96, 184, 1, 134, 80, 132, 6, 1, 167, 255, 230, 177]
abbrev dktX0_looksAt_2 : List UInt8 := dkwX0_looksAt_2 ++ []
def dkwX0_looksAt_1 : List UInt8 := [100, 164, 0, 11, 187, 1, 123, 89, 183, 1, 129, 191, 3, 54, 6, 21, 6, 21, 4, 162, 0, 25, 42]
abbrev dktX0_looksAt_1 : List UInt8 := dkwX0_looksAt_1 ++ dktX0_looksAt_2
def dkwX0_looksAt_0 : List UInt8 := [43, 28, 184, 1, 125, 54, 5, 29, 133, 9, 21, 5, 133, 184, 0, 19, 153, 0, 12, 21, 4, 21, 5, 29]
abbrev dktX0_looksAt_0 : List UInt8 := dkwX0_looksAt_0 ++ dktX0_looksAt_1
theorem dksX0_looksAt_0 : cX0_looksAt.data.toList.drop 0 = dktX0_looksAt_0 := by decide +kernel
theorem dksX0_looksAt_1 : cX0_looksAt.data.toList.drop 24 = dktX0_looksAt_1 := dk_seg dksX0_looksAt_0 24 rfl rfl
theorem dksX0_looksAt_2 : cX0_looksAt.data.toList.drop 47 = dktX0_looksAt_2 := dk_seg dksX0_looksAt_1 23 rfl rfl
theorem dX0_looksAt_0 : decode cX0_looksAt 0 = .ok (.aload_n 1, 1) := dk_43 (dk_at dksX0_looksAt_0 0 rfl rfl)
theorem dX0_looksAt_1 : decode cX0_looksAt 1 = .ok (.iload_n 2, 1) := dk_28 (dk_at dksX0_looksAt_0 1 rfl rfl)
theorem dX0_looksAt_2 : decode cX0_looksAt 2 = .ok (.invokestatic 381, 3) := dk_184 1 125 (dk_at dksX0_looksAt_0 2 rfl rfl)
theorem dX0_looksAt_5 : decode cX0_looksAt 5 = .ok (.istore 5, 2) := dk_54 5 (dk_at dksX0_looksAt_0 5 rfl rfl)
theorem dX0_looksAt_7 : decode cX0_looksAt 7 = .ok (.iload_n 3, 1) := dk_29 (dk_at dksX0_looksAt_0 7 rfl rfl)
theorem dX0_looksAt_8 : decode cX0_looksAt 8 = .ok (.i2l, 1) := dk_133 (dk_at dksX0_looksAt_0 8 rfl rfl)
theorem dX0_looksAt_9 : decode cX0_looksAt 9 = .ok (.lconst 0, 1) := dk_9 (dk_at dksX0_looksAt_0 9 rfl rfl)
theorem dX0_looksAt_10 : decode cX0_looksAt 10 = .ok (.iload 5, 2) := dk_21 5 (dk_at dksX0_looksAt_0 10 rfl rfl)
theorem dX0_looksAt_12 : decode cX0_looksAt 12 = .ok (.i2l, 1) := dk_133 (dk_at dksX0_looksAt_0 12 rfl rfl)
theorem dX0_looksAt_13 : decode cX0_looksAt 13 = .ok (.invokestatic 19, 3) := dk_184 0 19 (dk_at dksX0_looksAt_0 13 rfl rfl)
theorem dX0_looksAt_16 : decode cX0_looksAt 16 = .ok (.ifCond .eq 12, 3) := dk_153 0 12 (dk_at dksX0_looksAt_0 16 rfl rfl)
theorem dX0_looksAt_19 : decode cX0_looksAt 19 = .ok (.iload 4, 2) := dk_21 4 (dk_at dksX0_looksAt_0 19 rfl rfl)
theorem dX0_looksAt_21 : decode cX0_looksAt 21 = .ok (.iload 5, 2) := dk_21 5 (dk_at dksX0_looksAt_0 21 rfl rfl)
theorem dX0_looksAt_23 : decode cX0_looksAt 23 = .ok (.iload_n 3, 1) := dk_29 (dk_at dksX0_looksAt_0 23 rfl rfl)
theorem dX0_looksAt_24 : decode cX0_looksAt 24 = .ok (.isub, 1) := dk_100 (dk_at dksX0_looksAt_1 0 rfl rfl)
theorem dX0_looksAt_25 : decode cX0_looksAt 25 = .ok (.if_icmp .le 11, 3) := dk_164 0 11 (dk_at dksX0_looksAt_1 1 rfl rfl)
theorem dX0_looksAt_28 : decode cX0_looksAt 28 = .ok (.new 379, 3) := dk_187 1 123 (dk_at dksX0_looksAt_1 4 rfl rfl)
theorem dX0_looksAt_31 : decode cX0_looksAt 31 = .ok (.dup, 1) := dk_89 (dk_at dksX0_looksAt_1 7 rfl rfl)
theorem dX0_looksAt_32 : decode cX0_looksAt 32 = .ok (.invokespecial 385, 3) := dk_183 1 129 (dk_at dksX0_looksAt_1 8 rfl rfl)
theorem dX0_looksAt_35 : decode cX0_looksAt 35 = .ok (.athrow, 1) := dk_191 (dk_at dksX0_looksAt_1 11 rfl rfl)
theorem dX0_looksAt_36 : decode cX0_looksAt 36 = .ok (.iconst 0, 1) := dk_3 (dk_at dksX0_looksAt_1 12 rfl rfl)
theorem dX0_looksAt_37 : decode cX0_looksAt 37 = .ok (.istore 6, 2) := dk_54 6 (dk_at dksX0_looksAt_1 13 rfl rfl)
theorem dX0_looksAt_39 : decode cX0_looksAt 39 = .ok (.iload 6, 2) := dk_21 6 (dk_at dksX0_looksAt_1 15 rfl rfl)
theorem dX0_looksAt_41 : decode cX0_looksAt 41 = .ok (.iload 4, 2) := dk_21 4 (dk_at dksX0_looksAt_1 17 rfl rfl)
theorem dX0_looksAt_43 : decode cX0_looksAt 43 = .ok (.if_icmp .ge 25, 3) := dk_162 0 25 (dk_at dksX0_looksAt_1 19 rfl rfl)
theorem dX0_looksAt_46 : decode cX0_looksAt 46 = .ok (.aload_n 0, 1) := dk_42 (dk_at dksX0_looksAt_1 22 rfl rfl)
theorem dX0_looksAt_47 : decode cX0_looksAt 47 = .ok (.getfield 387, 3) := dk_180 1 131 (dk_at dksX0_looksAt_2 0 rfl rfl)
theorem dX0_looksAt_50 : decode cX0_looksAt 50 = .ok (.iload 6, 2) := dk_21 6 (dk_at dksX0_looksAt_2 3 rfl rfl)
theorem dX0_looksAt_52 : decode cX0_looksAt 52 = .ok (.aload_n 1, 1) := dk_43 (dk_at dksX0_looksAt_2 5 rfl rfl)
theorem dX0_looksAt_53 : decode cX0_looksAt 53 = .ok (.iload_n 2, 1) := dk_28 (dk_at dksX0_looksAt_2 6 rfl rfl)
theorem dX0_looksAt_54 : decode cX0_looksAt 54 = .ok (.iload_n 3, 1) := dk_29 (dk_at dksX0_looksAt_2 7 rfl rfl)
theorem dX0_looksAt_55 : decode cX0_looksAt 55 = .ok (.iload 6, 2) := dk_21 6 (dk_at dksX0_looksAt_2 8 rfl rfl)
theorem dX0_looksAt_57 : decode cX0_looksAt 57 = .ok (.iadd, 1) := dk_96 (dk_at dksX0_looksAt_2 10 rfl rfl)
theorem dX0_looksAt_58 : decode cX0_looksAt 58 = .ok (.invokestatic 390, 3) := dk_184 1 134 (dk_at dksX0_looksAt_2 11 rfl rfl)
theorem dX0_looksAt_61 : decode cX0_looksAt 61 = .ok (.lastore, 1) := dk_80 (dk_at dksX0_looksAt_2 14 rfl rfl)
theorem dX0_looksAt_62 : decode cX0_looksAt 62 = .ok (.iinc 6 1, 3) := dk_132 6 1 (dk_at dksX0_looksAt_2 15 rfl rfl)
theorem dX0_looksAt_65 : decode cX0_looksAt 65 = .ok (.goto (-26), 3) := dk_167 255 230 (dk_at dksX0_looksAt_2 18 rfl rfl)
theorem dX0_looksAt_68 : decode cX0_looksAt 68 = .ok (.return_, 1) := dk_177 (dk_at dksX0_looksAt_2 21 rfl rfl)
abbrev cX0_sizeIn : ByteArray := prog_1_method_62_code
def yX0_sizeIn : MethodName := ⟨RX0, "sizeIn", "(Ljava/lang/Object;I)I"⟩
def dkwX0_sizeIn_2 : List UInt8 := [42, 192, 1, 83, 190, 172, 42, 192, 1, 84, 190, 172, 42, 192, 1, 86, 190, 172, 42, 192, 1, 87, 190, 172]
abbrev dktX0_sizeIn_2 : List UInt8 := dkwX0_sizeIn_2 ++ []
def dkwX0_sizeIn_1 : List UInt8 := [170, 0, 0, 0, 0, 0, 45, 0, 0, 0, 0, 0, 0, 0, 2, 0, 0, 0, 27, 0, 0, 0, 33, 0, 0, 0, 39]
abbrev dktX0_sizeIn_1 : List UInt8 := dkwX0_sizeIn_1 ++ dktX0_sizeIn_2
def dkwX0_sizeIn_0 : List UInt8 := [27]
abbrev dktX0_sizeIn_0 : List UInt8 := dkwX0_sizeIn_0 ++ dktX0_sizeIn_1
theorem dksX0_sizeIn_0 : cX0_sizeIn.data.toList.drop 0 = dktX0_sizeIn_0 := by decide +kernel
theorem dksX0_sizeIn_1 : cX0_sizeIn.data.toList.drop 1 = dktX0_sizeIn_1 := dk_seg dksX0_sizeIn_0 1 rfl rfl
theorem dksX0_sizeIn_2 : cX0_sizeIn.data.toList.drop 28 = dktX0_sizeIn_2 := dk_seg dksX0_sizeIn_1 27 rfl rfl
theorem dX0_sizeIn_0 : decode cX0_sizeIn 0 = .ok (.iload_n 1, 1) := dk_27 (dk_at dksX0_sizeIn_0 0 rfl rfl)
theorem dX0_sizeIn_1 : decode cX0_sizeIn 1 = .ok (.tableswitch 45 0 2 #[27, 33, 39], 27) := by decide +kernel
theorem dX0_sizeIn_28 : decode cX0_sizeIn 28 = .ok (.aload_n 0, 1) := dk_42 (dk_at dksX0_sizeIn_2 0 rfl rfl)
theorem dX0_sizeIn_29 : decode cX0_sizeIn 29 = .ok (.checkcast 339, 3) := dk_192 1 83 (dk_at dksX0_sizeIn_2 1 rfl rfl)
theorem dX0_sizeIn_32 : decode cX0_sizeIn 32 = .ok (.arraylength, 1) := dk_190 (dk_at dksX0_sizeIn_2 4 rfl rfl)
theorem dX0_sizeIn_33 : decode cX0_sizeIn 33 = .ok (.ireturn, 1) := dk_172 (dk_at dksX0_sizeIn_2 5 rfl rfl)
theorem dX0_sizeIn_34 : decode cX0_sizeIn 34 = .ok (.aload_n 0, 1) := dk_42 (dk_at dksX0_sizeIn_2 6 rfl rfl)
theorem dX0_sizeIn_35 : decode cX0_sizeIn 35 = .ok (.checkcast 340, 3) := dk_192 1 84 (dk_at dksX0_sizeIn_2 7 rfl rfl)
theorem dX0_sizeIn_38 : decode cX0_sizeIn 38 = .ok (.arraylength, 1) := dk_190 (dk_at dksX0_sizeIn_2 10 rfl rfl)
theorem dX0_sizeIn_39 : decode cX0_sizeIn 39 = .ok (.ireturn, 1) := dk_172 (dk_at dksX0_sizeIn_2 11 rfl rfl)
theorem dX0_sizeIn_40 : decode cX0_sizeIn 40 = .ok (.aload_n 0, 1) := dk_42 (dk_at dksX0_sizeIn_2 12 rfl rfl)
theorem dX0_sizeIn_41 : decode cX0_sizeIn 41 = .ok (.checkcast 342, 3) := dk_192 1 86 (dk_at dksX0_sizeIn_2 13 rfl rfl)
theorem dX0_sizeIn_44 : decode cX0_sizeIn 44 = .ok (.arraylength, 1) := dk_190 (dk_at dksX0_sizeIn_2 16 rfl rfl)
theorem dX0_sizeIn_45 : decode cX0_sizeIn 45 = .ok (.ireturn, 1) := dk_172 (dk_at dksX0_sizeIn_2 17 rfl rfl)
theorem dX0_sizeIn_46 : decode cX0_sizeIn 46 = .ok (.aload_n 0, 1) := dk_42 (dk_at dksX0_sizeIn_2 18 rfl rfl)
theorem dX0_sizeIn_47 : decode cX0_sizeIn 47 = .ok (.checkcast 343, 3) := dk_192 1 87 (dk_at dksX0_sizeIn_2 19 rfl rfl)
theorem dX0_sizeIn_50 : decode cX0_sizeIn 50 = .ok (.arraylength, 1) := dk_190 (dk_at dksX0_sizeIn_2 22 rfl rfl)
theorem dX0_sizeIn_51 : decode cX0_sizeIn 51 = .ok (.ireturn, 1) := dk_172 (dk_at dksX0_sizeIn_2 23 rfl rfl)
abbrev cX0_itemOf : ByteArray := prog_1_method_57_code
def yX0_itemOf : MethodName := ⟨RX0, "itemOf", "(Ljava/lang/Object;II)J"⟩
def dkwX0_itemOf_3 : List UInt8 := [42, 192, 1, 87, 28, 47, 173]
abbrev dktX0_itemOf_3 : List UInt8 := dkwX0_itemOf_3 ++ []
def dkwX0_itemOf_2 : List UInt8 := [42, 192, 1, 83, 28, 51, 133, 173, 42, 192, 1, 84, 28, 53, 133, 173, 42, 192, 1, 86, 28, 46, 133, 173]
abbrev dktX0_itemOf_2 : List UInt8 := dkwX0_itemOf_2 ++ dktX0_itemOf_3
def dkwX0_itemOf_1 : List UInt8 := [170, 0, 0, 0, 0, 0, 51, 0, 0, 0, 0, 0, 0, 0, 2, 0, 0, 0, 27, 0, 0, 0, 35, 0, 0, 0, 43]
abbrev dktX0_itemOf_1 : List UInt8 := dkwX0_itemOf_1 ++ dktX0_itemOf_2
def dkwX0_itemOf_0 : List UInt8 := [27]
abbrev dktX0_itemOf_0 : List UInt8 := dkwX0_itemOf_0 ++ dktX0_itemOf_1
theorem dksX0_itemOf_0 : cX0_itemOf.data.toList.drop 0 = dktX0_itemOf_0 := by decide +kernel
theorem dksX0_itemOf_1 : cX0_itemOf.data.toList.drop 1 = dktX0_itemOf_1 := dk_seg dksX0_itemOf_0 1 rfl rfl
theorem dksX0_itemOf_2 : cX0_itemOf.data.toList.drop 28 = dktX0_itemOf_2 := dk_seg dksX0_itemOf_1 27 rfl rfl
theorem dksX0_itemOf_3 : cX0_itemOf.data.toList.drop 52 = dktX0_itemOf_3 := dk_seg dksX0_itemOf_2 24 rfl rfl
theorem dX0_itemOf_0 : decode cX0_itemOf 0 = .ok (.iload_n 1, 1) := dk_27 (dk_at dksX0_itemOf_0 0 rfl rfl)
theorem dX0_itemOf_1 : decode cX0_itemOf 1 = .ok (.tableswitch 51 0 2 #[27, 35, 43], 27) := by decide +kernel
theorem dX0_itemOf_28 : decode cX0_itemOf 28 = .ok (.aload_n 0, 1) := dk_42 (dk_at dksX0_itemOf_2 0 rfl rfl)
theorem dX0_itemOf_29 : decode cX0_itemOf 29 = .ok (.checkcast 339, 3) := dk_192 1 83 (dk_at dksX0_itemOf_2 1 rfl rfl)
theorem dX0_itemOf_32 : decode cX0_itemOf 32 = .ok (.iload_n 2, 1) := dk_28 (dk_at dksX0_itemOf_2 4 rfl rfl)
theorem dX0_itemOf_33 : decode cX0_itemOf 33 = .ok (.baload, 1) := dk_51 (dk_at dksX0_itemOf_2 5 rfl rfl)
theorem dX0_itemOf_34 : decode cX0_itemOf 34 = .ok (.i2l, 1) := dk_133 (dk_at dksX0_itemOf_2 6 rfl rfl)
theorem dX0_itemOf_35 : decode cX0_itemOf 35 = .ok (.lreturn, 1) := dk_173 (dk_at dksX0_itemOf_2 7 rfl rfl)
theorem dX0_itemOf_36 : decode cX0_itemOf 36 = .ok (.aload_n 0, 1) := dk_42 (dk_at dksX0_itemOf_2 8 rfl rfl)
theorem dX0_itemOf_37 : decode cX0_itemOf 37 = .ok (.checkcast 340, 3) := dk_192 1 84 (dk_at dksX0_itemOf_2 9 rfl rfl)
theorem dX0_itemOf_40 : decode cX0_itemOf 40 = .ok (.iload_n 2, 1) := dk_28 (dk_at dksX0_itemOf_2 12 rfl rfl)
theorem dX0_itemOf_41 : decode cX0_itemOf 41 = .ok (.saload, 1) := dk_53 (dk_at dksX0_itemOf_2 13 rfl rfl)
theorem dX0_itemOf_42 : decode cX0_itemOf 42 = .ok (.i2l, 1) := dk_133 (dk_at dksX0_itemOf_2 14 rfl rfl)
theorem dX0_itemOf_43 : decode cX0_itemOf 43 = .ok (.lreturn, 1) := dk_173 (dk_at dksX0_itemOf_2 15 rfl rfl)
theorem dX0_itemOf_44 : decode cX0_itemOf 44 = .ok (.aload_n 0, 1) := dk_42 (dk_at dksX0_itemOf_2 16 rfl rfl)
theorem dX0_itemOf_45 : decode cX0_itemOf 45 = .ok (.checkcast 342, 3) := dk_192 1 86 (dk_at dksX0_itemOf_2 17 rfl rfl)
theorem dX0_itemOf_48 : decode cX0_itemOf 48 = .ok (.iload_n 2, 1) := dk_28 (dk_at dksX0_itemOf_2 20 rfl rfl)
theorem dX0_itemOf_49 : decode cX0_itemOf 49 = .ok (.iaload, 1) := dk_46 (dk_at dksX0_itemOf_2 21 rfl rfl)
theorem dX0_itemOf_50 : decode cX0_itemOf 50 = .ok (.i2l, 1) := dk_133 (dk_at dksX0_itemOf_2 22 rfl rfl)
theorem dX0_itemOf_51 : decode cX0_itemOf 51 = .ok (.lreturn, 1) := dk_173 (dk_at dksX0_itemOf_2 23 rfl rfl)
theorem dX0_itemOf_52 : decode cX0_itemOf 52 = .ok (.aload_n 0, 1) := dk_42 (dk_at dksX0_itemOf_3 0 rfl rfl)
theorem dX0_itemOf_53 : decode cX0_itemOf 53 = .ok (.checkcast 343, 3) := dk_192 1 87 (dk_at dksX0_itemOf_3 1 rfl rfl)
theorem dX0_itemOf_56 : decode cX0_itemOf 56 = .ok (.iload_n 2, 1) := dk_28 (dk_at dksX0_itemOf_3 4 rfl rfl)
theorem dX0_itemOf_57 : decode cX0_itemOf 57 = .ok (.laload, 1) := dk_47 (dk_at dksX0_itemOf_3 5 rfl rfl)
theorem dX0_itemOf_58 : decode cX0_itemOf 58 = .ok (.lreturn, 1) := dk_173 (dk_at dksX0_itemOf_3 6 rfl rfl)
abbrev cX0_isSo : ByteArray := prog_1_method_65_code
def yX0_isSo : MethodName := ⟨RX0, "isSo", "(LOneElastic$Town;)Z"⟩
def dkwX0_isSo_2 : List UInt8 := [167, 255, 217, 4, 172]
abbrev dktX0_isSo_2 : List UInt8 := dkwX0_isSo_2 ++ []
def dkwX0_isSo_1 : List UInt8 := [180, 0, 40, 28, 46, 108, 133, 42, 180, 1, 131, 28, 47, 148, 153, 0, 5, 3, 172, 132, 2, 1]
abbrev dktX0_isSo_1 : List UInt8 := dkwX0_isSo_1 ++ dktX0_isSo_2
def dkwX0_isSo_0 : List UInt8 := [43, 182, 0, 29, 87, 3, 61, 28, 43, 180, 0, 13, 4, 100, 162, 0, 35, 43, 180, 0, 33, 28, 46, 43]
abbrev dktX0_isSo_0 : List UInt8 := dkwX0_isSo_0 ++ dktX0_isSo_1
theorem dksX0_isSo_0 : cX0_isSo.data.toList.drop 0 = dktX0_isSo_0 := by decide +kernel
theorem dksX0_isSo_1 : cX0_isSo.data.toList.drop 24 = dktX0_isSo_1 := dk_seg dksX0_isSo_0 24 rfl rfl
theorem dksX0_isSo_2 : cX0_isSo.data.toList.drop 46 = dktX0_isSo_2 := dk_seg dksX0_isSo_1 22 rfl rfl
theorem dX0_isSo_0 : decode cX0_isSo 0 = .ok (.aload_n 1, 1) := dk_43 (dk_at dksX0_isSo_0 0 rfl rfl)
theorem dX0_isSo_1 : decode cX0_isSo 1 = .ok (.invokevirtual 29, 3) := dk_182 0 29 (dk_at dksX0_isSo_0 1 rfl rfl)
theorem dX0_isSo_4 : decode cX0_isSo 4 = .ok (.pop, 1) := dk_87 (dk_at dksX0_isSo_0 4 rfl rfl)
theorem dX0_isSo_5 : decode cX0_isSo 5 = .ok (.iconst 0, 1) := dk_3 (dk_at dksX0_isSo_0 5 rfl rfl)
theorem dX0_isSo_6 : decode cX0_isSo 6 = .ok (.istore_n 2, 1) := dk_61 (dk_at dksX0_isSo_0 6 rfl rfl)
theorem dX0_isSo_7 : decode cX0_isSo 7 = .ok (.iload_n 2, 1) := dk_28 (dk_at dksX0_isSo_0 7 rfl rfl)
theorem dX0_isSo_8 : decode cX0_isSo 8 = .ok (.aload_n 1, 1) := dk_43 (dk_at dksX0_isSo_0 8 rfl rfl)
theorem dX0_isSo_9 : decode cX0_isSo 9 = .ok (.getfield 13, 3) := dk_180 0 13 (dk_at dksX0_isSo_0 9 rfl rfl)
theorem dX0_isSo_12 : decode cX0_isSo 12 = .ok (.iconst 1, 1) := dk_4 (dk_at dksX0_isSo_0 12 rfl rfl)
theorem dX0_isSo_13 : decode cX0_isSo 13 = .ok (.isub, 1) := dk_100 (dk_at dksX0_isSo_0 13 rfl rfl)
theorem dX0_isSo_14 : decode cX0_isSo 14 = .ok (.if_icmp .ge 35, 3) := dk_162 0 35 (dk_at dksX0_isSo_0 14 rfl rfl)
theorem dX0_isSo_17 : decode cX0_isSo 17 = .ok (.aload_n 1, 1) := dk_43 (dk_at dksX0_isSo_0 17 rfl rfl)
theorem dX0_isSo_18 : decode cX0_isSo 18 = .ok (.getfield 33, 3) := dk_180 0 33 (dk_at dksX0_isSo_0 18 rfl rfl)
theorem dX0_isSo_21 : decode cX0_isSo 21 = .ok (.iload_n 2, 1) := dk_28 (dk_at dksX0_isSo_0 21 rfl rfl)
theorem dX0_isSo_22 : decode cX0_isSo 22 = .ok (.iaload, 1) := dk_46 (dk_at dksX0_isSo_0 22 rfl rfl)
theorem dX0_isSo_23 : decode cX0_isSo 23 = .ok (.aload_n 1, 1) := dk_43 (dk_at dksX0_isSo_0 23 rfl rfl)
theorem dX0_isSo_24 : decode cX0_isSo 24 = .ok (.getfield 40, 3) := dk_180 0 40 (dk_at dksX0_isSo_1 0 rfl rfl)
theorem dX0_isSo_27 : decode cX0_isSo 27 = .ok (.iload_n 2, 1) := dk_28 (dk_at dksX0_isSo_1 3 rfl rfl)
theorem dX0_isSo_28 : decode cX0_isSo 28 = .ok (.iaload, 1) := dk_46 (dk_at dksX0_isSo_1 4 rfl rfl)
theorem dX0_isSo_29 : decode cX0_isSo 29 = .ok (.idiv, 1) := dk_108 (dk_at dksX0_isSo_1 5 rfl rfl)
theorem dX0_isSo_30 : decode cX0_isSo 30 = .ok (.i2l, 1) := dk_133 (dk_at dksX0_isSo_1 6 rfl rfl)
theorem dX0_isSo_31 : decode cX0_isSo 31 = .ok (.aload_n 0, 1) := dk_42 (dk_at dksX0_isSo_1 7 rfl rfl)
theorem dX0_isSo_32 : decode cX0_isSo 32 = .ok (.getfield 387, 3) := dk_180 1 131 (dk_at dksX0_isSo_1 8 rfl rfl)
theorem dX0_isSo_35 : decode cX0_isSo 35 = .ok (.iload_n 2, 1) := dk_28 (dk_at dksX0_isSo_1 11 rfl rfl)
theorem dX0_isSo_36 : decode cX0_isSo 36 = .ok (.laload, 1) := dk_47 (dk_at dksX0_isSo_1 12 rfl rfl)
theorem dX0_isSo_37 : decode cX0_isSo 37 = .ok (.lcmp, 1) := dk_148 (dk_at dksX0_isSo_1 13 rfl rfl)
theorem dX0_isSo_38 : decode cX0_isSo 38 = .ok (.ifCond .eq 5, 3) := dk_153 0 5 (dk_at dksX0_isSo_1 14 rfl rfl)
theorem dX0_isSo_41 : decode cX0_isSo 41 = .ok (.iconst 0, 1) := dk_3 (dk_at dksX0_isSo_1 17 rfl rfl)
theorem dX0_isSo_42 : decode cX0_isSo 42 = .ok (.ireturn, 1) := dk_172 (dk_at dksX0_isSo_1 18 rfl rfl)
theorem dX0_isSo_43 : decode cX0_isSo 43 = .ok (.iinc 2 1, 3) := dk_132 2 1 (dk_at dksX0_isSo_1 19 rfl rfl)
theorem dX0_isSo_46 : decode cX0_isSo 46 = .ok (.goto (-39), 3) := dk_167 255 217 (dk_at dksX0_isSo_2 0 rfl rfl)
theorem dX0_isSo_49 : decode cX0_isSo 49 = .ok (.iconst 1, 1) := dk_4 (dk_at dksX0_isSo_2 3 rfl rfl)
theorem dX0_isSo_50 : decode cX0_isSo 50 = .ok (.ireturn, 1) := dk_172 (dk_at dksX0_isSo_2 4 rfl rfl)
abbrev cX0_gives : ByteArray := prog_1_method_68_code
def yX0_gives : MethodName := ⟨RX0, "gives", "(IIIII)I"⟩
def dkwX0_gives_6 : List UInt8 := [167, 0, 5, 21, 8, 172]
abbrev dktX0_gives_6 : List UInt8 := dkwX0_gives_6 ++ []
def dkwX0_gives_5 : List UInt8 := [96, 54, 8, 132, 10, 1, 167, 255, 212, 132, 9, 1, 167, 255, 196, 21, 5, 154, 0, 8, 21, 7]
abbrev dktX0_gives_5 : List UInt8 := dkwX0_gives_5 ++ dktX0_gives_6
def dkwX0_gives_4 : List UInt8 := [182, 1, 149, 154, 0, 6, 167, 0, 21, 21, 7, 132, 7, 1, 154, 0, 13, 16, 10, 21, 9, 104, 21, 10]
abbrev dktX0_gives_4 : List UInt8 := dkwX0_gives_4 ++ dktX0_gives_5
def dkwX0_gives_3 : List UInt8 := [21, 9, 16, 20, 163, 0, 59, 4, 54, 10, 21, 10, 16, 9, 163, 0, 43, 42, 21, 9, 21, 10, 21, 4]
abbrev dktX0_gives_3 : List UInt8 := dkwX0_gives_3 ++ dktX0_gives_4
def dkwX0_gives_2 : List UInt8 := [182, 1, 142, 54, 6, 21, 6, 156, 0, 6, 21, 6, 172, 3, 54, 7, 16, 252, 54, 8, 4, 54, 9]
abbrev dktX0_gives_2 : List UInt8 := dkwX0_gives_2 ++ dktX0_gives_3
def dkwX0_gives_1 : List UInt8 := [153, 0, 14, 21, 5, 133, 9, 10, 184, 0, 19, 154, 0, 5, 2, 172, 42, 27, 28, 29, 5, 21, 4, 104]
abbrev dktX0_gives_1 : List UInt8 := dkwX0_gives_1 ++ dktX0_gives_2
def dkwX0_gives_0 : List UInt8 := [27, 184, 1, 89, 153, 0, 34, 28, 184, 1, 92, 153, 0, 27, 21, 4, 133, 10, 20, 1, 37, 184, 0, 19]
abbrev dktX0_gives_0 : List UInt8 := dkwX0_gives_0 ++ dktX0_gives_1
theorem dksX0_gives_0 : cX0_gives.data.toList.drop 0 = dktX0_gives_0 := by decide +kernel
theorem dksX0_gives_1 : cX0_gives.data.toList.drop 24 = dktX0_gives_1 := dk_seg dksX0_gives_0 24 rfl rfl
theorem dksX0_gives_2 : cX0_gives.data.toList.drop 48 = dktX0_gives_2 := dk_seg dksX0_gives_1 24 rfl rfl
theorem dksX0_gives_3 : cX0_gives.data.toList.drop 71 = dktX0_gives_3 := dk_seg dksX0_gives_2 23 rfl rfl
theorem dksX0_gives_4 : cX0_gives.data.toList.drop 95 = dktX0_gives_4 := dk_seg dksX0_gives_3 24 rfl rfl
theorem dksX0_gives_5 : cX0_gives.data.toList.drop 119 = dktX0_gives_5 := dk_seg dksX0_gives_4 24 rfl rfl
theorem dksX0_gives_6 : cX0_gives.data.toList.drop 141 = dktX0_gives_6 := dk_seg dksX0_gives_5 22 rfl rfl
theorem dX0_gives_0 : decode cX0_gives 0 = .ok (.iload_n 1, 1) := dk_27 (dk_at dksX0_gives_0 0 rfl rfl)
theorem dX0_gives_1 : decode cX0_gives 1 = .ok (.invokestatic 345, 3) := dk_184 1 89 (dk_at dksX0_gives_0 1 rfl rfl)
theorem dX0_gives_4 : decode cX0_gives 4 = .ok (.ifCond .eq 34, 3) := dk_153 0 34 (dk_at dksX0_gives_0 4 rfl rfl)
theorem dX0_gives_7 : decode cX0_gives 7 = .ok (.iload_n 2, 1) := dk_28 (dk_at dksX0_gives_0 7 rfl rfl)
theorem dX0_gives_8 : decode cX0_gives 8 = .ok (.invokestatic 348, 3) := dk_184 1 92 (dk_at dksX0_gives_0 8 rfl rfl)
theorem dX0_gives_11 : decode cX0_gives 11 = .ok (.ifCond .eq 27, 3) := dk_153 0 27 (dk_at dksX0_gives_0 11 rfl rfl)
theorem dX0_gives_14 : decode cX0_gives 14 = .ok (.iload 4, 2) := dk_21 4 (dk_at dksX0_gives_0 14 rfl rfl)
theorem dX0_gives_16 : decode cX0_gives 16 = .ok (.i2l, 1) := dk_133 (dk_at dksX0_gives_0 16 rfl rfl)
theorem dX0_gives_17 : decode cX0_gives 17 = .ok (.lconst 1, 1) := dk_10 (dk_at dksX0_gives_0 17 rfl rfl)
theorem dX0_gives_18 : decode cX0_gives 18 = .ok (.ldc2_w 293, 3) := dk_20 1 37 (dk_at dksX0_gives_0 18 rfl rfl)
theorem dX0_gives_21 : decode cX0_gives 21 = .ok (.invokestatic 19, 3) := dk_184 0 19 (dk_at dksX0_gives_0 21 rfl rfl)
theorem dX0_gives_24 : decode cX0_gives 24 = .ok (.ifCond .eq 14, 3) := dk_153 0 14 (dk_at dksX0_gives_1 0 rfl rfl)
theorem dX0_gives_27 : decode cX0_gives 27 = .ok (.iload 5, 2) := dk_21 5 (dk_at dksX0_gives_1 3 rfl rfl)
theorem dX0_gives_29 : decode cX0_gives 29 = .ok (.i2l, 1) := dk_133 (dk_at dksX0_gives_1 5 rfl rfl)
theorem dX0_gives_30 : decode cX0_gives 30 = .ok (.lconst 0, 1) := dk_9 (dk_at dksX0_gives_1 6 rfl rfl)
theorem dX0_gives_31 : decode cX0_gives 31 = .ok (.lconst 1, 1) := dk_10 (dk_at dksX0_gives_1 7 rfl rfl)
theorem dX0_gives_32 : decode cX0_gives 32 = .ok (.invokestatic 19, 3) := dk_184 0 19 (dk_at dksX0_gives_1 8 rfl rfl)
theorem dX0_gives_35 : decode cX0_gives 35 = .ok (.ifCond .ne 5, 3) := dk_154 0 5 (dk_at dksX0_gives_1 11 rfl rfl)
theorem dX0_gives_38 : decode cX0_gives 38 = .ok (.iconst (-1), 1) := dk_2 (dk_at dksX0_gives_1 14 rfl rfl)
theorem dX0_gives_39 : decode cX0_gives 39 = .ok (.ireturn, 1) := dk_172 (dk_at dksX0_gives_1 15 rfl rfl)
theorem dX0_gives_40 : decode cX0_gives 40 = .ok (.aload_n 0, 1) := dk_42 (dk_at dksX0_gives_1 16 rfl rfl)
theorem dX0_gives_41 : decode cX0_gives 41 = .ok (.iload_n 1, 1) := dk_27 (dk_at dksX0_gives_1 17 rfl rfl)
theorem dX0_gives_42 : decode cX0_gives 42 = .ok (.iload_n 2, 1) := dk_28 (dk_at dksX0_gives_1 18 rfl rfl)
theorem dX0_gives_43 : decode cX0_gives 43 = .ok (.iload_n 3, 1) := dk_29 (dk_at dksX0_gives_1 19 rfl rfl)
theorem dX0_gives_44 : decode cX0_gives 44 = .ok (.iconst 2, 1) := dk_5 (dk_at dksX0_gives_1 20 rfl rfl)
theorem dX0_gives_45 : decode cX0_gives 45 = .ok (.iload 4, 2) := dk_21 4 (dk_at dksX0_gives_1 21 rfl rfl)
theorem dX0_gives_47 : decode cX0_gives 47 = .ok (.imul, 1) := dk_104 (dk_at dksX0_gives_1 23 rfl rfl)
theorem dX0_gives_48 : decode cX0_gives 48 = .ok (.invokevirtual 398, 3) := dk_182 1 142 (dk_at dksX0_gives_2 0 rfl rfl)
theorem dX0_gives_51 : decode cX0_gives 51 = .ok (.istore 6, 2) := dk_54 6 (dk_at dksX0_gives_2 3 rfl rfl)
theorem dX0_gives_53 : decode cX0_gives 53 = .ok (.iload 6, 2) := dk_21 6 (dk_at dksX0_gives_2 5 rfl rfl)
theorem dX0_gives_55 : decode cX0_gives 55 = .ok (.ifCond .ge 6, 3) := dk_156 0 6 (dk_at dksX0_gives_2 7 rfl rfl)
theorem dX0_gives_58 : decode cX0_gives 58 = .ok (.iload 6, 2) := dk_21 6 (dk_at dksX0_gives_2 10 rfl rfl)
theorem dX0_gives_60 : decode cX0_gives 60 = .ok (.ireturn, 1) := dk_172 (dk_at dksX0_gives_2 12 rfl rfl)
theorem dX0_gives_61 : decode cX0_gives 61 = .ok (.iconst 0, 1) := dk_3 (dk_at dksX0_gives_2 13 rfl rfl)
theorem dX0_gives_62 : decode cX0_gives 62 = .ok (.istore 7, 2) := dk_54 7 (dk_at dksX0_gives_2 14 rfl rfl)
theorem dX0_gives_64 : decode cX0_gives 64 = .ok (.bipush (-4), 2) := dk_16 252 (dk_at dksX0_gives_2 16 rfl rfl)
theorem dX0_gives_66 : decode cX0_gives 66 = .ok (.istore 8, 2) := dk_54 8 (dk_at dksX0_gives_2 18 rfl rfl)
theorem dX0_gives_68 : decode cX0_gives 68 = .ok (.iconst 1, 1) := dk_4 (dk_at dksX0_gives_2 20 rfl rfl)
theorem dX0_gives_69 : decode cX0_gives 69 = .ok (.istore 9, 2) := dk_54 9 (dk_at dksX0_gives_2 21 rfl rfl)
theorem dX0_gives_71 : decode cX0_gives 71 = .ok (.iload 9, 2) := dk_21 9 (dk_at dksX0_gives_3 0 rfl rfl)
theorem dX0_gives_73 : decode cX0_gives 73 = .ok (.bipush 20, 2) := dk_16 20 (dk_at dksX0_gives_3 2 rfl rfl)
theorem dX0_gives_75 : decode cX0_gives 75 = .ok (.if_icmp .gt 59, 3) := dk_163 0 59 (dk_at dksX0_gives_3 4 rfl rfl)
theorem dX0_gives_78 : decode cX0_gives 78 = .ok (.iconst 1, 1) := dk_4 (dk_at dksX0_gives_3 7 rfl rfl)
theorem dX0_gives_79 : decode cX0_gives 79 = .ok (.istore 10, 2) := dk_54 10 (dk_at dksX0_gives_3 8 rfl rfl)
theorem dX0_gives_81 : decode cX0_gives 81 = .ok (.iload 10, 2) := dk_21 10 (dk_at dksX0_gives_3 10 rfl rfl)
theorem dX0_gives_83 : decode cX0_gives 83 = .ok (.bipush 9, 2) := dk_16 9 (dk_at dksX0_gives_3 12 rfl rfl)
theorem dX0_gives_85 : decode cX0_gives 85 = .ok (.if_icmp .gt 43, 3) := dk_163 0 43 (dk_at dksX0_gives_3 14 rfl rfl)
theorem dX0_gives_88 : decode cX0_gives 88 = .ok (.aload_n 0, 1) := dk_42 (dk_at dksX0_gives_3 17 rfl rfl)
theorem dX0_gives_89 : decode cX0_gives 89 = .ok (.iload 9, 2) := dk_21 9 (dk_at dksX0_gives_3 18 rfl rfl)
theorem dX0_gives_91 : decode cX0_gives 91 = .ok (.iload 10, 2) := dk_21 10 (dk_at dksX0_gives_3 20 rfl rfl)
theorem dX0_gives_93 : decode cX0_gives 93 = .ok (.iload 4, 2) := dk_21 4 (dk_at dksX0_gives_3 22 rfl rfl)
theorem dX0_gives_95 : decode cX0_gives 95 = .ok (.invokevirtual 405, 3) := dk_182 1 149 (dk_at dksX0_gives_4 0 rfl rfl)
theorem dX0_gives_98 : decode cX0_gives 98 = .ok (.ifCond .ne 6, 3) := dk_154 0 6 (dk_at dksX0_gives_4 3 rfl rfl)
theorem dX0_gives_101 : decode cX0_gives 101 = .ok (.goto 21, 3) := dk_167 0 21 (dk_at dksX0_gives_4 6 rfl rfl)
theorem dX0_gives_104 : decode cX0_gives 104 = .ok (.iload 7, 2) := dk_21 7 (dk_at dksX0_gives_4 9 rfl rfl)
theorem dX0_gives_106 : decode cX0_gives 106 = .ok (.iinc 7 1, 3) := dk_132 7 1 (dk_at dksX0_gives_4 11 rfl rfl)
theorem dX0_gives_109 : decode cX0_gives 109 = .ok (.ifCond .ne 13, 3) := dk_154 0 13 (dk_at dksX0_gives_4 14 rfl rfl)
theorem dX0_gives_112 : decode cX0_gives 112 = .ok (.bipush 10, 2) := dk_16 10 (dk_at dksX0_gives_4 17 rfl rfl)
theorem dX0_gives_114 : decode cX0_gives 114 = .ok (.iload 9, 2) := dk_21 9 (dk_at dksX0_gives_4 19 rfl rfl)
theorem dX0_gives_116 : decode cX0_gives 116 = .ok (.imul, 1) := dk_104 (dk_at dksX0_gives_4 21 rfl rfl)
theorem dX0_gives_117 : decode cX0_gives 117 = .ok (.iload 10, 2) := dk_21 10 (dk_at dksX0_gives_4 22 rfl rfl)
theorem dX0_gives_119 : decode cX0_gives 119 = .ok (.iadd, 1) := dk_96 (dk_at dksX0_gives_5 0 rfl rfl)
theorem dX0_gives_120 : decode cX0_gives 120 = .ok (.istore 8, 2) := dk_54 8 (dk_at dksX0_gives_5 1 rfl rfl)
theorem dX0_gives_122 : decode cX0_gives 122 = .ok (.iinc 10 1, 3) := dk_132 10 1 (dk_at dksX0_gives_5 3 rfl rfl)
theorem dX0_gives_125 : decode cX0_gives 125 = .ok (.goto (-44), 3) := dk_167 255 212 (dk_at dksX0_gives_5 6 rfl rfl)
theorem dX0_gives_128 : decode cX0_gives 128 = .ok (.iinc 9 1, 3) := dk_132 9 1 (dk_at dksX0_gives_5 9 rfl rfl)
theorem dX0_gives_131 : decode cX0_gives 131 = .ok (.goto (-60), 3) := dk_167 255 196 (dk_at dksX0_gives_5 12 rfl rfl)
theorem dX0_gives_134 : decode cX0_gives 134 = .ok (.iload 5, 2) := dk_21 5 (dk_at dksX0_gives_5 15 rfl rfl)
theorem dX0_gives_136 : decode cX0_gives 136 = .ok (.ifCond .ne 8, 3) := dk_154 0 8 (dk_at dksX0_gives_5 17 rfl rfl)
theorem dX0_gives_139 : decode cX0_gives 139 = .ok (.iload 7, 2) := dk_21 7 (dk_at dksX0_gives_5 20 rfl rfl)
theorem dX0_gives_141 : decode cX0_gives 141 = .ok (.goto 5, 3) := dk_167 0 5 (dk_at dksX0_gives_6 0 rfl rfl)
theorem dX0_gives_144 : decode cX0_gives 144 = .ok (.iload 8, 2) := dk_21 8 (dk_at dksX0_gives_6 3 rfl rfl)
theorem dX0_gives_146 : decode cX0_gives 146 = .ok (.ireturn, 1) := dk_172 (dk_at dksX0_gives_6 5 rfl rfl)
abbrev cX0_gives_2 : ByteArray := prog_1_method_67_code
def yX0_gives_2 : MethodName := ⟨RX0, "gives", "(III)Z"⟩
def dkwX0_gives_2_2 : List UInt8 := [180, 1, 131, 5, 21, 4, 104, 4, 96, 47, 148, 153, 0, 5, 3, 172, 132, 4, 1, 167, 255, 192, 4, 172]
abbrev dktX0_gives_2_2 : List UInt8 := dkwX0_gives_2_2 ++ []
def dkwX0_gives_2_1 : List UInt8 := [42, 180, 1, 131, 5, 21, 4, 104, 47, 27, 133, 101, 167, 0, 4, 9, 55, 5, 22, 5, 28, 133, 109, 42]
abbrev dktX0_gives_2_1 : List UInt8 := dkwX0_gives_2_1 ++ dktX0_gives_2_2
def dkwX0_gives_2_0 : List UInt8 := [3, 54, 4, 21, 4, 29, 162, 0, 64, 42, 180, 1, 131, 5, 21, 4, 104, 47, 27, 133, 148, 158, 0, 18]
abbrev dktX0_gives_2_0 : List UInt8 := dkwX0_gives_2_0 ++ dktX0_gives_2_1
theorem dksX0_gives_2_0 : cX0_gives_2.data.toList.drop 0 = dktX0_gives_2_0 := by decide +kernel
theorem dksX0_gives_2_1 : cX0_gives_2.data.toList.drop 24 = dktX0_gives_2_1 := dk_seg dksX0_gives_2_0 24 rfl rfl
theorem dksX0_gives_2_2 : cX0_gives_2.data.toList.drop 48 = dktX0_gives_2_2 := dk_seg dksX0_gives_2_1 24 rfl rfl
theorem dX0_gives_2_0 : decode cX0_gives_2 0 = .ok (.iconst 0, 1) := dk_3 (dk_at dksX0_gives_2_0 0 rfl rfl)
theorem dX0_gives_2_1 : decode cX0_gives_2 1 = .ok (.istore 4, 2) := dk_54 4 (dk_at dksX0_gives_2_0 1 rfl rfl)
theorem dX0_gives_2_3 : decode cX0_gives_2 3 = .ok (.iload 4, 2) := dk_21 4 (dk_at dksX0_gives_2_0 3 rfl rfl)
theorem dX0_gives_2_5 : decode cX0_gives_2 5 = .ok (.iload_n 3, 1) := dk_29 (dk_at dksX0_gives_2_0 5 rfl rfl)
theorem dX0_gives_2_6 : decode cX0_gives_2 6 = .ok (.if_icmp .ge 64, 3) := dk_162 0 64 (dk_at dksX0_gives_2_0 6 rfl rfl)
theorem dX0_gives_2_9 : decode cX0_gives_2 9 = .ok (.aload_n 0, 1) := dk_42 (dk_at dksX0_gives_2_0 9 rfl rfl)
theorem dX0_gives_2_10 : decode cX0_gives_2 10 = .ok (.getfield 387, 3) := dk_180 1 131 (dk_at dksX0_gives_2_0 10 rfl rfl)
theorem dX0_gives_2_13 : decode cX0_gives_2 13 = .ok (.iconst 2, 1) := dk_5 (dk_at dksX0_gives_2_0 13 rfl rfl)
theorem dX0_gives_2_14 : decode cX0_gives_2 14 = .ok (.iload 4, 2) := dk_21 4 (dk_at dksX0_gives_2_0 14 rfl rfl)
theorem dX0_gives_2_16 : decode cX0_gives_2 16 = .ok (.imul, 1) := dk_104 (dk_at dksX0_gives_2_0 16 rfl rfl)
theorem dX0_gives_2_17 : decode cX0_gives_2 17 = .ok (.laload, 1) := dk_47 (dk_at dksX0_gives_2_0 17 rfl rfl)
theorem dX0_gives_2_18 : decode cX0_gives_2 18 = .ok (.iload_n 1, 1) := dk_27 (dk_at dksX0_gives_2_0 18 rfl rfl)
theorem dX0_gives_2_19 : decode cX0_gives_2 19 = .ok (.i2l, 1) := dk_133 (dk_at dksX0_gives_2_0 19 rfl rfl)
theorem dX0_gives_2_20 : decode cX0_gives_2 20 = .ok (.lcmp, 1) := dk_148 (dk_at dksX0_gives_2_0 20 rfl rfl)
theorem dX0_gives_2_21 : decode cX0_gives_2 21 = .ok (.ifCond .le 18, 3) := dk_158 0 18 (dk_at dksX0_gives_2_0 21 rfl rfl)
theorem dX0_gives_2_24 : decode cX0_gives_2 24 = .ok (.aload_n 0, 1) := dk_42 (dk_at dksX0_gives_2_1 0 rfl rfl)
theorem dX0_gives_2_25 : decode cX0_gives_2 25 = .ok (.getfield 387, 3) := dk_180 1 131 (dk_at dksX0_gives_2_1 1 rfl rfl)
theorem dX0_gives_2_28 : decode cX0_gives_2 28 = .ok (.iconst 2, 1) := dk_5 (dk_at dksX0_gives_2_1 4 rfl rfl)
theorem dX0_gives_2_29 : decode cX0_gives_2 29 = .ok (.iload 4, 2) := dk_21 4 (dk_at dksX0_gives_2_1 5 rfl rfl)
theorem dX0_gives_2_31 : decode cX0_gives_2 31 = .ok (.imul, 1) := dk_104 (dk_at dksX0_gives_2_1 7 rfl rfl)
theorem dX0_gives_2_32 : decode cX0_gives_2 32 = .ok (.laload, 1) := dk_47 (dk_at dksX0_gives_2_1 8 rfl rfl)
theorem dX0_gives_2_33 : decode cX0_gives_2 33 = .ok (.iload_n 1, 1) := dk_27 (dk_at dksX0_gives_2_1 9 rfl rfl)
theorem dX0_gives_2_34 : decode cX0_gives_2 34 = .ok (.i2l, 1) := dk_133 (dk_at dksX0_gives_2_1 10 rfl rfl)
theorem dX0_gives_2_35 : decode cX0_gives_2 35 = .ok (.lsub, 1) := dk_101 (dk_at dksX0_gives_2_1 11 rfl rfl)
theorem dX0_gives_2_36 : decode cX0_gives_2 36 = .ok (.goto 4, 3) := dk_167 0 4 (dk_at dksX0_gives_2_1 12 rfl rfl)
theorem dX0_gives_2_39 : decode cX0_gives_2 39 = .ok (.lconst 0, 1) := dk_9 (dk_at dksX0_gives_2_1 15 rfl rfl)
theorem dX0_gives_2_40 : decode cX0_gives_2 40 = .ok (.lstore 5, 2) := dk_55 5 (dk_at dksX0_gives_2_1 16 rfl rfl)
theorem dX0_gives_2_42 : decode cX0_gives_2 42 = .ok (.lload 5, 2) := dk_22 5 (dk_at dksX0_gives_2_1 18 rfl rfl)
theorem dX0_gives_2_44 : decode cX0_gives_2 44 = .ok (.iload_n 2, 1) := dk_28 (dk_at dksX0_gives_2_1 20 rfl rfl)
theorem dX0_gives_2_45 : decode cX0_gives_2 45 = .ok (.i2l, 1) := dk_133 (dk_at dksX0_gives_2_1 21 rfl rfl)
theorem dX0_gives_2_46 : decode cX0_gives_2 46 = .ok (.ldiv, 1) := dk_109 (dk_at dksX0_gives_2_1 22 rfl rfl)
theorem dX0_gives_2_47 : decode cX0_gives_2 47 = .ok (.aload_n 0, 1) := dk_42 (dk_at dksX0_gives_2_1 23 rfl rfl)
theorem dX0_gives_2_48 : decode cX0_gives_2 48 = .ok (.getfield 387, 3) := dk_180 1 131 (dk_at dksX0_gives_2_2 0 rfl rfl)
theorem dX0_gives_2_51 : decode cX0_gives_2 51 = .ok (.iconst 2, 1) := dk_5 (dk_at dksX0_gives_2_2 3 rfl rfl)
theorem dX0_gives_2_52 : decode cX0_gives_2 52 = .ok (.iload 4, 2) := dk_21 4 (dk_at dksX0_gives_2_2 4 rfl rfl)
theorem dX0_gives_2_54 : decode cX0_gives_2 54 = .ok (.imul, 1) := dk_104 (dk_at dksX0_gives_2_2 6 rfl rfl)
theorem dX0_gives_2_55 : decode cX0_gives_2 55 = .ok (.iconst 1, 1) := dk_4 (dk_at dksX0_gives_2_2 7 rfl rfl)
theorem dX0_gives_2_56 : decode cX0_gives_2 56 = .ok (.iadd, 1) := dk_96 (dk_at dksX0_gives_2_2 8 rfl rfl)
theorem dX0_gives_2_57 : decode cX0_gives_2 57 = .ok (.laload, 1) := dk_47 (dk_at dksX0_gives_2_2 9 rfl rfl)
theorem dX0_gives_2_58 : decode cX0_gives_2 58 = .ok (.lcmp, 1) := dk_148 (dk_at dksX0_gives_2_2 10 rfl rfl)
theorem dX0_gives_2_59 : decode cX0_gives_2 59 = .ok (.ifCond .eq 5, 3) := dk_153 0 5 (dk_at dksX0_gives_2_2 11 rfl rfl)
theorem dX0_gives_2_62 : decode cX0_gives_2 62 = .ok (.iconst 0, 1) := dk_3 (dk_at dksX0_gives_2_2 14 rfl rfl)
theorem dX0_gives_2_63 : decode cX0_gives_2 63 = .ok (.ireturn, 1) := dk_172 (dk_at dksX0_gives_2_2 15 rfl rfl)
theorem dX0_gives_2_64 : decode cX0_gives_2 64 = .ok (.iinc 4 1, 3) := dk_132 4 1 (dk_at dksX0_gives_2_2 16 rfl rfl)
theorem dX0_gives_2_67 : decode cX0_gives_2 67 = .ok (.goto (-64), 3) := dk_167 255 192 (dk_at dksX0_gives_2_2 19 rfl rfl)
theorem dX0_gives_2_70 : decode cX0_gives_2 70 = .ok (.iconst 1, 1) := dk_4 (dk_at dksX0_gives_2_2 22 rfl rfl)
theorem dX0_gives_2_71 : decode cX0_gives_2 71 = .ok (.ireturn, 1) := dk_172 (dk_at dksX0_gives_2_2 23 rfl rfl)
abbrev cX0_log : ByteArray := prog_1_method_69_code
def yX0_log : MethodName := ⟨RX0, "log", "(IIII)I"⟩
def dkwX0_log_4 : List UInt8 := [184, 0, 151, 133, 184, 1, 115, 132, 7, 1, 167, 255, 208, 27, 172]
abbrev dktX0_log_4 : List UInt8 := dkwX0_log_4 ++ []
def dkwX0_log_3 : List UInt8 := [182, 0, 81, 87, 42, 180, 1, 95, 28, 50, 180, 1, 103, 29, 21, 4, 21, 7, 96, 25, 6, 182, 0, 148]
abbrev dktX0_log_3 : List UInt8 := dkwX0_log_3 ++ dktX0_log_4
def dkwX0_log_2 : List UInt8 := [42, 182, 1, 21, 58, 6, 3, 54, 7, 21, 7, 27, 162, 0, 48, 25, 6, 184, 0, 247, 42, 25, 6]
abbrev dktX0_log_2 : List UInt8 := dkwX0_log_2 ++ dktX0_log_3
def dkwX0_log_1 : List UInt8 := [154, 0, 5, 2, 172, 42, 28, 29, 21, 4, 27, 182, 1, 142, 54, 5, 21, 5, 156, 0, 6, 21, 5, 172]
abbrev dktX0_log_1 : List UInt8 := dkwX0_log_1 ++ dktX0_log_2
def dkwX0_log_0 : List UInt8 := [27, 133, 10, 20, 0, 245, 184, 0, 19, 153, 0, 17, 28, 184, 1, 89, 153, 0, 10, 29, 184, 1, 92]
abbrev dktX0_log_0 : List UInt8 := dkwX0_log_0 ++ dktX0_log_1
theorem dksX0_log_0 : cX0_log.data.toList.drop 0 = dktX0_log_0 := by decide +kernel
theorem dksX0_log_1 : cX0_log.data.toList.drop 23 = dktX0_log_1 := dk_seg dksX0_log_0 23 rfl rfl
theorem dksX0_log_2 : cX0_log.data.toList.drop 47 = dktX0_log_2 := dk_seg dksX0_log_1 24 rfl rfl
theorem dksX0_log_3 : cX0_log.data.toList.drop 70 = dktX0_log_3 := dk_seg dksX0_log_2 23 rfl rfl
theorem dksX0_log_4 : cX0_log.data.toList.drop 94 = dktX0_log_4 := dk_seg dksX0_log_3 24 rfl rfl
theorem dX0_log_0 : decode cX0_log 0 = .ok (.iload_n 1, 1) := dk_27 (dk_at dksX0_log_0 0 rfl rfl)
theorem dX0_log_1 : decode cX0_log 1 = .ok (.i2l, 1) := dk_133 (dk_at dksX0_log_0 1 rfl rfl)
theorem dX0_log_2 : decode cX0_log 2 = .ok (.lconst 1, 1) := dk_10 (dk_at dksX0_log_0 2 rfl rfl)
theorem dX0_log_3 : decode cX0_log 3 = .ok (.ldc2_w 245, 3) := dk_20 0 245 (dk_at dksX0_log_0 3 rfl rfl)
theorem dX0_log_6 : decode cX0_log 6 = .ok (.invokestatic 19, 3) := dk_184 0 19 (dk_at dksX0_log_0 6 rfl rfl)
theorem dX0_log_9 : decode cX0_log 9 = .ok (.ifCond .eq 17, 3) := dk_153 0 17 (dk_at dksX0_log_0 9 rfl rfl)
theorem dX0_log_12 : decode cX0_log 12 = .ok (.iload_n 2, 1) := dk_28 (dk_at dksX0_log_0 12 rfl rfl)
theorem dX0_log_13 : decode cX0_log 13 = .ok (.invokestatic 345, 3) := dk_184 1 89 (dk_at dksX0_log_0 13 rfl rfl)
theorem dX0_log_16 : decode cX0_log 16 = .ok (.ifCond .eq 10, 3) := dk_153 0 10 (dk_at dksX0_log_0 16 rfl rfl)
theorem dX0_log_19 : decode cX0_log 19 = .ok (.iload_n 3, 1) := dk_29 (dk_at dksX0_log_0 19 rfl rfl)
theorem dX0_log_20 : decode cX0_log 20 = .ok (.invokestatic 348, 3) := dk_184 1 92 (dk_at dksX0_log_0 20 rfl rfl)
theorem dX0_log_23 : decode cX0_log 23 = .ok (.ifCond .ne 5, 3) := dk_154 0 5 (dk_at dksX0_log_1 0 rfl rfl)
theorem dX0_log_26 : decode cX0_log 26 = .ok (.iconst (-1), 1) := dk_2 (dk_at dksX0_log_1 3 rfl rfl)
theorem dX0_log_27 : decode cX0_log 27 = .ok (.ireturn, 1) := dk_172 (dk_at dksX0_log_1 4 rfl rfl)
theorem dX0_log_28 : decode cX0_log 28 = .ok (.aload_n 0, 1) := dk_42 (dk_at dksX0_log_1 5 rfl rfl)
theorem dX0_log_29 : decode cX0_log 29 = .ok (.iload_n 2, 1) := dk_28 (dk_at dksX0_log_1 6 rfl rfl)
theorem dX0_log_30 : decode cX0_log 30 = .ok (.iload_n 3, 1) := dk_29 (dk_at dksX0_log_1 7 rfl rfl)
theorem dX0_log_31 : decode cX0_log 31 = .ok (.iload 4, 2) := dk_21 4 (dk_at dksX0_log_1 8 rfl rfl)
theorem dX0_log_33 : decode cX0_log 33 = .ok (.iload_n 1, 1) := dk_27 (dk_at dksX0_log_1 10 rfl rfl)
theorem dX0_log_34 : decode cX0_log 34 = .ok (.invokevirtual 398, 3) := dk_182 1 142 (dk_at dksX0_log_1 11 rfl rfl)
theorem dX0_log_37 : decode cX0_log 37 = .ok (.istore 5, 2) := dk_54 5 (dk_at dksX0_log_1 14 rfl rfl)
theorem dX0_log_39 : decode cX0_log 39 = .ok (.iload 5, 2) := dk_21 5 (dk_at dksX0_log_1 16 rfl rfl)
theorem dX0_log_41 : decode cX0_log 41 = .ok (.ifCond .ge 6, 3) := dk_156 0 6 (dk_at dksX0_log_1 18 rfl rfl)
theorem dX0_log_44 : decode cX0_log 44 = .ok (.iload 5, 2) := dk_21 5 (dk_at dksX0_log_1 21 rfl rfl)
theorem dX0_log_46 : decode cX0_log 46 = .ok (.ireturn, 1) := dk_172 (dk_at dksX0_log_1 23 rfl rfl)
theorem dX0_log_47 : decode cX0_log 47 = .ok (.aload_n 0, 1) := dk_42 (dk_at dksX0_log_2 0 rfl rfl)
theorem dX0_log_48 : decode cX0_log 48 = .ok (.invokevirtual 277, 3) := dk_182 1 21 (dk_at dksX0_log_2 1 rfl rfl)
theorem dX0_log_51 : decode cX0_log 51 = .ok (.astore 6, 2) := dk_58 6 (dk_at dksX0_log_2 4 rfl rfl)
theorem dX0_log_53 : decode cX0_log 53 = .ok (.iconst 0, 1) := dk_3 (dk_at dksX0_log_2 6 rfl rfl)
theorem dX0_log_54 : decode cX0_log 54 = .ok (.istore 7, 2) := dk_54 7 (dk_at dksX0_log_2 7 rfl rfl)
theorem dX0_log_56 : decode cX0_log 56 = .ok (.iload 7, 2) := dk_21 7 (dk_at dksX0_log_2 9 rfl rfl)
theorem dX0_log_58 : decode cX0_log 58 = .ok (.iload_n 1, 1) := dk_27 (dk_at dksX0_log_2 11 rfl rfl)
theorem dX0_log_59 : decode cX0_log 59 = .ok (.if_icmp .ge 48, 3) := dk_162 0 48 (dk_at dksX0_log_2 12 rfl rfl)
theorem dX0_log_62 : decode cX0_log 62 = .ok (.aload 6, 2) := dk_25 6 (dk_at dksX0_log_2 15 rfl rfl)
theorem dX0_log_64 : decode cX0_log 64 = .ok (.invokestatic 247, 3) := dk_184 0 247 (dk_at dksX0_log_2 17 rfl rfl)
theorem dX0_log_67 : decode cX0_log 67 = .ok (.aload_n 0, 1) := dk_42 (dk_at dksX0_log_2 20 rfl rfl)
theorem dX0_log_68 : decode cX0_log 68 = .ok (.aload 6, 2) := dk_25 6 (dk_at dksX0_log_2 21 rfl rfl)
theorem dX0_log_70 : decode cX0_log 70 = .ok (.invokevirtual 81, 3) := dk_182 0 81 (dk_at dksX0_log_3 0 rfl rfl)
theorem dX0_log_73 : decode cX0_log 73 = .ok (.pop, 1) := dk_87 (dk_at dksX0_log_3 3 rfl rfl)
theorem dX0_log_74 : decode cX0_log 74 = .ok (.aload_n 0, 1) := dk_42 (dk_at dksX0_log_3 4 rfl rfl)
theorem dX0_log_75 : decode cX0_log 75 = .ok (.getfield 351, 3) := dk_180 1 95 (dk_at dksX0_log_3 5 rfl rfl)
theorem dX0_log_78 : decode cX0_log 78 = .ok (.iload_n 2, 1) := dk_28 (dk_at dksX0_log_3 8 rfl rfl)
theorem dX0_log_79 : decode cX0_log 79 = .ok (.aaload, 1) := dk_50 (dk_at dksX0_log_3 9 rfl rfl)
theorem dX0_log_80 : decode cX0_log 80 = .ok (.getfield 359, 3) := dk_180 1 103 (dk_at dksX0_log_3 10 rfl rfl)
theorem dX0_log_83 : decode cX0_log 83 = .ok (.iload_n 3, 1) := dk_29 (dk_at dksX0_log_3 13 rfl rfl)
theorem dX0_log_84 : decode cX0_log 84 = .ok (.iload 4, 2) := dk_21 4 (dk_at dksX0_log_3 14 rfl rfl)
theorem dX0_log_86 : decode cX0_log 86 = .ok (.iload 7, 2) := dk_21 7 (dk_at dksX0_log_3 16 rfl rfl)
theorem dX0_log_88 : decode cX0_log 88 = .ok (.iadd, 1) := dk_96 (dk_at dksX0_log_3 18 rfl rfl)
theorem dX0_log_89 : decode cX0_log 89 = .ok (.aload 6, 2) := dk_25 6 (dk_at dksX0_log_3 19 rfl rfl)
theorem dX0_log_91 : decode cX0_log 91 = .ok (.invokevirtual 148, 3) := dk_182 0 148 (dk_at dksX0_log_3 21 rfl rfl)
theorem dX0_log_94 : decode cX0_log 94 = .ok (.invokestatic 151, 3) := dk_184 0 151 (dk_at dksX0_log_4 0 rfl rfl)
theorem dX0_log_97 : decode cX0_log 97 = .ok (.i2l, 1) := dk_133 (dk_at dksX0_log_4 3 rfl rfl)
theorem dX0_log_98 : decode cX0_log 98 = .ok (.invokestatic 371, 3) := dk_184 1 115 (dk_at dksX0_log_4 4 rfl rfl)
theorem dX0_log_101 : decode cX0_log 101 = .ok (.iinc 7 1, 3) := dk_132 7 1 (dk_at dksX0_log_4 7 rfl rfl)
theorem dX0_log_104 : decode cX0_log 104 = .ok (.goto (-48), 3) := dk_167 255 208 (dk_at dksX0_log_4 10 rfl rfl)
theorem dX0_log_107 : decode cX0_log 107 = .ok (.iload_n 1, 1) := dk_27 (dk_at dksX0_log_4 13 rfl rfl)
theorem dX0_log_108 : decode cX0_log 108 = .ok (.ireturn, 1) := dk_172 (dk_at dksX0_log_4 14 rfl rfl)
abbrev cX0_copy : ByteArray := prog_1_method_70_code
def yX0_copy : MethodName := ⟨RX0, "copy", "(IIIII)I"⟩
def dkwX0_copy_2 : List UInt8 := [58, 6, 16, 245, 172, 58, 6, 16, 244, 172, 58, 6, 16, 243, 172]
abbrev dktX0_copy_2 : List UInt8 := dkwX0_copy_2 ++ []
def dkwX0_copy_1 : List UInt8 := [180, 1, 103, 28, 42, 180, 1, 95, 29, 50, 180, 1, 103, 21, 4, 21, 5, 184, 1, 152, 21, 5, 172]
abbrev dktX0_copy_1 : List UInt8 := dkwX0_copy_1 ++ dktX0_copy_2
def dkwX0_copy_0 : List UInt8 := [27, 184, 1, 89, 153, 0, 10, 29, 184, 1, 89, 154, 0, 5, 2, 172, 42, 180, 1, 95, 27, 50]
abbrev dktX0_copy_0 : List UInt8 := dkwX0_copy_0 ++ dktX0_copy_1
theorem dksX0_copy_0 : cX0_copy.data.toList.drop 0 = dktX0_copy_0 := by decide +kernel
theorem dksX0_copy_1 : cX0_copy.data.toList.drop 22 = dktX0_copy_1 := dk_seg dksX0_copy_0 22 rfl rfl
theorem dksX0_copy_2 : cX0_copy.data.toList.drop 45 = dktX0_copy_2 := dk_seg dksX0_copy_1 23 rfl rfl
theorem dX0_copy_0 : decode cX0_copy 0 = .ok (.iload_n 1, 1) := dk_27 (dk_at dksX0_copy_0 0 rfl rfl)
theorem dX0_copy_1 : decode cX0_copy 1 = .ok (.invokestatic 345, 3) := dk_184 1 89 (dk_at dksX0_copy_0 1 rfl rfl)
theorem dX0_copy_4 : decode cX0_copy 4 = .ok (.ifCond .eq 10, 3) := dk_153 0 10 (dk_at dksX0_copy_0 4 rfl rfl)
theorem dX0_copy_7 : decode cX0_copy 7 = .ok (.iload_n 3, 1) := dk_29 (dk_at dksX0_copy_0 7 rfl rfl)
theorem dX0_copy_8 : decode cX0_copy 8 = .ok (.invokestatic 345, 3) := dk_184 1 89 (dk_at dksX0_copy_0 8 rfl rfl)
theorem dX0_copy_11 : decode cX0_copy 11 = .ok (.ifCond .ne 5, 3) := dk_154 0 5 (dk_at dksX0_copy_0 11 rfl rfl)
theorem dX0_copy_14 : decode cX0_copy 14 = .ok (.iconst (-1), 1) := dk_2 (dk_at dksX0_copy_0 14 rfl rfl)
theorem dX0_copy_15 : decode cX0_copy 15 = .ok (.ireturn, 1) := dk_172 (dk_at dksX0_copy_0 15 rfl rfl)
theorem dX0_copy_16 : decode cX0_copy 16 = .ok (.aload_n 0, 1) := dk_42 (dk_at dksX0_copy_0 16 rfl rfl)
theorem dX0_copy_17 : decode cX0_copy 17 = .ok (.getfield 351, 3) := dk_180 1 95 (dk_at dksX0_copy_0 17 rfl rfl)
theorem dX0_copy_20 : decode cX0_copy 20 = .ok (.iload_n 1, 1) := dk_27 (dk_at dksX0_copy_0 20 rfl rfl)
theorem dX0_copy_21 : decode cX0_copy 21 = .ok (.aaload, 1) := dk_50 (dk_at dksX0_copy_0 21 rfl rfl)
theorem dX0_copy_22 : decode cX0_copy 22 = .ok (.getfield 359, 3) := dk_180 1 103 (dk_at dksX0_copy_1 0 rfl rfl)
theorem dX0_copy_25 : decode cX0_copy 25 = .ok (.iload_n 2, 1) := dk_28 (dk_at dksX0_copy_1 3 rfl rfl)
theorem dX0_copy_26 : decode cX0_copy 26 = .ok (.aload_n 0, 1) := dk_42 (dk_at dksX0_copy_1 4 rfl rfl)
theorem dX0_copy_27 : decode cX0_copy 27 = .ok (.getfield 351, 3) := dk_180 1 95 (dk_at dksX0_copy_1 5 rfl rfl)
theorem dX0_copy_30 : decode cX0_copy 30 = .ok (.iload_n 3, 1) := dk_29 (dk_at dksX0_copy_1 8 rfl rfl)
theorem dX0_copy_31 : decode cX0_copy 31 = .ok (.aaload, 1) := dk_50 (dk_at dksX0_copy_1 9 rfl rfl)
theorem dX0_copy_32 : decode cX0_copy 32 = .ok (.getfield 359, 3) := dk_180 1 103 (dk_at dksX0_copy_1 10 rfl rfl)
theorem dX0_copy_35 : decode cX0_copy 35 = .ok (.iload 4, 2) := dk_21 4 (dk_at dksX0_copy_1 13 rfl rfl)
theorem dX0_copy_37 : decode cX0_copy 37 = .ok (.iload 5, 2) := dk_21 5 (dk_at dksX0_copy_1 15 rfl rfl)
theorem dX0_copy_39 : decode cX0_copy 39 = .ok (.invokestatic 408, 3) := dk_184 1 152 (dk_at dksX0_copy_1 17 rfl rfl)
theorem dX0_copy_42 : decode cX0_copy 42 = .ok (.iload 5, 2) := dk_21 5 (dk_at dksX0_copy_1 20 rfl rfl)
theorem dX0_copy_44 : decode cX0_copy 44 = .ok (.ireturn, 1) := dk_172 (dk_at dksX0_copy_1 22 rfl rfl)
theorem dX0_copy_45 : decode cX0_copy 45 = .ok (.astore 6, 2) := dk_58 6 (dk_at dksX0_copy_2 0 rfl rfl)
theorem dX0_copy_47 : decode cX0_copy 47 = .ok (.bipush (-11), 2) := dk_16 245 (dk_at dksX0_copy_2 2 rfl rfl)
theorem dX0_copy_49 : decode cX0_copy 49 = .ok (.ireturn, 1) := dk_172 (dk_at dksX0_copy_2 4 rfl rfl)
theorem dX0_copy_50 : decode cX0_copy 50 = .ok (.astore 6, 2) := dk_58 6 (dk_at dksX0_copy_2 5 rfl rfl)
theorem dX0_copy_52 : decode cX0_copy 52 = .ok (.bipush (-12), 2) := dk_16 244 (dk_at dksX0_copy_2 7 rfl rfl)
theorem dX0_copy_54 : decode cX0_copy 54 = .ok (.ireturn, 1) := dk_172 (dk_at dksX0_copy_2 9 rfl rfl)
theorem dX0_copy_55 : decode cX0_copy 55 = .ok (.astore 6, 2) := dk_58 6 (dk_at dksX0_copy_2 10 rfl rfl)
theorem dX0_copy_57 : decode cX0_copy 57 = .ok (.bipush (-13), 2) := dk_16 243 (dk_at dksX0_copy_2 12 rfl rfl)
theorem dX0_copy_59 : decode cX0_copy 59 = .ok (.ireturn, 1) := dk_172 (dk_at dksX0_copy_2 14 rfl rfl)
abbrev cX0_init : ByteArray := prog_1_method_71_code
def yX0_init : MethodName := ⟨RX0, "<init>", "()V"⟩
def dkwX0_init_9 : List UInt8 := [181, 0, 251, 177]
abbrev dktX0_init_9 : List UInt8 := dkwX0_init_9 ++ []
def dkwX0_init_8 : List UInt8 := [180, 0, 9, 16, 20, 181, 0, 37, 42, 180, 0, 9, 16, 8, 181, 0, 145, 42, 180, 0, 9, 4]
abbrev dktX0_init_8 : List UInt8 := dkwX0_init_8 ++ dktX0_init_9
def dkwX0_init_7 : List UInt8 := [162, 0, 22, 42, 180, 1, 95, 27, 187, 1, 104, 89, 183, 1, 187, 83, 132, 1, 1, 167, 255, 235, 42]
abbrev dktX0_init_7 : List UInt8 := dkwX0_init_7 ++ dktX0_init_8
def dkwX0_init_6 : List UInt8 := [181, 1, 70, 42, 7, 189, 1, 104, 181, 1, 95, 42, 16, 24, 188, 11, 181, 1, 131, 3, 60, 27, 7]
abbrev dktX0_init_6 : List UInt8 := dkwX0_init_6 ++ dktX0_init_7
def dkwX0_init_5 : List UInt8 := [181, 0, 112, 42, 187, 0, 14, 89, 42, 183, 0, 213, 181, 1, 67, 42, 187, 0, 117, 89, 183, 1, 186]
abbrev dktX0_init_5 : List UInt8 := dkwX0_init_5 ++ dktX0_init_6
def dkwX0_init_4 : List UInt8 := [16, 90, 188, 8, 181, 0, 164, 42, 16, 40, 188, 10, 181, 0, 192, 42, 187, 0, 117, 89, 183, 1, 186]
abbrev dktX0_init_4 : List UInt8 := dkwX0_init_4 ++ dktX0_init_5
def dkwX0_init_3 : List UInt8 := [181, 0, 9, 42, 187, 0, 14, 89, 42, 183, 0, 213, 181, 1, 18, 42, 16, 8, 188, 10, 181, 0, 71, 42]
abbrev dktX0_init_3 : List UInt8 := dkwX0_init_3 ++ dktX0_init_4
def dkwX0_init_2 : List UInt8 := [83, 89, 7, 187, 1, 179, 89, 183, 1, 181, 83, 181, 1, 182, 42, 187, 0, 14, 89, 42, 183, 0, 213]
abbrev dktX0_init_2 : List UInt8 := dkwX0_init_2 ++ dktX0_init_3
def dkwX0_init_1 : List UInt8 := [89, 183, 1, 172, 83, 89, 5, 187, 1, 173, 89, 183, 1, 175, 83, 89, 6, 187, 1, 176, 89, 183, 1, 178]
abbrev dktX0_init_1 : List UInt8 := dkwX0_init_1 ++ dktX0_init_2
def dkwX0_init_0 : List UInt8 := [42, 183, 1, 162, 42, 8, 189, 1, 165, 89, 3, 187, 1, 167, 89, 183, 1, 169, 83, 89, 4, 187, 1, 170]
abbrev dktX0_init_0 : List UInt8 := dkwX0_init_0 ++ dktX0_init_1
theorem dksX0_init_0 : cX0_init.data.toList.drop 0 = dktX0_init_0 := by decide +kernel
theorem dksX0_init_1 : cX0_init.data.toList.drop 24 = dktX0_init_1 := dk_seg dksX0_init_0 24 rfl rfl
theorem dksX0_init_2 : cX0_init.data.toList.drop 48 = dktX0_init_2 := dk_seg dksX0_init_1 24 rfl rfl
theorem dksX0_init_3 : cX0_init.data.toList.drop 71 = dktX0_init_3 := dk_seg dksX0_init_2 23 rfl rfl
theorem dksX0_init_4 : cX0_init.data.toList.drop 95 = dktX0_init_4 := dk_seg dksX0_init_3 24 rfl rfl
theorem dksX0_init_5 : cX0_init.data.toList.drop 118 = dktX0_init_5 := dk_seg dksX0_init_4 23 rfl rfl
theorem dksX0_init_6 : cX0_init.data.toList.drop 141 = dktX0_init_6 := dk_seg dksX0_init_5 23 rfl rfl
theorem dksX0_init_7 : cX0_init.data.toList.drop 164 = dktX0_init_7 := dk_seg dksX0_init_6 23 rfl rfl
theorem dksX0_init_8 : cX0_init.data.toList.drop 187 = dktX0_init_8 := dk_seg dksX0_init_7 23 rfl rfl
theorem dksX0_init_9 : cX0_init.data.toList.drop 209 = dktX0_init_9 := dk_seg dksX0_init_8 22 rfl rfl
theorem dX0_init_0 : decode cX0_init 0 = .ok (.aload_n 0, 1) := dk_42 (dk_at dksX0_init_0 0 rfl rfl)
theorem dX0_init_1 : decode cX0_init 1 = .ok (.invokespecial 418, 3) := dk_183 1 162 (dk_at dksX0_init_0 1 rfl rfl)
theorem dX0_init_4 : decode cX0_init 4 = .ok (.aload_n 0, 1) := dk_42 (dk_at dksX0_init_0 4 rfl rfl)
theorem dX0_init_5 : decode cX0_init 5 = .ok (.iconst 5, 1) := dk_8 (dk_at dksX0_init_0 5 rfl rfl)
theorem dX0_init_6 : decode cX0_init 6 = .ok (.anewarray 421, 3) := dk_189 1 165 (dk_at dksX0_init_0 6 rfl rfl)
theorem dX0_init_9 : decode cX0_init 9 = .ok (.dup, 1) := dk_89 (dk_at dksX0_init_0 9 rfl rfl)
theorem dX0_init_10 : decode cX0_init 10 = .ok (.iconst 0, 1) := dk_3 (dk_at dksX0_init_0 10 rfl rfl)
theorem dX0_init_11 : decode cX0_init 11 = .ok (.new 423, 3) := dk_187 1 167 (dk_at dksX0_init_0 11 rfl rfl)
theorem dX0_init_14 : decode cX0_init 14 = .ok (.dup, 1) := dk_89 (dk_at dksX0_init_0 14 rfl rfl)
theorem dX0_init_15 : decode cX0_init 15 = .ok (.invokespecial 425, 3) := dk_183 1 169 (dk_at dksX0_init_0 15 rfl rfl)
theorem dX0_init_18 : decode cX0_init 18 = .ok (.aastore, 1) := dk_83 (dk_at dksX0_init_0 18 rfl rfl)
theorem dX0_init_19 : decode cX0_init 19 = .ok (.dup, 1) := dk_89 (dk_at dksX0_init_0 19 rfl rfl)
theorem dX0_init_20 : decode cX0_init 20 = .ok (.iconst 1, 1) := dk_4 (dk_at dksX0_init_0 20 rfl rfl)
theorem dX0_init_21 : decode cX0_init 21 = .ok (.new 426, 3) := dk_187 1 170 (dk_at dksX0_init_0 21 rfl rfl)
theorem dX0_init_24 : decode cX0_init 24 = .ok (.dup, 1) := dk_89 (dk_at dksX0_init_1 0 rfl rfl)
theorem dX0_init_25 : decode cX0_init 25 = .ok (.invokespecial 428, 3) := dk_183 1 172 (dk_at dksX0_init_1 1 rfl rfl)
theorem dX0_init_28 : decode cX0_init 28 = .ok (.aastore, 1) := dk_83 (dk_at dksX0_init_1 4 rfl rfl)
theorem dX0_init_29 : decode cX0_init 29 = .ok (.dup, 1) := dk_89 (dk_at dksX0_init_1 5 rfl rfl)
theorem dX0_init_30 : decode cX0_init 30 = .ok (.iconst 2, 1) := dk_5 (dk_at dksX0_init_1 6 rfl rfl)
theorem dX0_init_31 : decode cX0_init 31 = .ok (.new 429, 3) := dk_187 1 173 (dk_at dksX0_init_1 7 rfl rfl)
theorem dX0_init_34 : decode cX0_init 34 = .ok (.dup, 1) := dk_89 (dk_at dksX0_init_1 10 rfl rfl)
theorem dX0_init_35 : decode cX0_init 35 = .ok (.invokespecial 431, 3) := dk_183 1 175 (dk_at dksX0_init_1 11 rfl rfl)
theorem dX0_init_38 : decode cX0_init 38 = .ok (.aastore, 1) := dk_83 (dk_at dksX0_init_1 14 rfl rfl)
theorem dX0_init_39 : decode cX0_init 39 = .ok (.dup, 1) := dk_89 (dk_at dksX0_init_1 15 rfl rfl)
theorem dX0_init_40 : decode cX0_init 40 = .ok (.iconst 3, 1) := dk_6 (dk_at dksX0_init_1 16 rfl rfl)
theorem dX0_init_41 : decode cX0_init 41 = .ok (.new 432, 3) := dk_187 1 176 (dk_at dksX0_init_1 17 rfl rfl)
theorem dX0_init_44 : decode cX0_init 44 = .ok (.dup, 1) := dk_89 (dk_at dksX0_init_1 20 rfl rfl)
theorem dX0_init_45 : decode cX0_init 45 = .ok (.invokespecial 434, 3) := dk_183 1 178 (dk_at dksX0_init_1 21 rfl rfl)
theorem dX0_init_48 : decode cX0_init 48 = .ok (.aastore, 1) := dk_83 (dk_at dksX0_init_2 0 rfl rfl)
theorem dX0_init_49 : decode cX0_init 49 = .ok (.dup, 1) := dk_89 (dk_at dksX0_init_2 1 rfl rfl)
theorem dX0_init_50 : decode cX0_init 50 = .ok (.iconst 4, 1) := dk_7 (dk_at dksX0_init_2 2 rfl rfl)
theorem dX0_init_51 : decode cX0_init 51 = .ok (.new 435, 3) := dk_187 1 179 (dk_at dksX0_init_2 3 rfl rfl)
theorem dX0_init_54 : decode cX0_init 54 = .ok (.dup, 1) := dk_89 (dk_at dksX0_init_2 6 rfl rfl)
theorem dX0_init_55 : decode cX0_init 55 = .ok (.invokespecial 437, 3) := dk_183 1 181 (dk_at dksX0_init_2 7 rfl rfl)
theorem dX0_init_58 : decode cX0_init 58 = .ok (.aastore, 1) := dk_83 (dk_at dksX0_init_2 10 rfl rfl)
theorem dX0_init_59 : decode cX0_init 59 = .ok (.putfield 438, 3) := dk_181 1 182 (dk_at dksX0_init_2 11 rfl rfl)
theorem dX0_init_62 : decode cX0_init 62 = .ok (.aload_n 0, 1) := dk_42 (dk_at dksX0_init_2 14 rfl rfl)
theorem dX0_init_63 : decode cX0_init 63 = .ok (.new 14, 3) := dk_187 0 14 (dk_at dksX0_init_2 15 rfl rfl)
theorem dX0_init_66 : decode cX0_init 66 = .ok (.dup, 1) := dk_89 (dk_at dksX0_init_2 18 rfl rfl)
theorem dX0_init_67 : decode cX0_init 67 = .ok (.aload_n 0, 1) := dk_42 (dk_at dksX0_init_2 19 rfl rfl)
theorem dX0_init_68 : decode cX0_init 68 = .ok (.invokespecial 213, 3) := dk_183 0 213 (dk_at dksX0_init_2 20 rfl rfl)
theorem dX0_init_71 : decode cX0_init 71 = .ok (.putfield 9, 3) := dk_181 0 9 (dk_at dksX0_init_3 0 rfl rfl)
theorem dX0_init_74 : decode cX0_init 74 = .ok (.aload_n 0, 1) := dk_42 (dk_at dksX0_init_3 3 rfl rfl)
theorem dX0_init_75 : decode cX0_init 75 = .ok (.new 14, 3) := dk_187 0 14 (dk_at dksX0_init_3 4 rfl rfl)
theorem dX0_init_78 : decode cX0_init 78 = .ok (.dup, 1) := dk_89 (dk_at dksX0_init_3 7 rfl rfl)
theorem dX0_init_79 : decode cX0_init 79 = .ok (.aload_n 0, 1) := dk_42 (dk_at dksX0_init_3 8 rfl rfl)
theorem dX0_init_80 : decode cX0_init 80 = .ok (.invokespecial 213, 3) := dk_183 0 213 (dk_at dksX0_init_3 9 rfl rfl)
theorem dX0_init_83 : decode cX0_init 83 = .ok (.putfield 274, 3) := dk_181 1 18 (dk_at dksX0_init_3 12 rfl rfl)
theorem dX0_init_86 : decode cX0_init 86 = .ok (.aload_n 0, 1) := dk_42 (dk_at dksX0_init_3 15 rfl rfl)
theorem dX0_init_87 : decode cX0_init 87 = .ok (.bipush 8, 2) := dk_16 8 (dk_at dksX0_init_3 16 rfl rfl)
theorem dX0_init_89 : decode cX0_init 89 = .ok (.newarray .int, 2) := dk_188_10 (dk_at dksX0_init_3 18 rfl rfl)
theorem dX0_init_91 : decode cX0_init 91 = .ok (.putfield 71, 3) := dk_181 0 71 (dk_at dksX0_init_3 20 rfl rfl)
theorem dX0_init_94 : decode cX0_init 94 = .ok (.aload_n 0, 1) := dk_42 (dk_at dksX0_init_3 23 rfl rfl)
theorem dX0_init_95 : decode cX0_init 95 = .ok (.bipush 90, 2) := dk_16 90 (dk_at dksX0_init_4 0 rfl rfl)
theorem dX0_init_97 : decode cX0_init 97 = .ok (.newarray .byte, 2) := dk_188_8 (dk_at dksX0_init_4 2 rfl rfl)
theorem dX0_init_99 : decode cX0_init 99 = .ok (.putfield 164, 3) := dk_181 0 164 (dk_at dksX0_init_4 4 rfl rfl)
theorem dX0_init_102 : decode cX0_init 102 = .ok (.aload_n 0, 1) := dk_42 (dk_at dksX0_init_4 7 rfl rfl)
theorem dX0_init_103 : decode cX0_init 103 = .ok (.bipush 40, 2) := dk_16 40 (dk_at dksX0_init_4 8 rfl rfl)
theorem dX0_init_105 : decode cX0_init 105 = .ok (.newarray .int, 2) := dk_188_10 (dk_at dksX0_init_4 10 rfl rfl)
theorem dX0_init_107 : decode cX0_init 107 = .ok (.putfield 192, 3) := dk_181 0 192 (dk_at dksX0_init_4 12 rfl rfl)
theorem dX0_init_110 : decode cX0_init 110 = .ok (.aload_n 0, 1) := dk_42 (dk_at dksX0_init_4 15 rfl rfl)
theorem dX0_init_111 : decode cX0_init 111 = .ok (.new 117, 3) := dk_187 0 117 (dk_at dksX0_init_4 16 rfl rfl)
theorem dX0_init_114 : decode cX0_init 114 = .ok (.dup, 1) := dk_89 (dk_at dksX0_init_4 19 rfl rfl)
theorem dX0_init_115 : decode cX0_init 115 = .ok (.invokespecial 442, 3) := dk_183 1 186 (dk_at dksX0_init_4 20 rfl rfl)
theorem dX0_init_118 : decode cX0_init 118 = .ok (.putfield 112, 3) := dk_181 0 112 (dk_at dksX0_init_5 0 rfl rfl)
theorem dX0_init_121 : decode cX0_init 121 = .ok (.aload_n 0, 1) := dk_42 (dk_at dksX0_init_5 3 rfl rfl)
theorem dX0_init_122 : decode cX0_init 122 = .ok (.new 14, 3) := dk_187 0 14 (dk_at dksX0_init_5 4 rfl rfl)
theorem dX0_init_125 : decode cX0_init 125 = .ok (.dup, 1) := dk_89 (dk_at dksX0_init_5 7 rfl rfl)
theorem dX0_init_126 : decode cX0_init 126 = .ok (.aload_n 0, 1) := dk_42 (dk_at dksX0_init_5 8 rfl rfl)
theorem dX0_init_127 : decode cX0_init 127 = .ok (.invokespecial 213, 3) := dk_183 0 213 (dk_at dksX0_init_5 9 rfl rfl)
theorem dX0_init_130 : decode cX0_init 130 = .ok (.putfield 323, 3) := dk_181 1 67 (dk_at dksX0_init_5 12 rfl rfl)
theorem dX0_init_133 : decode cX0_init 133 = .ok (.aload_n 0, 1) := dk_42 (dk_at dksX0_init_5 15 rfl rfl)
theorem dX0_init_134 : decode cX0_init 134 = .ok (.new 117, 3) := dk_187 0 117 (dk_at dksX0_init_5 16 rfl rfl)
theorem dX0_init_137 : decode cX0_init 137 = .ok (.dup, 1) := dk_89 (dk_at dksX0_init_5 19 rfl rfl)
theorem dX0_init_138 : decode cX0_init 138 = .ok (.invokespecial 442, 3) := dk_183 1 186 (dk_at dksX0_init_5 20 rfl rfl)
theorem dX0_init_141 : decode cX0_init 141 = .ok (.putfield 326, 3) := dk_181 1 70 (dk_at dksX0_init_6 0 rfl rfl)
theorem dX0_init_144 : decode cX0_init 144 = .ok (.aload_n 0, 1) := dk_42 (dk_at dksX0_init_6 3 rfl rfl)
theorem dX0_init_145 : decode cX0_init 145 = .ok (.iconst 4, 1) := dk_7 (dk_at dksX0_init_6 4 rfl rfl)
theorem dX0_init_146 : decode cX0_init 146 = .ok (.anewarray 360, 3) := dk_189 1 104 (dk_at dksX0_init_6 5 rfl rfl)
theorem dX0_init_149 : decode cX0_init 149 = .ok (.putfield 351, 3) := dk_181 1 95 (dk_at dksX0_init_6 8 rfl rfl)
theorem dX0_init_152 : decode cX0_init 152 = .ok (.aload_n 0, 1) := dk_42 (dk_at dksX0_init_6 11 rfl rfl)
theorem dX0_init_153 : decode cX0_init 153 = .ok (.bipush 24, 2) := dk_16 24 (dk_at dksX0_init_6 12 rfl rfl)
theorem dX0_init_155 : decode cX0_init 155 = .ok (.newarray .long, 2) := dk_188_11 (dk_at dksX0_init_6 14 rfl rfl)
theorem dX0_init_157 : decode cX0_init 157 = .ok (.putfield 387, 3) := dk_181 1 131 (dk_at dksX0_init_6 16 rfl rfl)
theorem dX0_init_160 : decode cX0_init 160 = .ok (.iconst 0, 1) := dk_3 (dk_at dksX0_init_6 19 rfl rfl)
theorem dX0_init_161 : decode cX0_init 161 = .ok (.istore_n 1, 1) := dk_60 (dk_at dksX0_init_6 20 rfl rfl)
theorem dX0_init_162 : decode cX0_init 162 = .ok (.iload_n 1, 1) := dk_27 (dk_at dksX0_init_6 21 rfl rfl)
theorem dX0_init_163 : decode cX0_init 163 = .ok (.iconst 4, 1) := dk_7 (dk_at dksX0_init_6 22 rfl rfl)
theorem dX0_init_164 : decode cX0_init 164 = .ok (.if_icmp .ge 22, 3) := dk_162 0 22 (dk_at dksX0_init_7 0 rfl rfl)
theorem dX0_init_167 : decode cX0_init 167 = .ok (.aload_n 0, 1) := dk_42 (dk_at dksX0_init_7 3 rfl rfl)
theorem dX0_init_168 : decode cX0_init 168 = .ok (.getfield 351, 3) := dk_180 1 95 (dk_at dksX0_init_7 4 rfl rfl)
theorem dX0_init_171 : decode cX0_init 171 = .ok (.iload_n 1, 1) := dk_27 (dk_at dksX0_init_7 7 rfl rfl)
theorem dX0_init_172 : decode cX0_init 172 = .ok (.new 360, 3) := dk_187 1 104 (dk_at dksX0_init_7 8 rfl rfl)
theorem dX0_init_175 : decode cX0_init 175 = .ok (.dup, 1) := dk_89 (dk_at dksX0_init_7 11 rfl rfl)
theorem dX0_init_176 : decode cX0_init 176 = .ok (.invokespecial 443, 3) := dk_183 1 187 (dk_at dksX0_init_7 12 rfl rfl)
theorem dX0_init_179 : decode cX0_init 179 = .ok (.aastore, 1) := dk_83 (dk_at dksX0_init_7 15 rfl rfl)
theorem dX0_init_180 : decode cX0_init 180 = .ok (.iinc 1 1, 3) := dk_132 1 1 (dk_at dksX0_init_7 16 rfl rfl)
theorem dX0_init_183 : decode cX0_init 183 = .ok (.goto (-21), 3) := dk_167 255 235 (dk_at dksX0_init_7 19 rfl rfl)
theorem dX0_init_186 : decode cX0_init 186 = .ok (.aload_n 0, 1) := dk_42 (dk_at dksX0_init_7 22 rfl rfl)
theorem dX0_init_187 : decode cX0_init 187 = .ok (.getfield 9, 3) := dk_180 0 9 (dk_at dksX0_init_8 0 rfl rfl)
theorem dX0_init_190 : decode cX0_init 190 = .ok (.bipush 20, 2) := dk_16 20 (dk_at dksX0_init_8 3 rfl rfl)
theorem dX0_init_192 : decode cX0_init 192 = .ok (.putfield 37, 3) := dk_181 0 37 (dk_at dksX0_init_8 5 rfl rfl)
theorem dX0_init_195 : decode cX0_init 195 = .ok (.aload_n 0, 1) := dk_42 (dk_at dksX0_init_8 8 rfl rfl)
theorem dX0_init_196 : decode cX0_init 196 = .ok (.getfield 9, 3) := dk_180 0 9 (dk_at dksX0_init_8 9 rfl rfl)
theorem dX0_init_199 : decode cX0_init 199 = .ok (.bipush 8, 2) := dk_16 8 (dk_at dksX0_init_8 12 rfl rfl)
theorem dX0_init_201 : decode cX0_init 201 = .ok (.putfield 145, 3) := dk_181 0 145 (dk_at dksX0_init_8 14 rfl rfl)
theorem dX0_init_204 : decode cX0_init 204 = .ok (.aload_n 0, 1) := dk_42 (dk_at dksX0_init_8 17 rfl rfl)
theorem dX0_init_205 : decode cX0_init 205 = .ok (.getfield 9, 3) := dk_180 0 9 (dk_at dksX0_init_8 18 rfl rfl)
theorem dX0_init_208 : decode cX0_init 208 = .ok (.iconst 1, 1) := dk_4 (dk_at dksX0_init_8 21 rfl rfl)
theorem dX0_init_209 : decode cX0_init 209 = .ok (.putfield 251, 3) := dk_181 0 251 (dk_at dksX0_init_9 0 rfl rfl)
theorem dX0_init_212 : decode cX0_init 212 = .ok (.return_, 1) := dk_177 (dk_at dksX0_init_9 3 rfl rfl)
theorem q70 : (Jvm.Cond.initialized "OneElastic") ∈ lw_all := lw_g (lw_at lw_m1 1 rfl) rfl
theorem q103 : (Jvm.Cond.instanceMethod ({ cls := "OneElastic", name := "person", desc := "(IIIII)I" } : Jvm.MethodName)) ∈ lw_all := lw_g (lw_at lw_m1 34 rfl) rfl
theorem q104 : (Jvm.Cond.selects "OneElastic" ({ cls := "OneElastic", name := "person", desc := "(IIIII)I" } : Jvm.MethodName) ({ cls := "OneElastic", name := "person", desc := "(IIIII)I" } : Jvm.MethodName)) ∈ lw_all := lw_g (lw_at lw_m1 35 rfl) rfl
theorem q105 : (Jvm.Cond.code ({ cls := "OneElastic", name := "person", desc := "(IIIII)I" } : Jvm.MethodName) prog_1_method_12_code (6 : Nat) (Option.some Jvm.ClassFile.FieldType.int)) ∈ lw_all := lw_g (lw_at lw_m1 36 rfl) rfl
theorem q106 : (Jvm.Cond.constantLong "OneElastic" (98 : Nat) (4 : Int64)) ∈ lw_all := lw_g (lw_at lw_m1 37 rfl) rfl
theorem q107 : (Jvm.Cond.methodLink "OneElastic" (19 : Nat) ({ cls := "OneElastic", name := "in", desc := "(JJJ)Z" } : Jvm.MethodName)) ∈ lw_all := lw_g (lw_at lw_m1 38 rfl) rfl
theorem q108 : (Jvm.Cond.static ({ cls := "OneElastic", name := "in", desc := "(JJJ)Z" } : Jvm.MethodName)) ∈ lw_all := lw_g (lw_at lw_m1 39 rfl) rfl
theorem q109 : (Jvm.Cond.code ({ cls := "OneElastic", name := "in", desc := "(JJJ)Z" } : Jvm.MethodName) prog_1_method_1_code (6 : Nat) (Option.some Jvm.ClassFile.FieldType.boolean)) ∈ lw_all := lw_g (lw_at lw_m1 40 rfl) rfl
theorem q110 : (Jvm.Cond.constantLong "OneElastic" (100 : Nat) (30 : Int64)) ∈ lw_all := lw_g (lw_at lw_m1 41 rfl) rfl
theorem q111 : (Jvm.Cond.constantLong "OneElastic" (102 : Nat) (99 : Int64)) ∈ lw_all := lw_g (lw_at lw_m1 42 rfl) rfl
theorem q112 : (Jvm.Cond.constantLong "OneElastic" (104 : Nat) (20 : Int64)) ∈ lw_all := lw_g (lw_at lw_m1 43 rfl) rfl
theorem q113 : (Jvm.Cond.constantLong "OneElastic" (106 : Nat) (9 : Int64)) ∈ lw_all := lw_g (lw_at lw_m1 44 rfl) rfl
theorem q114 : (Jvm.Cond.methodLink "OneElastic" (108 : Nat) ({ cls := "OneElastic", name := "comes", desc := "(IIIII)V" } : Jvm.MethodName)) ∈ lw_all := lw_g (lw_at lw_m1 45 rfl) rfl
theorem q115 : (Jvm.Cond.privateMethod ({ cls := "OneElastic", name := "comes", desc := "(IIIII)V" } : Jvm.MethodName)) ∈ lw_tbl := lw_at lw_m1 46 rfl
theorem q116 : (Jvm.Cond.instanceMethod ({ cls := "OneElastic", name := "comes", desc := "(IIIII)V" } : Jvm.MethodName)) ∈ lw_all := lw_g (lw_at lw_m1 47 rfl) rfl
theorem q117 : (Jvm.Cond.instantiable "OneElastic" (16 : Nat)) ∈ lw_all := lw_g (lw_at lw_m1 48 rfl) rfl
theorem q118 : (Jvm.Cond.code ({ cls := "OneElastic", name := "comes", desc := "(IIIII)V" } : Jvm.MethodName) prog_1_method_11_code (7 : Nat) (Option.none : Option Jvm.ClassFile.FieldType)) ∈ lw_all := lw_g (lw_at lw_m1 49 rfl) rfl
theorem q119 : (Jvm.Cond.methodLink "OneElastic" (91 : Nat) ({ cls := "OneElastic$Town", name := "takesHold", desc := "(IJ)V" } : Jvm.MethodName)) ∈ lw_all := lw_g (lw_at lw_m1 50 rfl) rfl
theorem q123 : (Jvm.Cond.methodLink "OneElastic" (116 : Nat) ({ cls := "java/util/ArrayDeque", name := "clear", desc := "()V" } : Jvm.MethodName)) ∈ lw_all := lw_g (lw_at lw_m1 54 rfl) rfl
theorem q130 : (Jvm.Cond.methodLink "OneElastic" (81 : Nat) ({ cls := "OneElastic", name := "settles", desc := "(LOneElastic$Town;)I" } : Jvm.MethodName)) ∈ lw_all := lw_g (lw_at lw_m1 61 rfl) rfl
theorem q131 : (Jvm.Cond.privateMethod ({ cls := "OneElastic", name := "settles", desc := "(LOneElastic$Town;)I" } : Jvm.MethodName)) ∈ lw_tbl := lw_at lw_m1 62 rfl
theorem q132 : (Jvm.Cond.instanceMethod ({ cls := "OneElastic", name := "settles", desc := "(LOneElastic$Town;)I" } : Jvm.MethodName)) ∈ lw_all := lw_g (lw_at lw_m1 63 rfl) rfl
theorem q133 : (Jvm.Cond.code ({ cls := "OneElastic", name := "settles", desc := "(LOneElastic$Town;)I" } : Jvm.MethodName) prog_1_method_8_code (3 : Nat) (Option.some Jvm.ClassFile.FieldType.int)) ∈ lw_all := lw_g (lw_at lw_m1 64 rfl) rfl
theorem q134 : (Jvm.Cond.methodLink "OneElastic" (29 : Nat) ({ cls := "OneElastic$Town", name := "measured", desc := "()LOneElastic$Town;" } : Jvm.MethodName)) ∈ lw_all := lw_g (lw_at lw_m1 65 rfl) rfl
theorem q151 : (Jvm.Cond.methodLink "OneElastic" (43 : Nat) ({ cls := "OneElastic", name := "tears", desc := "(LOneElastic$Town;I)V" } : Jvm.MethodName)) ∈ lw_all := lw_g (lw_at lw_m1 82 rfl) rfl
theorem q152 : (Jvm.Cond.privateMethod ({ cls := "OneElastic", name := "tears", desc := "(LOneElastic$Town;I)V" } : Jvm.MethodName)) ∈ lw_tbl := lw_at lw_m1 83 rfl
theorem q153 : (Jvm.Cond.instanceMethod ({ cls := "OneElastic", name := "tears", desc := "(LOneElastic$Town;I)V" } : Jvm.MethodName)) ∈ lw_all := lw_g (lw_at lw_m1 84 rfl) rfl
theorem q154 : (Jvm.Cond.code ({ cls := "OneElastic", name := "tears", desc := "(LOneElastic$Town;I)V" } : Jvm.MethodName) prog_1_method_9_code (5 : Nat) (Option.none : Option Jvm.ClassFile.FieldType)) ∈ lw_all := lw_g (lw_at lw_m1 85 rfl) rfl
theorem q155 : (Jvm.Cond.methodLink "OneElastic" (46 : Nat) ({ cls := "OneElastic$Town", name := "holds", desc := "(I)Z" } : Jvm.MethodName)) ∈ lw_all := lw_g (lw_at lw_m1 86 rfl) rfl
theorem q156 : (Jvm.Cond.methodLink "OneElastic" (50 : Nat) ({ cls := "OneElastic$Town", name := "pulledBy", desc := "(I)J" } : Jvm.MethodName)) ∈ lw_all := lw_g (lw_at lw_m1 87 rfl) rfl
theorem q164 : (Jvm.Cond.methodLink "OneElastic" (54 : Nat) ({ cls := "java/lang/Math", name := "abs", desc := "(J)J" } : Jvm.MethodName)) ∈ lw_all := lw_g (lw_at lw_m1 95 rfl) rfl
theorem q167 : (Jvm.Cond.methodLink "OneElastic" (60 : Nat) ({ cls := "OneElastic$Town", name := "holdsOut", desc := "(I)I" } : Jvm.MethodName)) ∈ lw_all := lw_g (lw_at lw_m1 98 rfl) rfl
theorem q222 : (Jvm.Cond.methodLink "OneElastic" (64 : Nat) ({ cls := "OneElastic$Town", name := "pulledBelow", desc := "(I)J" } : Jvm.MethodName)) ∈ lw_all := lw_g (lw_at lw_m1 153 rfl) rfl
theorem q226 : (Jvm.Cond.methodLink "OneElastic" (67 : Nat) ({ cls := "OneElastic$Town", name := "lets", desc := "(I)V" } : Jvm.MethodName)) ∈ lw_all := lw_g (lw_at lw_m1 157 rfl) rfl
theorem q231 : (Jvm.Cond.instanceMethod ({ cls := "OneElastic", name := "of", desc := "(II)I" } : Jvm.MethodName)) ∈ lw_all := lw_g (lw_at lw_m1 162 rfl) rfl
theorem q232 : (Jvm.Cond.selects "OneElastic" ({ cls := "OneElastic", name := "of", desc := "(II)I" } : Jvm.MethodName) ({ cls := "OneElastic", name := "of", desc := "(II)I" } : Jvm.MethodName)) ∈ lw_all := lw_g (lw_at lw_m1 163 rfl) rfl
theorem q233 : (Jvm.Cond.code ({ cls := "OneElastic", name := "of", desc := "(II)I" } : Jvm.MethodName) prog_1_method_13_code (5 : Nat) (Option.some Jvm.ClassFile.FieldType.int)) ∈ lw_all := lw_g (lw_at lw_m1 164 rfl) rfl
theorem q234 : (Jvm.Cond.methodLink "OneElastic" (122 : Nat) ({ cls := "OneElastic", name := "isPerson", desc := "(I)Z" } : Jvm.MethodName)) ∈ lw_all := lw_g (lw_at lw_m1 165 rfl) rfl
theorem q235 : (Jvm.Cond.privateMethod ({ cls := "OneElastic", name := "isPerson", desc := "(I)Z" } : Jvm.MethodName)) ∈ lw_tbl := lw_at lw_m1 166 rfl
theorem q236 : (Jvm.Cond.instanceMethod ({ cls := "OneElastic", name := "isPerson", desc := "(I)Z" } : Jvm.MethodName)) ∈ lw_all := lw_g (lw_at lw_m1 167 rfl) rfl
theorem q237 : (Jvm.Cond.code ({ cls := "OneElastic", name := "isPerson", desc := "(I)Z" } : Jvm.MethodName) prog_1_method_6_code (2 : Nat) (Option.some Jvm.ClassFile.FieldType.boolean)) ∈ lw_all := lw_g (lw_at lw_m1 168 rfl) rfl
theorem q239 : (Jvm.Cond.instanceMethod ({ cls := "OneElastic", name := "place", desc := "(II)I" } : Jvm.MethodName)) ∈ lw_all := lw_g (lw_at lw_m1 170 rfl) rfl
theorem q240 : (Jvm.Cond.selects "OneElastic" ({ cls := "OneElastic", name := "place", desc := "(II)I" } : Jvm.MethodName) ({ cls := "OneElastic", name := "place", desc := "(II)I" } : Jvm.MethodName)) ∈ lw_all := lw_g (lw_at lw_m1 171 rfl) rfl
theorem q241 : (Jvm.Cond.code ({ cls := "OneElastic", name := "place", desc := "(II)I" } : Jvm.MethodName) prog_1_method_14_code (3 : Nat) (Option.some Jvm.ClassFile.FieldType.int)) ∈ lw_all := lw_g (lw_at lw_m1 172 rfl) rfl
theorem q242 : (Jvm.Cond.methodLink "OneElastic" (125 : Nat) ({ cls := "OneElastic$Town", name := "placeOf", desc := "(I)LOneElastic$Part;" } : Jvm.MethodName)) ∈ lw_all := lw_g (lw_at lw_m1 173 rfl) rfl
theorem q247 : (Jvm.Cond.static ({ cls := "OneElastic", name := "whole", desc := "(J)LOneElastic$Part;" } : Jvm.MethodName)) ∈ lw_all := lw_g (lw_at lw_m1 178 rfl) rfl
theorem q248 : (Jvm.Cond.code ({ cls := "OneElastic", name := "whole", desc := "(J)LOneElastic$Part;" } : Jvm.MethodName) prog_1_method_2_code (2 : Nat) (Option.some (Jvm.ClassFile.FieldType.object "OneElastic$Part"))) ∈ lw_all := lw_g (lw_at lw_m1 179 rfl) rfl
theorem q249 : (Jvm.Cond.classLink "OneElastic" (1 : Nat) "OneElastic$Part") ∈ lw_all := lw_g (lw_at lw_m1 180 rfl) rfl
theorem q251 : (Jvm.Cond.methodLink "OneElastic" (3 : Nat) ({ cls := "OneElastic$Part", name := "<init>", desc := "(JJ)V" } : Jvm.MethodName)) ∈ lw_all := lw_g (lw_at lw_m1 182 rfl) rfl
theorem q280 : (Jvm.Cond.methodLink "OneElastic" (129 : Nat) ({ cls := "OneElastic$Part", name := "told", desc := "(I)I" } : Jvm.MethodName)) ∈ lw_all := lw_g (lw_at lw_m1 211 rfl) rfl
theorem q285 : (Jvm.Cond.instanceMethod ({ cls := "OneElastic", name := "pulled", desc := "(II)I" } : Jvm.MethodName)) ∈ lw_all := lw_g (lw_at lw_m1 216 rfl) rfl
theorem q286 : (Jvm.Cond.selects "OneElastic" ({ cls := "OneElastic", name := "pulled", desc := "(II)I" } : Jvm.MethodName) ({ cls := "OneElastic", name := "pulled", desc := "(II)I" } : Jvm.MethodName)) ∈ lw_all := lw_g (lw_at lw_m1 217 rfl) rfl
theorem q287 : (Jvm.Cond.code ({ cls := "OneElastic", name := "pulled", desc := "(II)I" } : Jvm.MethodName) prog_1_method_15_code (3 : Nat) (Option.some Jvm.ClassFile.FieldType.int)) ∈ lw_all := lw_g (lw_at lw_m1 218 rfl) rfl
theorem q289 : (Jvm.Cond.instanceMethod ({ cls := "OneElastic", name := "pull", desc := "(II)I" } : Jvm.MethodName)) ∈ lw_all := lw_g (lw_at lw_m1 220 rfl) rfl
theorem q290 : (Jvm.Cond.selects "OneElastic" ({ cls := "OneElastic", name := "pull", desc := "(II)I" } : Jvm.MethodName) ({ cls := "OneElastic", name := "pull", desc := "(II)I" } : Jvm.MethodName)) ∈ lw_all := lw_g (lw_at lw_m1 221 rfl) rfl
theorem q291 : (Jvm.Cond.code ({ cls := "OneElastic", name := "pull", desc := "(II)I" } : Jvm.MethodName) prog_1_method_16_code (3 : Nat) (Option.some Jvm.ClassFile.FieldType.int)) ∈ lw_all := lw_g (lw_at lw_m1 222 rfl) rfl
theorem q292 : (Jvm.Cond.methodLink "OneElastic" (132 : Nat) ({ cls := "OneElastic", name := "isSeam", desc := "(I)Z" } : Jvm.MethodName)) ∈ lw_all := lw_g (lw_at lw_m1 223 rfl) rfl
theorem q293 : (Jvm.Cond.privateMethod ({ cls := "OneElastic", name := "isSeam", desc := "(I)Z" } : Jvm.MethodName)) ∈ lw_tbl := lw_at lw_m1 224 rfl
theorem q294 : (Jvm.Cond.instanceMethod ({ cls := "OneElastic", name := "isSeam", desc := "(I)Z" } : Jvm.MethodName)) ∈ lw_all := lw_g (lw_at lw_m1 225 rfl) rfl
theorem q295 : (Jvm.Cond.code ({ cls := "OneElastic", name := "isSeam", desc := "(I)Z" } : Jvm.MethodName) prog_1_method_7_code (2 : Nat) (Option.some Jvm.ClassFile.FieldType.boolean)) ∈ lw_all := lw_g (lw_at lw_m1 226 rfl) rfl
theorem q297 : (Jvm.Cond.instanceMethod ({ cls := "OneElastic", name := "seam", desc := "(II)I" } : Jvm.MethodName)) ∈ lw_all := lw_g (lw_at lw_m1 228 rfl) rfl
theorem q298 : (Jvm.Cond.selects "OneElastic" ({ cls := "OneElastic", name := "seam", desc := "(II)I" } : Jvm.MethodName) ({ cls := "OneElastic", name := "seam", desc := "(II)I" } : Jvm.MethodName)) ∈ lw_all := lw_g (lw_at lw_m1 229 rfl) rfl
theorem q299 : (Jvm.Cond.code ({ cls := "OneElastic", name := "seam", desc := "(II)I" } : Jvm.MethodName) prog_1_method_17_code (3 : Nat) (Option.some Jvm.ClassFile.FieldType.int)) ∈ lw_all := lw_g (lw_at lw_m1 230 rfl) rfl
theorem q300 : (Jvm.Cond.methodLink "OneElastic" (135 : Nat) ({ cls := "OneElastic$Town", name := "isCut", desc := "(I)Z" } : Jvm.MethodName)) ∈ lw_all := lw_g (lw_at lw_m1 231 rfl) rfl
theorem q302 : (Jvm.Cond.instanceMethod ({ cls := "OneElastic", name := "count", desc := "(I)I" } : Jvm.MethodName)) ∈ lw_all := lw_g (lw_at lw_m1 233 rfl) rfl
theorem q303 : (Jvm.Cond.selects "OneElastic" ({ cls := "OneElastic", name := "count", desc := "(I)I" } : Jvm.MethodName) ({ cls := "OneElastic", name := "count", desc := "(I)I" } : Jvm.MethodName)) ∈ lw_all := lw_g (lw_at lw_m1 234 rfl) rfl
theorem q304 : (Jvm.Cond.code ({ cls := "OneElastic", name := "count", desc := "(I)I" } : Jvm.MethodName) prog_1_method_19_code (2 : Nat) (Option.some Jvm.ClassFile.FieldType.int)) ∈ lw_all := lw_g (lw_at lw_m1 235 rfl) rfl
theorem q305 : (Jvm.Cond.methodLink "OneElastic" (141 : Nat) ({ cls := "OneElastic", name := "taut", desc := "()I" } : Jvm.MethodName)) ∈ lw_all := lw_g (lw_at lw_m1 236 rfl) rfl
theorem q306 : (Jvm.Cond.privateMethod ({ cls := "OneElastic", name := "taut", desc := "()I" } : Jvm.MethodName)) ∈ lw_tbl := lw_at lw_m1 237 rfl
theorem q307 : (Jvm.Cond.instanceMethod ({ cls := "OneElastic", name := "taut", desc := "()I" } : Jvm.MethodName)) ∈ lw_all := lw_g (lw_at lw_m1 238 rfl) rfl
theorem q308 : (Jvm.Cond.code ({ cls := "OneElastic", name := "taut", desc := "()I" } : Jvm.MethodName) prog_1_method_18_code (3 : Nat) (Option.some Jvm.ClassFile.FieldType.int)) ∈ lw_all := lw_g (lw_at lw_m1 239 rfl) rfl
theorem q309 : (Jvm.Cond.methodLink "OneElastic" (148 : Nat) ({ cls := "OneElastic$Town", name := "greatest", desc := "()I" } : Jvm.MethodName)) ∈ lw_all := lw_g (lw_at lw_m2 0 rfl) rfl
theorem q313 : (Jvm.Cond.methodLink "OneElastic" (151 : Nat) ({ cls := "OneElastic", name := "cutDown", desc := "(I)I" } : Jvm.MethodName)) ∈ lw_all := lw_g (lw_at lw_m2 4 rfl) rfl
theorem q314 : (Jvm.Cond.static ({ cls := "OneElastic", name := "cutDown", desc := "(I)I" } : Jvm.MethodName)) ∈ lw_all := lw_g (lw_at lw_m2 5 rfl) rfl
theorem q315 : (Jvm.Cond.code ({ cls := "OneElastic", name := "cutDown", desc := "(I)I" } : Jvm.MethodName) prog_1_method_4_code (1 : Nat) (Option.some Jvm.ClassFile.FieldType.int)) ∈ lw_all := lw_g (lw_at lw_m2 6 rfl) rfl
theorem q316 : (Jvm.Cond.methodLink "OneElastic" (154 : Nat) ({ cls := "java/util/ArrayDeque", name := "size", desc := "()I" } : Jvm.MethodName)) ∈ lw_all := lw_g (lw_at lw_m2 7 rfl) rfl
theorem q324 : (Jvm.Cond.instanceMethod ({ cls := "OneElastic", name := "type", desc := "(I)I" } : Jvm.MethodName)) ∈ lw_all := lw_g (lw_at lw_m2 15 rfl) rfl
theorem q325 : (Jvm.Cond.selects "OneElastic" ({ cls := "OneElastic", name := "type", desc := "(I)I" } : Jvm.MethodName) ({ cls := "OneElastic", name := "type", desc := "(I)I" } : Jvm.MethodName)) ∈ lw_all := lw_g (lw_at lw_m2 16 rfl) rfl
theorem q326 : (Jvm.Cond.code ({ cls := "OneElastic", name := "type", desc := "(I)I" } : Jvm.MethodName) prog_1_method_20_code (2 : Nat) (Option.some Jvm.ClassFile.FieldType.int)) ∈ lw_all := lw_g (lw_at lw_m2 17 rfl) rfl
theorem q327 : (Jvm.Cond.constantLong "OneElastic" (157 : Nat) (32 : Int64)) ∈ lw_all := lw_g (lw_at lw_m2 18 rfl) rfl
theorem q328 : (Jvm.Cond.constantLong "OneElastic" (159 : Nat) (126 : Int64)) ∈ lw_all := lw_g (lw_at lw_m2 19 rfl) rfl
theorem q330 : (Jvm.Cond.instanceMethod ({ cls := "OneElastic", name := "street", desc := "()I" } : Jvm.MethodName)) ∈ lw_all := lw_g (lw_at lw_m2 21 rfl) rfl
theorem q331 : (Jvm.Cond.selects "OneElastic" ({ cls := "OneElastic", name := "street", desc := "()I" } : Jvm.MethodName) ({ cls := "OneElastic", name := "street", desc := "()I" } : Jvm.MethodName)) ∈ lw_all := lw_g (lw_at lw_m2 22 rfl) rfl
theorem q332 : (Jvm.Cond.codeWith ({ cls := "OneElastic", name := "street", desc := "()I" } : Jvm.MethodName) prog_1_method_27_code (6 : Nat) (Option.some Jvm.ClassFile.FieldType.int) [((5 : Nat), (186 : Nat), (193 : Nat), (170 : Nat)), ((5 : Nat), (186 : Nat), (209 : Nat), (0 : Nat)), ((193 : Nat), (202 : Nat), (209 : Nat), (0 : Nat)), ((209 : Nat), (211 : Nat), (209 : Nat), (0 : Nat))]) ∈ lw_all := lw_g (lw_at lw_m2 23 rfl) rfl
theorem q333 : (Jvm.Cond.classLink "OneElastic" (170 : Nat) "OneElastic$Fault") ∈ lw_all := lw_g (lw_at lw_m2 24 rfl) rfl
theorem q334 : (Jvm.Cond.methodLink "OneElastic" (195 : Nat) ({ cls := "OneElastic", name := "number", desc := "(II)I" } : Jvm.MethodName)) ∈ lw_all := lw_g (lw_at lw_m2 25 rfl) rfl
theorem q335 : (Jvm.Cond.privateMethod ({ cls := "OneElastic", name := "number", desc := "(II)I" } : Jvm.MethodName)) ∈ lw_tbl := lw_at lw_m2 26 rfl
theorem q336 : (Jvm.Cond.instanceMethod ({ cls := "OneElastic", name := "number", desc := "(II)I" } : Jvm.MethodName)) ∈ lw_all := lw_g (lw_at lw_m2 27 rfl) rfl
theorem q337 : (Jvm.Cond.code ({ cls := "OneElastic", name := "number", desc := "(II)I" } : Jvm.MethodName) prog_1_method_24_code (5 : Nat) (Option.some Jvm.ClassFile.FieldType.int)) ∈ lw_all := lw_g (lw_at lw_m2 28 rfl) rfl
theorem q338 : (Jvm.Cond.methodLink "OneElastic" (174 : Nat) ({ cls := "OneElastic", name := "here", desc := "()I" } : Jvm.MethodName)) ∈ lw_all := lw_g (lw_at lw_m2 29 rfl) rfl
theorem q339 : (Jvm.Cond.privateMethod ({ cls := "OneElastic", name := "here", desc := "()I" } : Jvm.MethodName)) ∈ lw_tbl := lw_at lw_m2 30 rfl
theorem q340 : (Jvm.Cond.instanceMethod ({ cls := "OneElastic", name := "here", desc := "()I" } : Jvm.MethodName)) ∈ lw_all := lw_g (lw_at lw_m2 31 rfl) rfl
theorem q341 : (Jvm.Cond.code ({ cls := "OneElastic", name := "here", desc := "()I" } : Jvm.MethodName) prog_1_method_21_code (1 : Nat) (Option.some Jvm.ClassFile.FieldType.int)) ∈ lw_all := lw_g (lw_at lw_m2 32 rfl) rfl
theorem q342 : (Jvm.Cond.constantLong "OneElastic" (177 : Nat) (48 : Int64)) ∈ lw_all := lw_g (lw_at lw_m2 33 rfl) rfl
theorem q343 : (Jvm.Cond.constantLong "OneElastic" (179 : Nat) (57 : Int64)) ∈ lw_all := lw_g (lw_at lw_m2 34 rfl) rfl
theorem q398 : (Jvm.Cond.methodLink "OneElastic" (172 : Nat) ({ cls := "OneElastic$Fault", name := "<init>", desc := "(I)V" } : Jvm.MethodName)) ∈ lw_all := lw_g (lw_at lw_m2 89 rfl) rfl
theorem q406 : (Jvm.Cond.fieldLinkNest "OneElastic" (208 : Nat) "OneElastic$Fault" "place" "I" "OneElastic") ∈ lw_tbl := lw_at lw_m2 97 rfl
theorem q422 : (Jvm.Cond.methodLink "OneElastic" (188 : Nat) ({ cls := "OneElastic", name := "must", desc := "(Z)V" } : Jvm.MethodName)) ∈ lw_all := lw_g (lw_at lw_m2 113 rfl) rfl
theorem q423 : (Jvm.Cond.privateMethod ({ cls := "OneElastic", name := "must", desc := "(Z)V" } : Jvm.MethodName)) ∈ lw_tbl := lw_at lw_m2 114 rfl
theorem q424 : (Jvm.Cond.instanceMethod ({ cls := "OneElastic", name := "must", desc := "(Z)V" } : Jvm.MethodName)) ∈ lw_all := lw_g (lw_at lw_m2 115 rfl) rfl
theorem q425 : (Jvm.Cond.code ({ cls := "OneElastic", name := "must", desc := "(Z)V" } : Jvm.MethodName) prog_1_method_22_code (2 : Nat) (Option.none : Option Jvm.ClassFile.FieldType)) ∈ lw_all := lw_g (lw_at lw_m2 116 rfl) rfl
theorem q426 : (Jvm.Cond.methodLink "OneElastic" (202 : Nat) ({ cls := "OneElastic", name := "readsPeople", desc := "()I" } : Jvm.MethodName)) ∈ lw_all := lw_g (lw_at lw_m2 117 rfl) rfl
theorem q427 : (Jvm.Cond.privateMethod ({ cls := "OneElastic", name := "readsPeople", desc := "()I" } : Jvm.MethodName)) ∈ lw_tbl := lw_at lw_m2 118 rfl
theorem q428 : (Jvm.Cond.instanceMethod ({ cls := "OneElastic", name := "readsPeople", desc := "()I" } : Jvm.MethodName)) ∈ lw_all := lw_g (lw_at lw_m2 119 rfl) rfl
theorem q429 : (Jvm.Cond.code ({ cls := "OneElastic", name := "readsPeople", desc := "()I" } : Jvm.MethodName) prog_1_method_26_code (3 : Nat) (Option.some Jvm.ClassFile.FieldType.int)) ∈ lw_all := lw_g (lw_at lw_m2 120 rfl) rfl
theorem q430 : (Jvm.Cond.methodLink "OneElastic" (199 : Nat) ({ cls := "OneElastic", name := "readsPerson", desc := "(I)V" } : Jvm.MethodName)) ∈ lw_all := lw_g (lw_at lw_m2 121 rfl) rfl
theorem q431 : (Jvm.Cond.privateMethod ({ cls := "OneElastic", name := "readsPerson", desc := "(I)V" } : Jvm.MethodName)) ∈ lw_tbl := lw_at lw_m2 122 rfl
theorem q432 : (Jvm.Cond.instanceMethod ({ cls := "OneElastic", name := "readsPerson", desc := "(I)V" } : Jvm.MethodName)) ∈ lw_all := lw_g (lw_at lw_m2 123 rfl) rfl
theorem q433 : (Jvm.Cond.code ({ cls := "OneElastic", name := "readsPerson", desc := "(I)V" } : Jvm.MethodName) prog_1_method_25_code (4 : Nat) (Option.none : Option Jvm.ClassFile.FieldType)) ∈ lw_all := lw_g (lw_at lw_m2 124 rfl) rfl
theorem q434 : (Jvm.Cond.stringRef "OneElastic" (181 : Nat) "psryt") ∈ lw_tbl := lw_at lw_m2 125 rfl
theorem q435 : (Jvm.Cond.methodLink "OneElastic" (183 : Nat) ({ cls := "java/lang/String", name := "indexOf", desc := "(I)I" } : Jvm.MethodName)) ∈ lw_all := lw_g (lw_at lw_m2 126 rfl) rfl
theorem q519 : (Jvm.Cond.methodLink "OneElastic" (205 : Nat) ({ cls := "java/lang/Math", name := "max", desc := "(II)I" } : Jvm.MethodName)) ∈ lw_all := lw_g (lw_at lw_m2 210 rfl) rfl
theorem q522 : (Jvm.Cond.instanceMethod ({ cls := "OneElastic", name := "go", desc := "(II)I" } : Jvm.MethodName)) ∈ lw_all := lw_g (lw_at lw_m2 213 rfl) rfl
theorem q523 : (Jvm.Cond.selects "OneElastic" ({ cls := "OneElastic", name := "go", desc := "(II)I" } : Jvm.MethodName) ({ cls := "OneElastic", name := "go", desc := "(II)I" } : Jvm.MethodName)) ∈ lw_all := lw_g (lw_at lw_m2 214 rfl) rfl
theorem q524 : (Jvm.Cond.code ({ cls := "OneElastic", name := "go", desc := "(II)I" } : Jvm.MethodName) prog_1_method_29_code (3 : Nat) (Option.some Jvm.ClassFile.FieldType.int)) ∈ lw_all := lw_g (lw_at lw_m2 215 rfl) rfl
theorem q525 : (Jvm.Cond.constantLong "OneElastic" (224 : Nat) (-99 : Int64)) ∈ lw_all := lw_g (lw_at lw_m2 216 rfl) rfl
theorem q526 : (Jvm.Cond.methodLink "OneElastic" (228 : Nat) ({ cls := "OneElastic", name := "notes", desc := "()V" } : Jvm.MethodName)) ∈ lw_all := lw_g (lw_at lw_m2 217 rfl) rfl
theorem q527 : (Jvm.Cond.privateMethod ({ cls := "OneElastic", name := "notes", desc := "()V" } : Jvm.MethodName)) ∈ lw_tbl := lw_at lw_m2 218 rfl
theorem q528 : (Jvm.Cond.instanceMethod ({ cls := "OneElastic", name := "notes", desc := "()V" } : Jvm.MethodName)) ∈ lw_all := lw_g (lw_at lw_m2 219 rfl) rfl
theorem q529 : (Jvm.Cond.code ({ cls := "OneElastic", name := "notes", desc := "()V" } : Jvm.MethodName) prog_1_method_28_code (2 : Nat) (Option.none : Option Jvm.ClassFile.FieldType)) ∈ lw_all := lw_g (lw_at lw_m2 220 rfl) rfl
theorem q530 : (Jvm.Cond.methodLink "OneElastic" (209 : Nat) ({ cls := "java/util/ArrayDeque", name := "removeFirst", desc := "()Ljava/lang/Object;" } : Jvm.MethodName)) ∈ lw_all := lw_g (lw_at lw_m2 221 rfl) rfl
theorem q544 : (Jvm.Cond.classLink "OneElastic" (14 : Nat) "OneElastic$Town") ∈ lw_all := lw_g (lw_at lw_m2 235 rfl) rfl
theorem q545 : (Jvm.Cond.methodLinkNest "OneElastic" (213 : Nat) ({ cls := "OneElastic$Town", name := "<init>", desc := "(LOneElastic;)V" } : Jvm.MethodName) "OneElastic") ∈ lw_tbl := lw_at lw_m2 236 rfl
theorem q550 : (Jvm.Cond.fieldLinkNest "OneElastic" (85 : Nat) "OneElastic$Town" "kind" "[B" "OneElastic") ∈ lw_tbl := lw_at lw_m3 1 rfl
theorem q552 : (Jvm.Cond.fieldLinkNest "OneElastic" (88 : Nat) "OneElastic$Town" "strength" "[B" "OneElastic") ∈ lw_tbl := lw_at lw_m3 3 rfl
theorem q554 : (Jvm.Cond.fieldLinkNest "OneElastic" (226 : Nat) "OneElastic$Town" "place" "[B" "OneElastic") ∈ lw_tbl := lw_at lw_m3 5 rfl
theorem q556 : (Jvm.Cond.fieldLinkNest "OneElastic" (95 : Nat) "OneElastic$Town" "length" "[B" "OneElastic") ∈ lw_tbl := lw_at lw_m3 7 rfl
theorem q558 : (Jvm.Cond.fieldLinkNest "OneElastic" (74 : Nat) "OneElastic$Town" "gives" "[B" "OneElastic") ∈ lw_tbl := lw_at lw_m3 9 rfl
theorem q560 : (Jvm.Cond.fieldLinkNest "OneElastic" (33 : Nat) "OneElastic$Town" "over" "[I" "OneElastic") ∈ lw_tbl := lw_at lw_m3 11 rfl
theorem q562 : (Jvm.Cond.fieldLinkNest "OneElastic" (40 : Nat) "OneElastic$Town" "under" "[I" "OneElastic") ∈ lw_tbl := lw_at lw_m3 13 rfl
theorem q564 : (Jvm.Cond.fieldLinkNest "OneElastic" (13 : Nat) "OneElastic$Town" "n" "I" "OneElastic") ∈ lw_tbl := lw_at lw_m3 15 rfl
theorem q566 : (Jvm.Cond.fieldLinkNest "OneElastic" (138 : Nat) "OneElastic$Town" "holders" "I" "OneElastic") ∈ lw_tbl := lw_at lw_m3 17 rfl
theorem q568 : (Jvm.Cond.fieldLinkNest "OneElastic" (78 : Nat) "OneElastic$Town" "cuts" "I" "OneElastic") ∈ lw_tbl := lw_at lw_m3 19 rfl
theorem q570 : (Jvm.Cond.fieldLinkNest "OneElastic" (145 : Nat) "OneElastic$Town" "hour" "I" "OneElastic") ∈ lw_tbl := lw_at lw_m3 21 rfl
theorem q572 : (Jvm.Cond.fieldLinkNest "OneElastic" (37 : Nat) "OneElastic$Town" "bears" "I" "OneElastic") ∈ lw_tbl := lw_at lw_m3 23 rfl
theorem q574 : (Jvm.Cond.fieldLinkNest "OneElastic" (251 : Nat) "OneElastic$Town" "draw" "I" "OneElastic") ∈ lw_tbl := lw_at lw_m3 25 rfl
theorem q606 : (Jvm.Cond.methodLink "OneElastic" (216 : Nat) ({ cls := "OneElastic$Town", name := "takes", desc := "(LOneElastic$Town;)LOneElastic$Town;" } : Jvm.MethodName)) ∈ lw_all := lw_g (lw_at lw_m3 57 rfl) rfl
theorem q613 : (Jvm.Cond.methodLink "OneElastic" (220 : Nat) ({ cls := "java/util/ArrayDeque", name := "addLast", desc := "(Ljava/lang/Object;)V" } : Jvm.MethodName)) ∈ lw_all := lw_g (lw_at lw_m3 64 rfl) rfl
theorem q658 : (Jvm.Cond.selects "OneElastic" ({ cls := "java/lang/Object", name := "getClass", desc := "()Ljava/lang/Class;" } : Jvm.MethodName) ({ cls := "java/lang/Object", name := "getClass", desc := "()Ljava/lang/Class;" } : Jvm.MethodName)) ∈ lw_all := lw_g (lw_at lw_m3 109 rfl) rfl
theorem q687 : (Jvm.Cond.instanceMethod ({ cls := "OneElastic", name := "let", desc := "(I)I" } : Jvm.MethodName)) ∈ lw_all := lw_g (lw_at lw_m3 138 rfl) rfl
theorem q688 : (Jvm.Cond.selects "OneElastic" ({ cls := "OneElastic", name := "let", desc := "(I)I" } : Jvm.MethodName) ({ cls := "OneElastic", name := "let", desc := "(I)I" } : Jvm.MethodName)) ∈ lw_all := lw_g (lw_at lw_m3 139 rfl) rfl
theorem q689 : (Jvm.Cond.code ({ cls := "OneElastic", name := "let", desc := "(I)I" } : Jvm.MethodName) prog_1_method_30_code (2 : Nat) (Option.some Jvm.ClassFile.FieldType.int)) ∈ lw_all := lw_g (lw_at lw_m3 140 rfl) rfl
theorem q691 : (Jvm.Cond.instanceMethod ({ cls := "OneElastic", name := "hold", desc := "(I)I" } : Jvm.MethodName)) ∈ lw_all := lw_g (lw_at lw_m3 142 rfl) rfl
theorem q692 : (Jvm.Cond.selects "OneElastic" ({ cls := "OneElastic", name := "hold", desc := "(I)I" } : Jvm.MethodName) ({ cls := "OneElastic", name := "hold", desc := "(I)I" } : Jvm.MethodName)) ∈ lw_all := lw_g (lw_at lw_m3 143 rfl) rfl
theorem q693 : (Jvm.Cond.code ({ cls := "OneElastic", name := "hold", desc := "(I)I" } : Jvm.MethodName) prog_1_method_32_code (2 : Nat) (Option.some Jvm.ClassFile.FieldType.int)) ∈ lw_all := lw_g (lw_at lw_m3 144 rfl) rfl
theorem q694 : (Jvm.Cond.methodLink "OneElastic" (240 : Nat) ({ cls := "OneElastic", name := "takesHoldWhereHeIs", desc := "(LOneElastic$Town;I)V" } : Jvm.MethodName)) ∈ lw_all := lw_g (lw_at lw_m3 145 rfl) rfl
theorem q695 : (Jvm.Cond.static ({ cls := "OneElastic", name := "takesHoldWhereHeIs", desc := "(LOneElastic$Town;I)V" } : Jvm.MethodName)) ∈ lw_all := lw_g (lw_at lw_m3 146 rfl) rfl
theorem q696 : (Jvm.Cond.code ({ cls := "OneElastic", name := "takesHoldWhereHeIs", desc := "(LOneElastic$Town;I)V" } : Jvm.MethodName) prog_1_method_31_code (2 : Nat) (Option.none : Option Jvm.ClassFile.FieldType)) ∈ lw_all := lw_g (lw_at lw_m3 147 rfl) rfl
theorem q697 : (Jvm.Cond.methodLink "OneElastic" (231 : Nat) ({ cls := "OneElastic$Part", name := "cutDown", desc := "()J" } : Jvm.MethodName)) ∈ lw_all := lw_g (lw_at lw_m3 148 rfl) rfl
theorem q704 : (Jvm.Cond.methodLink "OneElastic" (234 : Nat) ({ cls := "java/lang/Math", name := "min", desc := "(JJ)J" } : Jvm.MethodName)) ∈ lw_all := lw_g (lw_at lw_m3 155 rfl) rfl
theorem q707 : (Jvm.Cond.methodLink "OneElastic" (238 : Nat) ({ cls := "java/lang/Math", name := "max", desc := "(JJ)J" } : Jvm.MethodName)) ∈ lw_all := lw_g (lw_at lw_m3 158 rfl) rfl
theorem q711 : (Jvm.Cond.instanceMethod ({ cls := "OneElastic", name := "sew", desc := "(I)I" } : Jvm.MethodName)) ∈ lw_all := lw_g (lw_at lw_m3 162 rfl) rfl
theorem q712 : (Jvm.Cond.selects "OneElastic" ({ cls := "OneElastic", name := "sew", desc := "(I)I" } : Jvm.MethodName) ({ cls := "OneElastic", name := "sew", desc := "(I)I" } : Jvm.MethodName)) ∈ lw_all := lw_g (lw_at lw_m3 163 rfl) rfl
theorem q713 : (Jvm.Cond.code ({ cls := "OneElastic", name := "sew", desc := "(I)I" } : Jvm.MethodName) prog_1_method_33_code (2 : Nat) (Option.some Jvm.ClassFile.FieldType.int)) ∈ lw_all := lw_g (lw_at lw_m3 164 rfl) rfl
theorem q715 : (Jvm.Cond.instanceMethod ({ cls := "OneElastic", name := "bears", desc := "(I)I" } : Jvm.MethodName)) ∈ lw_all := lw_g (lw_at lw_m3 166 rfl) rfl
theorem q716 : (Jvm.Cond.selects "OneElastic" ({ cls := "OneElastic", name := "bears", desc := "(I)I" } : Jvm.MethodName) ({ cls := "OneElastic", name := "bears", desc := "(I)I" } : Jvm.MethodName)) ∈ lw_all := lw_g (lw_at lw_m3 167 rfl) rfl
theorem q717 : (Jvm.Cond.code ({ cls := "OneElastic", name := "bears", desc := "(I)I" } : Jvm.MethodName) prog_1_method_34_code (3 : Nat) (Option.some Jvm.ClassFile.FieldType.int)) ∈ lw_all := lw_g (lw_at lw_m3 168 rfl) rfl
theorem q718 : (Jvm.Cond.constantLong "OneElastic" (243 : Nat) (60 : Int64)) ∈ lw_all := lw_g (lw_at lw_m3 169 rfl) rfl
theorem q720 : (Jvm.Cond.instanceMethod ({ cls := "OneElastic", name := "hours", desc := "(I)I" } : Jvm.MethodName)) ∈ lw_all := lw_g (lw_at lw_m3 171 rfl) rfl
theorem q721 : (Jvm.Cond.selects "OneElastic" ({ cls := "OneElastic", name := "hours", desc := "(I)I" } : Jvm.MethodName) ({ cls := "OneElastic", name := "hours", desc := "(I)I" } : Jvm.MethodName)) ∈ lw_all := lw_g (lw_at lw_m3 172 rfl) rfl
theorem q722 : (Jvm.Cond.code ({ cls := "OneElastic", name := "hours", desc := "(I)I" } : Jvm.MethodName) prog_1_method_36_code (4 : Nat) (Option.some Jvm.ClassFile.FieldType.int)) ∈ lw_all := lw_g (lw_at lw_m3 173 rfl) rfl
theorem q723 : (Jvm.Cond.constantLong "OneElastic" (245 : Nat) (24 : Int64)) ∈ lw_all := lw_g (lw_at lw_m3 174 rfl) rfl
theorem q724 : (Jvm.Cond.methodLink "OneElastic" (247 : Nat) ({ cls := "OneElastic", name := "passes", desc := "(LOneElastic$Town;)V" } : Jvm.MethodName)) ∈ lw_all := lw_g (lw_at lw_m3 175 rfl) rfl
theorem q725 : (Jvm.Cond.static ({ cls := "OneElastic", name := "passes", desc := "(LOneElastic$Town;)V" } : Jvm.MethodName)) ∈ lw_all := lw_g (lw_at lw_m3 176 rfl) rfl
theorem q726 : (Jvm.Cond.code ({ cls := "OneElastic", name := "passes", desc := "(LOneElastic$Town;)V" } : Jvm.MethodName) prog_1_method_35_code (1 : Nat) (Option.none : Option Jvm.ClassFile.FieldType)) ∈ lw_all := lw_g (lw_at lw_m3 177 rfl) rfl
theorem q728 : (Jvm.Cond.instanceMethod ({ cls := "OneElastic", name := "springs", desc := "(I)I" } : Jvm.MethodName)) ∈ lw_all := lw_g (lw_at lw_m3 179 rfl) rfl
theorem q729 : (Jvm.Cond.selects "OneElastic" ({ cls := "OneElastic", name := "springs", desc := "(I)I" } : Jvm.MethodName) ({ cls := "OneElastic", name := "springs", desc := "(I)I" } : Jvm.MethodName)) ∈ lw_all := lw_g (lw_at lw_m3 180 rfl) rfl
theorem q730 : (Jvm.Cond.code ({ cls := "OneElastic", name := "springs", desc := "(I)I" } : Jvm.MethodName) prog_1_method_38_code (3 : Nat) (Option.some Jvm.ClassFile.FieldType.int)) ∈ lw_all := lw_g (lw_at lw_m3 181 rfl) rfl
theorem q731 : (Jvm.Cond.constantLong "OneElastic" (257 : Nat) (40 : Int64)) ∈ lw_all := lw_g (lw_at lw_m3 182 rfl) rfl
theorem q732 : (Jvm.Cond.methodLink "OneElastic" (259 : Nat) ({ cls := "OneElastic", name := "springs", desc := "()V" } : Jvm.MethodName)) ∈ lw_all := lw_g (lw_at lw_m3 183 rfl) rfl
theorem q733 : (Jvm.Cond.privateMethod ({ cls := "OneElastic", name := "springs", desc := "()V" } : Jvm.MethodName)) ∈ lw_tbl := lw_at lw_m3 184 rfl
theorem q734 : (Jvm.Cond.instanceMethod ({ cls := "OneElastic", name := "springs", desc := "()V" } : Jvm.MethodName)) ∈ lw_all := lw_g (lw_at lw_m3 185 rfl) rfl
theorem q735 : (Jvm.Cond.code ({ cls := "OneElastic", name := "springs", desc := "()V" } : Jvm.MethodName) prog_1_method_37_code (3 : Nat) (Option.none : Option Jvm.ClassFile.FieldType)) ∈ lw_all := lw_g (lw_at lw_m3 186 rfl) rfl
theorem q736 : (Jvm.Cond.constant "OneElastic" (254 : Nat) (1103515245 : Int32)) ∈ lw_all := lw_g (lw_at lw_m3 187 rfl) rfl
theorem q737 : (Jvm.Cond.constant "OneElastic" (255 : Nat) (2147483647 : Int32)) ∈ lw_all := lw_g (lw_at lw_m3 188 rfl) rfl
theorem q738 : (Jvm.Cond.constant "OneElastic" (256 : Nat) (65536 : Int32)) ∈ lw_all := lw_g (lw_at lw_m3 189 rfl) rfl
theorem q739 : (Jvm.Cond.methodLink "OneElastic" (262 : Nat) ({ cls := "java/lang/Integer", name := "bitCount", desc := "(I)I" } : Jvm.MethodName)) ∈ lw_all := lw_g (lw_at lw_m3 190 rfl) rfl
theorem q746 : (Jvm.Cond.instanceMethod ({ cls := "OneElastic", name := "undo", desc := "()I" } : Jvm.MethodName)) ∈ lw_all := lw_g (lw_at lw_m3 197 rfl) rfl
theorem q747 : (Jvm.Cond.selects "OneElastic" ({ cls := "OneElastic", name := "undo", desc := "()I" } : Jvm.MethodName) ({ cls := "OneElastic", name := "undo", desc := "()I" } : Jvm.MethodName)) ∈ lw_all := lw_g (lw_at lw_m3 198 rfl) rfl
theorem q748 : (Jvm.Cond.code ({ cls := "OneElastic", name := "undo", desc := "()I" } : Jvm.MethodName) prog_1_method_39_code (1 : Nat) (Option.some Jvm.ClassFile.FieldType.int)) ∈ lw_all := lw_g (lw_at lw_m3 199 rfl) rfl
theorem q749 : (Jvm.Cond.methodLink "OneElastic" (267 : Nat) ({ cls := "java/util/ArrayDeque", name := "isEmpty", desc := "()Z" } : Jvm.MethodName)) ∈ lw_all := lw_g (lw_at lw_m3 200 rfl) rfl
theorem q753 : (Jvm.Cond.methodLink "OneElastic" (271 : Nat) ({ cls := "java/util/ArrayDeque", name := "removeLast", desc := "()Ljava/lang/Object;" } : Jvm.MethodName)) ∈ lw_all := lw_g (lw_at lw_m3 204 rfl) rfl
theorem q765 : (Jvm.Cond.instanceMethod ({ cls := "OneElastic", name := "seed", desc := "(I)I" } : Jvm.MethodName)) ∈ lw_all := lw_g (lw_at lw_m3 216 rfl) rfl
theorem q766 : (Jvm.Cond.selects "OneElastic" ({ cls := "OneElastic", name := "seed", desc := "(I)I" } : Jvm.MethodName) ({ cls := "OneElastic", name := "seed", desc := "(I)I" } : Jvm.MethodName)) ∈ lw_all := lw_g (lw_at lw_m3 217 rfl) rfl
theorem q767 : (Jvm.Cond.code ({ cls := "OneElastic", name := "seed", desc := "(I)I" } : Jvm.MethodName) prog_1_method_40_code (3 : Nat) (Option.some Jvm.ClassFile.FieldType.int)) ∈ lw_all := lw_g (lw_at lw_m3 218 rfl) rfl
theorem q769 : (Jvm.Cond.instanceMethod ({ cls := "OneElastic", name := "far", desc := "(II)I" } : Jvm.MethodName)) ∈ lw_all := lw_g (lw_at lw_m3 220 rfl) rfl
theorem q770 : (Jvm.Cond.selects "OneElastic" ({ cls := "OneElastic", name := "far", desc := "(II)I" } : Jvm.MethodName) ({ cls := "OneElastic", name := "far", desc := "(II)I" } : Jvm.MethodName)) ∈ lw_all := lw_g (lw_at lw_m3 221 rfl) rfl
theorem q771 : (Jvm.Cond.code ({ cls := "OneElastic", name := "far", desc := "(II)I" } : Jvm.MethodName) prog_1_method_42_code (6 : Nat) (Option.some Jvm.ClassFile.FieldType.int)) ∈ lw_all := lw_g (lw_at lw_m3 222 rfl) rfl
theorem q772 : (Jvm.Cond.methodLink "OneElastic" (277 : Nat) ({ cls := "OneElastic", name := "tries", desc := "()LOneElastic$Town;" } : Jvm.MethodName)) ∈ lw_all := lw_g (lw_at lw_m3 223 rfl) rfl
theorem q773 : (Jvm.Cond.privateMethod ({ cls := "OneElastic", name := "tries", desc := "()LOneElastic$Town;" } : Jvm.MethodName)) ∈ lw_tbl := lw_at lw_m3 224 rfl
theorem q774 : (Jvm.Cond.instanceMethod ({ cls := "OneElastic", name := "tries", desc := "()LOneElastic$Town;" } : Jvm.MethodName)) ∈ lw_all := lw_g (lw_at lw_m3 225 rfl) rfl
theorem q775 : (Jvm.Cond.code ({ cls := "OneElastic", name := "tries", desc := "()LOneElastic$Town;" } : Jvm.MethodName) prog_1_method_41_code (1 : Nat) (Option.some (Jvm.ClassFile.FieldType.object "OneElastic$Town"))) ∈ lw_all := lw_g (lw_at lw_m3 226 rfl) rfl
theorem q776 : (Jvm.Cond.methodLink "OneElastic" (280 : Nat) ({ cls := "OneElastic", name := "isStill", desc := "(LOneElastic$Town;)Z" } : Jvm.MethodName)) ∈ lw_all := lw_g (lw_at lw_m3 227 rfl) rfl
theorem q777 : (Jvm.Cond.privateMethod ({ cls := "OneElastic", name := "isStill", desc := "(LOneElastic$Town;)Z" } : Jvm.MethodName)) ∈ lw_tbl := lw_at lw_m3 228 rfl
theorem q778 : (Jvm.Cond.instanceMethod ({ cls := "OneElastic", name := "isStill", desc := "(LOneElastic$Town;)Z" } : Jvm.MethodName)) ∈ lw_all := lw_g (lw_at lw_m3 229 rfl) rfl
theorem q779 : (Jvm.Cond.code ({ cls := "OneElastic", name := "isStill", desc := "(LOneElastic$Town;)Z" } : Jvm.MethodName) prog_1_method_10_code (2 : Nat) (Option.some Jvm.ClassFile.FieldType.boolean)) ∈ lw_all := lw_g (lw_at lw_m3 230 rfl) rfl
theorem q781 : (Jvm.Cond.instanceMethod ({ cls := "OneElastic", name := "fall", desc := "(II)I" } : Jvm.MethodName)) ∈ lw_all := lw_g (lw_at lw_m3 232 rfl) rfl
theorem q782 : (Jvm.Cond.selects "OneElastic" ({ cls := "OneElastic", name := "fall", desc := "(II)I" } : Jvm.MethodName) ({ cls := "OneElastic", name := "fall", desc := "(II)I" } : Jvm.MethodName)) ∈ lw_all := lw_g (lw_at lw_m3 233 rfl) rfl
theorem q783 : (Jvm.Cond.code ({ cls := "OneElastic", name := "fall", desc := "(II)I" } : Jvm.MethodName) prog_1_method_43_code (4 : Nat) (Option.some Jvm.ClassFile.FieldType.int)) ∈ lw_all := lw_g (lw_at lw_m3 234 rfl) rfl
theorem q785 : (Jvm.Cond.instanceMethod ({ cls := "OneElastic", name := "tie", desc := "(II)I" } : Jvm.MethodName)) ∈ lw_all := lw_g (lw_at lw_m3 236 rfl) rfl
theorem q786 : (Jvm.Cond.selects "OneElastic" ({ cls := "OneElastic", name := "tie", desc := "(II)I" } : Jvm.MethodName) ({ cls := "OneElastic", name := "tie", desc := "(II)I" } : Jvm.MethodName)) ∈ lw_all := lw_g (lw_at lw_m3 237 rfl) rfl
theorem q787 : (Jvm.Cond.code ({ cls := "OneElastic", name := "tie", desc := "(II)I" } : Jvm.MethodName) prog_1_method_44_code (8 : Nat) (Option.some Jvm.ClassFile.FieldType.int)) ∈ lw_all := lw_g (lw_at lw_m3 238 rfl) rfl
theorem q788 : (Jvm.Cond.constantLong "OneElastic" (284 : Nat) (2 : Int64)) ∈ lw_all := lw_g (lw_at lw_m3 239 rfl) rfl
theorem q789 : (Jvm.Cond.methodLink "OneElastic" (286 : Nat) ({ cls := "OneElastic", name := "isMore", desc := "(II)Z" } : Jvm.MethodName)) ∈ lw_all := lw_g (lw_at lw_m4 0 rfl) rfl
theorem q790 : (Jvm.Cond.static ({ cls := "OneElastic", name := "isMore", desc := "(II)Z" } : Jvm.MethodName)) ∈ lw_all := lw_g (lw_at lw_m4 1 rfl) rfl
theorem q791 : (Jvm.Cond.code ({ cls := "OneElastic", name := "isMore", desc := "(II)Z" } : Jvm.MethodName) prog_1_method_3_code (2 : Nat) (Option.some Jvm.ClassFile.FieldType.boolean)) ∈ lw_all := lw_g (lw_at lw_m4 2 rfl) rfl
theorem q792 : (Jvm.Cond.methodLink "OneElastic" (290 : Nat) ({ cls := "OneElastic", name := "part", desc := "(I)LOneElastic$Part;" } : Jvm.MethodName)) ∈ lw_all := lw_g (lw_at lw_m4 3 rfl) rfl
theorem q793 : (Jvm.Cond.static ({ cls := "OneElastic", name := "part", desc := "(I)LOneElastic$Part;" } : Jvm.MethodName)) ∈ lw_all := lw_g (lw_at lw_m4 4 rfl) rfl
theorem q794 : (Jvm.Cond.code ({ cls := "OneElastic", name := "part", desc := "(I)LOneElastic$Part;" } : Jvm.MethodName) prog_1_method_5_code (1 : Nat) (Option.some (Jvm.ClassFile.FieldType.object "OneElastic$Part"))) ∈ lw_all := lw_g (lw_at lw_m4 5 rfl) rfl
theorem q796 : (Jvm.Cond.instanceMethod ({ cls := "OneElastic", name := "when", desc := "()I" } : Jvm.MethodName)) ∈ lw_all := lw_g (lw_at lw_m4 7 rfl) rfl
theorem q797 : (Jvm.Cond.selects "OneElastic" ({ cls := "OneElastic", name := "when", desc := "()I" } : Jvm.MethodName) ({ cls := "OneElastic", name := "when", desc := "()I" } : Jvm.MethodName)) ∈ lw_all := lw_g (lw_at lw_m4 8 rfl) rfl
theorem q798 : (Jvm.Cond.code ({ cls := "OneElastic", name := "when", desc := "()I" } : Jvm.MethodName) prog_1_method_45_code (3 : Nat) (Option.some Jvm.ClassFile.FieldType.int)) ∈ lw_all := lw_g (lw_at lw_m4 9 rfl) rfl
theorem q800 : (Jvm.Cond.instanceMethod ({ cls := "OneElastic", name := "odds", desc := "(II)I" } : Jvm.MethodName)) ∈ lw_all := lw_g (lw_at lw_m4 11 rfl) rfl
theorem q801 : (Jvm.Cond.selects "OneElastic" ({ cls := "OneElastic", name := "odds", desc := "(II)I" } : Jvm.MethodName) ({ cls := "OneElastic", name := "odds", desc := "(II)I" } : Jvm.MethodName)) ∈ lw_all := lw_g (lw_at lw_m4 12 rfl) rfl
theorem q802 : (Jvm.Cond.code ({ cls := "OneElastic", name := "odds", desc := "(II)I" } : Jvm.MethodName) prog_1_method_46_code (11 : Nat) (Option.some Jvm.ClassFile.FieldType.int)) ∈ lw_all := lw_g (lw_at lw_m4 13 rfl) rfl
theorem q803 : (Jvm.Cond.constantLong "OneElastic" (293 : Nat) (10 : Int64)) ∈ lw_all := lw_g (lw_at lw_m4 14 rfl) rfl
theorem q805 : (Jvm.Cond.instanceMethod ({ cls := "OneElastic", name := "war", desc := "(II)I" } : Jvm.MethodName)) ∈ lw_all := lw_g (lw_at lw_m4 16 rfl) rfl
theorem q806 : (Jvm.Cond.selects "OneElastic" ({ cls := "OneElastic", name := "war", desc := "(II)I" } : Jvm.MethodName) ({ cls := "OneElastic", name := "war", desc := "(II)I" } : Jvm.MethodName)) ∈ lw_all := lw_g (lw_at lw_m4 17 rfl) rfl
theorem q807 : (Jvm.Cond.code ({ cls := "OneElastic", name := "war", desc := "(II)I" } : Jvm.MethodName) prog_1_method_49_code (3 : Nat) (Option.some Jvm.ClassFile.FieldType.int)) ∈ lw_all := lw_g (lw_at lw_m4 18 rfl) rfl
theorem q808 : (Jvm.Cond.constantLong "OneElastic" (309 : Nat) (5 : Int64)) ∈ lw_all := lw_g (lw_at lw_m4 19 rfl) rfl
theorem q809 : (Jvm.Cond.methodLink "OneElastic" (305 : Nat) ({ cls := "OneElastic", name := "comesTo", desc := "(LOneElastic$Town;II)I" } : Jvm.MethodName)) ∈ lw_all := lw_g (lw_at lw_m4 20 rfl) rfl
theorem q810 : (Jvm.Cond.privateMethod ({ cls := "OneElastic", name := "comesTo", desc := "(LOneElastic$Town;II)I" } : Jvm.MethodName)) ∈ lw_tbl := lw_at lw_m4 21 rfl
theorem q811 : (Jvm.Cond.instanceMethod ({ cls := "OneElastic", name := "comesTo", desc := "(LOneElastic$Town;II)I" } : Jvm.MethodName)) ∈ lw_all := lw_g (lw_at lw_m4 22 rfl) rfl
theorem q812 : (Jvm.Cond.code ({ cls := "OneElastic", name := "comesTo", desc := "(LOneElastic$Town;II)I" } : Jvm.MethodName) prog_1_method_48_code (9 : Nat) (Option.some Jvm.ClassFile.FieldType.int)) ∈ lw_all := lw_g (lw_at lw_m4 23 rfl) rfl
theorem q813 : (Jvm.Cond.methodLink "OneElastic" (301 : Nat) ({ cls := "OneElastic", name := "mover", desc := "(LOneElastic$Town;I)I" } : Jvm.MethodName)) ∈ lw_all := lw_g (lw_at lw_m4 24 rfl) rfl
theorem q814 : (Jvm.Cond.privateMethod ({ cls := "OneElastic", name := "mover", desc := "(LOneElastic$Town;I)I" } : Jvm.MethodName)) ∈ lw_tbl := lw_at lw_m4 25 rfl
theorem q815 : (Jvm.Cond.instanceMethod ({ cls := "OneElastic", name := "mover", desc := "(LOneElastic$Town;I)I" } : Jvm.MethodName)) ∈ lw_all := lw_g (lw_at lw_m4 26 rfl) rfl
theorem q816 : (Jvm.Cond.code ({ cls := "OneElastic", name := "mover", desc := "(LOneElastic$Town;I)I" } : Jvm.MethodName) prog_1_method_47_code (3 : Nat) (Option.some Jvm.ClassFile.FieldType.int)) ∈ lw_all := lw_g (lw_at lw_m4 27 rfl) rfl
theorem q817 : (Jvm.Cond.methodLink "OneElastic" (295 : Nat) ({ cls := "java/lang/Integer", name := "numberOfTrailingZeros", desc := "(I)I" } : Jvm.MethodName)) ∈ lw_all := lw_g (lw_at lw_m4 28 rfl) rfl
theorem q821 : (Jvm.Cond.methodLink "OneElastic" (298 : Nat) ({ cls := "java/lang/Integer", name := "numberOfLeadingZeros", desc := "(I)I" } : Jvm.MethodName)) ∈ lw_all := lw_g (lw_at lw_m4 32 rfl) rfl
theorem q825 : (Jvm.Cond.instanceMethod ({ cls := "OneElastic", name := "image", desc := "()I" } : Jvm.MethodName)) ∈ lw_all := lw_g (lw_at lw_m4 36 rfl) rfl
theorem q826 : (Jvm.Cond.selects "OneElastic" ({ cls := "OneElastic", name := "image", desc := "()I" } : Jvm.MethodName) ({ cls := "OneElastic", name := "image", desc := "()I" } : Jvm.MethodName)) ∈ lw_all := lw_g (lw_at lw_m4 37 rfl) rfl
theorem q827 : (Jvm.Cond.code ({ cls := "OneElastic", name := "image", desc := "()I" } : Jvm.MethodName) prog_1_method_51_code (1 : Nat) (Option.some Jvm.ClassFile.FieldType.int)) ∈ lw_all := lw_g (lw_at lw_m4 38 rfl) rfl
theorem q828 : (Jvm.Cond.methodLink "OneElastic" (329 : Nat) ({ cls := "OneElastic", name := "copies", desc := "(Ljava/util/ArrayDeque;Ljava/util/ArrayDeque;)V" } : Jvm.MethodName)) ∈ lw_all := lw_g (lw_at lw_m4 39 rfl) rfl
theorem q829 : (Jvm.Cond.privateMethod ({ cls := "OneElastic", name := "copies", desc := "(Ljava/util/ArrayDeque;Ljava/util/ArrayDeque;)V" } : Jvm.MethodName)) ∈ lw_tbl := lw_at lw_m4 40 rfl
theorem q830 : (Jvm.Cond.instanceMethod ({ cls := "OneElastic", name := "copies", desc := "(Ljava/util/ArrayDeque;Ljava/util/ArrayDeque;)V" } : Jvm.MethodName)) ∈ lw_all := lw_g (lw_at lw_m4 41 rfl) rfl
theorem q831 : (Jvm.Cond.code ({ cls := "OneElastic", name := "copies", desc := "(Ljava/util/ArrayDeque;Ljava/util/ArrayDeque;)V" } : Jvm.MethodName) prog_1_method_50_code (5 : Nat) (Option.none : Option Jvm.ClassFile.FieldType)) ∈ lw_all := lw_g (lw_at lw_m4 42 rfl) rfl
theorem q832 : (Jvm.Cond.methodLink "OneElastic" (311 : Nat) ({ cls := "java/util/ArrayDeque", name := "iterator", desc := "()Ljava/util/Iterator;" } : Jvm.MethodName)) ∈ lw_all := lw_g (lw_at lw_m4 43 rfl) rfl
theorem q856 : (Jvm.Cond.interfaceEntry "OneElastic" (315 : Nat)) ∈ lw_tbl := lw_at lw_m4 67 rfl
theorem q857 : (Jvm.Cond.methodLink "OneElastic" (315 : Nat) ({ cls := "java/util/Iterator", name := "hasNext", desc := "()Z" } : Jvm.MethodName)) ∈ lw_all := lw_g (lw_at lw_m4 68 rfl) rfl
theorem q866 : (Jvm.Cond.interfaceEntry "OneElastic" (320 : Nat)) ∈ lw_tbl := lw_at lw_m4 77 rfl
theorem q867 : (Jvm.Cond.methodLink "OneElastic" (320 : Nat) ({ cls := "java/util/Iterator", name := "next", desc := "()Ljava/lang/Object;" } : Jvm.MethodName)) ∈ lw_all := lw_g (lw_at lw_m4 78 rfl) rfl
theorem q880 : (Jvm.Cond.instanceMethod ({ cls := "OneElastic", name := "restore", desc := "()I" } : Jvm.MethodName)) ∈ lw_all := lw_g (lw_at lw_m4 91 rfl) rfl
theorem q881 : (Jvm.Cond.selects "OneElastic" ({ cls := "OneElastic", name := "restore", desc := "()I" } : Jvm.MethodName) ({ cls := "OneElastic", name := "restore", desc := "()I" } : Jvm.MethodName)) ∈ lw_all := lw_g (lw_at lw_m4 92 rfl) rfl
theorem q882 : (Jvm.Cond.code ({ cls := "OneElastic", name := "restore", desc := "()I" } : Jvm.MethodName) prog_1_method_52_code (1 : Nat) (Option.some Jvm.ClassFile.FieldType.int)) ∈ lw_all := lw_g (lw_at lw_m4 93 rfl) rfl
theorem q884 : (Jvm.Cond.instanceMethod ({ cls := "OneElastic", name := "sheet", desc := "(III)I" } : Jvm.MethodName)) ∈ lw_all := lw_g (lw_at lw_m4 95 rfl) rfl
theorem q885 : (Jvm.Cond.selects "OneElastic" ({ cls := "OneElastic", name := "sheet", desc := "(III)I" } : Jvm.MethodName) ({ cls := "OneElastic", name := "sheet", desc := "(III)I" } : Jvm.MethodName)) ∈ lw_all := lw_g (lw_at lw_m4 96 rfl) rfl
theorem q886 : (Jvm.Cond.codeWith ({ cls := "OneElastic", name := "sheet", desc := "(III)I" } : Jvm.MethodName) prog_1_method_59_code (5 : Nat) (Option.some Jvm.ClassFile.FieldType.int) [((22 : Nat), (37 : Nat), (38 : Nat), (365 : Nat))]) ∈ lw_all := lw_g (lw_at lw_m4 97 rfl) rfl
theorem q887 : (Jvm.Cond.classLink "OneElastic" (365 : Nat) "java/lang/NegativeArraySizeException") ∈ lw_all := lw_g (lw_at lw_m4 98 rfl) rfl
theorem q914 : (Jvm.Cond.methodLink "OneElastic" (345 : Nat) ({ cls := "OneElastic", name := "isSheet", desc := "(I)Z" } : Jvm.MethodName)) ∈ lw_all := lw_g (lw_at lw_m4 125 rfl) rfl
theorem q915 : (Jvm.Cond.static ({ cls := "OneElastic", name := "isSheet", desc := "(I)Z" } : Jvm.MethodName)) ∈ lw_all := lw_g (lw_at lw_m4 126 rfl) rfl
theorem q916 : (Jvm.Cond.code ({ cls := "OneElastic", name := "isSheet", desc := "(I)Z" } : Jvm.MethodName) prog_1_method_53_code (1 : Nat) (Option.some Jvm.ClassFile.FieldType.boolean)) ∈ lw_all := lw_g (lw_at lw_m4 127 rfl) rfl
theorem q917 : (Jvm.Cond.constantLong "OneElastic" (337 : Nat) (3 : Int64)) ∈ lw_all := lw_g (lw_at lw_m4 128 rfl) rfl
theorem q918 : (Jvm.Cond.methodLink "OneElastic" (348 : Nat) ({ cls := "OneElastic", name := "isLane", desc := "(I)Z" } : Jvm.MethodName)) ∈ lw_all := lw_g (lw_at lw_m4 129 rfl) rfl
theorem q919 : (Jvm.Cond.static ({ cls := "OneElastic", name := "isLane", desc := "(I)Z" } : Jvm.MethodName)) ∈ lw_all := lw_g (lw_at lw_m4 130 rfl) rfl
theorem q920 : (Jvm.Cond.code ({ cls := "OneElastic", name := "isLane", desc := "(I)Z" } : Jvm.MethodName) prog_1_method_54_code (1 : Nat) (Option.some Jvm.ClassFile.FieldType.boolean)) ∈ lw_all := lw_g (lw_at lw_m4 131 rfl) rfl
theorem q921 : (Jvm.Cond.methodLink "OneElastic" (355 : Nat) ({ cls := "OneElastic", name := "laid", desc := "(II)Ljava/lang/Object;" } : Jvm.MethodName)) ∈ lw_all := lw_g (lw_at lw_m4 132 rfl) rfl
theorem q922 : (Jvm.Cond.static ({ cls := "OneElastic", name := "laid", desc := "(II)Ljava/lang/Object;" } : Jvm.MethodName)) ∈ lw_all := lw_g (lw_at lw_m4 133 rfl) rfl
theorem q923 : (Jvm.Cond.code ({ cls := "OneElastic", name := "laid", desc := "(II)Ljava/lang/Object;" } : Jvm.MethodName) prog_1_method_55_code (2 : Nat) (Option.some (Jvm.ClassFile.FieldType.object "java/lang/Object"))) ∈ lw_all := lw_g (lw_at lw_m4 134 rfl) rfl
theorem q927 : (Jvm.Cond.instanceMethod ({ cls := "OneElastic", name := "drop", desc := "(I)I" } : Jvm.MethodName)) ∈ lw_all := lw_g (lw_at lw_m4 138 rfl) rfl
theorem q928 : (Jvm.Cond.selects "OneElastic" ({ cls := "OneElastic", name := "drop", desc := "(I)I" } : Jvm.MethodName) ({ cls := "OneElastic", name := "drop", desc := "(I)I" } : Jvm.MethodName)) ∈ lw_all := lw_g (lw_at lw_m4 139 rfl) rfl
theorem q929 : (Jvm.Cond.code ({ cls := "OneElastic", name := "drop", desc := "(I)I" } : Jvm.MethodName) prog_1_method_60_code (3 : Nat) (Option.some Jvm.ClassFile.FieldType.int)) ∈ lw_all := lw_g (lw_at lw_m4 140 rfl) rfl
theorem q930 : (Jvm.Cond.methodLink "OneElastic" (367 : Nat) ({ cls := "OneElastic", name := "sizeOf", desc := "(Ljava/lang/Object;)I" } : Jvm.MethodName)) ∈ lw_all := lw_g (lw_at lw_m4 141 rfl) rfl
theorem q931 : (Jvm.Cond.static ({ cls := "OneElastic", name := "sizeOf", desc := "(Ljava/lang/Object;)I" } : Jvm.MethodName)) ∈ lw_all := lw_g (lw_at lw_m4 142 rfl) rfl
theorem q932 : (Jvm.Cond.code ({ cls := "OneElastic", name := "sizeOf", desc := "(Ljava/lang/Object;)I" } : Jvm.MethodName) prog_1_method_56_code (1 : Nat) (Option.some Jvm.ClassFile.FieldType.int)) ∈ lw_all := lw_g (lw_at lw_m4 143 rfl) rfl
theorem q933 : (Jvm.Cond.classLink "OneElastic" (339 : Nat) "[B") ∈ lw_all := lw_g (lw_at lw_m4 144 rfl) rfl
theorem q934 : (Jvm.Cond.classLink "OneElastic" (340 : Nat) "[S") ∈ lw_all := lw_g (lw_at lw_m4 145 rfl) rfl
theorem q935 : (Jvm.Cond.classLink "OneElastic" (342 : Nat) "[I") ∈ lw_all := lw_g (lw_at lw_m4 146 rfl) rfl
theorem q936 : (Jvm.Cond.classLink "OneElastic" (343 : Nat) "[J") ∈ lw_all := lw_g (lw_at lw_m4 147 rfl) rfl
theorem q938 : (Jvm.Cond.instanceMethod ({ cls := "OneElastic", name := "item", desc := "(IIIJ)I" } : Jvm.MethodName)) ∈ lw_all := lw_g (lw_at lw_m4 149 rfl) rfl
theorem q939 : (Jvm.Cond.selects "OneElastic" ({ cls := "OneElastic", name := "item", desc := "(IIIJ)I" } : Jvm.MethodName) ({ cls := "OneElastic", name := "item", desc := "(IIIJ)I" } : Jvm.MethodName)) ∈ lw_all := lw_g (lw_at lw_m4 150 rfl) rfl
theorem q940 : (Jvm.Cond.codeWith ({ cls := "OneElastic", name := "item", desc := "(IIIJ)I" } : Jvm.MethodName) prog_1_method_61_code (7 : Nat) (Option.some Jvm.ClassFile.FieldType.int) [((16 : Nat), (33 : Nat), (34 : Nat), (375 : Nat)), ((16 : Nat), (33 : Nat), (39 : Nat), (377 : Nat)), ((16 : Nat), (33 : Nat), (44 : Nat), (379 : Nat))]) ∈ lw_all := lw_g (lw_at lw_m4 151 rfl) rfl
theorem q941 : (Jvm.Cond.classLink "OneElastic" (375 : Nat) "java/lang/NullPointerException") ∈ lw_all := lw_g (lw_at lw_m4 152 rfl) rfl
theorem q943 : (Jvm.Cond.classLink "OneElastic" (377 : Nat) "java/lang/ClassCastException") ∈ lw_all := lw_g (lw_at lw_m4 154 rfl) rfl
theorem q957 : (Jvm.Cond.classLink "OneElastic" (379 : Nat) "java/lang/ArrayIndexOutOfBoundsException") ∈ lw_all := lw_g (lw_at lw_m4 168 rfl) rfl
theorem q976 : (Jvm.Cond.methodLink "OneElastic" (371 : Nat) ({ cls := "OneElastic", name := "puts", desc := "(Ljava/lang/Object;IIJ)V" } : Jvm.MethodName)) ∈ lw_all := lw_g (lw_at lw_m4 187 rfl) rfl
theorem q977 : (Jvm.Cond.static ({ cls := "OneElastic", name := "puts", desc := "(Ljava/lang/Object;IIJ)V" } : Jvm.MethodName)) ∈ lw_all := lw_g (lw_at lw_m4 188 rfl) rfl
theorem q978 : (Jvm.Cond.code ({ cls := "OneElastic", name := "puts", desc := "(Ljava/lang/Object;IIJ)V" } : Jvm.MethodName) prog_1_method_58_code (5 : Nat) (Option.none : Option Jvm.ClassFile.FieldType)) ∈ lw_all := lw_g (lw_at lw_m4 189 rfl) rfl
theorem q980 : (Jvm.Cond.instanceMethod ({ cls := "OneElastic", name := "moved", desc := "(IIIII)I" } : Jvm.MethodName)) ∈ lw_all := lw_g (lw_at lw_m4 191 rfl) rfl
theorem q981 : (Jvm.Cond.selects "OneElastic" ({ cls := "OneElastic", name := "moved", desc := "(IIIII)I" } : Jvm.MethodName) ({ cls := "OneElastic", name := "moved", desc := "(IIIII)I" } : Jvm.MethodName)) ∈ lw_all := lw_g (lw_at lw_m4 192 rfl) rfl
theorem q982 : (Jvm.Cond.code ({ cls := "OneElastic", name := "moved", desc := "(IIIII)I" } : Jvm.MethodName) prog_1_method_66_code (12 : Nat) (Option.some Jvm.ClassFile.FieldType.int)) ∈ lw_all := lw_g (lw_at lw_m4 193 rfl) rfl
theorem q983 : (Jvm.Cond.methodLink "OneElastic" (398 : Nat) ({ cls := "OneElastic", name := "refusal", desc := "(IIII)I" } : Jvm.MethodName)) ∈ lw_all := lw_g (lw_at lw_m4 194 rfl) rfl
theorem q984 : (Jvm.Cond.privateMethod ({ cls := "OneElastic", name := "refusal", desc := "(IIII)I" } : Jvm.MethodName)) ∈ lw_tbl := lw_at lw_m4 195 rfl
theorem q985 : (Jvm.Cond.instanceMethod ({ cls := "OneElastic", name := "refusal", desc := "(IIII)I" } : Jvm.MethodName)) ∈ lw_all := lw_g (lw_at lw_m4 196 rfl) rfl
theorem q986 : (Jvm.Cond.codeWith ({ cls := "OneElastic", name := "refusal", desc := "(IIII)I" } : Jvm.MethodName) prog_1_method_64_code (6 : Nat) (Option.some Jvm.ClassFile.FieldType.int) [((0 : Nat), (18 : Nat), (19 : Nat), (375 : Nat)), ((0 : Nat), (18 : Nat), (24 : Nat), (377 : Nat)), ((0 : Nat), (18 : Nat), (29 : Nat), (379 : Nat))]) ∈ lw_all := lw_g (lw_at lw_m4 197 rfl) rfl
theorem q987 : (Jvm.Cond.methodLink "OneElastic" (394 : Nat) ({ cls := "OneElastic", name := "looksAt", desc := "(Ljava/lang/Object;III)V" } : Jvm.MethodName)) ∈ lw_all := lw_g (lw_at lw_m4 198 rfl) rfl
theorem q988 : (Jvm.Cond.privateMethod ({ cls := "OneElastic", name := "looksAt", desc := "(Ljava/lang/Object;III)V" } : Jvm.MethodName)) ∈ lw_tbl := lw_at lw_m4 199 rfl
theorem q989 : (Jvm.Cond.instanceMethod ({ cls := "OneElastic", name := "looksAt", desc := "(Ljava/lang/Object;III)V" } : Jvm.MethodName)) ∈ lw_all := lw_g (lw_at lw_m4 200 rfl) rfl
theorem q990 : (Jvm.Cond.code ({ cls := "OneElastic", name := "looksAt", desc := "(Ljava/lang/Object;III)V" } : Jvm.MethodName) prog_1_method_63_code (7 : Nat) (Option.none : Option Jvm.ClassFile.FieldType)) ∈ lw_all := lw_g (lw_at lw_m4 201 rfl) rfl
theorem q991 : (Jvm.Cond.methodLink "OneElastic" (381 : Nat) ({ cls := "OneElastic", name := "sizeIn", desc := "(Ljava/lang/Object;I)I" } : Jvm.MethodName)) ∈ lw_all := lw_g (lw_at lw_m4 202 rfl) rfl
theorem q992 : (Jvm.Cond.static ({ cls := "OneElastic", name := "sizeIn", desc := "(Ljava/lang/Object;I)I" } : Jvm.MethodName)) ∈ lw_all := lw_g (lw_at lw_m4 203 rfl) rfl
theorem q993 : (Jvm.Cond.code ({ cls := "OneElastic", name := "sizeIn", desc := "(Ljava/lang/Object;I)I" } : Jvm.MethodName) prog_1_method_62_code (2 : Nat) (Option.some Jvm.ClassFile.FieldType.int)) ∈ lw_all := lw_g (lw_at lw_m4 204 rfl) rfl
theorem q994 : (Jvm.Cond.methodLink "OneElastic" (385 : Nat) ({ cls := "java/lang/ArrayIndexOutOfBoundsException", name := "<init>", desc := "()V" } : Jvm.MethodName)) ∈ lw_all := lw_g (lw_at lw_m4 205 rfl) rfl
theorem q1001 : (Jvm.Cond.methodLink "OneElastic" (390 : Nat) ({ cls := "OneElastic", name := "itemOf", desc := "(Ljava/lang/Object;II)J" } : Jvm.MethodName)) ∈ lw_all := lw_g (lw_at lw_m4 212 rfl) rfl
theorem q1002 : (Jvm.Cond.static ({ cls := "OneElastic", name := "itemOf", desc := "(Ljava/lang/Object;II)J" } : Jvm.MethodName)) ∈ lw_all := lw_g (lw_at lw_m4 213 rfl) rfl
theorem q1003 : (Jvm.Cond.code ({ cls := "OneElastic", name := "itemOf", desc := "(Ljava/lang/Object;II)J" } : Jvm.MethodName) prog_1_method_57_code (3 : Nat) (Option.some Jvm.ClassFile.FieldType.long)) ∈ lw_all := lw_g (lw_at lw_m4 214 rfl) rfl
theorem q1004 : (Jvm.Cond.methodLink "OneElastic" (402 : Nat) ({ cls := "OneElastic", name := "isSo", desc := "(LOneElastic$Town;)Z" } : Jvm.MethodName)) ∈ lw_all := lw_g (lw_at lw_m4 215 rfl) rfl
theorem q1005 : (Jvm.Cond.privateMethod ({ cls := "OneElastic", name := "isSo", desc := "(LOneElastic$Town;)Z" } : Jvm.MethodName)) ∈ lw_tbl := lw_at lw_m4 216 rfl
theorem q1006 : (Jvm.Cond.instanceMethod ({ cls := "OneElastic", name := "isSo", desc := "(LOneElastic$Town;)Z" } : Jvm.MethodName)) ∈ lw_all := lw_g (lw_at lw_m4 217 rfl) rfl
theorem q1007 : (Jvm.Cond.code ({ cls := "OneElastic", name := "isSo", desc := "(LOneElastic$Town;)Z" } : Jvm.MethodName) prog_1_method_65_code (3 : Nat) (Option.some Jvm.ClassFile.FieldType.boolean)) ∈ lw_all := lw_g (lw_at lw_m4 218 rfl) rfl
theorem q1009 : (Jvm.Cond.instanceMethod ({ cls := "OneElastic", name := "gives", desc := "(IIIII)I" } : Jvm.MethodName)) ∈ lw_all := lw_g (lw_at lw_m4 220 rfl) rfl
theorem q1010 : (Jvm.Cond.selects "OneElastic" ({ cls := "OneElastic", name := "gives", desc := "(IIIII)I" } : Jvm.MethodName) ({ cls := "OneElastic", name := "gives", desc := "(IIIII)I" } : Jvm.MethodName)) ∈ lw_all := lw_g (lw_at lw_m4 221 rfl) rfl
theorem q1011 : (Jvm.Cond.code ({ cls := "OneElastic", name := "gives", desc := "(IIIII)I" } : Jvm.MethodName) prog_1_method_68_code (11 : Nat) (Option.some Jvm.ClassFile.FieldType.int)) ∈ lw_all := lw_g (lw_at lw_m4 222 rfl) rfl
theorem q1012 : (Jvm.Cond.methodLink "OneElastic" (405 : Nat) ({ cls := "OneElastic", name := "gives", desc := "(III)Z" } : Jvm.MethodName)) ∈ lw_all := lw_g (lw_at lw_m4 223 rfl) rfl
theorem q1013 : (Jvm.Cond.privateMethod ({ cls := "OneElastic", name := "gives", desc := "(III)Z" } : Jvm.MethodName)) ∈ lw_tbl := lw_at lw_m4 224 rfl
theorem q1014 : (Jvm.Cond.instanceMethod ({ cls := "OneElastic", name := "gives", desc := "(III)Z" } : Jvm.MethodName)) ∈ lw_all := lw_g (lw_at lw_m4 225 rfl) rfl
theorem q1015 : (Jvm.Cond.code ({ cls := "OneElastic", name := "gives", desc := "(III)Z" } : Jvm.MethodName) prog_1_method_67_code (7 : Nat) (Option.some Jvm.ClassFile.FieldType.boolean)) ∈ lw_all := lw_g (lw_at lw_m4 226 rfl) rfl
theorem q1017 : (Jvm.Cond.instanceMethod ({ cls := "OneElastic", name := "log", desc := "(IIII)I" } : Jvm.MethodName)) ∈ lw_all := lw_g (lw_at lw_m4 228 rfl) rfl
theorem q1018 : (Jvm.Cond.selects "OneElastic" ({ cls := "OneElastic", name := "log", desc := "(IIII)I" } : Jvm.MethodName) ({ cls := "OneElastic", name := "log", desc := "(IIII)I" } : Jvm.MethodName)) ∈ lw_all := lw_g (lw_at lw_m4 229 rfl) rfl
theorem q1019 : (Jvm.Cond.code ({ cls := "OneElastic", name := "log", desc := "(IIII)I" } : Jvm.MethodName) prog_1_method_69_code (8 : Nat) (Option.some Jvm.ClassFile.FieldType.int)) ∈ lw_all := lw_g (lw_at lw_m4 230 rfl) rfl
theorem q1021 : (Jvm.Cond.instanceMethod ({ cls := "OneElastic", name := "copy", desc := "(IIIII)I" } : Jvm.MethodName)) ∈ lw_all := lw_g (lw_at lw_m4 232 rfl) rfl
theorem q1022 : (Jvm.Cond.selects "OneElastic" ({ cls := "OneElastic", name := "copy", desc := "(IIIII)I" } : Jvm.MethodName) ({ cls := "OneElastic", name := "copy", desc := "(IIIII)I" } : Jvm.MethodName)) ∈ lw_all := lw_g (lw_at lw_m4 233 rfl) rfl
theorem q1023 : (Jvm.Cond.codeWith ({ cls := "OneElastic", name := "copy", desc := "(IIIII)I" } : Jvm.MethodName) prog_1_method_70_code (7 : Nat) (Option.some Jvm.ClassFile.FieldType.int) [((16 : Nat), (44 : Nat), (45 : Nat), (375 : Nat)), ((16 : Nat), (44 : Nat), (50 : Nat), (414 : Nat)), ((16 : Nat), (44 : Nat), (55 : Nat), (416 : Nat))]) ∈ lw_all := lw_g (lw_at lw_m4 234 rfl) rfl
theorem q1024 : (Jvm.Cond.classLink "OneElastic" (414 : Nat) "java/lang/ArrayStoreException") ∈ lw_all := lw_g (lw_at lw_m4 235 rfl) rfl
theorem q1038 : (Jvm.Cond.classLink "OneElastic" (416 : Nat) "java/lang/IndexOutOfBoundsException") ∈ lw_all := lw_g (lw_at lw_m5 9 rfl) rfl
theorem q1039 : (Jvm.Cond.methodLink "OneElastic" (408 : Nat) ({ cls := "java/lang/System", name := "arraycopy", desc := "(Ljava/lang/Object;ILjava/lang/Object;II)V" } : Jvm.MethodName)) ∈ lw_all := lw_g (lw_at lw_m5 10 rfl) rfl
theorem q1042 : (Jvm.Cond.instanceMethod ({ cls := "OneElastic", name := "<init>", desc := "()V" } : Jvm.MethodName)) ∈ lw_all := lw_g (lw_at lw_m5 13 rfl) rfl
theorem q1043 : (Jvm.Cond.code ({ cls := "OneElastic", name := "<init>", desc := "()V" } : Jvm.MethodName) prog_1_method_71_code (2 : Nat) (Option.none : Option Jvm.ClassFile.FieldType)) ∈ lw_all := lw_g (lw_at lw_m5 14 rfl) rfl
theorem q1044 : (Jvm.Cond.methodLink "OneElastic" (418 : Nat) ({ cls := "java/lang/Object", name := "<init>", desc := "()V" } : Jvm.MethodName)) ∈ lw_all := lw_g (lw_at lw_m5 15 rfl) rfl
theorem q1045 : (Jvm.Cond.classLink "OneElastic" (421 : Nat) "OneElastic$Person") ∈ lw_all := lw_g (lw_at lw_m5 16 rfl) rfl
theorem q1047 : (Jvm.Cond.classLink "OneElastic" (423 : Nat) "OneElastic$Plain") ∈ lw_all := lw_g (lw_at lw_m5 18 rfl) rfl
theorem q1049 : (Jvm.Cond.methodLinkNest "OneElastic" (425 : Nat) ({ cls := "OneElastic$Plain", name := "<init>", desc := "()V" } : Jvm.MethodName) "OneElastic") ∈ lw_tbl := lw_at lw_m5 20 rfl
theorem q1054 : (Jvm.Cond.classLink "OneElastic" (426 : Nat) "OneElastic$Stout") ∈ lw_all := lw_g (lw_at lw_m5 25 rfl) rfl
theorem q1056 : (Jvm.Cond.methodLinkNest "OneElastic" (428 : Nat) ({ cls := "OneElastic$Stout", name := "<init>", desc := "()V" } : Jvm.MethodName) "OneElastic") ∈ lw_tbl := lw_at lw_m5 27 rfl
theorem q1060 : (Jvm.Cond.classLink "OneElastic" (429 : Nat) "OneElastic$Parson") ∈ lw_all := lw_g (lw_at lw_m5 31 rfl) rfl
theorem q1062 : (Jvm.Cond.methodLinkNest "OneElastic" (431 : Nat) ({ cls := "OneElastic$Parson", name := "<init>", desc := "()V" } : Jvm.MethodName) "OneElastic") ∈ lw_tbl := lw_at lw_m5 33 rfl
theorem q1066 : (Jvm.Cond.classLink "OneElastic" (432 : Nat) "OneElastic$Player") ∈ lw_all := lw_g (lw_at lw_m5 37 rfl) rfl
theorem q1068 : (Jvm.Cond.methodLinkNest "OneElastic" (434 : Nat) ({ cls := "OneElastic$Player", name := "<init>", desc := "()V" } : Jvm.MethodName) "OneElastic") ∈ lw_tbl := lw_at lw_m5 39 rfl
theorem q1072 : (Jvm.Cond.classLink "OneElastic" (435 : Nat) "OneElastic$Tactful") ∈ lw_all := lw_g (lw_at lw_m5 43 rfl) rfl
theorem q1074 : (Jvm.Cond.methodLinkNest "OneElastic" (437 : Nat) ({ cls := "OneElastic$Tactful", name := "<init>", desc := "()V" } : Jvm.MethodName) "OneElastic") ∈ lw_tbl := lw_at lw_m5 45 rfl
theorem q1078 : (Jvm.Cond.classLink "OneElastic" (117 : Nat) "java/util/ArrayDeque") ∈ lw_all := lw_g (lw_at lw_m5 49 rfl) rfl
theorem q1079 : (Jvm.Cond.methodLink "OneElastic" (442 : Nat) ({ cls := "java/util/ArrayDeque", name := "<init>", desc := "()V" } : Jvm.MethodName)) ∈ lw_all := lw_g (lw_at lw_m5 50 rfl) rfl
theorem q1099 : (Jvm.Cond.classLink "OneElastic" (360 : Nat) "OneElastic$Held") ∈ lw_all := lw_g (lw_at lw_m5 70 rfl) rfl
theorem q1102 : (Jvm.Cond.methodLinkNest "OneElastic" (443 : Nat) ({ cls := "OneElastic$Held", name := "<init>", desc := "()V" } : Jvm.MethodName) "OneElastic") ∈ lw_tbl := lw_at lw_m5 73 rfl
theorem q1106 : (Jvm.Cond.fieldLinkNest "OneElastic" (359 : Nat) "OneElastic$Held" "row" "Ljava/lang/Object;" "OneElastic") ∈ lw_tbl := lw_at lw_m5 77 rfl
theorem q1111 : (Jvm.Cond.fieldLink "OneElastic" (438 : Nat) "OneElastic" "kinds" "[LOneElastic$Person;") ∈ lw_all := lw_g (lw_at lw_m5 82 rfl) rfl
theorem q1112 : (Jvm.Cond.fieldLink "OneElastic" (9 : Nat) "OneElastic" "town" "LOneElastic$Town;") ∈ lw_all := lw_g (lw_at lw_m5 83 rfl) rfl
theorem q1113 : (Jvm.Cond.fieldLink "OneElastic" (274 : Nat) "OneElastic" "tried" "LOneElastic$Town;") ∈ lw_all := lw_g (lw_at lw_m5 84 rfl) rfl
theorem q1114 : (Jvm.Cond.fieldLink "OneElastic" (71 : Nat) "OneElastic" "fell" "[I") ∈ lw_all := lw_g (lw_at lw_m5 85 rfl) rfl
theorem q1115 : (Jvm.Cond.fieldLink "OneElastic" (23 : Nat) "OneElastic" "falls" "I") ∈ lw_all := lw_g (lw_at lw_m5 86 rfl) rfl
theorem q1116 : (Jvm.Cond.fieldLink "OneElastic" (26 : Nat) "OneElastic" "tears" "I") ∈ lw_all := lw_g (lw_at lw_m5 87 rfl) rfl
theorem q1117 : (Jvm.Cond.fieldLink "OneElastic" (164 : Nat) "OneElastic" "tape" "[B") ∈ lw_all := lw_g (lw_at lw_m5 88 rfl) rfl
theorem q1118 : (Jvm.Cond.fieldLink "OneElastic" (161 : Nat) "OneElastic" "typed" "I") ∈ lw_all := lw_g (lw_at lw_m5 89 rfl) rfl
theorem q1119 : (Jvm.Cond.fieldLink "OneElastic" (167 : Nat) "OneElastic" "place" "I") ∈ lw_all := lw_g (lw_at lw_m5 90 rfl) rfl
theorem q1120 : (Jvm.Cond.fieldLink "OneElastic" (192 : Nat) "OneElastic" "read" "[I") ∈ lw_all := lw_g (lw_at lw_m5 91 rfl) rfl
theorem q1121 : (Jvm.Cond.fieldLink "OneElastic" (112 : Nat) "OneElastic" "undos" "Ljava/util/ArrayDeque;") ∈ lw_all := lw_g (lw_at lw_m5 92 rfl) rfl
theorem q1122 : (Jvm.Cond.fieldLink "OneElastic" (323 : Nat) "OneElastic" "kept" "LOneElastic$Town;") ∈ lw_all := lw_g (lw_at lw_m5 93 rfl) rfl
theorem q1123 : (Jvm.Cond.fieldLink "OneElastic" (326 : Nat) "OneElastic" "keptUndos" "Ljava/util/ArrayDeque;") ∈ lw_all := lw_g (lw_at lw_m5 94 rfl) rfl
theorem q1124 : (Jvm.Cond.fieldLink "OneElastic" (333 : Nat) "OneElastic" "isKept" "Z") ∈ lw_all := lw_g (lw_at lw_m5 95 rfl) rfl
theorem q1125 : (Jvm.Cond.fieldLink "OneElastic" (351 : Nat) "OneElastic" "sheets" "[LOneElastic$Held;") ∈ lw_all := lw_g (lw_at lw_m5 96 rfl) rfl
theorem q1126 : (Jvm.Cond.fieldLink "OneElastic" (387 : Nat) "OneElastic" "taken" "[J") ∈ lw_all := lw_g (lw_at lw_m5 97 rfl) rfl
theorem q1127 : (Jvm.Cond.laysFinal "OneElastic" "OneElastic" "kinds" "[LOneElastic$Person;") ∈ lw_all := lw_g (lw_at lw_m5 98 rfl) rfl
theorem q1128 : (Jvm.Cond.soleField "OneElastic" "kinds") ∈ lw_all := lw_g (lw_at lw_m5 99 rfl) rfl
theorem q1129 : (Jvm.Cond.laysFinal "OneElastic" "OneElastic" "town" "LOneElastic$Town;") ∈ lw_all := lw_g (lw_at lw_m5 100 rfl) rfl
theorem q1130 : (Jvm.Cond.soleField "OneElastic" "town") ∈ lw_all := lw_g (lw_at lw_m5 101 rfl) rfl
theorem q1131 : (Jvm.Cond.laysFinal "OneElastic" "OneElastic" "tried" "LOneElastic$Town;") ∈ lw_all := lw_g (lw_at lw_m5 102 rfl) rfl
theorem q1132 : (Jvm.Cond.soleField "OneElastic" "tried") ∈ lw_all := lw_g (lw_at lw_m5 103 rfl) rfl
theorem q1133 : (Jvm.Cond.laysFinal "OneElastic" "OneElastic" "fell" "[I") ∈ lw_all := lw_g (lw_at lw_m5 104 rfl) rfl
theorem q1134 : (Jvm.Cond.soleField "OneElastic" "fell") ∈ lw_all := lw_g (lw_at lw_m5 105 rfl) rfl
theorem q1135 : (Jvm.Cond.lays "OneElastic" "OneElastic" "falls" "I") ∈ lw_all := lw_g (lw_at lw_m5 106 rfl) rfl
theorem q1136 : (Jvm.Cond.soleField "OneElastic" "falls") ∈ lw_all := lw_g (lw_at lw_m5 107 rfl) rfl
theorem q1137 : (Jvm.Cond.lays "OneElastic" "OneElastic" "tears" "I") ∈ lw_all := lw_g (lw_at lw_m5 108 rfl) rfl
theorem q1138 : (Jvm.Cond.soleField "OneElastic" "tears") ∈ lw_all := lw_g (lw_at lw_m5 109 rfl) rfl
theorem q1139 : (Jvm.Cond.laysFinal "OneElastic" "OneElastic" "tape" "[B") ∈ lw_all := lw_g (lw_at lw_m5 110 rfl) rfl
theorem q1140 : (Jvm.Cond.soleField "OneElastic" "tape") ∈ lw_all := lw_g (lw_at lw_m5 111 rfl) rfl
theorem q1141 : (Jvm.Cond.lays "OneElastic" "OneElastic" "typed" "I") ∈ lw_all := lw_g (lw_at lw_m5 112 rfl) rfl
theorem q1142 : (Jvm.Cond.soleField "OneElastic" "typed") ∈ lw_all := lw_g (lw_at lw_m5 113 rfl) rfl
theorem q1143 : (Jvm.Cond.lays "OneElastic" "OneElastic" "place" "I") ∈ lw_all := lw_g (lw_at lw_m5 114 rfl) rfl
theorem q1144 : (Jvm.Cond.soleField "OneElastic" "place") ∈ lw_all := lw_g (lw_at lw_m5 115 rfl) rfl
theorem q1145 : (Jvm.Cond.laysFinal "OneElastic" "OneElastic" "read" "[I") ∈ lw_all := lw_g (lw_at lw_m5 116 rfl) rfl
theorem q1146 : (Jvm.Cond.soleField "OneElastic" "read") ∈ lw_all := lw_g (lw_at lw_m5 117 rfl) rfl
theorem q1147 : (Jvm.Cond.laysFinal "OneElastic" "OneElastic" "undos" "Ljava/util/ArrayDeque;") ∈ lw_all := lw_g (lw_at lw_m5 118 rfl) rfl
theorem q1148 : (Jvm.Cond.soleField "OneElastic" "undos") ∈ lw_all := lw_g (lw_at lw_m5 119 rfl) rfl
theorem q1149 : (Jvm.Cond.laysFinal "OneElastic" "OneElastic" "kept" "LOneElastic$Town;") ∈ lw_all := lw_g (lw_at lw_m5 120 rfl) rfl
theorem q1150 : (Jvm.Cond.soleField "OneElastic" "kept") ∈ lw_all := lw_g (lw_at lw_m5 121 rfl) rfl
theorem q1151 : (Jvm.Cond.laysFinal "OneElastic" "OneElastic" "keptUndos" "Ljava/util/ArrayDeque;") ∈ lw_all := lw_g (lw_at lw_m5 122 rfl) rfl
theorem q1152 : (Jvm.Cond.soleField "OneElastic" "keptUndos") ∈ lw_all := lw_g (lw_at lw_m5 123 rfl) rfl
theorem q1153 : (Jvm.Cond.lays "OneElastic" "OneElastic" "isKept" "Z") ∈ lw_all := lw_g (lw_at lw_m5 124 rfl) rfl
theorem q1154 : (Jvm.Cond.soleField "OneElastic" "isKept") ∈ lw_all := lw_g (lw_at lw_m5 125 rfl) rfl
theorem q1155 : (Jvm.Cond.laysFinal "OneElastic" "OneElastic" "sheets" "[LOneElastic$Held;") ∈ lw_all := lw_g (lw_at lw_m5 126 rfl) rfl
theorem q1156 : (Jvm.Cond.soleField "OneElastic" "sheets") ∈ lw_all := lw_g (lw_at lw_m5 127 rfl) rfl
theorem q1157 : (Jvm.Cond.laysFinal "OneElastic" "OneElastic" "taken" "[J") ∈ lw_all := lw_g (lw_at lw_m5 128 rfl) rfl
theorem q1158 : (Jvm.Cond.soleField "OneElastic" "taken") ∈ lw_all := lw_g (lw_at lw_m5 129 rfl) rfl
theorem q1159 : (Jvm.Cond.superclass "OneElastic" "java/lang/Object") ∈ lw_all := lw_g (lw_at lw_m5 130 rfl) rfl
theorem q1592 : (Jvm.Cond.castable "OneElastic" "java/lang/Object") ∈ lw_tbl := lw_at lw_m7 83 rfl
theorem in_X0 : ∀ w ∈ wsX00, w ∈ lw_all := lw_in wsX00 [1127, 1129, 1131, 1133, 1135, 1137, 1139, 1141, 1143, 1145, 1147, 1149, 1151, 1153, 1155, 1157] (by decide +kernel) (by decide +kernel)
