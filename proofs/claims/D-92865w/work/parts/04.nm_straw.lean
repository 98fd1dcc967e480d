/-! StrawMen -/
set_option maxRecDepth 100000
def RX0 : String := "StrawMen"
def TX0 : u_T := fun k => match k with
  | 0 => ("StrawMen", "fields", "[LStrawMen$Field;", true)
  | 1 => ("StrawMen", "flocks", "[Ljava/lang/Integer;", true)
  | 2 => ("StrawMen", "coats", "[LStrawMen$Coat;", true)
  | 3 => ("StrawMen", "boy", "LStrawMen$Coat;", true)
  | 4 => ("StrawMen", "tell", "I", false)
  | 5 => ("StrawMen", "wage", "I", false)
  | 6 => ("StrawMen", "price", "I", false)
  | 7 => ("StrawMen", "days", "I", false)
  | 8 => ("StrawMen", "plan", "LStrawMen$Plan;", true)
  | 9 => ("StrawMen", "other", "LStrawMen$Plan;", true)
  | 10 => ("StrawMen", "world", "LStrawMen$World;", true)
  | 11 => ("StrawMen", "then", "LStrawMen$World;", true)
  | 12 => ("StrawMen", "last", "LStrawMen$World;", true)
  | 13 => ("StrawMen", "text", "[B", true)
  | 14 => ("StrawMen", "bytes", "I", false)
  | 15 => ("StrawMen", "one", "LStrawMen$Places;", true)
  | 16 => ("StrawMen", "two", "LStrawMen$Places;", true)
  | 17 => ("StrawMen", "bestStands", "[B", true)
  | _ => ("StrawMen", "rows", "Ljava/util/ArrayList;", true)
def tyX0 : Nat → FieldType := fun k => match k with
  | 0 => .array (.object "StrawMen$Field")
  | 1 => .array (.object "java/lang/Integer")
  | 2 => .array (.object "StrawMen$Coat")
  | 3 => .object "StrawMen$Coat"
  | 4 => .int
  | 5 => .int
  | 6 => .int
  | 7 => .int
  | 8 => .object "StrawMen$Plan"
  | 9 => .object "StrawMen$Plan"
  | 10 => .object "StrawMen$World"
  | 11 => .object "StrawMen$World"
  | 12 => .object "StrawMen$World"
  | 13 => .array .byte
  | 14 => .int
  | 15 => .object "StrawMen$Places"
  | 16 => .object "StrawMen$Places"
  | 17 => .array .byte
  | _ => .object "java/util/ArrayList"
abbrev wsX00 : List Cond := u_ws RX0 TX0 19
set_option maxRecDepth 100000 in
theorem nmX0 : ∀ a, a < 19 → ∀ b, b < 19 → a ≠ b → (TX0 a).2.1 ≠ (TX0 b).2.1 := by decide +kernel
set_option maxRecDepth 100000 in
theorem tyX0_ok : ∀ k, k < 19 → parseFieldDescriptor (TX0 k).2.2.1 = some (tyX0 k) := by decide +kernel
abbrev cX0_init : ByteArray := prog_1_method_12_code
def yX0_init : MethodName := ⟨RX0, "<init>", "()V"⟩
def dkwX0_init_6 : List UInt8 := [42, 7, 188, 8, 181, 0, 114, 42, 187, 0, 147, 89, 183, 0, 193, 181, 0, 142, 177]
abbrev dktX0_init_6 : List UInt8 := dkwX0_init_6 ++ []
def dkwX0_init_5 : List UInt8 := [42, 187, 0, 91, 89, 42, 183, 0, 192, 181, 0, 86, 42, 187, 0, 91, 89, 42, 183, 0, 192, 181, 0, 127]
abbrev dktX0_init_5 : List UInt8 := dkwX0_init_5 ++ dktX0_init_6
def dkwX0_init_4 : List UInt8 := [181, 0, 96, 42, 187, 0, 50, 89, 42, 183, 0, 186, 181, 0, 130, 42, 17, 0, 200, 188, 8, 181, 0, 189]
abbrev dktX0_init_4 : List UInt8 := dkwX0_init_4 ++ dktX0_init_5
def dkwX0_init_3 : List UInt8 := [181, 0, 183, 42, 187, 0, 50, 89, 42, 183, 0, 186, 181, 0, 45, 42, 187, 0, 50, 89, 42, 183, 0, 186]
abbrev dktX0_init_3 : List UInt8 := dkwX0_init_3 ++ dktX0_init_4
def dkwX0_init_2 : List UInt8 := [16, 21, 181, 0, 21, 42, 187, 0, 26, 89, 183, 0, 182, 181, 0, 82, 42, 187, 0, 26, 89, 183, 0, 182]
abbrev dktX0_init_2 : List UInt8 := dkwX0_init_2 ++ dktX0_init_3
def dkwX0_init_1 : List UInt8 := [189, 0, 74, 181, 0, 17, 42, 187, 0, 175, 89, 183, 0, 177, 181, 0, 178, 42, 4, 181, 0, 55, 42]
abbrev dktX0_init_1 : List UInt8 := dkwX0_init_1 ++ dktX0_init_2
def dkwX0_init_0 : List UInt8 := [42, 183, 0, 171, 42, 7, 189, 0, 62, 181, 0, 9, 42, 7, 189, 0, 69, 181, 0, 13, 42, 7]
abbrev dktX0_init_0 : List UInt8 := dkwX0_init_0 ++ dktX0_init_1
theorem dksX0_init_0 : cX0_init.data.toList.drop 0 = dktX0_init_0 := by decide +kernel
theorem dksX0_init_1 : cX0_init.data.toList.drop 22 = dktX0_init_1 := dk_seg dksX0_init_0 22 rfl rfl
theorem dksX0_init_2 : cX0_init.data.toList.drop 45 = dktX0_init_2 := dk_seg dksX0_init_1 23 rfl rfl
theorem dksX0_init_3 : cX0_init.data.toList.drop 69 = dktX0_init_3 := dk_seg dksX0_init_2 24 rfl rfl
theorem dksX0_init_4 : cX0_init.data.toList.drop 93 = dktX0_init_4 := dk_seg dksX0_init_3 24 rfl rfl
theorem dksX0_init_5 : cX0_init.data.toList.drop 117 = dktX0_init_5 := dk_seg dksX0_init_4 24 rfl rfl
theorem dksX0_init_6 : cX0_init.data.toList.drop 141 = dktX0_init_6 := dk_seg dksX0_init_5 24 rfl rfl
theorem dX0_init_0 : decode cX0_init 0 = .ok (.aload_n 0, 1) := dk_42 (dk_at dksX0_init_0 0 rfl rfl)
theorem dX0_init_1 : decode cX0_init 1 = .ok (.invokespecial 171, 3) := dk_183 0 171 (dk_at dksX0_init_0 1 rfl rfl)
theorem dX0_init_4 : decode cX0_init 4 = .ok (.aload_n 0, 1) := dk_42 (dk_at dksX0_init_0 4 rfl rfl)
theorem dX0_init_5 : decode cX0_init 5 = .ok (.iconst 4, 1) := dk_7 (dk_at dksX0_init_0 5 rfl rfl)
theorem dX0_init_6 : decode cX0_init 6 = .ok (.anewarray 62, 3) := dk_189 0 62 (dk_at dksX0_init_0 6 rfl rfl)
theorem dX0_init_9 : decode cX0_init 9 = .ok (.putfield 9, 3) := dk_181 0 9 (dk_at dksX0_init_0 9 rfl rfl)
theorem dX0_init_12 : decode cX0_init 12 = .ok (.aload_n 0, 1) := dk_42 (dk_at dksX0_init_0 12 rfl rfl)
theorem dX0_init_13 : decode cX0_init 13 = .ok (.iconst 4, 1) := dk_7 (dk_at dksX0_init_0 13 rfl rfl)
theorem dX0_init_14 : decode cX0_init 14 = .ok (.anewarray 69, 3) := dk_189 0 69 (dk_at dksX0_init_0 14 rfl rfl)
theorem dX0_init_17 : decode cX0_init 17 = .ok (.putfield 13, 3) := dk_181 0 13 (dk_at dksX0_init_0 17 rfl rfl)
theorem dX0_init_20 : decode cX0_init 20 = .ok (.aload_n 0, 1) := dk_42 (dk_at dksX0_init_0 20 rfl rfl)
theorem dX0_init_21 : decode cX0_init 21 = .ok (.iconst 4, 1) := dk_7 (dk_at dksX0_init_0 21 rfl rfl)
theorem dX0_init_22 : decode cX0_init 22 = .ok (.anewarray 74, 3) := dk_189 0 74 (dk_at dksX0_init_1 0 rfl rfl)
theorem dX0_init_25 : decode cX0_init 25 = .ok (.putfield 17, 3) := dk_181 0 17 (dk_at dksX0_init_1 3 rfl rfl)
theorem dX0_init_28 : decode cX0_init 28 = .ok (.aload_n 0, 1) := dk_42 (dk_at dksX0_init_1 6 rfl rfl)
theorem dX0_init_29 : decode cX0_init 29 = .ok (.new 175, 3) := dk_187 0 175 (dk_at dksX0_init_1 7 rfl rfl)
theorem dX0_init_32 : decode cX0_init 32 = .ok (.dup, 1) := dk_89 (dk_at dksX0_init_1 10 rfl rfl)
theorem dX0_init_33 : decode cX0_init 33 = .ok (.invokespecial 177, 3) := dk_183 0 177 (dk_at dksX0_init_1 11 rfl rfl)
theorem dX0_init_36 : decode cX0_init 36 = .ok (.putfield 178, 3) := dk_181 0 178 (dk_at dksX0_init_1 14 rfl rfl)
theorem dX0_init_39 : decode cX0_init 39 = .ok (.aload_n 0, 1) := dk_42 (dk_at dksX0_init_1 17 rfl rfl)
theorem dX0_init_40 : decode cX0_init 40 = .ok (.iconst 1, 1) := dk_4 (dk_at dksX0_init_1 18 rfl rfl)
theorem dX0_init_41 : decode cX0_init 41 = .ok (.putfield 55, 3) := dk_181 0 55 (dk_at dksX0_init_1 19 rfl rfl)
theorem dX0_init_44 : decode cX0_init 44 = .ok (.aload_n 0, 1) := dk_42 (dk_at dksX0_init_1 22 rfl rfl)
theorem dX0_init_45 : decode cX0_init 45 = .ok (.bipush 21, 2) := dk_16 21 (dk_at dksX0_init_2 0 rfl rfl)
theorem dX0_init_47 : decode cX0_init 47 = .ok (.putfield 21, 3) := dk_181 0 21 (dk_at dksX0_init_2 2 rfl rfl)
theorem dX0_init_50 : decode cX0_init 50 = .ok (.aload_n 0, 1) := dk_42 (dk_at dksX0_init_2 5 rfl rfl)
theorem dX0_init_51 : decode cX0_init 51 = .ok (.new 26, 3) := dk_187 0 26 (dk_at dksX0_init_2 6 rfl rfl)
theorem dX0_init_54 : decode cX0_init 54 = .ok (.dup, 1) := dk_89 (dk_at dksX0_init_2 9 rfl rfl)
theorem dX0_init_55 : decode cX0_init 55 = .ok (.invokespecial 182, 3) := dk_183 0 182 (dk_at dksX0_init_2 10 rfl rfl)
theorem dX0_init_58 : decode cX0_init 58 = .ok (.putfield 82, 3) := dk_181 0 82 (dk_at dksX0_init_2 13 rfl rfl)
theorem dX0_init_61 : decode cX0_init 61 = .ok (.aload_n 0, 1) := dk_42 (dk_at dksX0_init_2 16 rfl rfl)
theorem dX0_init_62 : decode cX0_init 62 = .ok (.new 26, 3) := dk_187 0 26 (dk_at dksX0_init_2 17 rfl rfl)
theorem dX0_init_65 : decode cX0_init 65 = .ok (.dup, 1) := dk_89 (dk_at dksX0_init_2 20 rfl rfl)
theorem dX0_init_66 : decode cX0_init 66 = .ok (.invokespecial 182, 3) := dk_183 0 182 (dk_at dksX0_init_2 21 rfl rfl)
theorem dX0_init_69 : decode cX0_init 69 = .ok (.putfield 183, 3) := dk_181 0 183 (dk_at dksX0_init_3 0 rfl rfl)
theorem dX0_init_72 : decode cX0_init 72 = .ok (.aload_n 0, 1) := dk_42 (dk_at dksX0_init_3 3 rfl rfl)
theorem dX0_init_73 : decode cX0_init 73 = .ok (.new 50, 3) := dk_187 0 50 (dk_at dksX0_init_3 4 rfl rfl)
theorem dX0_init_76 : decode cX0_init 76 = .ok (.dup, 1) := dk_89 (dk_at dksX0_init_3 7 rfl rfl)
theorem dX0_init_77 : decode cX0_init 77 = .ok (.aload_n 0, 1) := dk_42 (dk_at dksX0_init_3 8 rfl rfl)
theorem dX0_init_78 : decode cX0_init 78 = .ok (.invokespecial 186, 3) := dk_183 0 186 (dk_at dksX0_init_3 9 rfl rfl)
theorem dX0_init_81 : decode cX0_init 81 = .ok (.putfield 45, 3) := dk_181 0 45 (dk_at dksX0_init_3 12 rfl rfl)
theorem dX0_init_84 : decode cX0_init 84 = .ok (.aload_n 0, 1) := dk_42 (dk_at dksX0_init_3 15 rfl rfl)
theorem dX0_init_85 : decode cX0_init 85 = .ok (.new 50, 3) := dk_187 0 50 (dk_at dksX0_init_3 16 rfl rfl)
theorem dX0_init_88 : decode cX0_init 88 = .ok (.dup, 1) := dk_89 (dk_at dksX0_init_3 19 rfl rfl)
theorem dX0_init_89 : decode cX0_init 89 = .ok (.aload_n 0, 1) := dk_42 (dk_at dksX0_init_3 20 rfl rfl)
theorem dX0_init_90 : decode cX0_init 90 = .ok (.invokespecial 186, 3) := dk_183 0 186 (dk_at dksX0_init_3 21 rfl rfl)
theorem dX0_init_93 : decode cX0_init 93 = .ok (.putfield 96, 3) := dk_181 0 96 (dk_at dksX0_init_4 0 rfl rfl)
theorem dX0_init_96 : decode cX0_init 96 = .ok (.aload_n 0, 1) := dk_42 (dk_at dksX0_init_4 3 rfl rfl)
theorem dX0_init_97 : decode cX0_init 97 = .ok (.new 50, 3) := dk_187 0 50 (dk_at dksX0_init_4 4 rfl rfl)
theorem dX0_init_100 : decode cX0_init 100 = .ok (.dup, 1) := dk_89 (dk_at dksX0_init_4 7 rfl rfl)
theorem dX0_init_101 : decode cX0_init 101 = .ok (.aload_n 0, 1) := dk_42 (dk_at dksX0_init_4 8 rfl rfl)
theorem dX0_init_102 : decode cX0_init 102 = .ok (.invokespecial 186, 3) := dk_183 0 186 (dk_at dksX0_init_4 9 rfl rfl)
theorem dX0_init_105 : decode cX0_init 105 = .ok (.putfield 130, 3) := dk_181 0 130 (dk_at dksX0_init_4 12 rfl rfl)
theorem dX0_init_108 : decode cX0_init 108 = .ok (.aload_n 0, 1) := dk_42 (dk_at dksX0_init_4 15 rfl rfl)
theorem dX0_init_109 : decode cX0_init 109 = .ok (.sipush 200, 3) := dk_17 0 200 (dk_at dksX0_init_4 16 rfl rfl)
theorem dX0_init_112 : decode cX0_init 112 = .ok (.newarray .byte, 2) := dk_188_8 (dk_at dksX0_init_4 19 rfl rfl)
theorem dX0_init_114 : decode cX0_init 114 = .ok (.putfield 189, 3) := dk_181 0 189 (dk_at dksX0_init_4 21 rfl rfl)
theorem dX0_init_117 : decode cX0_init 117 = .ok (.aload_n 0, 1) := dk_42 (dk_at dksX0_init_5 0 rfl rfl)
theorem dX0_init_118 : decode cX0_init 118 = .ok (.new 91, 3) := dk_187 0 91 (dk_at dksX0_init_5 1 rfl rfl)
theorem dX0_init_121 : decode cX0_init 121 = .ok (.dup, 1) := dk_89 (dk_at dksX0_init_5 4 rfl rfl)
theorem dX0_init_122 : decode cX0_init 122 = .ok (.aload_n 0, 1) := dk_42 (dk_at dksX0_init_5 5 rfl rfl)
theorem dX0_init_123 : decode cX0_init 123 = .ok (.invokespecial 192, 3) := dk_183 0 192 (dk_at dksX0_init_5 6 rfl rfl)
theorem dX0_init_126 : decode cX0_init 126 = .ok (.putfield 86, 3) := dk_181 0 86 (dk_at dksX0_init_5 9 rfl rfl)
theorem dX0_init_129 : decode cX0_init 129 = .ok (.aload_n 0, 1) := dk_42 (dk_at dksX0_init_5 12 rfl rfl)
theorem dX0_init_130 : decode cX0_init 130 = .ok (.new 91, 3) := dk_187 0 91 (dk_at dksX0_init_5 13 rfl rfl)
theorem dX0_init_133 : decode cX0_init 133 = .ok (.dup, 1) := dk_89 (dk_at dksX0_init_5 16 rfl rfl)
theorem dX0_init_134 : decode cX0_init 134 = .ok (.aload_n 0, 1) := dk_42 (dk_at dksX0_init_5 17 rfl rfl)
theorem dX0_init_135 : decode cX0_init 135 = .ok (.invokespecial 192, 3) := dk_183 0 192 (dk_at dksX0_init_5 18 rfl rfl)
theorem dX0_init_138 : decode cX0_init 138 = .ok (.putfield 127, 3) := dk_181 0 127 (dk_at dksX0_init_5 21 rfl rfl)
theorem dX0_init_141 : decode cX0_init 141 = .ok (.aload_n 0, 1) := dk_42 (dk_at dksX0_init_6 0 rfl rfl)
theorem dX0_init_142 : decode cX0_init 142 = .ok (.iconst 4, 1) := dk_7 (dk_at dksX0_init_6 1 rfl rfl)
theorem dX0_init_143 : decode cX0_init 143 = .ok (.newarray .byte, 2) := dk_188_8 (dk_at dksX0_init_6 2 rfl rfl)
theorem dX0_init_145 : decode cX0_init 145 = .ok (.putfield 114, 3) := dk_181 0 114 (dk_at dksX0_init_6 4 rfl rfl)
theorem dX0_init_148 : decode cX0_init 148 = .ok (.aload_n 0, 1) := dk_42 (dk_at dksX0_init_6 7 rfl rfl)
theorem dX0_init_149 : decode cX0_init 149 = .ok (.new 147, 3) := dk_187 0 147 (dk_at dksX0_init_6 8 rfl rfl)
theorem dX0_init_152 : decode cX0_init 152 = .ok (.dup, 1) := dk_89 (dk_at dksX0_init_6 11 rfl rfl)
theorem dX0_init_153 : decode cX0_init 153 = .ok (.invokespecial 193, 3) := dk_183 0 193 (dk_at dksX0_init_6 12 rfl rfl)
theorem dX0_init_156 : decode cX0_init 156 = .ok (.putfield 142, 3) := dk_181 0 142 (dk_at dksX0_init_6 15 rfl rfl)
theorem dX0_init_159 : decode cX0_init 159 = .ok (.return_, 1) := dk_177 (dk_at dksX0_init_6 18 rfl rfl)
abbrev cX0_write : ByteArray := prog_1_method_13_code
def yX0_write : MethodName := ⟨RX0, "write", "(JI)I"⟩
def dkwX0_write_3 : List UInt8 := [167, 255, 222, 42, 180, 0, 196, 172]
abbrev dktX0_write_3 : List UInt8 := dkwX0_write_3 ++ []
def dkwX0_write_2 : List UInt8 := [89, 180, 0, 196, 90, 4, 96, 181, 0, 196, 31, 16, 8, 21, 4, 104, 123, 136, 145, 84, 132, 4, 1]
abbrev dktX0_write_2 : List UInt8 := dkwX0_write_2 ++ dktX0_write_3
def dkwX0_write_1 : List UInt8 := [180, 0, 189, 190, 164, 0, 6, 16, 251, 172, 3, 54, 4, 21, 4, 29, 162, 0, 34, 42, 180, 0, 189, 42]
abbrev dktX0_write_1 : List UInt8 := dkwX0_write_1 ++ dktX0_write_2
def dkwX0_write_0 : List UInt8 := [29, 133, 10, 20, 0, 194, 184, 0, 5, 154, 0, 6, 16, 253, 172, 42, 180, 0, 196, 29, 96, 42]
abbrev dktX0_write_0 : List UInt8 := dkwX0_write_0 ++ dktX0_write_1
theorem dksX0_write_0 : cX0_write.data.toList.drop 0 = dktX0_write_0 := by decide +kernel
theorem dksX0_write_1 : cX0_write.data.toList.drop 22 = dktX0_write_1 := dk_seg dksX0_write_0 22 rfl rfl
theorem dksX0_write_2 : cX0_write.data.toList.drop 46 = dktX0_write_2 := dk_seg dksX0_write_1 24 rfl rfl
theorem dksX0_write_3 : cX0_write.data.toList.drop 69 = dktX0_write_3 := dk_seg dksX0_write_2 23 rfl rfl
theorem dX0_write_0 : decode cX0_write 0 = .ok (.iload_n 3, 1) := dk_29 (dk_at dksX0_write_0 0 rfl rfl)
theorem dX0_write_1 : decode cX0_write 1 = .ok (.i2l, 1) := dk_133 (dk_at dksX0_write_0 1 rfl rfl)
theorem dX0_write_2 : decode cX0_write 2 = .ok (.lconst 1, 1) := dk_10 (dk_at dksX0_write_0 2 rfl rfl)
theorem dX0_write_3 : decode cX0_write 3 = .ok (.ldc2_w 194, 3) := dk_20 0 194 (dk_at dksX0_write_0 3 rfl rfl)
theorem dX0_write_6 : decode cX0_write 6 = .ok (.invokestatic 5, 3) := dk_184 0 5 (dk_at dksX0_write_0 6 rfl rfl)
theorem dX0_write_9 : decode cX0_write 9 = .ok (.ifCond .ne 6, 3) := dk_154 0 6 (dk_at dksX0_write_0 9 rfl rfl)
theorem dX0_write_12 : decode cX0_write 12 = .ok (.bipush (-3), 2) := dk_16 253 (dk_at dksX0_write_0 12 rfl rfl)
theorem dX0_write_14 : decode cX0_write 14 = .ok (.ireturn, 1) := dk_172 (dk_at dksX0_write_0 14 rfl rfl)
theorem dX0_write_15 : decode cX0_write 15 = .ok (.aload_n 0, 1) := dk_42 (dk_at dksX0_write_0 15 rfl rfl)
theorem dX0_write_16 : decode cX0_write 16 = .ok (.getfield 196, 3) := dk_180 0 196 (dk_at dksX0_write_0 16 rfl rfl)
theorem dX0_write_19 : decode cX0_write 19 = .ok (.iload_n 3, 1) := dk_29 (dk_at dksX0_write_0 19 rfl rfl)
theorem dX0_write_20 : decode cX0_write 20 = .ok (.iadd, 1) := dk_96 (dk_at dksX0_write_0 20 rfl rfl)
theorem dX0_write_21 : decode cX0_write 21 = .ok (.aload_n 0, 1) := dk_42 (dk_at dksX0_write_0 21 rfl rfl)
theorem dX0_write_22 : decode cX0_write 22 = .ok (.getfield 189, 3) := dk_180 0 189 (dk_at dksX0_write_1 0 rfl rfl)
theorem dX0_write_25 : decode cX0_write 25 = .ok (.arraylength, 1) := dk_190 (dk_at dksX0_write_1 3 rfl rfl)
theorem dX0_write_26 : decode cX0_write 26 = .ok (.if_icmp .le 6, 3) := dk_164 0 6 (dk_at dksX0_write_1 4 rfl rfl)
theorem dX0_write_29 : decode cX0_write 29 = .ok (.bipush (-5), 2) := dk_16 251 (dk_at dksX0_write_1 7 rfl rfl)
theorem dX0_write_31 : decode cX0_write 31 = .ok (.ireturn, 1) := dk_172 (dk_at dksX0_write_1 9 rfl rfl)
theorem dX0_write_32 : decode cX0_write 32 = .ok (.iconst 0, 1) := dk_3 (dk_at dksX0_write_1 10 rfl rfl)
theorem dX0_write_33 : decode cX0_write 33 = .ok (.istore 4, 2) := dk_54 4 (dk_at dksX0_write_1 11 rfl rfl)
theorem dX0_write_35 : decode cX0_write 35 = .ok (.iload 4, 2) := dk_21 4 (dk_at dksX0_write_1 13 rfl rfl)
theorem dX0_write_37 : decode cX0_write 37 = .ok (.iload_n 3, 1) := dk_29 (dk_at dksX0_write_1 15 rfl rfl)
theorem dX0_write_38 : decode cX0_write 38 = .ok (.if_icmp .ge 34, 3) := dk_162 0 34 (dk_at dksX0_write_1 16 rfl rfl)
theorem dX0_write_41 : decode cX0_write 41 = .ok (.aload_n 0, 1) := dk_42 (dk_at dksX0_write_1 19 rfl rfl)
theorem dX0_write_42 : decode cX0_write 42 = .ok (.getfield 189, 3) := dk_180 0 189 (dk_at dksX0_write_1 20 rfl rfl)
theorem dX0_write_45 : decode cX0_write 45 = .ok (.aload_n 0, 1) := dk_42 (dk_at dksX0_write_1 23 rfl rfl)
theorem dX0_write_46 : decode cX0_write 46 = .ok (.dup, 1) := dk_89 (dk_at dksX0_write_2 0 rfl rfl)
theorem dX0_write_47 : decode cX0_write 47 = .ok (.getfield 196, 3) := dk_180 0 196 (dk_at dksX0_write_2 1 rfl rfl)
theorem dX0_write_50 : decode cX0_write 50 = .ok (.dup_x1, 1) := dk_90 (dk_at dksX0_write_2 4 rfl rfl)
theorem dX0_write_51 : decode cX0_write 51 = .ok (.iconst 1, 1) := dk_4 (dk_at dksX0_write_2 5 rfl rfl)
theorem dX0_write_52 : decode cX0_write 52 = .ok (.iadd, 1) := dk_96 (dk_at dksX0_write_2 6 rfl rfl)
theorem dX0_write_53 : decode cX0_write 53 = .ok (.putfield 196, 3) := dk_181 0 196 (dk_at dksX0_write_2 7 rfl rfl)
theorem dX0_write_56 : decode cX0_write 56 = .ok (.lload_n 1, 1) := dk_31 (dk_at dksX0_write_2 10 rfl rfl)
theorem dX0_write_57 : decode cX0_write 57 = .ok (.bipush 8, 2) := dk_16 8 (dk_at dksX0_write_2 11 rfl rfl)
theorem dX0_write_59 : decode cX0_write 59 = .ok (.iload 4, 2) := dk_21 4 (dk_at dksX0_write_2 13 rfl rfl)
theorem dX0_write_61 : decode cX0_write 61 = .ok (.imul, 1) := dk_104 (dk_at dksX0_write_2 15 rfl rfl)
theorem dX0_write_62 : decode cX0_write 62 = .ok (.lshr, 1) := dk_123 (dk_at dksX0_write_2 16 rfl rfl)
theorem dX0_write_63 : decode cX0_write 63 = .ok (.l2i, 1) := dk_136 (dk_at dksX0_write_2 17 rfl rfl)
theorem dX0_write_64 : decode cX0_write 64 = .ok (.i2b, 1) := dk_145 (dk_at dksX0_write_2 18 rfl rfl)
theorem dX0_write_65 : decode cX0_write 65 = .ok (.bastore, 1) := dk_84 (dk_at dksX0_write_2 19 rfl rfl)
theorem dX0_write_66 : decode cX0_write 66 = .ok (.iinc 4 1, 3) := dk_132 4 1 (dk_at dksX0_write_2 20 rfl rfl)
theorem dX0_write_69 : decode cX0_write 69 = .ok (.goto (-34), 3) := dk_167 255 222 (dk_at dksX0_write_3 0 rfl rfl)
theorem dX0_write_72 : decode cX0_write 72 = .ok (.aload_n 0, 1) := dk_42 (dk_at dksX0_write_3 3 rfl rfl)
theorem dX0_write_73 : decode cX0_write 73 = .ok (.getfield 196, 3) := dk_180 0 196 (dk_at dksX0_write_3 4 rfl rfl)
theorem dX0_write_76 : decode cX0_write 76 = .ok (.ireturn, 1) := dk_172 (dk_at dksX0_write_3 7 rfl rfl)
abbrev cX0_in : ByteArray := prog_1_method_1_code
def yX0_in : MethodName := ⟨RX0, "in", "(JJJ)Z"⟩
def dkwX0_in_0 : List UInt8 := [30, 32, 148, 155, 0, 14, 30, 22, 4, 148, 157, 0, 7, 4, 167, 0, 4, 3, 172]
abbrev dktX0_in_0 : List UInt8 := dkwX0_in_0 ++ []
theorem dksX0_in_0 : cX0_in.data.toList.drop 0 = dktX0_in_0 := by decide +kernel
theorem dX0_in_0 : decode cX0_in 0 = .ok (.lload_n 0, 1) := dk_30 (dk_at dksX0_in_0 0 rfl rfl)
theorem dX0_in_1 : decode cX0_in 1 = .ok (.lload_n 2, 1) := dk_32 (dk_at dksX0_in_0 1 rfl rfl)
theorem dX0_in_2 : decode cX0_in 2 = .ok (.lcmp, 1) := dk_148 (dk_at dksX0_in_0 2 rfl rfl)
theorem dX0_in_3 : decode cX0_in 3 = .ok (.ifCond .lt 14, 3) := dk_155 0 14 (dk_at dksX0_in_0 3 rfl rfl)
theorem dX0_in_6 : decode cX0_in 6 = .ok (.lload_n 0, 1) := dk_30 (dk_at dksX0_in_0 6 rfl rfl)
theorem dX0_in_7 : decode cX0_in 7 = .ok (.lload 4, 2) := dk_22 4 (dk_at dksX0_in_0 7 rfl rfl)
theorem dX0_in_9 : decode cX0_in 9 = .ok (.lcmp, 1) := dk_148 (dk_at dksX0_in_0 9 rfl rfl)
theorem dX0_in_10 : decode cX0_in 10 = .ok (.ifCond .gt 7, 3) := dk_157 0 7 (dk_at dksX0_in_0 10 rfl rfl)
theorem dX0_in_13 : decode cX0_in 13 = .ok (.iconst 1, 1) := dk_4 (dk_at dksX0_in_0 13 rfl rfl)
theorem dX0_in_14 : decode cX0_in 14 = .ok (.goto 4, 3) := dk_167 0 4 (dk_at dksX0_in_0 14 rfl rfl)
theorem dX0_in_17 : decode cX0_in 17 = .ok (.iconst 0, 1) := dk_3 (dk_at dksX0_in_0 17 rfl rfl)
theorem dX0_in_18 : decode cX0_in 18 = .ok (.ireturn, 1) := dk_172 (dk_at dksX0_in_0 18 rfl rfl)
abbrev cX0_erase : ByteArray := prog_1_method_14_code
def yX0_erase : MethodName := ⟨RX0, "erase", "()I"⟩
def dkwX0_erase_0 : List UInt8 := [42, 180, 0, 196, 60, 42, 3, 181, 0, 196, 27, 172]
abbrev dktX0_erase_0 : List UInt8 := dkwX0_erase_0 ++ []
theorem dksX0_erase_0 : cX0_erase.data.toList.drop 0 = dktX0_erase_0 := by decide +kernel
theorem dX0_erase_0 : decode cX0_erase 0 = .ok (.aload_n 0, 1) := dk_42 (dk_at dksX0_erase_0 0 rfl rfl)
theorem dX0_erase_1 : decode cX0_erase 1 = .ok (.getfield 196, 3) := dk_180 0 196 (dk_at dksX0_erase_0 1 rfl rfl)
theorem dX0_erase_4 : decode cX0_erase 4 = .ok (.istore_n 1, 1) := dk_60 (dk_at dksX0_erase_0 4 rfl rfl)
theorem dX0_erase_5 : decode cX0_erase 5 = .ok (.aload_n 0, 1) := dk_42 (dk_at dksX0_erase_0 5 rfl rfl)
theorem dX0_erase_6 : decode cX0_erase 6 = .ok (.iconst 0, 1) := dk_3 (dk_at dksX0_erase_0 6 rfl rfl)
theorem dX0_erase_7 : decode cX0_erase 7 = .ok (.putfield 196, 3) := dk_181 0 196 (dk_at dksX0_erase_0 7 rfl rfl)
theorem dX0_erase_10 : decode cX0_erase 10 = .ok (.iload_n 1, 1) := dk_27 (dk_at dksX0_erase_0 10 rfl rfl)
theorem dX0_erase_11 : decode cX0_erase 11 = .ok (.ireturn, 1) := dk_172 (dk_at dksX0_erase_0 11 rfl rfl)
abbrev cX0_fault : ByteArray := prog_1_method_15_code
def yX0_fault : MethodName := ⟨RX0, "fault", "()I"⟩
def dkwX0_fault_0 : List UInt8 := [187, 0, 199, 89, 42, 183, 0, 201, 182, 0, 202, 87, 2, 172, 76, 43, 180, 0, 208, 172]
abbrev dktX0_fault_0 : List UInt8 := dkwX0_fault_0 ++ []
theorem dksX0_fault_0 : cX0_fault.data.toList.drop 0 = dktX0_fault_0 := by decide +kernel
theorem dX0_fault_0 : decode cX0_fault 0 = .ok (.new 199, 3) := dk_187 0 199 (dk_at dksX0_fault_0 0 rfl rfl)
theorem dX0_fault_3 : decode cX0_fault 3 = .ok (.dup, 1) := dk_89 (dk_at dksX0_fault_0 3 rfl rfl)
theorem dX0_fault_4 : decode cX0_fault 4 = .ok (.aload_n 0, 1) := dk_42 (dk_at dksX0_fault_0 4 rfl rfl)
theorem dX0_fault_5 : decode cX0_fault 5 = .ok (.invokespecial 201, 3) := dk_183 0 201 (dk_at dksX0_fault_0 5 rfl rfl)
theorem dX0_fault_8 : decode cX0_fault 8 = .ok (.invokevirtual 202, 3) := dk_182 0 202 (dk_at dksX0_fault_0 8 rfl rfl)
theorem dX0_fault_11 : decode cX0_fault 11 = .ok (.pop, 1) := dk_87 (dk_at dksX0_fault_0 11 rfl rfl)
theorem dX0_fault_12 : decode cX0_fault 12 = .ok (.iconst (-1), 1) := dk_2 (dk_at dksX0_fault_0 12 rfl rfl)
theorem dX0_fault_13 : decode cX0_fault 13 = .ok (.ireturn, 1) := dk_172 (dk_at dksX0_fault_0 13 rfl rfl)
theorem dX0_fault_14 : decode cX0_fault 14 = .ok (.astore_n 1, 1) := dk_76 (dk_at dksX0_fault_0 14 rfl rfl)
theorem dX0_fault_15 : decode cX0_fault 15 = .ok (.aload_n 1, 1) := dk_43 (dk_at dksX0_fault_0 15 rfl rfl)
theorem dX0_fault_16 : decode cX0_fault 16 = .ok (.getfield 208, 3) := dk_180 0 208 (dk_at dksX0_fault_0 16 rfl rfl)
theorem dX0_fault_19 : decode cX0_fault 19 = .ok (.ireturn, 1) := dk_172 (dk_at dksX0_fault_0 19 rfl rfl)
abbrev cX0_farm : ByteArray := prog_1_method_16_code
def yX0_farm : MethodName := ⟨RX0, "farm", "()I"⟩
def dkwX0_farm_2 : List UInt8 := [3, 181, 0, 196, 43, 180, 0, 211, 172]
abbrev dktX0_farm_2 : List UInt8 := dkwX0_farm_2 ++ []
def dkwX0_farm_1 : List UInt8 := [43, 180, 0, 211, 162, 0, 19, 42, 43, 180, 0, 214, 28, 50, 182, 0, 218, 132, 2, 1, 167, 255, 235, 42]
abbrev dktX0_farm_1 : List UInt8 := dkwX0_farm_1 ++ dktX0_farm_2
def dkwX0_farm_0 : List UInt8 := [187, 0, 199, 89, 42, 183, 0, 201, 76, 43, 182, 0, 202, 87, 167, 0, 7, 77, 16, 252, 172, 3, 61, 28]
abbrev dktX0_farm_0 : List UInt8 := dkwX0_farm_0 ++ dktX0_farm_1
theorem dksX0_farm_0 : cX0_farm.data.toList.drop 0 = dktX0_farm_0 := by decide +kernel
theorem dksX0_farm_1 : cX0_farm.data.toList.drop 24 = dktX0_farm_1 := dk_seg dksX0_farm_0 24 rfl rfl
theorem dksX0_farm_2 : cX0_farm.data.toList.drop 48 = dktX0_farm_2 := dk_seg dksX0_farm_1 24 rfl rfl
theorem dX0_farm_0 : decode cX0_farm 0 = .ok (.new 199, 3) := dk_187 0 199 (dk_at dksX0_farm_0 0 rfl rfl)
theorem dX0_farm_3 : decode cX0_farm 3 = .ok (.dup, 1) := dk_89 (dk_at dksX0_farm_0 3 rfl rfl)
theorem dX0_farm_4 : decode cX0_farm 4 = .ok (.aload_n 0, 1) := dk_42 (dk_at dksX0_farm_0 4 rfl rfl)
theorem dX0_farm_5 : decode cX0_farm 5 = .ok (.invokespecial 201, 3) := dk_183 0 201 (dk_at dksX0_farm_0 5 rfl rfl)
theorem dX0_farm_8 : decode cX0_farm 8 = .ok (.astore_n 1, 1) := dk_76 (dk_at dksX0_farm_0 8 rfl rfl)
theorem dX0_farm_9 : decode cX0_farm 9 = .ok (.aload_n 1, 1) := dk_43 (dk_at dksX0_farm_0 9 rfl rfl)
theorem dX0_farm_10 : decode cX0_farm 10 = .ok (.invokevirtual 202, 3) := dk_182 0 202 (dk_at dksX0_farm_0 10 rfl rfl)
theorem dX0_farm_13 : decode cX0_farm 13 = .ok (.pop, 1) := dk_87 (dk_at dksX0_farm_0 13 rfl rfl)
theorem dX0_farm_14 : decode cX0_farm 14 = .ok (.goto 7, 3) := dk_167 0 7 (dk_at dksX0_farm_0 14 rfl rfl)
theorem dX0_farm_17 : decode cX0_farm 17 = .ok (.astore_n 2, 1) := dk_77 (dk_at dksX0_farm_0 17 rfl rfl)
theorem dX0_farm_18 : decode cX0_farm 18 = .ok (.bipush (-4), 2) := dk_16 252 (dk_at dksX0_farm_0 18 rfl rfl)
theorem dX0_farm_20 : decode cX0_farm 20 = .ok (.ireturn, 1) := dk_172 (dk_at dksX0_farm_0 20 rfl rfl)
theorem dX0_farm_21 : decode cX0_farm 21 = .ok (.iconst 0, 1) := dk_3 (dk_at dksX0_farm_0 21 rfl rfl)
theorem dX0_farm_22 : decode cX0_farm 22 = .ok (.istore_n 2, 1) := dk_61 (dk_at dksX0_farm_0 22 rfl rfl)
theorem dX0_farm_23 : decode cX0_farm 23 = .ok (.iload_n 2, 1) := dk_28 (dk_at dksX0_farm_0 23 rfl rfl)
theorem dX0_farm_24 : decode cX0_farm 24 = .ok (.aload_n 1, 1) := dk_43 (dk_at dksX0_farm_1 0 rfl rfl)
theorem dX0_farm_25 : decode cX0_farm 25 = .ok (.getfield 211, 3) := dk_180 0 211 (dk_at dksX0_farm_1 1 rfl rfl)
theorem dX0_farm_28 : decode cX0_farm 28 = .ok (.if_icmp .ge 19, 3) := dk_162 0 19 (dk_at dksX0_farm_1 4 rfl rfl)
theorem dX0_farm_31 : decode cX0_farm 31 = .ok (.aload_n 0, 1) := dk_42 (dk_at dksX0_farm_1 7 rfl rfl)
theorem dX0_farm_32 : decode cX0_farm 32 = .ok (.aload_n 1, 1) := dk_43 (dk_at dksX0_farm_1 8 rfl rfl)
theorem dX0_farm_33 : decode cX0_farm 33 = .ok (.getfield 214, 3) := dk_180 0 214 (dk_at dksX0_farm_1 9 rfl rfl)
theorem dX0_farm_36 : decode cX0_farm 36 = .ok (.iload_n 2, 1) := dk_28 (dk_at dksX0_farm_1 12 rfl rfl)
theorem dX0_farm_37 : decode cX0_farm 37 = .ok (.aaload, 1) := dk_50 (dk_at dksX0_farm_1 13 rfl rfl)
theorem dX0_farm_38 : decode cX0_farm 38 = .ok (.invokevirtual 218, 3) := dk_182 0 218 (dk_at dksX0_farm_1 14 rfl rfl)
theorem dX0_farm_41 : decode cX0_farm 41 = .ok (.iinc 2 1, 3) := dk_132 2 1 (dk_at dksX0_farm_1 17 rfl rfl)
theorem dX0_farm_44 : decode cX0_farm 44 = .ok (.goto (-21), 3) := dk_167 255 235 (dk_at dksX0_farm_1 20 rfl rfl)
theorem dX0_farm_47 : decode cX0_farm 47 = .ok (.aload_n 0, 1) := dk_42 (dk_at dksX0_farm_1 23 rfl rfl)
theorem dX0_farm_48 : decode cX0_farm 48 = .ok (.iconst 0, 1) := dk_3 (dk_at dksX0_farm_2 0 rfl rfl)
theorem dX0_farm_49 : decode cX0_farm 49 = .ok (.putfield 196, 3) := dk_181 0 196 (dk_at dksX0_farm_2 1 rfl rfl)
theorem dX0_farm_52 : decode cX0_farm 52 = .ok (.aload_n 1, 1) := dk_43 (dk_at dksX0_farm_2 4 rfl rfl)
theorem dX0_farm_53 : decode cX0_farm 53 = .ok (.getfield 211, 3) := dk_180 0 211 (dk_at dksX0_farm_2 5 rfl rfl)
theorem dX0_farm_56 : decode cX0_farm 56 = .ok (.ireturn, 1) := dk_172 (dk_at dksX0_farm_2 8 rfl rfl)
abbrev cX0_tell : ByteArray := prog_1_method_8_code
def yX0_tell : MethodName := ⟨RX0, "tell", "([I)V"⟩
def dkwX0_tell_6 : List UInt8 := [167, 0, 22, 42, 43, 4, 46, 181, 0, 21, 167, 0, 12, 42, 180, 0, 9, 43, 4, 46, 1, 83, 177]
abbrev dktX0_tell_6 : List UInt8 := dkwX0_tell_6 ++ []
def dkwX0_tell_5 : List UInt8 := [181, 0, 79, 167, 0, 42, 42, 43, 4, 46, 181, 0, 42, 167, 0, 32, 42, 43, 4, 46, 181, 0, 55]
abbrev dktX0_tell_5 : List UInt8 := dkwX0_tell_5 ++ dktX0_tell_6
def dkwX0_tell_4 : List UInt8 := [43, 4, 46, 187, 0, 74, 89, 43, 5, 46, 43, 6, 46, 183, 0, 76, 83, 167, 0, 52, 42, 43, 4, 46]
abbrev dktX0_tell_4 : List UInt8 := dkwX0_tell_4 ++ dktX0_tell_5
def dkwX0_tell_3 : List UInt8 := [167, 0, 93, 42, 180, 0, 13, 43, 4, 46, 43, 5, 46, 184, 0, 68, 83, 167, 0, 76, 42, 180, 0, 17]
abbrev dktX0_tell_3 : List UInt8 := dkwX0_tell_3 ++ dktX0_tell_4
def dkwX0_tell_2 : List UInt8 := [42, 180, 0, 9, 43, 4, 46, 187, 0, 62, 89, 43, 5, 46, 43, 6, 46, 43, 7, 46, 183, 0, 64, 83]
abbrev dktX0_tell_2 : List UInt8 := dkwX0_tell_2 ++ dktX0_tell_3
def dkwX0_tell_1 : List UInt8 := [170, 0, 0, 0, 149, 0, 0, 0, 0, 0, 0, 0, 6, 0, 0, 0, 41, 0, 0, 0, 68, 0, 0, 0, 85, 0, 0, 0, 109, 0, 0, 0, 119, 0, 0, 0, 129, 0, 0, 0, 139]
abbrev dktX0_tell_1 : List UInt8 := dkwX0_tell_1 ++ dktX0_tell_2
def dkwX0_tell_0 : List UInt8 := [43, 3, 46]
abbrev dktX0_tell_0 : List UInt8 := dkwX0_tell_0 ++ dktX0_tell_1
theorem dksX0_tell_0 : cX0_tell.data.toList.drop 0 = dktX0_tell_0 := by decide +kernel
theorem dksX0_tell_1 : cX0_tell.data.toList.drop 3 = dktX0_tell_1 := dk_seg dksX0_tell_0 3 rfl rfl
theorem dksX0_tell_2 : cX0_tell.data.toList.drop 44 = dktX0_tell_2 := dk_seg dksX0_tell_1 41 rfl rfl
theorem dksX0_tell_3 : cX0_tell.data.toList.drop 68 = dktX0_tell_3 := dk_seg dksX0_tell_2 24 rfl rfl
theorem dksX0_tell_4 : cX0_tell.data.toList.drop 92 = dktX0_tell_4 := dk_seg dksX0_tell_3 24 rfl rfl
theorem dksX0_tell_5 : cX0_tell.data.toList.drop 116 = dktX0_tell_5 := dk_seg dksX0_tell_4 24 rfl rfl
theorem dksX0_tell_6 : cX0_tell.data.toList.drop 139 = dktX0_tell_6 := dk_seg dksX0_tell_5 23 rfl rfl
theorem dX0_tell_0 : decode cX0_tell 0 = .ok (.aload_n 1, 1) := dk_43 (dk_at dksX0_tell_0 0 rfl rfl)
theorem dX0_tell_1 : decode cX0_tell 1 = .ok (.iconst 0, 1) := dk_3 (dk_at dksX0_tell_0 1 rfl rfl)
theorem dX0_tell_2 : decode cX0_tell 2 = .ok (.iaload, 1) := dk_46 (dk_at dksX0_tell_0 2 rfl rfl)
theorem dX0_tell_3 : decode cX0_tell 3 = .ok (.tableswitch 149 0 6 #[41, 68, 85, 109, 119, 129, 139], 41) := by decide +kernel
theorem dX0_tell_44 : decode cX0_tell 44 = .ok (.aload_n 0, 1) := dk_42 (dk_at dksX0_tell_2 0 rfl rfl)
theorem dX0_tell_45 : decode cX0_tell 45 = .ok (.getfield 9, 3) := dk_180 0 9 (dk_at dksX0_tell_2 1 rfl rfl)
theorem dX0_tell_48 : decode cX0_tell 48 = .ok (.aload_n 1, 1) := dk_43 (dk_at dksX0_tell_2 4 rfl rfl)
theorem dX0_tell_49 : decode cX0_tell 49 = .ok (.iconst 1, 1) := dk_4 (dk_at dksX0_tell_2 5 rfl rfl)
theorem dX0_tell_50 : decode cX0_tell 50 = .ok (.iaload, 1) := dk_46 (dk_at dksX0_tell_2 6 rfl rfl)
theorem dX0_tell_51 : decode cX0_tell 51 = .ok (.new 62, 3) := dk_187 0 62 (dk_at dksX0_tell_2 7 rfl rfl)
theorem dX0_tell_54 : decode cX0_tell 54 = .ok (.dup, 1) := dk_89 (dk_at dksX0_tell_2 10 rfl rfl)
theorem dX0_tell_55 : decode cX0_tell 55 = .ok (.aload_n 1, 1) := dk_43 (dk_at dksX0_tell_2 11 rfl rfl)
theorem dX0_tell_56 : decode cX0_tell 56 = .ok (.iconst 2, 1) := dk_5 (dk_at dksX0_tell_2 12 rfl rfl)
theorem dX0_tell_57 : decode cX0_tell 57 = .ok (.iaload, 1) := dk_46 (dk_at dksX0_tell_2 13 rfl rfl)
theorem dX0_tell_58 : decode cX0_tell 58 = .ok (.aload_n 1, 1) := dk_43 (dk_at dksX0_tell_2 14 rfl rfl)
theorem dX0_tell_59 : decode cX0_tell 59 = .ok (.iconst 3, 1) := dk_6 (dk_at dksX0_tell_2 15 rfl rfl)
theorem dX0_tell_60 : decode cX0_tell 60 = .ok (.iaload, 1) := dk_46 (dk_at dksX0_tell_2 16 rfl rfl)
theorem dX0_tell_61 : decode cX0_tell 61 = .ok (.aload_n 1, 1) := dk_43 (dk_at dksX0_tell_2 17 rfl rfl)
theorem dX0_tell_62 : decode cX0_tell 62 = .ok (.iconst 4, 1) := dk_7 (dk_at dksX0_tell_2 18 rfl rfl)
theorem dX0_tell_63 : decode cX0_tell 63 = .ok (.iaload, 1) := dk_46 (dk_at dksX0_tell_2 19 rfl rfl)
theorem dX0_tell_64 : decode cX0_tell 64 = .ok (.invokespecial 64, 3) := dk_183 0 64 (dk_at dksX0_tell_2 20 rfl rfl)
theorem dX0_tell_67 : decode cX0_tell 67 = .ok (.aastore, 1) := dk_83 (dk_at dksX0_tell_2 23 rfl rfl)
theorem dX0_tell_68 : decode cX0_tell 68 = .ok (.goto 93, 3) := dk_167 0 93 (dk_at dksX0_tell_3 0 rfl rfl)
theorem dX0_tell_71 : decode cX0_tell 71 = .ok (.aload_n 0, 1) := dk_42 (dk_at dksX0_tell_3 3 rfl rfl)
theorem dX0_tell_72 : decode cX0_tell 72 = .ok (.getfield 13, 3) := dk_180 0 13 (dk_at dksX0_tell_3 4 rfl rfl)
theorem dX0_tell_75 : decode cX0_tell 75 = .ok (.aload_n 1, 1) := dk_43 (dk_at dksX0_tell_3 7 rfl rfl)
theorem dX0_tell_76 : decode cX0_tell 76 = .ok (.iconst 1, 1) := dk_4 (dk_at dksX0_tell_3 8 rfl rfl)
theorem dX0_tell_77 : decode cX0_tell 77 = .ok (.iaload, 1) := dk_46 (dk_at dksX0_tell_3 9 rfl rfl)
theorem dX0_tell_78 : decode cX0_tell 78 = .ok (.aload_n 1, 1) := dk_43 (dk_at dksX0_tell_3 10 rfl rfl)
theorem dX0_tell_79 : decode cX0_tell 79 = .ok (.iconst 2, 1) := dk_5 (dk_at dksX0_tell_3 11 rfl rfl)
theorem dX0_tell_80 : decode cX0_tell 80 = .ok (.iaload, 1) := dk_46 (dk_at dksX0_tell_3 12 rfl rfl)
theorem dX0_tell_81 : decode cX0_tell 81 = .ok (.invokestatic 68, 3) := dk_184 0 68 (dk_at dksX0_tell_3 13 rfl rfl)
theorem dX0_tell_84 : decode cX0_tell 84 = .ok (.aastore, 1) := dk_83 (dk_at dksX0_tell_3 16 rfl rfl)
theorem dX0_tell_85 : decode cX0_tell 85 = .ok (.goto 76, 3) := dk_167 0 76 (dk_at dksX0_tell_3 17 rfl rfl)
theorem dX0_tell_88 : decode cX0_tell 88 = .ok (.aload_n 0, 1) := dk_42 (dk_at dksX0_tell_3 20 rfl rfl)
theorem dX0_tell_89 : decode cX0_tell 89 = .ok (.getfield 17, 3) := dk_180 0 17 (dk_at dksX0_tell_3 21 rfl rfl)
theorem dX0_tell_92 : decode cX0_tell 92 = .ok (.aload_n 1, 1) := dk_43 (dk_at dksX0_tell_4 0 rfl rfl)
theorem dX0_tell_93 : decode cX0_tell 93 = .ok (.iconst 1, 1) := dk_4 (dk_at dksX0_tell_4 1 rfl rfl)
theorem dX0_tell_94 : decode cX0_tell 94 = .ok (.iaload, 1) := dk_46 (dk_at dksX0_tell_4 2 rfl rfl)
theorem dX0_tell_95 : decode cX0_tell 95 = .ok (.new 74, 3) := dk_187 0 74 (dk_at dksX0_tell_4 3 rfl rfl)
theorem dX0_tell_98 : decode cX0_tell 98 = .ok (.dup, 1) := dk_89 (dk_at dksX0_tell_4 6 rfl rfl)
theorem dX0_tell_99 : decode cX0_tell 99 = .ok (.aload_n 1, 1) := dk_43 (dk_at dksX0_tell_4 7 rfl rfl)
theorem dX0_tell_100 : decode cX0_tell 100 = .ok (.iconst 2, 1) := dk_5 (dk_at dksX0_tell_4 8 rfl rfl)
theorem dX0_tell_101 : decode cX0_tell 101 = .ok (.iaload, 1) := dk_46 (dk_at dksX0_tell_4 9 rfl rfl)
theorem dX0_tell_102 : decode cX0_tell 102 = .ok (.aload_n 1, 1) := dk_43 (dk_at dksX0_tell_4 10 rfl rfl)
theorem dX0_tell_103 : decode cX0_tell 103 = .ok (.iconst 3, 1) := dk_6 (dk_at dksX0_tell_4 11 rfl rfl)
theorem dX0_tell_104 : decode cX0_tell 104 = .ok (.iaload, 1) := dk_46 (dk_at dksX0_tell_4 12 rfl rfl)
theorem dX0_tell_105 : decode cX0_tell 105 = .ok (.invokespecial 76, 3) := dk_183 0 76 (dk_at dksX0_tell_4 13 rfl rfl)
theorem dX0_tell_108 : decode cX0_tell 108 = .ok (.aastore, 1) := dk_83 (dk_at dksX0_tell_4 16 rfl rfl)
theorem dX0_tell_109 : decode cX0_tell 109 = .ok (.goto 52, 3) := dk_167 0 52 (dk_at dksX0_tell_4 17 rfl rfl)
theorem dX0_tell_112 : decode cX0_tell 112 = .ok (.aload_n 0, 1) := dk_42 (dk_at dksX0_tell_4 20 rfl rfl)
theorem dX0_tell_113 : decode cX0_tell 113 = .ok (.aload_n 1, 1) := dk_43 (dk_at dksX0_tell_4 21 rfl rfl)
theorem dX0_tell_114 : decode cX0_tell 114 = .ok (.iconst 1, 1) := dk_4 (dk_at dksX0_tell_4 22 rfl rfl)
theorem dX0_tell_115 : decode cX0_tell 115 = .ok (.iaload, 1) := dk_46 (dk_at dksX0_tell_4 23 rfl rfl)
theorem dX0_tell_116 : decode cX0_tell 116 = .ok (.putfield 79, 3) := dk_181 0 79 (dk_at dksX0_tell_5 0 rfl rfl)
theorem dX0_tell_119 : decode cX0_tell 119 = .ok (.goto 42, 3) := dk_167 0 42 (dk_at dksX0_tell_5 3 rfl rfl)
theorem dX0_tell_122 : decode cX0_tell 122 = .ok (.aload_n 0, 1) := dk_42 (dk_at dksX0_tell_5 6 rfl rfl)
theorem dX0_tell_123 : decode cX0_tell 123 = .ok (.aload_n 1, 1) := dk_43 (dk_at dksX0_tell_5 7 rfl rfl)
theorem dX0_tell_124 : decode cX0_tell 124 = .ok (.iconst 1, 1) := dk_4 (dk_at dksX0_tell_5 8 rfl rfl)
theorem dX0_tell_125 : decode cX0_tell 125 = .ok (.iaload, 1) := dk_46 (dk_at dksX0_tell_5 9 rfl rfl)
theorem dX0_tell_126 : decode cX0_tell 126 = .ok (.putfield 42, 3) := dk_181 0 42 (dk_at dksX0_tell_5 10 rfl rfl)
theorem dX0_tell_129 : decode cX0_tell 129 = .ok (.goto 32, 3) := dk_167 0 32 (dk_at dksX0_tell_5 13 rfl rfl)
theorem dX0_tell_132 : decode cX0_tell 132 = .ok (.aload_n 0, 1) := dk_42 (dk_at dksX0_tell_5 16 rfl rfl)
theorem dX0_tell_133 : decode cX0_tell 133 = .ok (.aload_n 1, 1) := dk_43 (dk_at dksX0_tell_5 17 rfl rfl)
theorem dX0_tell_134 : decode cX0_tell 134 = .ok (.iconst 1, 1) := dk_4 (dk_at dksX0_tell_5 18 rfl rfl)
theorem dX0_tell_135 : decode cX0_tell 135 = .ok (.iaload, 1) := dk_46 (dk_at dksX0_tell_5 19 rfl rfl)
theorem dX0_tell_136 : decode cX0_tell 136 = .ok (.putfield 55, 3) := dk_181 0 55 (dk_at dksX0_tell_5 20 rfl rfl)
theorem dX0_tell_139 : decode cX0_tell 139 = .ok (.goto 22, 3) := dk_167 0 22 (dk_at dksX0_tell_6 0 rfl rfl)
theorem dX0_tell_142 : decode cX0_tell 142 = .ok (.aload_n 0, 1) := dk_42 (dk_at dksX0_tell_6 3 rfl rfl)
theorem dX0_tell_143 : decode cX0_tell 143 = .ok (.aload_n 1, 1) := dk_43 (dk_at dksX0_tell_6 4 rfl rfl)
theorem dX0_tell_144 : decode cX0_tell 144 = .ok (.iconst 1, 1) := dk_4 (dk_at dksX0_tell_6 5 rfl rfl)
theorem dX0_tell_145 : decode cX0_tell 145 = .ok (.iaload, 1) := dk_46 (dk_at dksX0_tell_6 6 rfl rfl)
theorem dX0_tell_146 : decode cX0_tell 146 = .ok (.putfield 21, 3) := dk_181 0 21 (dk_at dksX0_tell_6 7 rfl rfl)
theorem dX0_tell_149 : decode cX0_tell 149 = .ok (.goto 12, 3) := dk_167 0 12 (dk_at dksX0_tell_6 10 rfl rfl)
theorem dX0_tell_152 : decode cX0_tell 152 = .ok (.aload_n 0, 1) := dk_42 (dk_at dksX0_tell_6 13 rfl rfl)
theorem dX0_tell_153 : decode cX0_tell 153 = .ok (.getfield 9, 3) := dk_180 0 9 (dk_at dksX0_tell_6 14 rfl rfl)
theorem dX0_tell_156 : decode cX0_tell 156 = .ok (.aload_n 1, 1) := dk_43 (dk_at dksX0_tell_6 17 rfl rfl)
theorem dX0_tell_157 : decode cX0_tell 157 = .ok (.iconst 1, 1) := dk_4 (dk_at dksX0_tell_6 18 rfl rfl)
theorem dX0_tell_158 : decode cX0_tell 158 = .ok (.iaload, 1) := dk_46 (dk_at dksX0_tell_6 19 rfl rfl)
theorem dX0_tell_159 : decode cX0_tell 159 = .ok (.aconst_null, 1) := dk_1 (dk_at dksX0_tell_6 20 rfl rfl)
theorem dX0_tell_160 : decode cX0_tell 160 = .ok (.aastore, 1) := dk_83 (dk_at dksX0_tell_6 21 rfl rfl)
theorem dX0_tell_161 : decode cX0_tell 161 = .ok (.return_, 1) := dk_177 (dk_at dksX0_tell_6 22 rfl rfl)
abbrev cX0_field : ByteArray := prog_1_method_17_code
def yX0_field : MethodName := ⟨RX0, "field", "(II)I"⟩
def dkwX0_field_2 : List UInt8 := [160, 0, 15, 42, 180, 0, 9, 27, 50, 180, 0, 227, 167, 0, 5, 16, 253, 172]
abbrev dktX0_field_2 : List UInt8 := dkwX0_field_2 ++ []
def dkwX0_field_1 : List UInt8 := [167, 0, 39, 28, 4, 160, 0, 15, 42, 180, 0, 9, 27, 50, 180, 0, 224, 167, 0, 22, 28, 5]
abbrev dktX0_field_1 : List UInt8 := dkwX0_field_1 ++ dktX0_field_2
def dkwX0_field_0 : List UInt8 := [42, 27, 182, 0, 31, 154, 0, 6, 16, 254, 172, 28, 154, 0, 15, 42, 180, 0, 9, 27, 50, 180, 0, 221]
abbrev dktX0_field_0 : List UInt8 := dkwX0_field_0 ++ dktX0_field_1
theorem dksX0_field_0 : cX0_field.data.toList.drop 0 = dktX0_field_0 := by decide +kernel
theorem dksX0_field_1 : cX0_field.data.toList.drop 24 = dktX0_field_1 := dk_seg dksX0_field_0 24 rfl rfl
theorem dksX0_field_2 : cX0_field.data.toList.drop 46 = dktX0_field_2 := dk_seg dksX0_field_1 22 rfl rfl
theorem dX0_field_0 : decode cX0_field 0 = .ok (.aload_n 0, 1) := dk_42 (dk_at dksX0_field_0 0 rfl rfl)
theorem dX0_field_1 : decode cX0_field 1 = .ok (.iload_n 1, 1) := dk_27 (dk_at dksX0_field_0 1 rfl rfl)
theorem dX0_field_2 : decode cX0_field 2 = .ok (.invokevirtual 31, 3) := dk_182 0 31 (dk_at dksX0_field_0 2 rfl rfl)
theorem dX0_field_5 : decode cX0_field 5 = .ok (.ifCond .ne 6, 3) := dk_154 0 6 (dk_at dksX0_field_0 5 rfl rfl)
theorem dX0_field_8 : decode cX0_field 8 = .ok (.bipush (-2), 2) := dk_16 254 (dk_at dksX0_field_0 8 rfl rfl)
theorem dX0_field_10 : decode cX0_field 10 = .ok (.ireturn, 1) := dk_172 (dk_at dksX0_field_0 10 rfl rfl)
theorem dX0_field_11 : decode cX0_field 11 = .ok (.iload_n 2, 1) := dk_28 (dk_at dksX0_field_0 11 rfl rfl)
theorem dX0_field_12 : decode cX0_field 12 = .ok (.ifCond .ne 15, 3) := dk_154 0 15 (dk_at dksX0_field_0 12 rfl rfl)
theorem dX0_field_15 : decode cX0_field 15 = .ok (.aload_n 0, 1) := dk_42 (dk_at dksX0_field_0 15 rfl rfl)
theorem dX0_field_16 : decode cX0_field 16 = .ok (.getfield 9, 3) := dk_180 0 9 (dk_at dksX0_field_0 16 rfl rfl)
theorem dX0_field_19 : decode cX0_field 19 = .ok (.iload_n 1, 1) := dk_27 (dk_at dksX0_field_0 19 rfl rfl)
theorem dX0_field_20 : decode cX0_field 20 = .ok (.aaload, 1) := dk_50 (dk_at dksX0_field_0 20 rfl rfl)
theorem dX0_field_21 : decode cX0_field 21 = .ok (.getfield 221, 3) := dk_180 0 221 (dk_at dksX0_field_0 21 rfl rfl)
theorem dX0_field_24 : decode cX0_field 24 = .ok (.goto 39, 3) := dk_167 0 39 (dk_at dksX0_field_1 0 rfl rfl)
theorem dX0_field_27 : decode cX0_field 27 = .ok (.iload_n 2, 1) := dk_28 (dk_at dksX0_field_1 3 rfl rfl)
theorem dX0_field_28 : decode cX0_field 28 = .ok (.iconst 1, 1) := dk_4 (dk_at dksX0_field_1 4 rfl rfl)
theorem dX0_field_29 : decode cX0_field 29 = .ok (.if_icmp .ne 15, 3) := dk_160 0 15 (dk_at dksX0_field_1 5 rfl rfl)
theorem dX0_field_32 : decode cX0_field 32 = .ok (.aload_n 0, 1) := dk_42 (dk_at dksX0_field_1 8 rfl rfl)
theorem dX0_field_33 : decode cX0_field 33 = .ok (.getfield 9, 3) := dk_180 0 9 (dk_at dksX0_field_1 9 rfl rfl)
theorem dX0_field_36 : decode cX0_field 36 = .ok (.iload_n 1, 1) := dk_27 (dk_at dksX0_field_1 12 rfl rfl)
theorem dX0_field_37 : decode cX0_field 37 = .ok (.aaload, 1) := dk_50 (dk_at dksX0_field_1 13 rfl rfl)
theorem dX0_field_38 : decode cX0_field 38 = .ok (.getfield 224, 3) := dk_180 0 224 (dk_at dksX0_field_1 14 rfl rfl)
theorem dX0_field_41 : decode cX0_field 41 = .ok (.goto 22, 3) := dk_167 0 22 (dk_at dksX0_field_1 17 rfl rfl)
theorem dX0_field_44 : decode cX0_field 44 = .ok (.iload_n 2, 1) := dk_28 (dk_at dksX0_field_1 20 rfl rfl)
theorem dX0_field_45 : decode cX0_field 45 = .ok (.iconst 2, 1) := dk_5 (dk_at dksX0_field_1 21 rfl rfl)
theorem dX0_field_46 : decode cX0_field 46 = .ok (.if_icmp .ne 15, 3) := dk_160 0 15 (dk_at dksX0_field_2 0 rfl rfl)
theorem dX0_field_49 : decode cX0_field 49 = .ok (.aload_n 0, 1) := dk_42 (dk_at dksX0_field_2 3 rfl rfl)
theorem dX0_field_50 : decode cX0_field 50 = .ok (.getfield 9, 3) := dk_180 0 9 (dk_at dksX0_field_2 4 rfl rfl)
theorem dX0_field_53 : decode cX0_field 53 = .ok (.iload_n 1, 1) := dk_27 (dk_at dksX0_field_2 7 rfl rfl)
theorem dX0_field_54 : decode cX0_field 54 = .ok (.aaload, 1) := dk_50 (dk_at dksX0_field_2 8 rfl rfl)
theorem dX0_field_55 : decode cX0_field 55 = .ok (.getfield 227, 3) := dk_180 0 227 (dk_at dksX0_field_2 9 rfl rfl)
theorem dX0_field_58 : decode cX0_field 58 = .ok (.goto 5, 3) := dk_167 0 5 (dk_at dksX0_field_2 12 rfl rfl)
theorem dX0_field_61 : decode cX0_field 61 = .ok (.bipush (-3), 2) := dk_16 253 (dk_at dksX0_field_2 15 rfl rfl)
theorem dX0_field_63 : decode cX0_field 63 = .ok (.ireturn, 1) := dk_172 (dk_at dksX0_field_2 17 rfl rfl)
abbrev cX0_isField : ByteArray := prog_1_method_2_code
def yX0_isField : MethodName := ⟨RX0, "isField", "(I)Z"⟩
def dkwX0_isField_1 : List UInt8 := [167, 0, 4, 3, 172]
abbrev dktX0_isField_1 : List UInt8 := dkwX0_isField_1 ++ []
def dkwX0_isField_0 : List UInt8 := [27, 133, 9, 20, 0, 3, 184, 0, 5, 153, 0, 16, 42, 180, 0, 9, 27, 50, 198, 0, 7, 4]
abbrev dktX0_isField_0 : List UInt8 := dkwX0_isField_0 ++ dktX0_isField_1
theorem dksX0_isField_0 : cX0_isField.data.toList.drop 0 = dktX0_isField_0 := by decide +kernel
theorem dksX0_isField_1 : cX0_isField.data.toList.drop 22 = dktX0_isField_1 := dk_seg dksX0_isField_0 22 rfl rfl
theorem dX0_isField_0 : decode cX0_isField 0 = .ok (.iload_n 1, 1) := dk_27 (dk_at dksX0_isField_0 0 rfl rfl)
theorem dX0_isField_1 : decode cX0_isField 1 = .ok (.i2l, 1) := dk_133 (dk_at dksX0_isField_0 1 rfl rfl)
theorem dX0_isField_2 : decode cX0_isField 2 = .ok (.lconst 0, 1) := dk_9 (dk_at dksX0_isField_0 2 rfl rfl)
theorem dX0_isField_3 : decode cX0_isField 3 = .ok (.ldc2_w 3, 3) := dk_20 0 3 (dk_at dksX0_isField_0 3 rfl rfl)
theorem dX0_isField_6 : decode cX0_isField 6 = .ok (.invokestatic 5, 3) := dk_184 0 5 (dk_at dksX0_isField_0 6 rfl rfl)
theorem dX0_isField_9 : decode cX0_isField 9 = .ok (.ifCond .eq 16, 3) := dk_153 0 16 (dk_at dksX0_isField_0 9 rfl rfl)
theorem dX0_isField_12 : decode cX0_isField 12 = .ok (.aload_n 0, 1) := dk_42 (dk_at dksX0_isField_0 12 rfl rfl)
theorem dX0_isField_13 : decode cX0_isField 13 = .ok (.getfield 9, 3) := dk_180 0 9 (dk_at dksX0_isField_0 13 rfl rfl)
theorem dX0_isField_16 : decode cX0_isField 16 = .ok (.iload_n 1, 1) := dk_27 (dk_at dksX0_isField_0 16 rfl rfl)
theorem dX0_isField_17 : decode cX0_isField 17 = .ok (.aaload, 1) := dk_50 (dk_at dksX0_isField_0 17 rfl rfl)
theorem dX0_isField_18 : decode cX0_isField 18 = .ok (.ifnull 7, 3) := dk_198 0 7 (dk_at dksX0_isField_0 18 rfl rfl)
theorem dX0_isField_21 : decode cX0_isField 21 = .ok (.iconst 1, 1) := dk_4 (dk_at dksX0_isField_0 21 rfl rfl)
theorem dX0_isField_22 : decode cX0_isField 22 = .ok (.goto 4, 3) := dk_167 0 4 (dk_at dksX0_isField_1 0 rfl rfl)
theorem dX0_isField_25 : decode cX0_isField 25 = .ok (.iconst 0, 1) := dk_3 (dk_at dksX0_isField_1 3 rfl rfl)
theorem dX0_isField_26 : decode cX0_isField 26 = .ok (.ireturn, 1) := dk_172 (dk_at dksX0_isField_1 4 rfl rfl)
abbrev cX0_flock : ByteArray := prog_1_method_18_code
def yX0_flock : MethodName := ⟨RX0, "flock", "(I)I"⟩
def dkwX0_flock_0 : List UInt8 := [42, 27, 182, 0, 230, 153, 0, 15, 42, 180, 0, 13, 27, 50, 182, 0, 233, 167, 0, 5, 16, 254, 172]
abbrev dktX0_flock_0 : List UInt8 := dkwX0_flock_0 ++ []
theorem dksX0_flock_0 : cX0_flock.data.toList.drop 0 = dktX0_flock_0 := by decide +kernel
theorem dX0_flock_0 : decode cX0_flock 0 = .ok (.aload_n 0, 1) := dk_42 (dk_at dksX0_flock_0 0 rfl rfl)
theorem dX0_flock_1 : decode cX0_flock 1 = .ok (.iload_n 1, 1) := dk_27 (dk_at dksX0_flock_0 1 rfl rfl)
theorem dX0_flock_2 : decode cX0_flock 2 = .ok (.invokevirtual 230, 3) := dk_182 0 230 (dk_at dksX0_flock_0 2 rfl rfl)
theorem dX0_flock_5 : decode cX0_flock 5 = .ok (.ifCond .eq 15, 3) := dk_153 0 15 (dk_at dksX0_flock_0 5 rfl rfl)
theorem dX0_flock_8 : decode cX0_flock 8 = .ok (.aload_n 0, 1) := dk_42 (dk_at dksX0_flock_0 8 rfl rfl)
theorem dX0_flock_9 : decode cX0_flock 9 = .ok (.getfield 13, 3) := dk_180 0 13 (dk_at dksX0_flock_0 9 rfl rfl)
theorem dX0_flock_12 : decode cX0_flock 12 = .ok (.iload_n 1, 1) := dk_27 (dk_at dksX0_flock_0 12 rfl rfl)
theorem dX0_flock_13 : decode cX0_flock 13 = .ok (.aaload, 1) := dk_50 (dk_at dksX0_flock_0 13 rfl rfl)
theorem dX0_flock_14 : decode cX0_flock 14 = .ok (.invokevirtual 233, 3) := dk_182 0 233 (dk_at dksX0_flock_0 14 rfl rfl)
theorem dX0_flock_17 : decode cX0_flock 17 = .ok (.goto 5, 3) := dk_167 0 5 (dk_at dksX0_flock_0 17 rfl rfl)
theorem dX0_flock_20 : decode cX0_flock 20 = .ok (.bipush (-2), 2) := dk_16 254 (dk_at dksX0_flock_0 20 rfl rfl)
theorem dX0_flock_22 : decode cX0_flock 22 = .ok (.ireturn, 1) := dk_172 (dk_at dksX0_flock_0 22 rfl rfl)
abbrev cX0_isFlock : ByteArray := prog_1_method_3_code
def yX0_isFlock : MethodName := ⟨RX0, "isFlock", "(I)Z"⟩
def dkwX0_isFlock_1 : List UInt8 := [167, 0, 4, 3, 172]
abbrev dktX0_isFlock_1 : List UInt8 := dkwX0_isFlock_1 ++ []
def dkwX0_isFlock_0 : List UInt8 := [27, 133, 9, 20, 0, 3, 184, 0, 5, 153, 0, 16, 42, 180, 0, 13, 27, 50, 198, 0, 7, 4]
abbrev dktX0_isFlock_0 : List UInt8 := dkwX0_isFlock_0 ++ dktX0_isFlock_1
theorem dksX0_isFlock_0 : cX0_isFlock.data.toList.drop 0 = dktX0_isFlock_0 := by decide +kernel
theorem dksX0_isFlock_1 : cX0_isFlock.data.toList.drop 22 = dktX0_isFlock_1 := dk_seg dksX0_isFlock_0 22 rfl rfl
theorem dX0_isFlock_0 : decode cX0_isFlock 0 = .ok (.iload_n 1, 1) := dk_27 (dk_at dksX0_isFlock_0 0 rfl rfl)
theorem dX0_isFlock_1 : decode cX0_isFlock 1 = .ok (.i2l, 1) := dk_133 (dk_at dksX0_isFlock_0 1 rfl rfl)
theorem dX0_isFlock_2 : decode cX0_isFlock 2 = .ok (.lconst 0, 1) := dk_9 (dk_at dksX0_isFlock_0 2 rfl rfl)
theorem dX0_isFlock_3 : decode cX0_isFlock 3 = .ok (.ldc2_w 3, 3) := dk_20 0 3 (dk_at dksX0_isFlock_0 3 rfl rfl)
theorem dX0_isFlock_6 : decode cX0_isFlock 6 = .ok (.invokestatic 5, 3) := dk_184 0 5 (dk_at dksX0_isFlock_0 6 rfl rfl)
theorem dX0_isFlock_9 : decode cX0_isFlock 9 = .ok (.ifCond .eq 16, 3) := dk_153 0 16 (dk_at dksX0_isFlock_0 9 rfl rfl)
theorem dX0_isFlock_12 : decode cX0_isFlock 12 = .ok (.aload_n 0, 1) := dk_42 (dk_at dksX0_isFlock_0 12 rfl rfl)
theorem dX0_isFlock_13 : decode cX0_isFlock 13 = .ok (.getfield 13, 3) := dk_180 0 13 (dk_at dksX0_isFlock_0 13 rfl rfl)
theorem dX0_isFlock_16 : decode cX0_isFlock 16 = .ok (.iload_n 1, 1) := dk_27 (dk_at dksX0_isFlock_0 16 rfl rfl)
theorem dX0_isFlock_17 : decode cX0_isFlock 17 = .ok (.aaload, 1) := dk_50 (dk_at dksX0_isFlock_0 17 rfl rfl)
theorem dX0_isFlock_18 : decode cX0_isFlock 18 = .ok (.ifnull 7, 3) := dk_198 0 7 (dk_at dksX0_isFlock_0 18 rfl rfl)
theorem dX0_isFlock_21 : decode cX0_isFlock 21 = .ok (.iconst 1, 1) := dk_4 (dk_at dksX0_isFlock_0 21 rfl rfl)
theorem dX0_isFlock_22 : decode cX0_isFlock 22 = .ok (.goto 4, 3) := dk_167 0 4 (dk_at dksX0_isFlock_1 0 rfl rfl)
theorem dX0_isFlock_25 : decode cX0_isFlock 25 = .ok (.iconst 0, 1) := dk_3 (dk_at dksX0_isFlock_1 3 rfl rfl)
theorem dX0_isFlock_26 : decode cX0_isFlock 26 = .ok (.ireturn, 1) := dk_172 (dk_at dksX0_isFlock_1 4 rfl rfl)
abbrev cX0_coat : ByteArray := prog_1_method_19_code
def yX0_coat : MethodName := ⟨RX0, "coat", "(II)I"⟩
def dkwX0_coat_1 : List UInt8 := [167, 0, 22, 28, 4, 160, 0, 15, 42, 180, 0, 17, 27, 50, 180, 0, 239, 167, 0, 5, 16, 253, 172]
abbrev dktX0_coat_1 : List UInt8 := dkwX0_coat_1 ++ []
def dkwX0_coat_0 : List UInt8 := [42, 27, 182, 0, 35, 154, 0, 6, 16, 254, 172, 28, 154, 0, 15, 42, 180, 0, 17, 27, 50, 180, 0, 236]
abbrev dktX0_coat_0 : List UInt8 := dkwX0_coat_0 ++ dktX0_coat_1
theorem dksX0_coat_0 : cX0_coat.data.toList.drop 0 = dktX0_coat_0 := by decide +kernel
theorem dksX0_coat_1 : cX0_coat.data.toList.drop 24 = dktX0_coat_1 := dk_seg dksX0_coat_0 24 rfl rfl
theorem dX0_coat_0 : decode cX0_coat 0 = .ok (.aload_n 0, 1) := dk_42 (dk_at dksX0_coat_0 0 rfl rfl)
theorem dX0_coat_1 : decode cX0_coat 1 = .ok (.iload_n 1, 1) := dk_27 (dk_at dksX0_coat_0 1 rfl rfl)
theorem dX0_coat_2 : decode cX0_coat 2 = .ok (.invokevirtual 35, 3) := dk_182 0 35 (dk_at dksX0_coat_0 2 rfl rfl)
theorem dX0_coat_5 : decode cX0_coat 5 = .ok (.ifCond .ne 6, 3) := dk_154 0 6 (dk_at dksX0_coat_0 5 rfl rfl)
theorem dX0_coat_8 : decode cX0_coat 8 = .ok (.bipush (-2), 2) := dk_16 254 (dk_at dksX0_coat_0 8 rfl rfl)
theorem dX0_coat_10 : decode cX0_coat 10 = .ok (.ireturn, 1) := dk_172 (dk_at dksX0_coat_0 10 rfl rfl)
theorem dX0_coat_11 : decode cX0_coat 11 = .ok (.iload_n 2, 1) := dk_28 (dk_at dksX0_coat_0 11 rfl rfl)
theorem dX0_coat_12 : decode cX0_coat 12 = .ok (.ifCond .ne 15, 3) := dk_154 0 15 (dk_at dksX0_coat_0 12 rfl rfl)
theorem dX0_coat_15 : decode cX0_coat 15 = .ok (.aload_n 0, 1) := dk_42 (dk_at dksX0_coat_0 15 rfl rfl)
theorem dX0_coat_16 : decode cX0_coat 16 = .ok (.getfield 17, 3) := dk_180 0 17 (dk_at dksX0_coat_0 16 rfl rfl)
theorem dX0_coat_19 : decode cX0_coat 19 = .ok (.iload_n 1, 1) := dk_27 (dk_at dksX0_coat_0 19 rfl rfl)
theorem dX0_coat_20 : decode cX0_coat 20 = .ok (.aaload, 1) := dk_50 (dk_at dksX0_coat_0 20 rfl rfl)
theorem dX0_coat_21 : decode cX0_coat 21 = .ok (.getfield 236, 3) := dk_180 0 236 (dk_at dksX0_coat_0 21 rfl rfl)
theorem dX0_coat_24 : decode cX0_coat 24 = .ok (.goto 22, 3) := dk_167 0 22 (dk_at dksX0_coat_1 0 rfl rfl)
theorem dX0_coat_27 : decode cX0_coat 27 = .ok (.iload_n 2, 1) := dk_28 (dk_at dksX0_coat_1 3 rfl rfl)
theorem dX0_coat_28 : decode cX0_coat 28 = .ok (.iconst 1, 1) := dk_4 (dk_at dksX0_coat_1 4 rfl rfl)
theorem dX0_coat_29 : decode cX0_coat 29 = .ok (.if_icmp .ne 15, 3) := dk_160 0 15 (dk_at dksX0_coat_1 5 rfl rfl)
theorem dX0_coat_32 : decode cX0_coat 32 = .ok (.aload_n 0, 1) := dk_42 (dk_at dksX0_coat_1 8 rfl rfl)
theorem dX0_coat_33 : decode cX0_coat 33 = .ok (.getfield 17, 3) := dk_180 0 17 (dk_at dksX0_coat_1 9 rfl rfl)
theorem dX0_coat_36 : decode cX0_coat 36 = .ok (.iload_n 1, 1) := dk_27 (dk_at dksX0_coat_1 12 rfl rfl)
theorem dX0_coat_37 : decode cX0_coat 37 = .ok (.aaload, 1) := dk_50 (dk_at dksX0_coat_1 13 rfl rfl)
theorem dX0_coat_38 : decode cX0_coat 38 = .ok (.getfield 239, 3) := dk_180 0 239 (dk_at dksX0_coat_1 14 rfl rfl)
theorem dX0_coat_41 : decode cX0_coat 41 = .ok (.goto 5, 3) := dk_167 0 5 (dk_at dksX0_coat_1 17 rfl rfl)
theorem dX0_coat_44 : decode cX0_coat 44 = .ok (.bipush (-3), 2) := dk_16 253 (dk_at dksX0_coat_1 20 rfl rfl)
theorem dX0_coat_46 : decode cX0_coat 46 = .ok (.ireturn, 1) := dk_172 (dk_at dksX0_coat_1 22 rfl rfl)
abbrev cX0_isCoat : ByteArray := prog_1_method_4_code
def yX0_isCoat : MethodName := ⟨RX0, "isCoat", "(I)Z"⟩
def dkwX0_isCoat_1 : List UInt8 := [167, 0, 4, 3, 172]
abbrev dktX0_isCoat_1 : List UInt8 := dkwX0_isCoat_1 ++ []
def dkwX0_isCoat_0 : List UInt8 := [27, 133, 9, 20, 0, 3, 184, 0, 5, 153, 0, 16, 42, 180, 0, 17, 27, 50, 198, 0, 7, 4]
abbrev dktX0_isCoat_0 : List UInt8 := dkwX0_isCoat_0 ++ dktX0_isCoat_1
theorem dksX0_isCoat_0 : cX0_isCoat.data.toList.drop 0 = dktX0_isCoat_0 := by decide +kernel
theorem dksX0_isCoat_1 : cX0_isCoat.data.toList.drop 22 = dktX0_isCoat_1 := dk_seg dksX0_isCoat_0 22 rfl rfl
theorem dX0_isCoat_0 : decode cX0_isCoat 0 = .ok (.iload_n 1, 1) := dk_27 (dk_at dksX0_isCoat_0 0 rfl rfl)
theorem dX0_isCoat_1 : decode cX0_isCoat 1 = .ok (.i2l, 1) := dk_133 (dk_at dksX0_isCoat_0 1 rfl rfl)
theorem dX0_isCoat_2 : decode cX0_isCoat 2 = .ok (.lconst 0, 1) := dk_9 (dk_at dksX0_isCoat_0 2 rfl rfl)
theorem dX0_isCoat_3 : decode cX0_isCoat 3 = .ok (.ldc2_w 3, 3) := dk_20 0 3 (dk_at dksX0_isCoat_0 3 rfl rfl)
theorem dX0_isCoat_6 : decode cX0_isCoat 6 = .ok (.invokestatic 5, 3) := dk_184 0 5 (dk_at dksX0_isCoat_0 6 rfl rfl)
theorem dX0_isCoat_9 : decode cX0_isCoat 9 = .ok (.ifCond .eq 16, 3) := dk_153 0 16 (dk_at dksX0_isCoat_0 9 rfl rfl)
theorem dX0_isCoat_12 : decode cX0_isCoat 12 = .ok (.aload_n 0, 1) := dk_42 (dk_at dksX0_isCoat_0 12 rfl rfl)
theorem dX0_isCoat_13 : decode cX0_isCoat 13 = .ok (.getfield 17, 3) := dk_180 0 17 (dk_at dksX0_isCoat_0 13 rfl rfl)
theorem dX0_isCoat_16 : decode cX0_isCoat 16 = .ok (.iload_n 1, 1) := dk_27 (dk_at dksX0_isCoat_0 16 rfl rfl)
theorem dX0_isCoat_17 : decode cX0_isCoat 17 = .ok (.aaload, 1) := dk_50 (dk_at dksX0_isCoat_0 17 rfl rfl)
theorem dX0_isCoat_18 : decode cX0_isCoat 18 = .ok (.ifnull 7, 3) := dk_198 0 7 (dk_at dksX0_isCoat_0 18 rfl rfl)
theorem dX0_isCoat_21 : decode cX0_isCoat 21 = .ok (.iconst 1, 1) := dk_4 (dk_at dksX0_isCoat_0 21 rfl rfl)
theorem dX0_isCoat_22 : decode cX0_isCoat 22 = .ok (.goto 4, 3) := dk_167 0 4 (dk_at dksX0_isCoat_1 0 rfl rfl)
theorem dX0_isCoat_25 : decode cX0_isCoat 25 = .ok (.iconst 0, 1) := dk_3 (dk_at dksX0_isCoat_1 3 rfl rfl)
theorem dX0_isCoat_26 : decode cX0_isCoat 26 = .ok (.ireturn, 1) := dk_172 (dk_at dksX0_isCoat_1 4 rfl rfl)
abbrev cX0_place : ByteArray := prog_1_method_20_code
def yX0_place : MethodName := ⟨RX0, "place", "(III)I"⟩
def dkwX0_place_4 : List UInt8 := [25, 4, 28, 29, 145, 84, 21, 5, 172]
abbrev dktX0_place_4 : List UInt8 := dkwX0_place_4 ++ []
def dkwX0_place_3 : List UInt8 := [25, 4, 21, 5, 51, 29, 160, 0, 6, 16, 252, 172, 132, 5, 1, 167, 255, 224, 25, 4, 28, 51, 54, 5]
abbrev dktX0_place_3 : List UInt8 := dkwX0_place_3 ++ dktX0_place_4
def dkwX0_place_2 : List UInt8 := [27, 50, 58, 4, 3, 54, 5, 21, 5, 7, 162, 0, 32, 29, 2, 159, 0, 27, 21, 5, 28, 159, 0, 15]
abbrev dktX0_place_2 : List UInt8 := dkwX0_place_2 ++ dktX0_place_3
def dkwX0_place_1 : List UInt8 := [29, 133, 20, 0, 244, 20, 0, 3, 184, 0, 5, 154, 0, 6, 16, 254, 172, 42, 180, 0, 82, 180, 0, 25]
abbrev dktX0_place_1 : List UInt8 := dkwX0_place_1 ++ dktX0_place_2
def dkwX0_place_0 : List UInt8 := [27, 133, 9, 20, 0, 242, 184, 0, 5, 153, 0, 29, 28, 133, 9, 20, 0, 3, 184, 0, 5, 153, 0, 17]
abbrev dktX0_place_0 : List UInt8 := dkwX0_place_0 ++ dktX0_place_1
theorem dksX0_place_0 : cX0_place.data.toList.drop 0 = dktX0_place_0 := by decide +kernel
theorem dksX0_place_1 : cX0_place.data.toList.drop 24 = dktX0_place_1 := dk_seg dksX0_place_0 24 rfl rfl
theorem dksX0_place_2 : cX0_place.data.toList.drop 48 = dktX0_place_2 := dk_seg dksX0_place_1 24 rfl rfl
theorem dksX0_place_3 : cX0_place.data.toList.drop 72 = dktX0_place_3 := dk_seg dksX0_place_2 24 rfl rfl
theorem dksX0_place_4 : cX0_place.data.toList.drop 96 = dktX0_place_4 := dk_seg dksX0_place_3 24 rfl rfl
theorem dX0_place_0 : decode cX0_place 0 = .ok (.iload_n 1, 1) := dk_27 (dk_at dksX0_place_0 0 rfl rfl)
theorem dX0_place_1 : decode cX0_place 1 = .ok (.i2l, 1) := dk_133 (dk_at dksX0_place_0 1 rfl rfl)
theorem dX0_place_2 : decode cX0_place 2 = .ok (.lconst 0, 1) := dk_9 (dk_at dksX0_place_0 2 rfl rfl)
theorem dX0_place_3 : decode cX0_place 3 = .ok (.ldc2_w 242, 3) := dk_20 0 242 (dk_at dksX0_place_0 3 rfl rfl)
theorem dX0_place_6 : decode cX0_place 6 = .ok (.invokestatic 5, 3) := dk_184 0 5 (dk_at dksX0_place_0 6 rfl rfl)
theorem dX0_place_9 : decode cX0_place 9 = .ok (.ifCond .eq 29, 3) := dk_153 0 29 (dk_at dksX0_place_0 9 rfl rfl)
theorem dX0_place_12 : decode cX0_place 12 = .ok (.iload_n 2, 1) := dk_28 (dk_at dksX0_place_0 12 rfl rfl)
theorem dX0_place_13 : decode cX0_place 13 = .ok (.i2l, 1) := dk_133 (dk_at dksX0_place_0 13 rfl rfl)
theorem dX0_place_14 : decode cX0_place 14 = .ok (.lconst 0, 1) := dk_9 (dk_at dksX0_place_0 14 rfl rfl)
theorem dX0_place_15 : decode cX0_place 15 = .ok (.ldc2_w 3, 3) := dk_20 0 3 (dk_at dksX0_place_0 15 rfl rfl)
theorem dX0_place_18 : decode cX0_place 18 = .ok (.invokestatic 5, 3) := dk_184 0 5 (dk_at dksX0_place_0 18 rfl rfl)
theorem dX0_place_21 : decode cX0_place 21 = .ok (.ifCond .eq 17, 3) := dk_153 0 17 (dk_at dksX0_place_0 21 rfl rfl)
theorem dX0_place_24 : decode cX0_place 24 = .ok (.iload_n 3, 1) := dk_29 (dk_at dksX0_place_1 0 rfl rfl)
theorem dX0_place_25 : decode cX0_place 25 = .ok (.i2l, 1) := dk_133 (dk_at dksX0_place_1 1 rfl rfl)
theorem dX0_place_26 : decode cX0_place 26 = .ok (.ldc2_w 244, 3) := dk_20 0 244 (dk_at dksX0_place_1 2 rfl rfl)
theorem dX0_place_29 : decode cX0_place 29 = .ok (.ldc2_w 3, 3) := dk_20 0 3 (dk_at dksX0_place_1 5 rfl rfl)
theorem dX0_place_32 : decode cX0_place 32 = .ok (.invokestatic 5, 3) := dk_184 0 5 (dk_at dksX0_place_1 8 rfl rfl)
theorem dX0_place_35 : decode cX0_place 35 = .ok (.ifCond .ne 6, 3) := dk_154 0 6 (dk_at dksX0_place_1 11 rfl rfl)
theorem dX0_place_38 : decode cX0_place 38 = .ok (.bipush (-2), 2) := dk_16 254 (dk_at dksX0_place_1 14 rfl rfl)
theorem dX0_place_40 : decode cX0_place 40 = .ok (.ireturn, 1) := dk_172 (dk_at dksX0_place_1 16 rfl rfl)
theorem dX0_place_41 : decode cX0_place 41 = .ok (.aload_n 0, 1) := dk_42 (dk_at dksX0_place_1 17 rfl rfl)
theorem dX0_place_42 : decode cX0_place 42 = .ok (.getfield 82, 3) := dk_180 0 82 (dk_at dksX0_place_1 18 rfl rfl)
theorem dX0_place_45 : decode cX0_place 45 = .ok (.getfield 25, 3) := dk_180 0 25 (dk_at dksX0_place_1 21 rfl rfl)
theorem dX0_place_48 : decode cX0_place 48 = .ok (.iload_n 1, 1) := dk_27 (dk_at dksX0_place_2 0 rfl rfl)
theorem dX0_place_49 : decode cX0_place 49 = .ok (.aaload, 1) := dk_50 (dk_at dksX0_place_2 1 rfl rfl)
theorem dX0_place_50 : decode cX0_place 50 = .ok (.astore 4, 2) := dk_58 4 (dk_at dksX0_place_2 2 rfl rfl)
theorem dX0_place_52 : decode cX0_place 52 = .ok (.iconst 0, 1) := dk_3 (dk_at dksX0_place_2 4 rfl rfl)
theorem dX0_place_53 : decode cX0_place 53 = .ok (.istore 5, 2) := dk_54 5 (dk_at dksX0_place_2 5 rfl rfl)
theorem dX0_place_55 : decode cX0_place 55 = .ok (.iload 5, 2) := dk_21 5 (dk_at dksX0_place_2 7 rfl rfl)
theorem dX0_place_57 : decode cX0_place 57 = .ok (.iconst 4, 1) := dk_7 (dk_at dksX0_place_2 9 rfl rfl)
theorem dX0_place_58 : decode cX0_place 58 = .ok (.if_icmp .ge 32, 3) := dk_162 0 32 (dk_at dksX0_place_2 10 rfl rfl)
theorem dX0_place_61 : decode cX0_place 61 = .ok (.iload_n 3, 1) := dk_29 (dk_at dksX0_place_2 13 rfl rfl)
theorem dX0_place_62 : decode cX0_place 62 = .ok (.iconst (-1), 1) := dk_2 (dk_at dksX0_place_2 14 rfl rfl)
theorem dX0_place_63 : decode cX0_place 63 = .ok (.if_icmp .eq 27, 3) := dk_159 0 27 (dk_at dksX0_place_2 15 rfl rfl)
theorem dX0_place_66 : decode cX0_place 66 = .ok (.iload 5, 2) := dk_21 5 (dk_at dksX0_place_2 18 rfl rfl)
theorem dX0_place_68 : decode cX0_place 68 = .ok (.iload_n 2, 1) := dk_28 (dk_at dksX0_place_2 20 rfl rfl)
theorem dX0_place_69 : decode cX0_place 69 = .ok (.if_icmp .eq 15, 3) := dk_159 0 15 (dk_at dksX0_place_2 21 rfl rfl)
theorem dX0_place_72 : decode cX0_place 72 = .ok (.aload 4, 2) := dk_25 4 (dk_at dksX0_place_3 0 rfl rfl)
theorem dX0_place_74 : decode cX0_place 74 = .ok (.iload 5, 2) := dk_21 5 (dk_at dksX0_place_3 2 rfl rfl)
theorem dX0_place_76 : decode cX0_place 76 = .ok (.baload, 1) := dk_51 (dk_at dksX0_place_3 4 rfl rfl)
theorem dX0_place_77 : decode cX0_place 77 = .ok (.iload_n 3, 1) := dk_29 (dk_at dksX0_place_3 5 rfl rfl)
theorem dX0_place_78 : decode cX0_place 78 = .ok (.if_icmp .ne 6, 3) := dk_160 0 6 (dk_at dksX0_place_3 6 rfl rfl)
theorem dX0_place_81 : decode cX0_place 81 = .ok (.bipush (-4), 2) := dk_16 252 (dk_at dksX0_place_3 9 rfl rfl)
theorem dX0_place_83 : decode cX0_place 83 = .ok (.ireturn, 1) := dk_172 (dk_at dksX0_place_3 11 rfl rfl)
theorem dX0_place_84 : decode cX0_place 84 = .ok (.iinc 5 1, 3) := dk_132 5 1 (dk_at dksX0_place_3 12 rfl rfl)
theorem dX0_place_87 : decode cX0_place 87 = .ok (.goto (-32), 3) := dk_167 255 224 (dk_at dksX0_place_3 15 rfl rfl)
theorem dX0_place_90 : decode cX0_place 90 = .ok (.aload 4, 2) := dk_25 4 (dk_at dksX0_place_3 18 rfl rfl)
theorem dX0_place_92 : decode cX0_place 92 = .ok (.iload_n 2, 1) := dk_28 (dk_at dksX0_place_3 20 rfl rfl)
theorem dX0_place_93 : decode cX0_place 93 = .ok (.baload, 1) := dk_51 (dk_at dksX0_place_3 21 rfl rfl)
theorem dX0_place_94 : decode cX0_place 94 = .ok (.istore 5, 2) := dk_54 5 (dk_at dksX0_place_3 22 rfl rfl)
theorem dX0_place_96 : decode cX0_place 96 = .ok (.aload 4, 2) := dk_25 4 (dk_at dksX0_place_4 0 rfl rfl)
theorem dX0_place_98 : decode cX0_place 98 = .ok (.iload_n 2, 1) := dk_28 (dk_at dksX0_place_4 2 rfl rfl)
theorem dX0_place_99 : decode cX0_place 99 = .ok (.iload_n 3, 1) := dk_29 (dk_at dksX0_place_4 3 rfl rfl)
theorem dX0_place_100 : decode cX0_place 100 = .ok (.i2b, 1) := dk_145 (dk_at dksX0_place_4 4 rfl rfl)
theorem dX0_place_101 : decode cX0_place 101 = .ok (.bastore, 1) := dk_84 (dk_at dksX0_place_4 5 rfl rfl)
theorem dX0_place_102 : decode cX0_place 102 = .ok (.iload 5, 2) := dk_21 5 (dk_at dksX0_place_4 6 rfl rfl)
theorem dX0_place_104 : decode cX0_place 104 = .ok (.ireturn, 1) := dk_172 (dk_at dksX0_place_4 8 rfl rfl)
abbrev cX0_real : ByteArray := prog_1_method_21_code
def yX0_real : MethodName := ⟨RX0, "real", "(IIZ)I"⟩
def dkwX0_real_2 : List UInt8 := [42, 180, 0, 82, 180, 0, 38, 27, 50, 28, 29, 84, 21, 4, 172]
abbrev dktX0_real_2 : List UInt8 := dkwX0_real_2 ++ []
def dkwX0_real_1 : List UInt8 := [16, 254, 172, 42, 180, 0, 82, 180, 0, 38, 27, 50, 28, 51, 153, 0, 7, 4, 167, 0, 4, 3, 54, 4]
abbrev dktX0_real_1 : List UInt8 := dkwX0_real_1 ++ dktX0_real_2
def dkwX0_real_0 : List UInt8 := [27, 133, 9, 20, 0, 242, 184, 0, 5, 153, 0, 15, 28, 133, 9, 20, 0, 3, 184, 0, 5, 154, 0, 6]
abbrev dktX0_real_0 : List UInt8 := dkwX0_real_0 ++ dktX0_real_1
theorem dksX0_real_0 : cX0_real.data.toList.drop 0 = dktX0_real_0 := by decide +kernel
theorem dksX0_real_1 : cX0_real.data.toList.drop 24 = dktX0_real_1 := dk_seg dksX0_real_0 24 rfl rfl
theorem dksX0_real_2 : cX0_real.data.toList.drop 48 = dktX0_real_2 := dk_seg dksX0_real_1 24 rfl rfl
theorem dX0_real_0 : decode cX0_real 0 = .ok (.iload_n 1, 1) := dk_27 (dk_at dksX0_real_0 0 rfl rfl)
theorem dX0_real_1 : decode cX0_real 1 = .ok (.i2l, 1) := dk_133 (dk_at dksX0_real_0 1 rfl rfl)
theorem dX0_real_2 : decode cX0_real 2 = .ok (.lconst 0, 1) := dk_9 (dk_at dksX0_real_0 2 rfl rfl)
theorem dX0_real_3 : decode cX0_real 3 = .ok (.ldc2_w 242, 3) := dk_20 0 242 (dk_at dksX0_real_0 3 rfl rfl)
theorem dX0_real_6 : decode cX0_real 6 = .ok (.invokestatic 5, 3) := dk_184 0 5 (dk_at dksX0_real_0 6 rfl rfl)
theorem dX0_real_9 : decode cX0_real 9 = .ok (.ifCond .eq 15, 3) := dk_153 0 15 (dk_at dksX0_real_0 9 rfl rfl)
theorem dX0_real_12 : decode cX0_real 12 = .ok (.iload_n 2, 1) := dk_28 (dk_at dksX0_real_0 12 rfl rfl)
theorem dX0_real_13 : decode cX0_real 13 = .ok (.i2l, 1) := dk_133 (dk_at dksX0_real_0 13 rfl rfl)
theorem dX0_real_14 : decode cX0_real 14 = .ok (.lconst 0, 1) := dk_9 (dk_at dksX0_real_0 14 rfl rfl)
theorem dX0_real_15 : decode cX0_real 15 = .ok (.ldc2_w 3, 3) := dk_20 0 3 (dk_at dksX0_real_0 15 rfl rfl)
theorem dX0_real_18 : decode cX0_real 18 = .ok (.invokestatic 5, 3) := dk_184 0 5 (dk_at dksX0_real_0 18 rfl rfl)
theorem dX0_real_21 : decode cX0_real 21 = .ok (.ifCond .ne 6, 3) := dk_154 0 6 (dk_at dksX0_real_0 21 rfl rfl)
theorem dX0_real_24 : decode cX0_real 24 = .ok (.bipush (-2), 2) := dk_16 254 (dk_at dksX0_real_1 0 rfl rfl)
theorem dX0_real_26 : decode cX0_real 26 = .ok (.ireturn, 1) := dk_172 (dk_at dksX0_real_1 2 rfl rfl)
theorem dX0_real_27 : decode cX0_real 27 = .ok (.aload_n 0, 1) := dk_42 (dk_at dksX0_real_1 3 rfl rfl)
theorem dX0_real_28 : decode cX0_real 28 = .ok (.getfield 82, 3) := dk_180 0 82 (dk_at dksX0_real_1 4 rfl rfl)
theorem dX0_real_31 : decode cX0_real 31 = .ok (.getfield 38, 3) := dk_180 0 38 (dk_at dksX0_real_1 7 rfl rfl)
theorem dX0_real_34 : decode cX0_real 34 = .ok (.iload_n 1, 1) := dk_27 (dk_at dksX0_real_1 10 rfl rfl)
theorem dX0_real_35 : decode cX0_real 35 = .ok (.aaload, 1) := dk_50 (dk_at dksX0_real_1 11 rfl rfl)
theorem dX0_real_36 : decode cX0_real 36 = .ok (.iload_n 2, 1) := dk_28 (dk_at dksX0_real_1 12 rfl rfl)
theorem dX0_real_37 : decode cX0_real 37 = .ok (.baload, 1) := dk_51 (dk_at dksX0_real_1 13 rfl rfl)
theorem dX0_real_38 : decode cX0_real 38 = .ok (.ifCond .eq 7, 3) := dk_153 0 7 (dk_at dksX0_real_1 14 rfl rfl)
theorem dX0_real_41 : decode cX0_real 41 = .ok (.iconst 1, 1) := dk_4 (dk_at dksX0_real_1 17 rfl rfl)
theorem dX0_real_42 : decode cX0_real 42 = .ok (.goto 4, 3) := dk_167 0 4 (dk_at dksX0_real_1 18 rfl rfl)
theorem dX0_real_45 : decode cX0_real 45 = .ok (.iconst 0, 1) := dk_3 (dk_at dksX0_real_1 21 rfl rfl)
theorem dX0_real_46 : decode cX0_real 46 = .ok (.istore 4, 2) := dk_54 4 (dk_at dksX0_real_1 22 rfl rfl)
theorem dX0_real_48 : decode cX0_real 48 = .ok (.aload_n 0, 1) := dk_42 (dk_at dksX0_real_2 0 rfl rfl)
theorem dX0_real_49 : decode cX0_real 49 = .ok (.getfield 82, 3) := dk_180 0 82 (dk_at dksX0_real_2 1 rfl rfl)
theorem dX0_real_52 : decode cX0_real 52 = .ok (.getfield 38, 3) := dk_180 0 38 (dk_at dksX0_real_2 4 rfl rfl)
theorem dX0_real_55 : decode cX0_real 55 = .ok (.iload_n 1, 1) := dk_27 (dk_at dksX0_real_2 7 rfl rfl)
theorem dX0_real_56 : decode cX0_real 56 = .ok (.aaload, 1) := dk_50 (dk_at dksX0_real_2 8 rfl rfl)
theorem dX0_real_57 : decode cX0_real 57 = .ok (.iload_n 2, 1) := dk_28 (dk_at dksX0_real_2 9 rfl rfl)
theorem dX0_real_58 : decode cX0_real 58 = .ok (.iload_n 3, 1) := dk_29 (dk_at dksX0_real_2 10 rfl rfl)
theorem dX0_real_59 : decode cX0_real 59 = .ok (.bastore, 1) := dk_84 (dk_at dksX0_real_2 11 rfl rfl)
theorem dX0_real_60 : decode cX0_real 60 = .ok (.iload 4, 2) := dk_21 4 (dk_at dksX0_real_2 12 rfl rfl)
theorem dX0_real_62 : decode cX0_real 62 = .ok (.ireturn, 1) := dk_172 (dk_at dksX0_real_2 14 rfl rfl)
abbrev cX0_went : ByteArray := prog_1_method_22_code
def yX0_went : MethodName := ⟨RX0, "went", "(II)I"⟩
def dkwX0_went_1 : List UInt8 := [180, 0, 82, 27, 4, 96, 182, 0, 49, 87, 42, 180, 0, 45, 180, 0, 249, 28, 46, 172]
abbrev dktX0_went_1 : List UInt8 := dkwX0_went_1 ++ []
def dkwX0_went_0 : List UInt8 := [42, 27, 182, 0, 246, 153, 0, 11, 42, 28, 182, 0, 230, 154, 0, 6, 16, 254, 172, 42, 180, 0, 45, 42]
abbrev dktX0_went_0 : List UInt8 := dkwX0_went_0 ++ dktX0_went_1
theorem dksX0_went_0 : cX0_went.data.toList.drop 0 = dktX0_went_0 := by decide +kernel
theorem dksX0_went_1 : cX0_went.data.toList.drop 24 = dktX0_went_1 := dk_seg dksX0_went_0 24 rfl rfl
theorem dX0_went_0 : decode cX0_went 0 = .ok (.aload_n 0, 1) := dk_42 (dk_at dksX0_went_0 0 rfl rfl)
theorem dX0_went_1 : decode cX0_went 1 = .ok (.iload_n 1, 1) := dk_27 (dk_at dksX0_went_0 1 rfl rfl)
theorem dX0_went_2 : decode cX0_went 2 = .ok (.invokevirtual 246, 3) := dk_182 0 246 (dk_at dksX0_went_0 2 rfl rfl)
theorem dX0_went_5 : decode cX0_went 5 = .ok (.ifCond .eq 11, 3) := dk_153 0 11 (dk_at dksX0_went_0 5 rfl rfl)
theorem dX0_went_8 : decode cX0_went 8 = .ok (.aload_n 0, 1) := dk_42 (dk_at dksX0_went_0 8 rfl rfl)
theorem dX0_went_9 : decode cX0_went 9 = .ok (.iload_n 2, 1) := dk_28 (dk_at dksX0_went_0 9 rfl rfl)
theorem dX0_went_10 : decode cX0_went 10 = .ok (.invokevirtual 230, 3) := dk_182 0 230 (dk_at dksX0_went_0 10 rfl rfl)
theorem dX0_went_13 : decode cX0_went 13 = .ok (.ifCond .ne 6, 3) := dk_154 0 6 (dk_at dksX0_went_0 13 rfl rfl)
theorem dX0_went_16 : decode cX0_went 16 = .ok (.bipush (-2), 2) := dk_16 254 (dk_at dksX0_went_0 16 rfl rfl)
theorem dX0_went_18 : decode cX0_went 18 = .ok (.ireturn, 1) := dk_172 (dk_at dksX0_went_0 18 rfl rfl)
theorem dX0_went_19 : decode cX0_went 19 = .ok (.aload_n 0, 1) := dk_42 (dk_at dksX0_went_0 19 rfl rfl)
theorem dX0_went_20 : decode cX0_went 20 = .ok (.getfield 45, 3) := dk_180 0 45 (dk_at dksX0_went_0 20 rfl rfl)
theorem dX0_went_23 : decode cX0_went 23 = .ok (.aload_n 0, 1) := dk_42 (dk_at dksX0_went_0 23 rfl rfl)
theorem dX0_went_24 : decode cX0_went 24 = .ok (.getfield 82, 3) := dk_180 0 82 (dk_at dksX0_went_1 0 rfl rfl)
theorem dX0_went_27 : decode cX0_went 27 = .ok (.iload_n 1, 1) := dk_27 (dk_at dksX0_went_1 3 rfl rfl)
theorem dX0_went_28 : decode cX0_went 28 = .ok (.iconst 1, 1) := dk_4 (dk_at dksX0_went_1 4 rfl rfl)
theorem dX0_went_29 : decode cX0_went 29 = .ok (.iadd, 1) := dk_96 (dk_at dksX0_went_1 5 rfl rfl)
theorem dX0_went_30 : decode cX0_went 30 = .ok (.invokevirtual 49, 3) := dk_182 0 49 (dk_at dksX0_went_1 6 rfl rfl)
theorem dX0_went_33 : decode cX0_went 33 = .ok (.pop, 1) := dk_87 (dk_at dksX0_went_1 9 rfl rfl)
theorem dX0_went_34 : decode cX0_went 34 = .ok (.aload_n 0, 1) := dk_42 (dk_at dksX0_went_1 10 rfl rfl)
theorem dX0_went_35 : decode cX0_went 35 = .ok (.getfield 45, 3) := dk_180 0 45 (dk_at dksX0_went_1 11 rfl rfl)
theorem dX0_went_38 : decode cX0_went 38 = .ok (.getfield 249, 3) := dk_180 0 249 (dk_at dksX0_went_1 14 rfl rfl)
theorem dX0_went_41 : decode cX0_went 41 = .ok (.iload_n 2, 1) := dk_28 (dk_at dksX0_went_1 17 rfl rfl)
theorem dX0_went_42 : decode cX0_went 42 = .ok (.iaload, 1) := dk_46 (dk_at dksX0_went_1 18 rfl rfl)
theorem dX0_went_43 : decode cX0_went 43 = .ok (.ireturn, 1) := dk_172 (dk_at dksX0_went_1 19 rfl rfl)
abbrev cX0_isDay : ByteArray := prog_1_method_5_code
def yX0_isDay : MethodName := ⟨RX0, "isDay", "(I)Z"⟩
def dkwX0_isDay_0 : List UInt8 := [27, 133, 9, 42, 180, 0, 21, 4, 100, 133, 184, 0, 5, 172]
abbrev dktX0_isDay_0 : List UInt8 := dkwX0_isDay_0 ++ []
theorem dksX0_isDay_0 : cX0_isDay.data.toList.drop 0 = dktX0_isDay_0 := by decide +kernel
theorem dX0_isDay_0 : decode cX0_isDay 0 = .ok (.iload_n 1, 1) := dk_27 (dk_at dksX0_isDay_0 0 rfl rfl)
theorem dX0_isDay_1 : decode cX0_isDay 1 = .ok (.i2l, 1) := dk_133 (dk_at dksX0_isDay_0 1 rfl rfl)
theorem dX0_isDay_2 : decode cX0_isDay 2 = .ok (.lconst 0, 1) := dk_9 (dk_at dksX0_isDay_0 2 rfl rfl)
theorem dX0_isDay_3 : decode cX0_isDay 3 = .ok (.aload_n 0, 1) := dk_42 (dk_at dksX0_isDay_0 3 rfl rfl)
theorem dX0_isDay_4 : decode cX0_isDay 4 = .ok (.getfield 21, 3) := dk_180 0 21 (dk_at dksX0_isDay_0 4 rfl rfl)
theorem dX0_isDay_7 : decode cX0_isDay 7 = .ok (.iconst 1, 1) := dk_4 (dk_at dksX0_isDay_0 7 rfl rfl)
theorem dX0_isDay_8 : decode cX0_isDay 8 = .ok (.isub, 1) := dk_100 (dk_at dksX0_isDay_0 8 rfl rfl)
theorem dX0_isDay_9 : decode cX0_isDay 9 = .ok (.i2l, 1) := dk_133 (dk_at dksX0_isDay_0 9 rfl rfl)
theorem dX0_isDay_10 : decode cX0_isDay 10 = .ok (.invokestatic 5, 3) := dk_184 0 5 (dk_at dksX0_isDay_0 10 rfl rfl)
theorem dX0_isDay_13 : decode cX0_isDay 13 = .ok (.ireturn, 1) := dk_172 (dk_at dksX0_isDay_0 13 rfl rfl)
abbrev cX0_eaten : ByteArray := prog_1_method_23_code
def yX0_eaten : MethodName := ⟨RX0, "eaten", "(II)I"⟩
def dkwX0_eaten_3 : List UInt8 := [46, 167, 0, 4, 3, 96, 62, 132, 4, 1, 167, 255, 219, 29, 172]
abbrev dktX0_eaten_3 : List UInt8 := dkwX0_eaten_3 ++ []
def dkwX0_eaten_2 : List UInt8 := [162, 0, 37, 29, 28, 2, 159, 0, 9, 28, 21, 4, 160, 0, 16, 42, 180, 0, 45, 180, 0, 164, 21, 4]
abbrev dktX0_eaten_2 : List UInt8 := dkwX0_eaten_2 ++ dktX0_eaten_3
def dkwX0_eaten_1 : List UInt8 := [42, 180, 0, 45, 42, 180, 0, 82, 27, 4, 96, 182, 0, 49, 87, 3, 62, 3, 54, 4, 21, 4, 7]
abbrev dktX0_eaten_1 : List UInt8 := dkwX0_eaten_1 ++ dktX0_eaten_2
def dkwX0_eaten_0 : List UInt8 := [42, 27, 182, 0, 246, 153, 0, 16, 28, 2, 159, 0, 14, 42, 28, 182, 0, 31, 154, 0, 6, 16, 254, 172]
abbrev dktX0_eaten_0 : List UInt8 := dkwX0_eaten_0 ++ dktX0_eaten_1
theorem dksX0_eaten_0 : cX0_eaten.data.toList.drop 0 = dktX0_eaten_0 := by decide +kernel
theorem dksX0_eaten_1 : cX0_eaten.data.toList.drop 24 = dktX0_eaten_1 := dk_seg dksX0_eaten_0 24 rfl rfl
theorem dksX0_eaten_2 : cX0_eaten.data.toList.drop 47 = dktX0_eaten_2 := dk_seg dksX0_eaten_1 23 rfl rfl
theorem dksX0_eaten_3 : cX0_eaten.data.toList.drop 71 = dktX0_eaten_3 := dk_seg dksX0_eaten_2 24 rfl rfl
theorem dX0_eaten_0 : decode cX0_eaten 0 = .ok (.aload_n 0, 1) := dk_42 (dk_at dksX0_eaten_0 0 rfl rfl)
theorem dX0_eaten_1 : decode cX0_eaten 1 = .ok (.iload_n 1, 1) := dk_27 (dk_at dksX0_eaten_0 1 rfl rfl)
theorem dX0_eaten_2 : decode cX0_eaten 2 = .ok (.invokevirtual 246, 3) := dk_182 0 246 (dk_at dksX0_eaten_0 2 rfl rfl)
theorem dX0_eaten_5 : decode cX0_eaten 5 = .ok (.ifCond .eq 16, 3) := dk_153 0 16 (dk_at dksX0_eaten_0 5 rfl rfl)
theorem dX0_eaten_8 : decode cX0_eaten 8 = .ok (.iload_n 2, 1) := dk_28 (dk_at dksX0_eaten_0 8 rfl rfl)
theorem dX0_eaten_9 : decode cX0_eaten 9 = .ok (.iconst (-1), 1) := dk_2 (dk_at dksX0_eaten_0 9 rfl rfl)
theorem dX0_eaten_10 : decode cX0_eaten 10 = .ok (.if_icmp .eq 14, 3) := dk_159 0 14 (dk_at dksX0_eaten_0 10 rfl rfl)
theorem dX0_eaten_13 : decode cX0_eaten 13 = .ok (.aload_n 0, 1) := dk_42 (dk_at dksX0_eaten_0 13 rfl rfl)
theorem dX0_eaten_14 : decode cX0_eaten 14 = .ok (.iload_n 2, 1) := dk_28 (dk_at dksX0_eaten_0 14 rfl rfl)
theorem dX0_eaten_15 : decode cX0_eaten 15 = .ok (.invokevirtual 31, 3) := dk_182 0 31 (dk_at dksX0_eaten_0 15 rfl rfl)
theorem dX0_eaten_18 : decode cX0_eaten 18 = .ok (.ifCond .ne 6, 3) := dk_154 0 6 (dk_at dksX0_eaten_0 18 rfl rfl)
theorem dX0_eaten_21 : decode cX0_eaten 21 = .ok (.bipush (-2), 2) := dk_16 254 (dk_at dksX0_eaten_0 21 rfl rfl)
theorem dX0_eaten_23 : decode cX0_eaten 23 = .ok (.ireturn, 1) := dk_172 (dk_at dksX0_eaten_0 23 rfl rfl)
theorem dX0_eaten_24 : decode cX0_eaten 24 = .ok (.aload_n 0, 1) := dk_42 (dk_at dksX0_eaten_1 0 rfl rfl)
theorem dX0_eaten_25 : decode cX0_eaten 25 = .ok (.getfield 45, 3) := dk_180 0 45 (dk_at dksX0_eaten_1 1 rfl rfl)
theorem dX0_eaten_28 : decode cX0_eaten 28 = .ok (.aload_n 0, 1) := dk_42 (dk_at dksX0_eaten_1 4 rfl rfl)
theorem dX0_eaten_29 : decode cX0_eaten 29 = .ok (.getfield 82, 3) := dk_180 0 82 (dk_at dksX0_eaten_1 5 rfl rfl)
theorem dX0_eaten_32 : decode cX0_eaten 32 = .ok (.iload_n 1, 1) := dk_27 (dk_at dksX0_eaten_1 8 rfl rfl)
theorem dX0_eaten_33 : decode cX0_eaten 33 = .ok (.iconst 1, 1) := dk_4 (dk_at dksX0_eaten_1 9 rfl rfl)
theorem dX0_eaten_34 : decode cX0_eaten 34 = .ok (.iadd, 1) := dk_96 (dk_at dksX0_eaten_1 10 rfl rfl)
theorem dX0_eaten_35 : decode cX0_eaten 35 = .ok (.invokevirtual 49, 3) := dk_182 0 49 (dk_at dksX0_eaten_1 11 rfl rfl)
theorem dX0_eaten_38 : decode cX0_eaten 38 = .ok (.pop, 1) := dk_87 (dk_at dksX0_eaten_1 14 rfl rfl)
theorem dX0_eaten_39 : decode cX0_eaten 39 = .ok (.iconst 0, 1) := dk_3 (dk_at dksX0_eaten_1 15 rfl rfl)
theorem dX0_eaten_40 : decode cX0_eaten 40 = .ok (.istore_n 3, 1) := dk_62 (dk_at dksX0_eaten_1 16 rfl rfl)
theorem dX0_eaten_41 : decode cX0_eaten 41 = .ok (.iconst 0, 1) := dk_3 (dk_at dksX0_eaten_1 17 rfl rfl)
theorem dX0_eaten_42 : decode cX0_eaten 42 = .ok (.istore 4, 2) := dk_54 4 (dk_at dksX0_eaten_1 18 rfl rfl)
theorem dX0_eaten_44 : decode cX0_eaten 44 = .ok (.iload 4, 2) := dk_21 4 (dk_at dksX0_eaten_1 20 rfl rfl)
theorem dX0_eaten_46 : decode cX0_eaten 46 = .ok (.iconst 4, 1) := dk_7 (dk_at dksX0_eaten_1 22 rfl rfl)
theorem dX0_eaten_47 : decode cX0_eaten 47 = .ok (.if_icmp .ge 37, 3) := dk_162 0 37 (dk_at dksX0_eaten_2 0 rfl rfl)
theorem dX0_eaten_50 : decode cX0_eaten 50 = .ok (.iload_n 3, 1) := dk_29 (dk_at dksX0_eaten_2 3 rfl rfl)
theorem dX0_eaten_51 : decode cX0_eaten 51 = .ok (.iload_n 2, 1) := dk_28 (dk_at dksX0_eaten_2 4 rfl rfl)
theorem dX0_eaten_52 : decode cX0_eaten 52 = .ok (.iconst (-1), 1) := dk_2 (dk_at dksX0_eaten_2 5 rfl rfl)
theorem dX0_eaten_53 : decode cX0_eaten 53 = .ok (.if_icmp .eq 9, 3) := dk_159 0 9 (dk_at dksX0_eaten_2 6 rfl rfl)
theorem dX0_eaten_56 : decode cX0_eaten 56 = .ok (.iload_n 2, 1) := dk_28 (dk_at dksX0_eaten_2 9 rfl rfl)
theorem dX0_eaten_57 : decode cX0_eaten 57 = .ok (.iload 4, 2) := dk_21 4 (dk_at dksX0_eaten_2 10 rfl rfl)
theorem dX0_eaten_59 : decode cX0_eaten 59 = .ok (.if_icmp .ne 16, 3) := dk_160 0 16 (dk_at dksX0_eaten_2 12 rfl rfl)
theorem dX0_eaten_62 : decode cX0_eaten 62 = .ok (.aload_n 0, 1) := dk_42 (dk_at dksX0_eaten_2 15 rfl rfl)
theorem dX0_eaten_63 : decode cX0_eaten 63 = .ok (.getfield 45, 3) := dk_180 0 45 (dk_at dksX0_eaten_2 16 rfl rfl)
theorem dX0_eaten_66 : decode cX0_eaten 66 = .ok (.getfield 164, 3) := dk_180 0 164 (dk_at dksX0_eaten_2 19 rfl rfl)
theorem dX0_eaten_69 : decode cX0_eaten 69 = .ok (.iload 4, 2) := dk_21 4 (dk_at dksX0_eaten_2 22 rfl rfl)
theorem dX0_eaten_71 : decode cX0_eaten 71 = .ok (.iaload, 1) := dk_46 (dk_at dksX0_eaten_3 0 rfl rfl)
theorem dX0_eaten_72 : decode cX0_eaten 72 = .ok (.goto 4, 3) := dk_167 0 4 (dk_at dksX0_eaten_3 1 rfl rfl)
theorem dX0_eaten_75 : decode cX0_eaten 75 = .ok (.iconst 0, 1) := dk_3 (dk_at dksX0_eaten_3 4 rfl rfl)
theorem dX0_eaten_76 : decode cX0_eaten 76 = .ok (.iadd, 1) := dk_96 (dk_at dksX0_eaten_3 5 rfl rfl)
theorem dX0_eaten_77 : decode cX0_eaten 77 = .ok (.istore_n 3, 1) := dk_62 (dk_at dksX0_eaten_3 6 rfl rfl)
theorem dX0_eaten_78 : decode cX0_eaten 78 = .ok (.iinc 4 1, 3) := dk_132 4 1 (dk_at dksX0_eaten_3 7 rfl rfl)
theorem dX0_eaten_81 : decode cX0_eaten 81 = .ok (.goto (-37), 3) := dk_167 255 219 (dk_at dksX0_eaten_3 10 rfl rfl)
theorem dX0_eaten_84 : decode cX0_eaten 84 = .ok (.iload_n 3, 1) := dk_29 (dk_at dksX0_eaten_3 13 rfl rfl)
theorem dX0_eaten_85 : decode cX0_eaten 85 = .ok (.ireturn, 1) := dk_172 (dk_at dksX0_eaten_3 14 rfl rfl)
abbrev cX0_left : ByteArray := prog_1_method_24_code
def yX0_left : MethodName := ⟨RX0, "left", "(II)I"⟩
def dkwX0_left_1 : List UInt8 := [180, 0, 82, 27, 4, 96, 182, 0, 49, 87, 42, 180, 0, 45, 180, 0, 252, 28, 46, 172]
abbrev dktX0_left_1 : List UInt8 := dkwX0_left_1 ++ []
def dkwX0_left_0 : List UInt8 := [42, 27, 182, 0, 246, 153, 0, 11, 42, 28, 182, 0, 31, 154, 0, 6, 16, 254, 172, 42, 180, 0, 45, 42]
abbrev dktX0_left_0 : List UInt8 := dkwX0_left_0 ++ dktX0_left_1
theorem dksX0_left_0 : cX0_left.data.toList.drop 0 = dktX0_left_0 := by decide +kernel
theorem dksX0_left_1 : cX0_left.data.toList.drop 24 = dktX0_left_1 := dk_seg dksX0_left_0 24 rfl rfl
theorem dX0_left_0 : decode cX0_left 0 = .ok (.aload_n 0, 1) := dk_42 (dk_at dksX0_left_0 0 rfl rfl)
theorem dX0_left_1 : decode cX0_left 1 = .ok (.iload_n 1, 1) := dk_27 (dk_at dksX0_left_0 1 rfl rfl)
theorem dX0_left_2 : decode cX0_left 2 = .ok (.invokevirtual 246, 3) := dk_182 0 246 (dk_at dksX0_left_0 2 rfl rfl)
theorem dX0_left_5 : decode cX0_left 5 = .ok (.ifCond .eq 11, 3) := dk_153 0 11 (dk_at dksX0_left_0 5 rfl rfl)
theorem dX0_left_8 : decode cX0_left 8 = .ok (.aload_n 0, 1) := dk_42 (dk_at dksX0_left_0 8 rfl rfl)
theorem dX0_left_9 : decode cX0_left 9 = .ok (.iload_n 2, 1) := dk_28 (dk_at dksX0_left_0 9 rfl rfl)
theorem dX0_left_10 : decode cX0_left 10 = .ok (.invokevirtual 31, 3) := dk_182 0 31 (dk_at dksX0_left_0 10 rfl rfl)
theorem dX0_left_13 : decode cX0_left 13 = .ok (.ifCond .ne 6, 3) := dk_154 0 6 (dk_at dksX0_left_0 13 rfl rfl)
theorem dX0_left_16 : decode cX0_left 16 = .ok (.bipush (-2), 2) := dk_16 254 (dk_at dksX0_left_0 16 rfl rfl)
theorem dX0_left_18 : decode cX0_left 18 = .ok (.ireturn, 1) := dk_172 (dk_at dksX0_left_0 18 rfl rfl)
theorem dX0_left_19 : decode cX0_left 19 = .ok (.aload_n 0, 1) := dk_42 (dk_at dksX0_left_0 19 rfl rfl)
theorem dX0_left_20 : decode cX0_left 20 = .ok (.getfield 45, 3) := dk_180 0 45 (dk_at dksX0_left_0 20 rfl rfl)
theorem dX0_left_23 : decode cX0_left 23 = .ok (.aload_n 0, 1) := dk_42 (dk_at dksX0_left_0 23 rfl rfl)
theorem dX0_left_24 : decode cX0_left 24 = .ok (.getfield 82, 3) := dk_180 0 82 (dk_at dksX0_left_1 0 rfl rfl)
theorem dX0_left_27 : decode cX0_left 27 = .ok (.iload_n 1, 1) := dk_27 (dk_at dksX0_left_1 3 rfl rfl)
theorem dX0_left_28 : decode cX0_left 28 = .ok (.iconst 1, 1) := dk_4 (dk_at dksX0_left_1 4 rfl rfl)
theorem dX0_left_29 : decode cX0_left 29 = .ok (.iadd, 1) := dk_96 (dk_at dksX0_left_1 5 rfl rfl)
theorem dX0_left_30 : decode cX0_left 30 = .ok (.invokevirtual 49, 3) := dk_182 0 49 (dk_at dksX0_left_1 6 rfl rfl)
theorem dX0_left_33 : decode cX0_left 33 = .ok (.pop, 1) := dk_87 (dk_at dksX0_left_1 9 rfl rfl)
theorem dX0_left_34 : decode cX0_left 34 = .ok (.aload_n 0, 1) := dk_42 (dk_at dksX0_left_1 10 rfl rfl)
theorem dX0_left_35 : decode cX0_left 35 = .ok (.getfield 45, 3) := dk_180 0 45 (dk_at dksX0_left_1 11 rfl rfl)
theorem dX0_left_38 : decode cX0_left 38 = .ok (.getfield 252, 3) := dk_180 0 252 (dk_at dksX0_left_1 14 rfl rfl)
theorem dX0_left_41 : decode cX0_left 41 = .ok (.iload_n 2, 1) := dk_28 (dk_at dksX0_left_1 17 rfl rfl)
theorem dX0_left_42 : decode cX0_left 42 = .ok (.iaload, 1) := dk_46 (dk_at dksX0_left_1 18 rfl rfl)
theorem dX0_left_43 : decode cX0_left 43 = .ok (.ireturn, 1) := dk_172 (dk_at dksX0_left_1 19 rfl rfl)
abbrev cX0_fear : ByteArray := prog_1_method_25_code
def yX0_fear : MethodName := ⟨RX0, "fear", "(III)I"⟩
def dkwX0_fear_2 : List UInt8 := [42, 180, 0, 45, 180, 0, 254, 28, 50, 29, 46, 172]
abbrev dktX0_fear_2 : List UInt8 := dkwX0_fear_2 ++ []
def dkwX0_fear_1 : List UInt8 := [182, 0, 35, 154, 0, 6, 16, 254, 172, 42, 180, 0, 45, 42, 180, 0, 82, 27, 4, 96, 182, 0, 49, 87]
abbrev dktX0_fear_1 : List UInt8 := dkwX0_fear_1 ++ dktX0_fear_2
def dkwX0_fear_0 : List UInt8 := [27, 2, 159, 0, 11, 42, 27, 182, 0, 246, 153, 0, 19, 42, 28, 182, 0, 230, 153, 0, 11, 42, 29]
abbrev dktX0_fear_0 : List UInt8 := dkwX0_fear_0 ++ dktX0_fear_1
theorem dksX0_fear_0 : cX0_fear.data.toList.drop 0 = dktX0_fear_0 := by decide +kernel
theorem dksX0_fear_1 : cX0_fear.data.toList.drop 23 = dktX0_fear_1 := dk_seg dksX0_fear_0 23 rfl rfl
theorem dksX0_fear_2 : cX0_fear.data.toList.drop 47 = dktX0_fear_2 := dk_seg dksX0_fear_1 24 rfl rfl
theorem dX0_fear_0 : decode cX0_fear 0 = .ok (.iload_n 1, 1) := dk_27 (dk_at dksX0_fear_0 0 rfl rfl)
theorem dX0_fear_1 : decode cX0_fear 1 = .ok (.iconst (-1), 1) := dk_2 (dk_at dksX0_fear_0 1 rfl rfl)
theorem dX0_fear_2 : decode cX0_fear 2 = .ok (.if_icmp .eq 11, 3) := dk_159 0 11 (dk_at dksX0_fear_0 2 rfl rfl)
theorem dX0_fear_5 : decode cX0_fear 5 = .ok (.aload_n 0, 1) := dk_42 (dk_at dksX0_fear_0 5 rfl rfl)
theorem dX0_fear_6 : decode cX0_fear 6 = .ok (.iload_n 1, 1) := dk_27 (dk_at dksX0_fear_0 6 rfl rfl)
theorem dX0_fear_7 : decode cX0_fear 7 = .ok (.invokevirtual 246, 3) := dk_182 0 246 (dk_at dksX0_fear_0 7 rfl rfl)
theorem dX0_fear_10 : decode cX0_fear 10 = .ok (.ifCond .eq 19, 3) := dk_153 0 19 (dk_at dksX0_fear_0 10 rfl rfl)
theorem dX0_fear_13 : decode cX0_fear 13 = .ok (.aload_n 0, 1) := dk_42 (dk_at dksX0_fear_0 13 rfl rfl)
theorem dX0_fear_14 : decode cX0_fear 14 = .ok (.iload_n 2, 1) := dk_28 (dk_at dksX0_fear_0 14 rfl rfl)
theorem dX0_fear_15 : decode cX0_fear 15 = .ok (.invokevirtual 230, 3) := dk_182 0 230 (dk_at dksX0_fear_0 15 rfl rfl)
theorem dX0_fear_18 : decode cX0_fear 18 = .ok (.ifCond .eq 11, 3) := dk_153 0 11 (dk_at dksX0_fear_0 18 rfl rfl)
theorem dX0_fear_21 : decode cX0_fear 21 = .ok (.aload_n 0, 1) := dk_42 (dk_at dksX0_fear_0 21 rfl rfl)
theorem dX0_fear_22 : decode cX0_fear 22 = .ok (.iload_n 3, 1) := dk_29 (dk_at dksX0_fear_0 22 rfl rfl)
theorem dX0_fear_23 : decode cX0_fear 23 = .ok (.invokevirtual 35, 3) := dk_182 0 35 (dk_at dksX0_fear_1 0 rfl rfl)
theorem dX0_fear_26 : decode cX0_fear 26 = .ok (.ifCond .ne 6, 3) := dk_154 0 6 (dk_at dksX0_fear_1 3 rfl rfl)
theorem dX0_fear_29 : decode cX0_fear 29 = .ok (.bipush (-2), 2) := dk_16 254 (dk_at dksX0_fear_1 6 rfl rfl)
theorem dX0_fear_31 : decode cX0_fear 31 = .ok (.ireturn, 1) := dk_172 (dk_at dksX0_fear_1 8 rfl rfl)
theorem dX0_fear_32 : decode cX0_fear 32 = .ok (.aload_n 0, 1) := dk_42 (dk_at dksX0_fear_1 9 rfl rfl)
theorem dX0_fear_33 : decode cX0_fear 33 = .ok (.getfield 45, 3) := dk_180 0 45 (dk_at dksX0_fear_1 10 rfl rfl)
theorem dX0_fear_36 : decode cX0_fear 36 = .ok (.aload_n 0, 1) := dk_42 (dk_at dksX0_fear_1 13 rfl rfl)
theorem dX0_fear_37 : decode cX0_fear 37 = .ok (.getfield 82, 3) := dk_180 0 82 (dk_at dksX0_fear_1 14 rfl rfl)
theorem dX0_fear_40 : decode cX0_fear 40 = .ok (.iload_n 1, 1) := dk_27 (dk_at dksX0_fear_1 17 rfl rfl)
theorem dX0_fear_41 : decode cX0_fear 41 = .ok (.iconst 1, 1) := dk_4 (dk_at dksX0_fear_1 18 rfl rfl)
theorem dX0_fear_42 : decode cX0_fear 42 = .ok (.iadd, 1) := dk_96 (dk_at dksX0_fear_1 19 rfl rfl)
theorem dX0_fear_43 : decode cX0_fear 43 = .ok (.invokevirtual 49, 3) := dk_182 0 49 (dk_at dksX0_fear_1 20 rfl rfl)
theorem dX0_fear_46 : decode cX0_fear 46 = .ok (.pop, 1) := dk_87 (dk_at dksX0_fear_1 23 rfl rfl)
theorem dX0_fear_47 : decode cX0_fear 47 = .ok (.aload_n 0, 1) := dk_42 (dk_at dksX0_fear_2 0 rfl rfl)
theorem dX0_fear_48 : decode cX0_fear 48 = .ok (.getfield 45, 3) := dk_180 0 45 (dk_at dksX0_fear_2 1 rfl rfl)
theorem dX0_fear_51 : decode cX0_fear 51 = .ok (.getfield 254, 3) := dk_180 0 254 (dk_at dksX0_fear_2 4 rfl rfl)
theorem dX0_fear_54 : decode cX0_fear 54 = .ok (.iload_n 2, 1) := dk_28 (dk_at dksX0_fear_2 7 rfl rfl)
theorem dX0_fear_55 : decode cX0_fear 55 = .ok (.aaload, 1) := dk_50 (dk_at dksX0_fear_2 8 rfl rfl)
theorem dX0_fear_56 : decode cX0_fear 56 = .ok (.iload_n 3, 1) := dk_29 (dk_at dksX0_fear_2 9 rfl rfl)
theorem dX0_fear_57 : decode cX0_fear 57 = .ok (.iaload, 1) := dk_46 (dk_at dksX0_fear_2 10 rfl rfl)
theorem dX0_fear_58 : decode cX0_fear 58 = .ok (.ireturn, 1) := dk_172 (dk_at dksX0_fear_2 11 rfl rfl)
abbrev cX0_cost : ByteArray := prog_1_method_26_code
def yX0_cost : MethodName := ⟨RX0, "cost", "(I)I"⟩
def dkwX0_cost_2 : List UInt8 := [182, 0, 58, 167, 0, 5, 16, 253, 172]
abbrev dktX0_cost_2 : List UInt8 := dkwX0_cost_2 ++ []
def dkwX0_cost_1 : List UInt8 := [42, 180, 0, 82, 42, 180, 0, 21, 182, 0, 49, 167, 0, 21, 27, 5, 160, 0, 14, 42, 42, 180, 0, 82]
abbrev dktX0_cost_1 : List UInt8 := dkwX0_cost_1 ++ dktX0_cost_2
def dkwX0_cost_0 : List UInt8 := [27, 154, 0, 14, 42, 42, 180, 0, 82, 182, 1, 1, 167, 0, 44, 27, 4, 160, 0, 21, 42, 180, 0, 45]
abbrev dktX0_cost_0 : List UInt8 := dkwX0_cost_0 ++ dktX0_cost_1
theorem dksX0_cost_0 : cX0_cost.data.toList.drop 0 = dktX0_cost_0 := by decide +kernel
theorem dksX0_cost_1 : cX0_cost.data.toList.drop 24 = dktX0_cost_1 := dk_seg dksX0_cost_0 24 rfl rfl
theorem dksX0_cost_2 : cX0_cost.data.toList.drop 48 = dktX0_cost_2 := dk_seg dksX0_cost_1 24 rfl rfl
theorem dX0_cost_0 : decode cX0_cost 0 = .ok (.iload_n 1, 1) := dk_27 (dk_at dksX0_cost_0 0 rfl rfl)
theorem dX0_cost_1 : decode cX0_cost 1 = .ok (.ifCond .ne 14, 3) := dk_154 0 14 (dk_at dksX0_cost_0 1 rfl rfl)
theorem dX0_cost_4 : decode cX0_cost 4 = .ok (.aload_n 0, 1) := dk_42 (dk_at dksX0_cost_0 4 rfl rfl)
theorem dX0_cost_5 : decode cX0_cost 5 = .ok (.aload_n 0, 1) := dk_42 (dk_at dksX0_cost_0 5 rfl rfl)
theorem dX0_cost_6 : decode cX0_cost 6 = .ok (.getfield 82, 3) := dk_180 0 82 (dk_at dksX0_cost_0 6 rfl rfl)
theorem dX0_cost_9 : decode cX0_cost 9 = .ok (.invokevirtual 257, 3) := dk_182 1 1 (dk_at dksX0_cost_0 9 rfl rfl)
theorem dX0_cost_12 : decode cX0_cost 12 = .ok (.goto 44, 3) := dk_167 0 44 (dk_at dksX0_cost_0 12 rfl rfl)
theorem dX0_cost_15 : decode cX0_cost 15 = .ok (.iload_n 1, 1) := dk_27 (dk_at dksX0_cost_0 15 rfl rfl)
theorem dX0_cost_16 : decode cX0_cost 16 = .ok (.iconst 1, 1) := dk_4 (dk_at dksX0_cost_0 16 rfl rfl)
theorem dX0_cost_17 : decode cX0_cost 17 = .ok (.if_icmp .ne 21, 3) := dk_160 0 21 (dk_at dksX0_cost_0 17 rfl rfl)
theorem dX0_cost_20 : decode cX0_cost 20 = .ok (.aload_n 0, 1) := dk_42 (dk_at dksX0_cost_0 20 rfl rfl)
theorem dX0_cost_21 : decode cX0_cost 21 = .ok (.getfield 45, 3) := dk_180 0 45 (dk_at dksX0_cost_0 21 rfl rfl)
theorem dX0_cost_24 : decode cX0_cost 24 = .ok (.aload_n 0, 1) := dk_42 (dk_at dksX0_cost_1 0 rfl rfl)
theorem dX0_cost_25 : decode cX0_cost 25 = .ok (.getfield 82, 3) := dk_180 0 82 (dk_at dksX0_cost_1 1 rfl rfl)
theorem dX0_cost_28 : decode cX0_cost 28 = .ok (.aload_n 0, 1) := dk_42 (dk_at dksX0_cost_1 4 rfl rfl)
theorem dX0_cost_29 : decode cX0_cost 29 = .ok (.getfield 21, 3) := dk_180 0 21 (dk_at dksX0_cost_1 5 rfl rfl)
theorem dX0_cost_32 : decode cX0_cost 32 = .ok (.invokevirtual 49, 3) := dk_182 0 49 (dk_at dksX0_cost_1 8 rfl rfl)
theorem dX0_cost_35 : decode cX0_cost 35 = .ok (.goto 21, 3) := dk_167 0 21 (dk_at dksX0_cost_1 11 rfl rfl)
theorem dX0_cost_38 : decode cX0_cost 38 = .ok (.iload_n 1, 1) := dk_27 (dk_at dksX0_cost_1 14 rfl rfl)
theorem dX0_cost_39 : decode cX0_cost 39 = .ok (.iconst 2, 1) := dk_5 (dk_at dksX0_cost_1 15 rfl rfl)
theorem dX0_cost_40 : decode cX0_cost 40 = .ok (.if_icmp .ne 14, 3) := dk_160 0 14 (dk_at dksX0_cost_1 16 rfl rfl)
theorem dX0_cost_43 : decode cX0_cost 43 = .ok (.aload_n 0, 1) := dk_42 (dk_at dksX0_cost_1 19 rfl rfl)
theorem dX0_cost_44 : decode cX0_cost 44 = .ok (.aload_n 0, 1) := dk_42 (dk_at dksX0_cost_1 20 rfl rfl)
theorem dX0_cost_45 : decode cX0_cost 45 = .ok (.getfield 82, 3) := dk_180 0 82 (dk_at dksX0_cost_1 21 rfl rfl)
theorem dX0_cost_48 : decode cX0_cost 48 = .ok (.invokevirtual 58, 3) := dk_182 0 58 (dk_at dksX0_cost_2 0 rfl rfl)
theorem dX0_cost_51 : decode cX0_cost 51 = .ok (.goto 5, 3) := dk_167 0 5 (dk_at dksX0_cost_2 3 rfl rfl)
theorem dX0_cost_54 : decode cX0_cost 54 = .ok (.bipush (-3), 2) := dk_16 253 (dk_at dksX0_cost_2 6 rfl rfl)
theorem dX0_cost_56 : decode cX0_cost 56 = .ok (.ireturn, 1) := dk_172 (dk_at dksX0_cost_2 8 rfl rfl)
abbrev cX0_costOf : ByteArray := prog_1_method_7_code
def yX0_costOf : MethodName := ⟨RX0, "costOf", "(LStrawMen$Plan;)I"⟩
def dkwX0_costOf_0 : List UInt8 := [42, 180, 0, 45, 43, 42, 180, 0, 21, 182, 0, 49, 42, 180, 0, 55, 104, 42, 43, 182, 0, 58, 96, 172]
abbrev dktX0_costOf_0 : List UInt8 := dkwX0_costOf_0 ++ []
theorem dksX0_costOf_0 : cX0_costOf.data.toList.drop 0 = dktX0_costOf_0 := by decide +kernel
theorem dX0_costOf_0 : decode cX0_costOf 0 = .ok (.aload_n 0, 1) := dk_42 (dk_at dksX0_costOf_0 0 rfl rfl)
theorem dX0_costOf_1 : decode cX0_costOf 1 = .ok (.getfield 45, 3) := dk_180 0 45 (dk_at dksX0_costOf_0 1 rfl rfl)
theorem dX0_costOf_4 : decode cX0_costOf 4 = .ok (.aload_n 1, 1) := dk_43 (dk_at dksX0_costOf_0 4 rfl rfl)
theorem dX0_costOf_5 : decode cX0_costOf 5 = .ok (.aload_n 0, 1) := dk_42 (dk_at dksX0_costOf_0 5 rfl rfl)
theorem dX0_costOf_6 : decode cX0_costOf 6 = .ok (.getfield 21, 3) := dk_180 0 21 (dk_at dksX0_costOf_0 6 rfl rfl)
theorem dX0_costOf_9 : decode cX0_costOf 9 = .ok (.invokevirtual 49, 3) := dk_182 0 49 (dk_at dksX0_costOf_0 9 rfl rfl)
theorem dX0_costOf_12 : decode cX0_costOf 12 = .ok (.aload_n 0, 1) := dk_42 (dk_at dksX0_costOf_0 12 rfl rfl)
theorem dX0_costOf_13 : decode cX0_costOf 13 = .ok (.getfield 55, 3) := dk_180 0 55 (dk_at dksX0_costOf_0 13 rfl rfl)
theorem dX0_costOf_16 : decode cX0_costOf 16 = .ok (.imul, 1) := dk_104 (dk_at dksX0_costOf_0 16 rfl rfl)
theorem dX0_costOf_17 : decode cX0_costOf 17 = .ok (.aload_n 0, 1) := dk_42 (dk_at dksX0_costOf_0 17 rfl rfl)
theorem dX0_costOf_18 : decode cX0_costOf 18 = .ok (.aload_n 1, 1) := dk_43 (dk_at dksX0_costOf_0 18 rfl rfl)
theorem dX0_costOf_19 : decode cX0_costOf 19 = .ok (.invokevirtual 58, 3) := dk_182 0 58 (dk_at dksX0_costOf_0 19 rfl rfl)
theorem dX0_costOf_22 : decode cX0_costOf 22 = .ok (.iadd, 1) := dk_96 (dk_at dksX0_costOf_0 22 rfl rfl)
theorem dX0_costOf_23 : decode cX0_costOf 23 = .ok (.ireturn, 1) := dk_172 (dk_at dksX0_costOf_0 23 rfl rfl)
abbrev cX0_wagesOf : ByteArray := prog_1_method_6_code
def yX0_wagesOf : MethodName := ⟨RX0, "wagesOf", "(LStrawMen$Plan;)I"⟩
def dkwX0_wagesOf_3 : List UInt8 := [167, 0, 4, 3, 96, 61, 132, 4, 1, 167, 255, 195, 132, 3, 1, 167, 255, 178, 28, 172]
abbrev dktX0_wagesOf_3 : List UInt8 := dkwX0_wagesOf_3 ++ []
def dkwX0_wagesOf_2 : List UInt8 := [182, 0, 35, 153, 0, 22, 43, 180, 0, 38, 29, 50, 21, 5, 51, 153, 0, 10, 42, 180, 0, 42]
abbrev dktX0_wagesOf_2 : List UInt8 := dkwX0_wagesOf_2 ++ dktX0_wagesOf_3
def dkwX0_wagesOf_1 : List UInt8 := [180, 0, 25, 29, 50, 21, 4, 51, 54, 5, 28, 42, 21, 4, 182, 0, 31, 153, 0, 31, 42, 21, 5]
abbrev dktX0_wagesOf_1 : List UInt8 := dkwX0_wagesOf_1 ++ dktX0_wagesOf_2
def dkwX0_wagesOf_0 : List UInt8 := [3, 61, 3, 62, 29, 42, 180, 0, 21, 162, 0, 76, 3, 54, 4, 21, 4, 7, 162, 0, 61, 43]
abbrev dktX0_wagesOf_0 : List UInt8 := dkwX0_wagesOf_0 ++ dktX0_wagesOf_1
theorem dksX0_wagesOf_0 : cX0_wagesOf.data.toList.drop 0 = dktX0_wagesOf_0 := by decide +kernel
theorem dksX0_wagesOf_1 : cX0_wagesOf.data.toList.drop 22 = dktX0_wagesOf_1 := dk_seg dksX0_wagesOf_0 22 rfl rfl
theorem dksX0_wagesOf_2 : cX0_wagesOf.data.toList.drop 45 = dktX0_wagesOf_2 := dk_seg dksX0_wagesOf_1 23 rfl rfl
theorem dksX0_wagesOf_3 : cX0_wagesOf.data.toList.drop 67 = dktX0_wagesOf_3 := dk_seg dksX0_wagesOf_2 22 rfl rfl
theorem dX0_wagesOf_0 : decode cX0_wagesOf 0 = .ok (.iconst 0, 1) := dk_3 (dk_at dksX0_wagesOf_0 0 rfl rfl)
theorem dX0_wagesOf_1 : decode cX0_wagesOf 1 = .ok (.istore_n 2, 1) := dk_61 (dk_at dksX0_wagesOf_0 1 rfl rfl)
theorem dX0_wagesOf_2 : decode cX0_wagesOf 2 = .ok (.iconst 0, 1) := dk_3 (dk_at dksX0_wagesOf_0 2 rfl rfl)
theorem dX0_wagesOf_3 : decode cX0_wagesOf 3 = .ok (.istore_n 3, 1) := dk_62 (dk_at dksX0_wagesOf_0 3 rfl rfl)
theorem dX0_wagesOf_4 : decode cX0_wagesOf 4 = .ok (.iload_n 3, 1) := dk_29 (dk_at dksX0_wagesOf_0 4 rfl rfl)
theorem dX0_wagesOf_5 : decode cX0_wagesOf 5 = .ok (.aload_n 0, 1) := dk_42 (dk_at dksX0_wagesOf_0 5 rfl rfl)
theorem dX0_wagesOf_6 : decode cX0_wagesOf 6 = .ok (.getfield 21, 3) := dk_180 0 21 (dk_at dksX0_wagesOf_0 6 rfl rfl)
theorem dX0_wagesOf_9 : decode cX0_wagesOf 9 = .ok (.if_icmp .ge 76, 3) := dk_162 0 76 (dk_at dksX0_wagesOf_0 9 rfl rfl)
theorem dX0_wagesOf_12 : decode cX0_wagesOf 12 = .ok (.iconst 0, 1) := dk_3 (dk_at dksX0_wagesOf_0 12 rfl rfl)
theorem dX0_wagesOf_13 : decode cX0_wagesOf 13 = .ok (.istore 4, 2) := dk_54 4 (dk_at dksX0_wagesOf_0 13 rfl rfl)
theorem dX0_wagesOf_15 : decode cX0_wagesOf 15 = .ok (.iload 4, 2) := dk_21 4 (dk_at dksX0_wagesOf_0 15 rfl rfl)
theorem dX0_wagesOf_17 : decode cX0_wagesOf 17 = .ok (.iconst 4, 1) := dk_7 (dk_at dksX0_wagesOf_0 17 rfl rfl)
theorem dX0_wagesOf_18 : decode cX0_wagesOf 18 = .ok (.if_icmp .ge 61, 3) := dk_162 0 61 (dk_at dksX0_wagesOf_0 18 rfl rfl)
theorem dX0_wagesOf_21 : decode cX0_wagesOf 21 = .ok (.aload_n 1, 1) := dk_43 (dk_at dksX0_wagesOf_0 21 rfl rfl)
theorem dX0_wagesOf_22 : decode cX0_wagesOf 22 = .ok (.getfield 25, 3) := dk_180 0 25 (dk_at dksX0_wagesOf_1 0 rfl rfl)
theorem dX0_wagesOf_25 : decode cX0_wagesOf 25 = .ok (.iload_n 3, 1) := dk_29 (dk_at dksX0_wagesOf_1 3 rfl rfl)
theorem dX0_wagesOf_26 : decode cX0_wagesOf 26 = .ok (.aaload, 1) := dk_50 (dk_at dksX0_wagesOf_1 4 rfl rfl)
theorem dX0_wagesOf_27 : decode cX0_wagesOf 27 = .ok (.iload 4, 2) := dk_21 4 (dk_at dksX0_wagesOf_1 5 rfl rfl)
theorem dX0_wagesOf_29 : decode cX0_wagesOf 29 = .ok (.baload, 1) := dk_51 (dk_at dksX0_wagesOf_1 7 rfl rfl)
theorem dX0_wagesOf_30 : decode cX0_wagesOf 30 = .ok (.istore 5, 2) := dk_54 5 (dk_at dksX0_wagesOf_1 8 rfl rfl)
theorem dX0_wagesOf_32 : decode cX0_wagesOf 32 = .ok (.iload_n 2, 1) := dk_28 (dk_at dksX0_wagesOf_1 10 rfl rfl)
theorem dX0_wagesOf_33 : decode cX0_wagesOf 33 = .ok (.aload_n 0, 1) := dk_42 (dk_at dksX0_wagesOf_1 11 rfl rfl)
theorem dX0_wagesOf_34 : decode cX0_wagesOf 34 = .ok (.iload 4, 2) := dk_21 4 (dk_at dksX0_wagesOf_1 12 rfl rfl)
theorem dX0_wagesOf_36 : decode cX0_wagesOf 36 = .ok (.invokevirtual 31, 3) := dk_182 0 31 (dk_at dksX0_wagesOf_1 14 rfl rfl)
theorem dX0_wagesOf_39 : decode cX0_wagesOf 39 = .ok (.ifCond .eq 31, 3) := dk_153 0 31 (dk_at dksX0_wagesOf_1 17 rfl rfl)
theorem dX0_wagesOf_42 : decode cX0_wagesOf 42 = .ok (.aload_n 0, 1) := dk_42 (dk_at dksX0_wagesOf_1 20 rfl rfl)
theorem dX0_wagesOf_43 : decode cX0_wagesOf 43 = .ok (.iload 5, 2) := dk_21 5 (dk_at dksX0_wagesOf_1 21 rfl rfl)
theorem dX0_wagesOf_45 : decode cX0_wagesOf 45 = .ok (.invokevirtual 35, 3) := dk_182 0 35 (dk_at dksX0_wagesOf_2 0 rfl rfl)
theorem dX0_wagesOf_48 : decode cX0_wagesOf 48 = .ok (.ifCond .eq 22, 3) := dk_153 0 22 (dk_at dksX0_wagesOf_2 3 rfl rfl)
theorem dX0_wagesOf_51 : decode cX0_wagesOf 51 = .ok (.aload_n 1, 1) := dk_43 (dk_at dksX0_wagesOf_2 6 rfl rfl)
theorem dX0_wagesOf_52 : decode cX0_wagesOf 52 = .ok (.getfield 38, 3) := dk_180 0 38 (dk_at dksX0_wagesOf_2 7 rfl rfl)
theorem dX0_wagesOf_55 : decode cX0_wagesOf 55 = .ok (.iload_n 3, 1) := dk_29 (dk_at dksX0_wagesOf_2 10 rfl rfl)
theorem dX0_wagesOf_56 : decode cX0_wagesOf 56 = .ok (.aaload, 1) := dk_50 (dk_at dksX0_wagesOf_2 11 rfl rfl)
theorem dX0_wagesOf_57 : decode cX0_wagesOf 57 = .ok (.iload 5, 2) := dk_21 5 (dk_at dksX0_wagesOf_2 12 rfl rfl)
theorem dX0_wagesOf_59 : decode cX0_wagesOf 59 = .ok (.baload, 1) := dk_51 (dk_at dksX0_wagesOf_2 14 rfl rfl)
theorem dX0_wagesOf_60 : decode cX0_wagesOf 60 = .ok (.ifCond .eq 10, 3) := dk_153 0 10 (dk_at dksX0_wagesOf_2 15 rfl rfl)
theorem dX0_wagesOf_63 : decode cX0_wagesOf 63 = .ok (.aload_n 0, 1) := dk_42 (dk_at dksX0_wagesOf_2 18 rfl rfl)
theorem dX0_wagesOf_64 : decode cX0_wagesOf 64 = .ok (.getfield 42, 3) := dk_180 0 42 (dk_at dksX0_wagesOf_2 19 rfl rfl)
theorem dX0_wagesOf_67 : decode cX0_wagesOf 67 = .ok (.goto 4, 3) := dk_167 0 4 (dk_at dksX0_wagesOf_3 0 rfl rfl)
theorem dX0_wagesOf_70 : decode cX0_wagesOf 70 = .ok (.iconst 0, 1) := dk_3 (dk_at dksX0_wagesOf_3 3 rfl rfl)
theorem dX0_wagesOf_71 : decode cX0_wagesOf 71 = .ok (.iadd, 1) := dk_96 (dk_at dksX0_wagesOf_3 4 rfl rfl)
theorem dX0_wagesOf_72 : decode cX0_wagesOf 72 = .ok (.istore_n 2, 1) := dk_61 (dk_at dksX0_wagesOf_3 5 rfl rfl)
theorem dX0_wagesOf_73 : decode cX0_wagesOf 73 = .ok (.iinc 4 1, 3) := dk_132 4 1 (dk_at dksX0_wagesOf_3 6 rfl rfl)
theorem dX0_wagesOf_76 : decode cX0_wagesOf 76 = .ok (.goto (-61), 3) := dk_167 255 195 (dk_at dksX0_wagesOf_3 9 rfl rfl)
theorem dX0_wagesOf_79 : decode cX0_wagesOf 79 = .ok (.iinc 3 1, 3) := dk_132 3 1 (dk_at dksX0_wagesOf_3 12 rfl rfl)
theorem dX0_wagesOf_82 : decode cX0_wagesOf 82 = .ok (.goto (-78), 3) := dk_167 255 178 (dk_at dksX0_wagesOf_3 15 rfl rfl)
theorem dX0_wagesOf_85 : decode cX0_wagesOf 85 = .ok (.iload_n 2, 1) := dk_28 (dk_at dksX0_wagesOf_3 18 rfl rfl)
theorem dX0_wagesOf_86 : decode cX0_wagesOf 86 = .ok (.ireturn, 1) := dk_172 (dk_at dksX0_wagesOf_3 19 rfl rfl)
abbrev cX0_best : ByteArray := prog_1_method_27_code
def yX0_best : MethodName := ⟨RX0, "best", "(III)I"⟩
def dkwX0_best_3 : List UInt8 := [180, 0, 114, 29, 51, 172]
abbrev dktX0_best_3 : List UInt8 := dkwX0_best_3 ++ []
def dkwX0_best_2 : List UInt8 := [16, 253, 172, 42, 27, 28, 182, 1, 6, 54, 4, 29, 2, 160, 0, 8, 21, 4, 167, 0, 9, 42]
abbrev dktX0_best_2 : List UInt8 := dkwX0_best_2 ++ dktX0_best_3
def dkwX0_best_1 : List UInt8 := [28, 96, 42, 180, 0, 21, 163, 0, 17, 29, 133, 20, 0, 244, 20, 0, 3, 184, 0, 5, 154, 0, 6]
abbrev dktX0_best_1 : List UInt8 := dkwX0_best_1 ++ dktX0_best_2
def dkwX0_best_0 : List UInt8 := [42, 27, 182, 0, 246, 154, 0, 6, 16, 254, 172, 28, 133, 10, 20, 1, 4, 184, 0, 5, 153, 0, 27, 27]
abbrev dktX0_best_0 : List UInt8 := dkwX0_best_0 ++ dktX0_best_1
theorem dksX0_best_0 : cX0_best.data.toList.drop 0 = dktX0_best_0 := by decide +kernel
theorem dksX0_best_1 : cX0_best.data.toList.drop 24 = dktX0_best_1 := dk_seg dksX0_best_0 24 rfl rfl
theorem dksX0_best_2 : cX0_best.data.toList.drop 47 = dktX0_best_2 := dk_seg dksX0_best_1 23 rfl rfl
theorem dksX0_best_3 : cX0_best.data.toList.drop 69 = dktX0_best_3 := dk_seg dksX0_best_2 22 rfl rfl
theorem dX0_best_0 : decode cX0_best 0 = .ok (.aload_n 0, 1) := dk_42 (dk_at dksX0_best_0 0 rfl rfl)
theorem dX0_best_1 : decode cX0_best 1 = .ok (.iload_n 1, 1) := dk_27 (dk_at dksX0_best_0 1 rfl rfl)
theorem dX0_best_2 : decode cX0_best 2 = .ok (.invokevirtual 246, 3) := dk_182 0 246 (dk_at dksX0_best_0 2 rfl rfl)
theorem dX0_best_5 : decode cX0_best 5 = .ok (.ifCond .ne 6, 3) := dk_154 0 6 (dk_at dksX0_best_0 5 rfl rfl)
theorem dX0_best_8 : decode cX0_best 8 = .ok (.bipush (-2), 2) := dk_16 254 (dk_at dksX0_best_0 8 rfl rfl)
theorem dX0_best_10 : decode cX0_best 10 = .ok (.ireturn, 1) := dk_172 (dk_at dksX0_best_0 10 rfl rfl)
theorem dX0_best_11 : decode cX0_best 11 = .ok (.iload_n 2, 1) := dk_28 (dk_at dksX0_best_0 11 rfl rfl)
theorem dX0_best_12 : decode cX0_best 12 = .ok (.i2l, 1) := dk_133 (dk_at dksX0_best_0 12 rfl rfl)
theorem dX0_best_13 : decode cX0_best 13 = .ok (.lconst 1, 1) := dk_10 (dk_at dksX0_best_0 13 rfl rfl)
theorem dX0_best_14 : decode cX0_best 14 = .ok (.ldc2_w 260, 3) := dk_20 1 4 (dk_at dksX0_best_0 14 rfl rfl)
theorem dX0_best_17 : decode cX0_best 17 = .ok (.invokestatic 5, 3) := dk_184 0 5 (dk_at dksX0_best_0 17 rfl rfl)
theorem dX0_best_20 : decode cX0_best 20 = .ok (.ifCond .eq 27, 3) := dk_153 0 27 (dk_at dksX0_best_0 20 rfl rfl)
theorem dX0_best_23 : decode cX0_best 23 = .ok (.iload_n 1, 1) := dk_27 (dk_at dksX0_best_0 23 rfl rfl)
theorem dX0_best_24 : decode cX0_best 24 = .ok (.iload_n 2, 1) := dk_28 (dk_at dksX0_best_1 0 rfl rfl)
theorem dX0_best_25 : decode cX0_best 25 = .ok (.iadd, 1) := dk_96 (dk_at dksX0_best_1 1 rfl rfl)
theorem dX0_best_26 : decode cX0_best 26 = .ok (.aload_n 0, 1) := dk_42 (dk_at dksX0_best_1 2 rfl rfl)
theorem dX0_best_27 : decode cX0_best 27 = .ok (.getfield 21, 3) := dk_180 0 21 (dk_at dksX0_best_1 3 rfl rfl)
theorem dX0_best_30 : decode cX0_best 30 = .ok (.if_icmp .gt 17, 3) := dk_163 0 17 (dk_at dksX0_best_1 6 rfl rfl)
theorem dX0_best_33 : decode cX0_best 33 = .ok (.iload_n 3, 1) := dk_29 (dk_at dksX0_best_1 9 rfl rfl)
theorem dX0_best_34 : decode cX0_best 34 = .ok (.i2l, 1) := dk_133 (dk_at dksX0_best_1 10 rfl rfl)
theorem dX0_best_35 : decode cX0_best 35 = .ok (.ldc2_w 244, 3) := dk_20 0 244 (dk_at dksX0_best_1 11 rfl rfl)
theorem dX0_best_38 : decode cX0_best 38 = .ok (.ldc2_w 3, 3) := dk_20 0 3 (dk_at dksX0_best_1 14 rfl rfl)
theorem dX0_best_41 : decode cX0_best 41 = .ok (.invokestatic 5, 3) := dk_184 0 5 (dk_at dksX0_best_1 17 rfl rfl)
theorem dX0_best_44 : decode cX0_best 44 = .ok (.ifCond .ne 6, 3) := dk_154 0 6 (dk_at dksX0_best_1 20 rfl rfl)
theorem dX0_best_47 : decode cX0_best 47 = .ok (.bipush (-3), 2) := dk_16 253 (dk_at dksX0_best_2 0 rfl rfl)
theorem dX0_best_49 : decode cX0_best 49 = .ok (.ireturn, 1) := dk_172 (dk_at dksX0_best_2 2 rfl rfl)
theorem dX0_best_50 : decode cX0_best 50 = .ok (.aload_n 0, 1) := dk_42 (dk_at dksX0_best_2 3 rfl rfl)
theorem dX0_best_51 : decode cX0_best 51 = .ok (.iload_n 1, 1) := dk_27 (dk_at dksX0_best_2 4 rfl rfl)
theorem dX0_best_52 : decode cX0_best 52 = .ok (.iload_n 2, 1) := dk_28 (dk_at dksX0_best_2 5 rfl rfl)
theorem dX0_best_53 : decode cX0_best 53 = .ok (.invokevirtual 262, 3) := dk_182 1 6 (dk_at dksX0_best_2 6 rfl rfl)
theorem dX0_best_56 : decode cX0_best 56 = .ok (.istore 4, 2) := dk_54 4 (dk_at dksX0_best_2 9 rfl rfl)
theorem dX0_best_58 : decode cX0_best 58 = .ok (.iload_n 3, 1) := dk_29 (dk_at dksX0_best_2 11 rfl rfl)
theorem dX0_best_59 : decode cX0_best 59 = .ok (.iconst (-1), 1) := dk_2 (dk_at dksX0_best_2 12 rfl rfl)
theorem dX0_best_60 : decode cX0_best 60 = .ok (.if_icmp .ne 8, 3) := dk_160 0 8 (dk_at dksX0_best_2 13 rfl rfl)
theorem dX0_best_63 : decode cX0_best 63 = .ok (.iload 4, 2) := dk_21 4 (dk_at dksX0_best_2 16 rfl rfl)
theorem dX0_best_65 : decode cX0_best 65 = .ok (.goto 9, 3) := dk_167 0 9 (dk_at dksX0_best_2 18 rfl rfl)
theorem dX0_best_68 : decode cX0_best 68 = .ok (.aload_n 0, 1) := dk_42 (dk_at dksX0_best_2 21 rfl rfl)
theorem dX0_best_69 : decode cX0_best 69 = .ok (.getfield 114, 3) := dk_180 0 114 (dk_at dksX0_best_3 0 rfl rfl)
theorem dX0_best_72 : decode cX0_best 72 = .ok (.iload_n 3, 1) := dk_29 (dk_at dksX0_best_3 3 rfl rfl)
theorem dX0_best_73 : decode cX0_best 73 = .ok (.baload, 1) := dk_51 (dk_at dksX0_best_3 4 rfl rfl)
theorem dX0_best_74 : decode cX0_best 74 = .ok (.ireturn, 1) := dk_172 (dk_at dksX0_best_3 5 rfl rfl)
abbrev cX0_bestOf : ByteArray := prog_1_method_9_code
def yX0_bestOf : MethodName := ⟨RX0, "bestOf", "(II)I"⟩
def dkwX0_bestOf_5 : List UInt8 := [42, 180, 0, 86, 182, 0, 123, 54, 4, 167, 255, 154, 29, 172]
abbrev dktX0_bestOf_5 : List UInt8 := dkwX0_bestOf_5 ++ []
def dkwX0_bestOf_4 : List UInt8 := [29, 162, 0, 23, 21, 5, 62, 42, 180, 0, 86, 180, 0, 103, 3, 42, 180, 0, 114, 3, 7, 184, 0, 117]
abbrev dktX0_bestOf_4 : List UInt8 := dkwX0_bestOf_4 ++ dktX0_bestOf_5
def dkwX0_bestOf_3 : List UInt8 := [160, 0, 13, 42, 27, 4, 96, 182, 0, 110, 167, 0, 4, 3, 96, 54, 5, 29, 2, 159, 0, 9, 21, 5]
abbrev dktX0_bestOf_3 : List UInt8 := dkwX0_bestOf_3 ++ dktX0_bestOf_4
def dkwX0_bestOf_2 : List UInt8 := [180, 0, 86, 180, 0, 103, 42, 180, 0, 82, 180, 0, 38, 27, 50, 182, 0, 106, 54, 5, 21, 5, 28, 5]
abbrev dktX0_bestOf_2 : List UInt8 := dkwX0_bestOf_2 ++ dktX0_bestOf_3
def dkwX0_bestOf_1 : List UInt8 := [54, 4, 21, 4, 153, 0, 103, 42, 180, 0, 96, 42, 180, 0, 45, 182, 0, 99, 42, 180, 0, 96, 42]
abbrev dktX0_bestOf_1 : List UInt8 := dkwX0_bestOf_1 ++ dktX0_bestOf_2
def dkwX0_bestOf_0 : List UInt8 := [42, 180, 0, 45, 42, 180, 0, 82, 27, 182, 0, 49, 87, 2, 62, 42, 180, 0, 86, 182, 0, 90, 4]
abbrev dktX0_bestOf_0 : List UInt8 := dkwX0_bestOf_0 ++ dktX0_bestOf_1
theorem dksX0_bestOf_0 : cX0_bestOf.data.toList.drop 0 = dktX0_bestOf_0 := by decide +kernel
theorem dksX0_bestOf_1 : cX0_bestOf.data.toList.drop 23 = dktX0_bestOf_1 := dk_seg dksX0_bestOf_0 23 rfl rfl
theorem dksX0_bestOf_2 : cX0_bestOf.data.toList.drop 46 = dktX0_bestOf_2 := dk_seg dksX0_bestOf_1 23 rfl rfl
theorem dksX0_bestOf_3 : cX0_bestOf.data.toList.drop 70 = dktX0_bestOf_3 := dk_seg dksX0_bestOf_2 24 rfl rfl
theorem dksX0_bestOf_4 : cX0_bestOf.data.toList.drop 94 = dktX0_bestOf_4 := dk_seg dksX0_bestOf_3 24 rfl rfl
theorem dksX0_bestOf_5 : cX0_bestOf.data.toList.drop 118 = dktX0_bestOf_5 := dk_seg dksX0_bestOf_4 24 rfl rfl
theorem dX0_bestOf_0 : decode cX0_bestOf 0 = .ok (.aload_n 0, 1) := dk_42 (dk_at dksX0_bestOf_0 0 rfl rfl)
theorem dX0_bestOf_1 : decode cX0_bestOf 1 = .ok (.getfield 45, 3) := dk_180 0 45 (dk_at dksX0_bestOf_0 1 rfl rfl)
theorem dX0_bestOf_4 : decode cX0_bestOf 4 = .ok (.aload_n 0, 1) := dk_42 (dk_at dksX0_bestOf_0 4 rfl rfl)
theorem dX0_bestOf_5 : decode cX0_bestOf 5 = .ok (.getfield 82, 3) := dk_180 0 82 (dk_at dksX0_bestOf_0 5 rfl rfl)
theorem dX0_bestOf_8 : decode cX0_bestOf 8 = .ok (.iload_n 1, 1) := dk_27 (dk_at dksX0_bestOf_0 8 rfl rfl)
theorem dX0_bestOf_9 : decode cX0_bestOf 9 = .ok (.invokevirtual 49, 3) := dk_182 0 49 (dk_at dksX0_bestOf_0 9 rfl rfl)
theorem dX0_bestOf_12 : decode cX0_bestOf 12 = .ok (.pop, 1) := dk_87 (dk_at dksX0_bestOf_0 12 rfl rfl)
theorem dX0_bestOf_13 : decode cX0_bestOf 13 = .ok (.iconst (-1), 1) := dk_2 (dk_at dksX0_bestOf_0 13 rfl rfl)
theorem dX0_bestOf_14 : decode cX0_bestOf 14 = .ok (.istore_n 3, 1) := dk_62 (dk_at dksX0_bestOf_0 14 rfl rfl)
theorem dX0_bestOf_15 : decode cX0_bestOf 15 = .ok (.aload_n 0, 1) := dk_42 (dk_at dksX0_bestOf_0 15 rfl rfl)
theorem dX0_bestOf_16 : decode cX0_bestOf 16 = .ok (.getfield 86, 3) := dk_180 0 86 (dk_at dksX0_bestOf_0 16 rfl rfl)
theorem dX0_bestOf_19 : decode cX0_bestOf 19 = .ok (.invokevirtual 90, 3) := dk_182 0 90 (dk_at dksX0_bestOf_0 19 rfl rfl)
theorem dX0_bestOf_22 : decode cX0_bestOf 22 = .ok (.iconst 1, 1) := dk_4 (dk_at dksX0_bestOf_0 22 rfl rfl)
theorem dX0_bestOf_23 : decode cX0_bestOf 23 = .ok (.istore 4, 2) := dk_54 4 (dk_at dksX0_bestOf_1 0 rfl rfl)
theorem dX0_bestOf_25 : decode cX0_bestOf 25 = .ok (.iload 4, 2) := dk_21 4 (dk_at dksX0_bestOf_1 2 rfl rfl)
theorem dX0_bestOf_27 : decode cX0_bestOf 27 = .ok (.ifCond .eq 103, 3) := dk_153 0 103 (dk_at dksX0_bestOf_1 4 rfl rfl)
theorem dX0_bestOf_30 : decode cX0_bestOf 30 = .ok (.aload_n 0, 1) := dk_42 (dk_at dksX0_bestOf_1 7 rfl rfl)
theorem dX0_bestOf_31 : decode cX0_bestOf 31 = .ok (.getfield 96, 3) := dk_180 0 96 (dk_at dksX0_bestOf_1 8 rfl rfl)
theorem dX0_bestOf_34 : decode cX0_bestOf 34 = .ok (.aload_n 0, 1) := dk_42 (dk_at dksX0_bestOf_1 11 rfl rfl)
theorem dX0_bestOf_35 : decode cX0_bestOf 35 = .ok (.getfield 45, 3) := dk_180 0 45 (dk_at dksX0_bestOf_1 12 rfl rfl)
theorem dX0_bestOf_38 : decode cX0_bestOf 38 = .ok (.invokevirtual 99, 3) := dk_182 0 99 (dk_at dksX0_bestOf_1 15 rfl rfl)
theorem dX0_bestOf_41 : decode cX0_bestOf 41 = .ok (.aload_n 0, 1) := dk_42 (dk_at dksX0_bestOf_1 18 rfl rfl)
theorem dX0_bestOf_42 : decode cX0_bestOf 42 = .ok (.getfield 96, 3) := dk_180 0 96 (dk_at dksX0_bestOf_1 19 rfl rfl)
theorem dX0_bestOf_45 : decode cX0_bestOf 45 = .ok (.aload_n 0, 1) := dk_42 (dk_at dksX0_bestOf_1 22 rfl rfl)
theorem dX0_bestOf_46 : decode cX0_bestOf 46 = .ok (.getfield 86, 3) := dk_180 0 86 (dk_at dksX0_bestOf_2 0 rfl rfl)
theorem dX0_bestOf_49 : decode cX0_bestOf 49 = .ok (.getfield 103, 3) := dk_180 0 103 (dk_at dksX0_bestOf_2 3 rfl rfl)
theorem dX0_bestOf_52 : decode cX0_bestOf 52 = .ok (.aload_n 0, 1) := dk_42 (dk_at dksX0_bestOf_2 6 rfl rfl)
theorem dX0_bestOf_53 : decode cX0_bestOf 53 = .ok (.getfield 82, 3) := dk_180 0 82 (dk_at dksX0_bestOf_2 7 rfl rfl)
theorem dX0_bestOf_56 : decode cX0_bestOf 56 = .ok (.getfield 38, 3) := dk_180 0 38 (dk_at dksX0_bestOf_2 10 rfl rfl)
theorem dX0_bestOf_59 : decode cX0_bestOf 59 = .ok (.iload_n 1, 1) := dk_27 (dk_at dksX0_bestOf_2 13 rfl rfl)
theorem dX0_bestOf_60 : decode cX0_bestOf 60 = .ok (.aaload, 1) := dk_50 (dk_at dksX0_bestOf_2 14 rfl rfl)
theorem dX0_bestOf_61 : decode cX0_bestOf 61 = .ok (.invokevirtual 106, 3) := dk_182 0 106 (dk_at dksX0_bestOf_2 15 rfl rfl)
theorem dX0_bestOf_64 : decode cX0_bestOf 64 = .ok (.istore 5, 2) := dk_54 5 (dk_at dksX0_bestOf_2 18 rfl rfl)
theorem dX0_bestOf_66 : decode cX0_bestOf 66 = .ok (.iload 5, 2) := dk_21 5 (dk_at dksX0_bestOf_2 20 rfl rfl)
theorem dX0_bestOf_68 : decode cX0_bestOf 68 = .ok (.iload_n 2, 1) := dk_28 (dk_at dksX0_bestOf_2 22 rfl rfl)
theorem dX0_bestOf_69 : decode cX0_bestOf 69 = .ok (.iconst 2, 1) := dk_5 (dk_at dksX0_bestOf_2 23 rfl rfl)
theorem dX0_bestOf_70 : decode cX0_bestOf 70 = .ok (.if_icmp .ne 13, 3) := dk_160 0 13 (dk_at dksX0_bestOf_3 0 rfl rfl)
theorem dX0_bestOf_73 : decode cX0_bestOf 73 = .ok (.aload_n 0, 1) := dk_42 (dk_at dksX0_bestOf_3 3 rfl rfl)
theorem dX0_bestOf_74 : decode cX0_bestOf 74 = .ok (.iload_n 1, 1) := dk_27 (dk_at dksX0_bestOf_3 4 rfl rfl)
theorem dX0_bestOf_75 : decode cX0_bestOf 75 = .ok (.iconst 1, 1) := dk_4 (dk_at dksX0_bestOf_3 5 rfl rfl)
theorem dX0_bestOf_76 : decode cX0_bestOf 76 = .ok (.iadd, 1) := dk_96 (dk_at dksX0_bestOf_3 6 rfl rfl)
theorem dX0_bestOf_77 : decode cX0_bestOf 77 = .ok (.invokevirtual 110, 3) := dk_182 0 110 (dk_at dksX0_bestOf_3 7 rfl rfl)
theorem dX0_bestOf_80 : decode cX0_bestOf 80 = .ok (.goto 4, 3) := dk_167 0 4 (dk_at dksX0_bestOf_3 10 rfl rfl)
theorem dX0_bestOf_83 : decode cX0_bestOf 83 = .ok (.iconst 0, 1) := dk_3 (dk_at dksX0_bestOf_3 13 rfl rfl)
theorem dX0_bestOf_84 : decode cX0_bestOf 84 = .ok (.iadd, 1) := dk_96 (dk_at dksX0_bestOf_3 14 rfl rfl)
theorem dX0_bestOf_85 : decode cX0_bestOf 85 = .ok (.istore 5, 2) := dk_54 5 (dk_at dksX0_bestOf_3 15 rfl rfl)
theorem dX0_bestOf_87 : decode cX0_bestOf 87 = .ok (.iload_n 3, 1) := dk_29 (dk_at dksX0_bestOf_3 17 rfl rfl)
theorem dX0_bestOf_88 : decode cX0_bestOf 88 = .ok (.iconst (-1), 1) := dk_2 (dk_at dksX0_bestOf_3 18 rfl rfl)
theorem dX0_bestOf_89 : decode cX0_bestOf 89 = .ok (.if_icmp .eq 9, 3) := dk_159 0 9 (dk_at dksX0_bestOf_3 19 rfl rfl)
theorem dX0_bestOf_92 : decode cX0_bestOf 92 = .ok (.iload 5, 2) := dk_21 5 (dk_at dksX0_bestOf_3 22 rfl rfl)
theorem dX0_bestOf_94 : decode cX0_bestOf 94 = .ok (.iload_n 3, 1) := dk_29 (dk_at dksX0_bestOf_4 0 rfl rfl)
theorem dX0_bestOf_95 : decode cX0_bestOf 95 = .ok (.if_icmp .ge 23, 3) := dk_162 0 23 (dk_at dksX0_bestOf_4 1 rfl rfl)
theorem dX0_bestOf_98 : decode cX0_bestOf 98 = .ok (.iload 5, 2) := dk_21 5 (dk_at dksX0_bestOf_4 4 rfl rfl)
theorem dX0_bestOf_100 : decode cX0_bestOf 100 = .ok (.istore_n 3, 1) := dk_62 (dk_at dksX0_bestOf_4 6 rfl rfl)
theorem dX0_bestOf_101 : decode cX0_bestOf 101 = .ok (.aload_n 0, 1) := dk_42 (dk_at dksX0_bestOf_4 7 rfl rfl)
theorem dX0_bestOf_102 : decode cX0_bestOf 102 = .ok (.getfield 86, 3) := dk_180 0 86 (dk_at dksX0_bestOf_4 8 rfl rfl)
theorem dX0_bestOf_105 : decode cX0_bestOf 105 = .ok (.getfield 103, 3) := dk_180 0 103 (dk_at dksX0_bestOf_4 11 rfl rfl)
theorem dX0_bestOf_108 : decode cX0_bestOf 108 = .ok (.iconst 0, 1) := dk_3 (dk_at dksX0_bestOf_4 14 rfl rfl)
theorem dX0_bestOf_109 : decode cX0_bestOf 109 = .ok (.aload_n 0, 1) := dk_42 (dk_at dksX0_bestOf_4 15 rfl rfl)
theorem dX0_bestOf_110 : decode cX0_bestOf 110 = .ok (.getfield 114, 3) := dk_180 0 114 (dk_at dksX0_bestOf_4 16 rfl rfl)
theorem dX0_bestOf_113 : decode cX0_bestOf 113 = .ok (.iconst 0, 1) := dk_3 (dk_at dksX0_bestOf_4 19 rfl rfl)
theorem dX0_bestOf_114 : decode cX0_bestOf 114 = .ok (.iconst 4, 1) := dk_7 (dk_at dksX0_bestOf_4 20 rfl rfl)
theorem dX0_bestOf_115 : decode cX0_bestOf 115 = .ok (.invokestatic 117, 3) := dk_184 0 117 (dk_at dksX0_bestOf_4 21 rfl rfl)
theorem dX0_bestOf_118 : decode cX0_bestOf 118 = .ok (.aload_n 0, 1) := dk_42 (dk_at dksX0_bestOf_5 0 rfl rfl)
theorem dX0_bestOf_119 : decode cX0_bestOf 119 = .ok (.getfield 86, 3) := dk_180 0 86 (dk_at dksX0_bestOf_5 1 rfl rfl)
theorem dX0_bestOf_122 : decode cX0_bestOf 122 = .ok (.invokevirtual 123, 3) := dk_182 0 123 (dk_at dksX0_bestOf_5 4 rfl rfl)
theorem dX0_bestOf_125 : decode cX0_bestOf 125 = .ok (.istore 4, 2) := dk_54 4 (dk_at dksX0_bestOf_5 7 rfl rfl)
theorem dX0_bestOf_127 : decode cX0_bestOf 127 = .ok (.goto (-102), 3) := dk_167 255 154 (dk_at dksX0_bestOf_5 9 rfl rfl)
theorem dX0_bestOf_130 : decode cX0_bestOf 130 = .ok (.iload_n 3, 1) := dk_29 (dk_at dksX0_bestOf_5 12 rfl rfl)
theorem dX0_bestOf_131 : decode cX0_bestOf 131 = .ok (.ireturn, 1) := dk_172 (dk_at dksX0_bestOf_5 13 rfl rfl)
abbrev cX0_bestNext : ByteArray := prog_1_method_10_code
def yX0_bestNext : MethodName := ⟨RX0, "bestNext", "(I)I"⟩
def dkwX0_bestNext_3 : List UInt8 := [180, 0, 127, 182, 0, 123, 62, 167, 255, 191, 28, 172]
abbrev dktX0_bestNext_3 : List UInt8 := dkwX0_bestNext_3 ++ []
def dkwX0_bestNext_2 : List UInt8 := [182, 0, 106, 54, 4, 28, 2, 160, 0, 8, 21, 4, 167, 0, 9, 28, 21, 4, 184, 0, 133, 61, 42]
abbrev dktX0_bestNext_2 : List UInt8 := dkwX0_bestNext_2 ++ dktX0_bestNext_3
def dkwX0_bestNext_1 : List UInt8 := [182, 0, 99, 42, 180, 0, 130, 42, 180, 0, 127, 180, 0, 103, 42, 180, 0, 82, 180, 0, 38, 27, 50]
abbrev dktX0_bestNext_1 : List UInt8 := dkwX0_bestNext_1 ++ dktX0_bestNext_2
def dkwX0_bestNext_0 : List UInt8 := [2, 61, 42, 180, 0, 127, 182, 0, 90, 4, 62, 29, 153, 0, 67, 42, 180, 0, 130, 42, 180, 0, 96]
abbrev dktX0_bestNext_0 : List UInt8 := dkwX0_bestNext_0 ++ dktX0_bestNext_1
theorem dksX0_bestNext_0 : cX0_bestNext.data.toList.drop 0 = dktX0_bestNext_0 := by decide +kernel
theorem dksX0_bestNext_1 : cX0_bestNext.data.toList.drop 23 = dktX0_bestNext_1 := dk_seg dksX0_bestNext_0 23 rfl rfl
theorem dksX0_bestNext_2 : cX0_bestNext.data.toList.drop 46 = dktX0_bestNext_2 := dk_seg dksX0_bestNext_1 23 rfl rfl
theorem dksX0_bestNext_3 : cX0_bestNext.data.toList.drop 69 = dktX0_bestNext_3 := dk_seg dksX0_bestNext_2 23 rfl rfl
theorem dX0_bestNext_0 : decode cX0_bestNext 0 = .ok (.iconst (-1), 1) := dk_2 (dk_at dksX0_bestNext_0 0 rfl rfl)
theorem dX0_bestNext_1 : decode cX0_bestNext 1 = .ok (.istore_n 2, 1) := dk_61 (dk_at dksX0_bestNext_0 1 rfl rfl)
theorem dX0_bestNext_2 : decode cX0_bestNext 2 = .ok (.aload_n 0, 1) := dk_42 (dk_at dksX0_bestNext_0 2 rfl rfl)
theorem dX0_bestNext_3 : decode cX0_bestNext 3 = .ok (.getfield 127, 3) := dk_180 0 127 (dk_at dksX0_bestNext_0 3 rfl rfl)
theorem dX0_bestNext_6 : decode cX0_bestNext 6 = .ok (.invokevirtual 90, 3) := dk_182 0 90 (dk_at dksX0_bestNext_0 6 rfl rfl)
theorem dX0_bestNext_9 : decode cX0_bestNext 9 = .ok (.iconst 1, 1) := dk_4 (dk_at dksX0_bestNext_0 9 rfl rfl)
theorem dX0_bestNext_10 : decode cX0_bestNext 10 = .ok (.istore_n 3, 1) := dk_62 (dk_at dksX0_bestNext_0 10 rfl rfl)
theorem dX0_bestNext_11 : decode cX0_bestNext 11 = .ok (.iload_n 3, 1) := dk_29 (dk_at dksX0_bestNext_0 11 rfl rfl)
theorem dX0_bestNext_12 : decode cX0_bestNext 12 = .ok (.ifCond .eq 67, 3) := dk_153 0 67 (dk_at dksX0_bestNext_0 12 rfl rfl)
theorem dX0_bestNext_15 : decode cX0_bestNext 15 = .ok (.aload_n 0, 1) := dk_42 (dk_at dksX0_bestNext_0 15 rfl rfl)
theorem dX0_bestNext_16 : decode cX0_bestNext 16 = .ok (.getfield 130, 3) := dk_180 0 130 (dk_at dksX0_bestNext_0 16 rfl rfl)
theorem dX0_bestNext_19 : decode cX0_bestNext 19 = .ok (.aload_n 0, 1) := dk_42 (dk_at dksX0_bestNext_0 19 rfl rfl)
theorem dX0_bestNext_20 : decode cX0_bestNext 20 = .ok (.getfield 96, 3) := dk_180 0 96 (dk_at dksX0_bestNext_0 20 rfl rfl)
theorem dX0_bestNext_23 : decode cX0_bestNext 23 = .ok (.invokevirtual 99, 3) := dk_182 0 99 (dk_at dksX0_bestNext_1 0 rfl rfl)
theorem dX0_bestNext_26 : decode cX0_bestNext 26 = .ok (.aload_n 0, 1) := dk_42 (dk_at dksX0_bestNext_1 3 rfl rfl)
theorem dX0_bestNext_27 : decode cX0_bestNext 27 = .ok (.getfield 130, 3) := dk_180 0 130 (dk_at dksX0_bestNext_1 4 rfl rfl)
theorem dX0_bestNext_30 : decode cX0_bestNext 30 = .ok (.aload_n 0, 1) := dk_42 (dk_at dksX0_bestNext_1 7 rfl rfl)
theorem dX0_bestNext_31 : decode cX0_bestNext 31 = .ok (.getfield 127, 3) := dk_180 0 127 (dk_at dksX0_bestNext_1 8 rfl rfl)
theorem dX0_bestNext_34 : decode cX0_bestNext 34 = .ok (.getfield 103, 3) := dk_180 0 103 (dk_at dksX0_bestNext_1 11 rfl rfl)
theorem dX0_bestNext_37 : decode cX0_bestNext 37 = .ok (.aload_n 0, 1) := dk_42 (dk_at dksX0_bestNext_1 14 rfl rfl)
theorem dX0_bestNext_38 : decode cX0_bestNext 38 = .ok (.getfield 82, 3) := dk_180 0 82 (dk_at dksX0_bestNext_1 15 rfl rfl)
theorem dX0_bestNext_41 : decode cX0_bestNext 41 = .ok (.getfield 38, 3) := dk_180 0 38 (dk_at dksX0_bestNext_1 18 rfl rfl)
theorem dX0_bestNext_44 : decode cX0_bestNext 44 = .ok (.iload_n 1, 1) := dk_27 (dk_at dksX0_bestNext_1 21 rfl rfl)
theorem dX0_bestNext_45 : decode cX0_bestNext 45 = .ok (.aaload, 1) := dk_50 (dk_at dksX0_bestNext_1 22 rfl rfl)
theorem dX0_bestNext_46 : decode cX0_bestNext 46 = .ok (.invokevirtual 106, 3) := dk_182 0 106 (dk_at dksX0_bestNext_2 0 rfl rfl)
theorem dX0_bestNext_49 : decode cX0_bestNext 49 = .ok (.istore 4, 2) := dk_54 4 (dk_at dksX0_bestNext_2 3 rfl rfl)
theorem dX0_bestNext_51 : decode cX0_bestNext 51 = .ok (.iload_n 2, 1) := dk_28 (dk_at dksX0_bestNext_2 5 rfl rfl)
theorem dX0_bestNext_52 : decode cX0_bestNext 52 = .ok (.iconst (-1), 1) := dk_2 (dk_at dksX0_bestNext_2 6 rfl rfl)
theorem dX0_bestNext_53 : decode cX0_bestNext 53 = .ok (.if_icmp .ne 8, 3) := dk_160 0 8 (dk_at dksX0_bestNext_2 7 rfl rfl)
theorem dX0_bestNext_56 : decode cX0_bestNext 56 = .ok (.iload 4, 2) := dk_21 4 (dk_at dksX0_bestNext_2 10 rfl rfl)
theorem dX0_bestNext_58 : decode cX0_bestNext 58 = .ok (.goto 9, 3) := dk_167 0 9 (dk_at dksX0_bestNext_2 12 rfl rfl)
theorem dX0_bestNext_61 : decode cX0_bestNext 61 = .ok (.iload_n 2, 1) := dk_28 (dk_at dksX0_bestNext_2 15 rfl rfl)
theorem dX0_bestNext_62 : decode cX0_bestNext 62 = .ok (.iload 4, 2) := dk_21 4 (dk_at dksX0_bestNext_2 16 rfl rfl)
theorem dX0_bestNext_64 : decode cX0_bestNext 64 = .ok (.invokestatic 133, 3) := dk_184 0 133 (dk_at dksX0_bestNext_2 18 rfl rfl)
theorem dX0_bestNext_67 : decode cX0_bestNext 67 = .ok (.istore_n 2, 1) := dk_61 (dk_at dksX0_bestNext_2 21 rfl rfl)
theorem dX0_bestNext_68 : decode cX0_bestNext 68 = .ok (.aload_n 0, 1) := dk_42 (dk_at dksX0_bestNext_2 22 rfl rfl)
theorem dX0_bestNext_69 : decode cX0_bestNext 69 = .ok (.getfield 127, 3) := dk_180 0 127 (dk_at dksX0_bestNext_3 0 rfl rfl)
theorem dX0_bestNext_72 : decode cX0_bestNext 72 = .ok (.invokevirtual 123, 3) := dk_182 0 123 (dk_at dksX0_bestNext_3 3 rfl rfl)
theorem dX0_bestNext_75 : decode cX0_bestNext 75 = .ok (.istore_n 3, 1) := dk_62 (dk_at dksX0_bestNext_3 6 rfl rfl)
theorem dX0_bestNext_76 : decode cX0_bestNext 76 = .ok (.goto (-65), 3) := dk_167 255 191 (dk_at dksX0_bestNext_3 7 rfl rfl)
theorem dX0_bestNext_79 : decode cX0_bestNext 79 = .ok (.iload_n 2, 1) := dk_28 (dk_at dksX0_bestNext_3 10 rfl rfl)
theorem dX0_bestNext_80 : decode cX0_bestNext 80 = .ok (.ireturn, 1) := dk_172 (dk_at dksX0_bestNext_3 11 rfl rfl)
abbrev cX0_seldom : ByteArray := prog_1_method_28_code
def yX0_seldom : MethodName := ⟨RX0, "seldom", "(II)I"⟩
def dkwX0_seldom_3 : List UInt8 := [182, 1, 11, 54, 4, 167, 255, 219, 29, 172]
abbrev dktX0_seldom_3 : List UInt8 := dkwX0_seldom_3 ++ []
def dkwX0_seldom_2 : List UInt8 := [28, 161, 0, 31, 132, 3, 1, 42, 180, 0, 17, 27, 50, 21, 4, 42, 180, 0, 17, 27, 50, 180, 0, 239]
abbrev dktX0_seldom_2 : List UInt8 := dkwX0_seldom_2 ++ dktX0_seldom_3
def dkwX0_seldom_1 : List UInt8 := [16, 253, 172, 3, 62, 42, 180, 0, 178, 3, 3, 182, 1, 11, 54, 4, 29, 16, 99, 162, 0, 37, 21, 4]
abbrev dktX0_seldom_1 : List UInt8 := dkwX0_seldom_1 ++ dktX0_seldom_2
def dkwX0_seldom_0 : List UInt8 := [42, 27, 182, 0, 35, 154, 0, 6, 16, 254, 172, 28, 133, 10, 20, 1, 9, 184, 0, 5, 154, 0, 6]
abbrev dktX0_seldom_0 : List UInt8 := dkwX0_seldom_0 ++ dktX0_seldom_1
theorem dksX0_seldom_0 : cX0_seldom.data.toList.drop 0 = dktX0_seldom_0 := by decide +kernel
theorem dksX0_seldom_1 : cX0_seldom.data.toList.drop 23 = dktX0_seldom_1 := dk_seg dksX0_seldom_0 23 rfl rfl
theorem dksX0_seldom_2 : cX0_seldom.data.toList.drop 47 = dktX0_seldom_2 := dk_seg dksX0_seldom_1 24 rfl rfl
theorem dksX0_seldom_3 : cX0_seldom.data.toList.drop 71 = dktX0_seldom_3 := dk_seg dksX0_seldom_2 24 rfl rfl
theorem dX0_seldom_0 : decode cX0_seldom 0 = .ok (.aload_n 0, 1) := dk_42 (dk_at dksX0_seldom_0 0 rfl rfl)
theorem dX0_seldom_1 : decode cX0_seldom 1 = .ok (.iload_n 1, 1) := dk_27 (dk_at dksX0_seldom_0 1 rfl rfl)
theorem dX0_seldom_2 : decode cX0_seldom 2 = .ok (.invokevirtual 35, 3) := dk_182 0 35 (dk_at dksX0_seldom_0 2 rfl rfl)
theorem dX0_seldom_5 : decode cX0_seldom 5 = .ok (.ifCond .ne 6, 3) := dk_154 0 6 (dk_at dksX0_seldom_0 5 rfl rfl)
theorem dX0_seldom_8 : decode cX0_seldom 8 = .ok (.bipush (-2), 2) := dk_16 254 (dk_at dksX0_seldom_0 8 rfl rfl)
theorem dX0_seldom_10 : decode cX0_seldom 10 = .ok (.ireturn, 1) := dk_172 (dk_at dksX0_seldom_0 10 rfl rfl)
theorem dX0_seldom_11 : decode cX0_seldom 11 = .ok (.iload_n 2, 1) := dk_28 (dk_at dksX0_seldom_0 11 rfl rfl)
theorem dX0_seldom_12 : decode cX0_seldom 12 = .ok (.i2l, 1) := dk_133 (dk_at dksX0_seldom_0 12 rfl rfl)
theorem dX0_seldom_13 : decode cX0_seldom 13 = .ok (.lconst 1, 1) := dk_10 (dk_at dksX0_seldom_0 13 rfl rfl)
theorem dX0_seldom_14 : decode cX0_seldom 14 = .ok (.ldc2_w 265, 3) := dk_20 1 9 (dk_at dksX0_seldom_0 14 rfl rfl)
theorem dX0_seldom_17 : decode cX0_seldom 17 = .ok (.invokestatic 5, 3) := dk_184 0 5 (dk_at dksX0_seldom_0 17 rfl rfl)
theorem dX0_seldom_20 : decode cX0_seldom 20 = .ok (.ifCond .ne 6, 3) := dk_154 0 6 (dk_at dksX0_seldom_0 20 rfl rfl)
theorem dX0_seldom_23 : decode cX0_seldom 23 = .ok (.bipush (-3), 2) := dk_16 253 (dk_at dksX0_seldom_1 0 rfl rfl)
theorem dX0_seldom_25 : decode cX0_seldom 25 = .ok (.ireturn, 1) := dk_172 (dk_at dksX0_seldom_1 2 rfl rfl)
theorem dX0_seldom_26 : decode cX0_seldom 26 = .ok (.iconst 0, 1) := dk_3 (dk_at dksX0_seldom_1 3 rfl rfl)
theorem dX0_seldom_27 : decode cX0_seldom 27 = .ok (.istore_n 3, 1) := dk_62 (dk_at dksX0_seldom_1 4 rfl rfl)
theorem dX0_seldom_28 : decode cX0_seldom 28 = .ok (.aload_n 0, 1) := dk_42 (dk_at dksX0_seldom_1 5 rfl rfl)
theorem dX0_seldom_29 : decode cX0_seldom 29 = .ok (.getfield 178, 3) := dk_180 0 178 (dk_at dksX0_seldom_1 6 rfl rfl)
theorem dX0_seldom_32 : decode cX0_seldom 32 = .ok (.iconst 0, 1) := dk_3 (dk_at dksX0_seldom_1 9 rfl rfl)
theorem dX0_seldom_33 : decode cX0_seldom 33 = .ok (.iconst 0, 1) := dk_3 (dk_at dksX0_seldom_1 10 rfl rfl)
theorem dX0_seldom_34 : decode cX0_seldom 34 = .ok (.invokevirtual 267, 3) := dk_182 1 11 (dk_at dksX0_seldom_1 11 rfl rfl)
theorem dX0_seldom_37 : decode cX0_seldom 37 = .ok (.istore 4, 2) := dk_54 4 (dk_at dksX0_seldom_1 14 rfl rfl)
theorem dX0_seldom_39 : decode cX0_seldom 39 = .ok (.iload_n 3, 1) := dk_29 (dk_at dksX0_seldom_1 16 rfl rfl)
theorem dX0_seldom_40 : decode cX0_seldom 40 = .ok (.bipush 99, 2) := dk_16 99 (dk_at dksX0_seldom_1 17 rfl rfl)
theorem dX0_seldom_42 : decode cX0_seldom 42 = .ok (.if_icmp .ge 37, 3) := dk_162 0 37 (dk_at dksX0_seldom_1 19 rfl rfl)
theorem dX0_seldom_45 : decode cX0_seldom 45 = .ok (.iload 4, 2) := dk_21 4 (dk_at dksX0_seldom_1 22 rfl rfl)
theorem dX0_seldom_47 : decode cX0_seldom 47 = .ok (.iload_n 2, 1) := dk_28 (dk_at dksX0_seldom_2 0 rfl rfl)
theorem dX0_seldom_48 : decode cX0_seldom 48 = .ok (.if_icmp .lt 31, 3) := dk_161 0 31 (dk_at dksX0_seldom_2 1 rfl rfl)
theorem dX0_seldom_51 : decode cX0_seldom 51 = .ok (.iinc 3 1, 3) := dk_132 3 1 (dk_at dksX0_seldom_2 4 rfl rfl)
theorem dX0_seldom_54 : decode cX0_seldom 54 = .ok (.aload_n 0, 1) := dk_42 (dk_at dksX0_seldom_2 7 rfl rfl)
theorem dX0_seldom_55 : decode cX0_seldom 55 = .ok (.getfield 17, 3) := dk_180 0 17 (dk_at dksX0_seldom_2 8 rfl rfl)
theorem dX0_seldom_58 : decode cX0_seldom 58 = .ok (.iload_n 1, 1) := dk_27 (dk_at dksX0_seldom_2 11 rfl rfl)
theorem dX0_seldom_59 : decode cX0_seldom 59 = .ok (.aaload, 1) := dk_50 (dk_at dksX0_seldom_2 12 rfl rfl)
theorem dX0_seldom_60 : decode cX0_seldom 60 = .ok (.iload 4, 2) := dk_21 4 (dk_at dksX0_seldom_2 13 rfl rfl)
theorem dX0_seldom_62 : decode cX0_seldom 62 = .ok (.aload_n 0, 1) := dk_42 (dk_at dksX0_seldom_2 15 rfl rfl)
theorem dX0_seldom_63 : decode cX0_seldom 63 = .ok (.getfield 17, 3) := dk_180 0 17 (dk_at dksX0_seldom_2 16 rfl rfl)
theorem dX0_seldom_66 : decode cX0_seldom 66 = .ok (.iload_n 1, 1) := dk_27 (dk_at dksX0_seldom_2 19 rfl rfl)
theorem dX0_seldom_67 : decode cX0_seldom 67 = .ok (.aaload, 1) := dk_50 (dk_at dksX0_seldom_2 20 rfl rfl)
theorem dX0_seldom_68 : decode cX0_seldom 68 = .ok (.getfield 239, 3) := dk_180 0 239 (dk_at dksX0_seldom_2 21 rfl rfl)
theorem dX0_seldom_71 : decode cX0_seldom 71 = .ok (.invokevirtual 267, 3) := dk_182 1 11 (dk_at dksX0_seldom_3 0 rfl rfl)
theorem dX0_seldom_74 : decode cX0_seldom 74 = .ok (.istore 4, 2) := dk_54 4 (dk_at dksX0_seldom_3 3 rfl rfl)
theorem dX0_seldom_76 : decode cX0_seldom 76 = .ok (.goto (-37), 3) := dk_167 255 219 (dk_at dksX0_seldom_3 5 rfl rfl)
theorem dX0_seldom_79 : decode cX0_seldom 79 = .ok (.iload_n 3, 1) := dk_29 (dk_at dksX0_seldom_3 8 rfl rfl)
theorem dX0_seldom_80 : decode cX0_seldom 80 = .ok (.ireturn, 1) := dk_172 (dk_at dksX0_seldom_3 9 rfl rfl)
abbrev cX0_lasts : ByteArray := prog_1_method_29_code
def yX0_lasts : MethodName := ⟨RX0, "lasts", "(II)I"⟩
def dkwX0_lasts_3 : List UInt8 := [132, 5, 1, 167, 255, 226, 21, 5, 172]
abbrev dktX0_lasts_3 : List UInt8 := dkwX0_lasts_3 ++ []
def dkwX0_lasts_2 : List UInt8 := [161, 0, 30, 45, 180, 0, 239, 154, 0, 5, 2, 172, 45, 21, 4, 45, 180, 0, 239, 182, 1, 11, 54, 4]
abbrev dktX0_lasts_2 : List UInt8 := dkwX0_lasts_2 ++ dktX0_lasts_3
def dkwX0_lasts_1 : List UInt8 := [16, 253, 172, 42, 180, 0, 17, 27, 50, 78, 45, 180, 0, 236, 54, 4, 3, 54, 5, 21, 4, 28]
abbrev dktX0_lasts_1 : List UInt8 := dkwX0_lasts_1 ++ dktX0_lasts_2
def dkwX0_lasts_0 : List UInt8 := [42, 27, 182, 0, 35, 154, 0, 6, 16, 254, 172, 28, 133, 10, 20, 1, 9, 184, 0, 5, 154, 0, 6]
abbrev dktX0_lasts_0 : List UInt8 := dkwX0_lasts_0 ++ dktX0_lasts_1
theorem dksX0_lasts_0 : cX0_lasts.data.toList.drop 0 = dktX0_lasts_0 := by decide +kernel
theorem dksX0_lasts_1 : cX0_lasts.data.toList.drop 23 = dktX0_lasts_1 := dk_seg dksX0_lasts_0 23 rfl rfl
theorem dksX0_lasts_2 : cX0_lasts.data.toList.drop 45 = dktX0_lasts_2 := dk_seg dksX0_lasts_1 22 rfl rfl
theorem dksX0_lasts_3 : cX0_lasts.data.toList.drop 69 = dktX0_lasts_3 := dk_seg dksX0_lasts_2 24 rfl rfl
theorem dX0_lasts_0 : decode cX0_lasts 0 = .ok (.aload_n 0, 1) := dk_42 (dk_at dksX0_lasts_0 0 rfl rfl)
theorem dX0_lasts_1 : decode cX0_lasts 1 = .ok (.iload_n 1, 1) := dk_27 (dk_at dksX0_lasts_0 1 rfl rfl)
theorem dX0_lasts_2 : decode cX0_lasts 2 = .ok (.invokevirtual 35, 3) := dk_182 0 35 (dk_at dksX0_lasts_0 2 rfl rfl)
theorem dX0_lasts_5 : decode cX0_lasts 5 = .ok (.ifCond .ne 6, 3) := dk_154 0 6 (dk_at dksX0_lasts_0 5 rfl rfl)
theorem dX0_lasts_8 : decode cX0_lasts 8 = .ok (.bipush (-2), 2) := dk_16 254 (dk_at dksX0_lasts_0 8 rfl rfl)
theorem dX0_lasts_10 : decode cX0_lasts 10 = .ok (.ireturn, 1) := dk_172 (dk_at dksX0_lasts_0 10 rfl rfl)
theorem dX0_lasts_11 : decode cX0_lasts 11 = .ok (.iload_n 2, 1) := dk_28 (dk_at dksX0_lasts_0 11 rfl rfl)
theorem dX0_lasts_12 : decode cX0_lasts 12 = .ok (.i2l, 1) := dk_133 (dk_at dksX0_lasts_0 12 rfl rfl)
theorem dX0_lasts_13 : decode cX0_lasts 13 = .ok (.lconst 1, 1) := dk_10 (dk_at dksX0_lasts_0 13 rfl rfl)
theorem dX0_lasts_14 : decode cX0_lasts 14 = .ok (.ldc2_w 265, 3) := dk_20 1 9 (dk_at dksX0_lasts_0 14 rfl rfl)
theorem dX0_lasts_17 : decode cX0_lasts 17 = .ok (.invokestatic 5, 3) := dk_184 0 5 (dk_at dksX0_lasts_0 17 rfl rfl)
theorem dX0_lasts_20 : decode cX0_lasts 20 = .ok (.ifCond .ne 6, 3) := dk_154 0 6 (dk_at dksX0_lasts_0 20 rfl rfl)
theorem dX0_lasts_23 : decode cX0_lasts 23 = .ok (.bipush (-3), 2) := dk_16 253 (dk_at dksX0_lasts_1 0 rfl rfl)
theorem dX0_lasts_25 : decode cX0_lasts 25 = .ok (.ireturn, 1) := dk_172 (dk_at dksX0_lasts_1 2 rfl rfl)
theorem dX0_lasts_26 : decode cX0_lasts 26 = .ok (.aload_n 0, 1) := dk_42 (dk_at dksX0_lasts_1 3 rfl rfl)
theorem dX0_lasts_27 : decode cX0_lasts 27 = .ok (.getfield 17, 3) := dk_180 0 17 (dk_at dksX0_lasts_1 4 rfl rfl)
theorem dX0_lasts_30 : decode cX0_lasts 30 = .ok (.iload_n 1, 1) := dk_27 (dk_at dksX0_lasts_1 7 rfl rfl)
theorem dX0_lasts_31 : decode cX0_lasts 31 = .ok (.aaload, 1) := dk_50 (dk_at dksX0_lasts_1 8 rfl rfl)
theorem dX0_lasts_32 : decode cX0_lasts 32 = .ok (.astore_n 3, 1) := dk_78 (dk_at dksX0_lasts_1 9 rfl rfl)
theorem dX0_lasts_33 : decode cX0_lasts 33 = .ok (.aload_n 3, 1) := dk_45 (dk_at dksX0_lasts_1 10 rfl rfl)
theorem dX0_lasts_34 : decode cX0_lasts 34 = .ok (.getfield 236, 3) := dk_180 0 236 (dk_at dksX0_lasts_1 11 rfl rfl)
theorem dX0_lasts_37 : decode cX0_lasts 37 = .ok (.istore 4, 2) := dk_54 4 (dk_at dksX0_lasts_1 14 rfl rfl)
theorem dX0_lasts_39 : decode cX0_lasts 39 = .ok (.iconst 0, 1) := dk_3 (dk_at dksX0_lasts_1 16 rfl rfl)
theorem dX0_lasts_40 : decode cX0_lasts 40 = .ok (.istore 5, 2) := dk_54 5 (dk_at dksX0_lasts_1 17 rfl rfl)
theorem dX0_lasts_42 : decode cX0_lasts 42 = .ok (.iload 4, 2) := dk_21 4 (dk_at dksX0_lasts_1 19 rfl rfl)
theorem dX0_lasts_44 : decode cX0_lasts 44 = .ok (.iload_n 2, 1) := dk_28 (dk_at dksX0_lasts_1 21 rfl rfl)
theorem dX0_lasts_45 : decode cX0_lasts 45 = .ok (.if_icmp .lt 30, 3) := dk_161 0 30 (dk_at dksX0_lasts_2 0 rfl rfl)
theorem dX0_lasts_48 : decode cX0_lasts 48 = .ok (.aload_n 3, 1) := dk_45 (dk_at dksX0_lasts_2 3 rfl rfl)
theorem dX0_lasts_49 : decode cX0_lasts 49 = .ok (.getfield 239, 3) := dk_180 0 239 (dk_at dksX0_lasts_2 4 rfl rfl)
theorem dX0_lasts_52 : decode cX0_lasts 52 = .ok (.ifCond .ne 5, 3) := dk_154 0 5 (dk_at dksX0_lasts_2 7 rfl rfl)
theorem dX0_lasts_55 : decode cX0_lasts 55 = .ok (.iconst (-1), 1) := dk_2 (dk_at dksX0_lasts_2 10 rfl rfl)
theorem dX0_lasts_56 : decode cX0_lasts 56 = .ok (.ireturn, 1) := dk_172 (dk_at dksX0_lasts_2 11 rfl rfl)
theorem dX0_lasts_57 : decode cX0_lasts 57 = .ok (.aload_n 3, 1) := dk_45 (dk_at dksX0_lasts_2 12 rfl rfl)
theorem dX0_lasts_58 : decode cX0_lasts 58 = .ok (.iload 4, 2) := dk_21 4 (dk_at dksX0_lasts_2 13 rfl rfl)
theorem dX0_lasts_60 : decode cX0_lasts 60 = .ok (.aload_n 3, 1) := dk_45 (dk_at dksX0_lasts_2 15 rfl rfl)
theorem dX0_lasts_61 : decode cX0_lasts 61 = .ok (.getfield 239, 3) := dk_180 0 239 (dk_at dksX0_lasts_2 16 rfl rfl)
theorem dX0_lasts_64 : decode cX0_lasts 64 = .ok (.invokevirtual 267, 3) := dk_182 1 11 (dk_at dksX0_lasts_2 19 rfl rfl)
theorem dX0_lasts_67 : decode cX0_lasts 67 = .ok (.istore 4, 2) := dk_54 4 (dk_at dksX0_lasts_2 22 rfl rfl)
theorem dX0_lasts_69 : decode cX0_lasts 69 = .ok (.iinc 5 1, 3) := dk_132 5 1 (dk_at dksX0_lasts_3 0 rfl rfl)
theorem dX0_lasts_72 : decode cX0_lasts 72 = .ok (.goto (-30), 3) := dk_167 255 226 (dk_at dksX0_lasts_3 3 rfl rfl)
theorem dX0_lasts_75 : decode cX0_lasts 75 = .ok (.iload 5, 2) := dk_21 5 (dk_at dksX0_lasts_3 6 rfl rfl)
theorem dX0_lasts_77 : decode cX0_lasts 77 = .ok (.ireturn, 1) := dk_172 (dk_at dksX0_lasts_3 8 rfl rfl)
abbrev cX0_cheapest : ByteArray := prog_1_method_30_code
def yX0_cheapest : MethodName := ⟨RX0, "cheapest", "(III)I"⟩
def dkwX0_cheapest_8 : List UInt8 := [29, 154, 0, 8, 21, 4, 167, 0, 5, 21, 5, 172]
abbrev dktX0_cheapest_8 : List UInt8 := dkwX0_cheapest_8 ++ []
def dkwX0_cheapest_7 : List UInt8 := [21, 6, 167, 0, 5, 21, 4, 54, 4, 21, 7, 21, 5, 184, 0, 133, 54, 5, 132, 6, 1, 167, 255, 165]
abbrev dktX0_cheapest_7 : List UInt8 := dkwX0_cheapest_7 ++ dktX0_cheapest_8
def dkwX0_cheapest_6 : List UInt8 := [132, 7, 1, 167, 255, 216, 42, 42, 180, 0, 183, 182, 1, 1, 54, 7, 21, 7, 21, 5, 162, 0, 8]
abbrev dktX0_cheapest_6 : List UInt8 := dkwX0_cheapest_6 ++ dktX0_cheapest_7
def dkwX0_cheapest_5 : List UInt8 := [21, 7, 50, 27, 21, 6, 158, 0, 15, 21, 7, 21, 6, 112, 154, 0, 7, 4, 167, 0, 4, 3, 84]
abbrev dktX0_cheapest_5 : List UInt8 := dkwX0_cheapest_5 ++ dktX0_cheapest_6
def dkwX0_cheapest_4 : List UInt8 := [21, 6, 16, 21, 163, 0, 90, 3, 54, 7, 21, 7, 16, 21, 162, 0, 39, 42, 180, 0, 183, 180, 0, 38]
abbrev dktX0_cheapest_4 : List UInt8 := dkwX0_cheapest_4 ++ dktX0_cheapest_5
def dkwX0_cheapest_3 : List UInt8 := [21, 4, 50, 28, 27, 145, 84, 132, 4, 1, 167, 255, 222, 3, 54, 4, 19, 1, 20, 54, 5, 3, 54, 6]
abbrev dktX0_cheapest_3 : List UInt8 := dkwX0_cheapest_3 ++ dktX0_cheapest_4
def dkwX0_cheapest_2 : List UInt8 := [21, 4, 16, 21, 162, 0, 33, 42, 180, 0, 183, 21, 4, 27, 182, 1, 17, 42, 180, 0, 183, 180, 0, 25]
abbrev dktX0_cheapest_2 : List UInt8 := dkwX0_cheapest_2 ++ dktX0_cheapest_3
def dkwX0_cheapest_1 : List UInt8 := [184, 0, 5, 154, 0, 6, 16, 253, 172, 42, 180, 0, 183, 42, 180, 0, 82, 182, 1, 14, 3, 54, 4]
abbrev dktX0_cheapest_1 : List UInt8 := dkwX0_cheapest_1 ++ dktX0_cheapest_2
def dkwX0_cheapest_0 : List UInt8 := [42, 27, 182, 0, 35, 153, 0, 11, 42, 28, 182, 0, 31, 154, 0, 6, 16, 254, 172, 29, 133, 9, 10]
abbrev dktX0_cheapest_0 : List UInt8 := dkwX0_cheapest_0 ++ dktX0_cheapest_1
theorem dksX0_cheapest_0 : cX0_cheapest.data.toList.drop 0 = dktX0_cheapest_0 := by decide +kernel
theorem dksX0_cheapest_1 : cX0_cheapest.data.toList.drop 23 = dktX0_cheapest_1 := dk_seg dksX0_cheapest_0 23 rfl rfl
theorem dksX0_cheapest_2 : cX0_cheapest.data.toList.drop 46 = dktX0_cheapest_2 := dk_seg dksX0_cheapest_1 23 rfl rfl
theorem dksX0_cheapest_3 : cX0_cheapest.data.toList.drop 70 = dktX0_cheapest_3 := dk_seg dksX0_cheapest_2 24 rfl rfl
theorem dksX0_cheapest_4 : cX0_cheapest.data.toList.drop 94 = dktX0_cheapest_4 := dk_seg dksX0_cheapest_3 24 rfl rfl
theorem dksX0_cheapest_5 : cX0_cheapest.data.toList.drop 118 = dktX0_cheapest_5 := dk_seg dksX0_cheapest_4 24 rfl rfl
theorem dksX0_cheapest_6 : cX0_cheapest.data.toList.drop 141 = dktX0_cheapest_6 := dk_seg dksX0_cheapest_5 23 rfl rfl
theorem dksX0_cheapest_7 : cX0_cheapest.data.toList.drop 164 = dktX0_cheapest_7 := dk_seg dksX0_cheapest_6 23 rfl rfl
theorem dksX0_cheapest_8 : cX0_cheapest.data.toList.drop 188 = dktX0_cheapest_8 := dk_seg dksX0_cheapest_7 24 rfl rfl
theorem dX0_cheapest_0 : decode cX0_cheapest 0 = .ok (.aload_n 0, 1) := dk_42 (dk_at dksX0_cheapest_0 0 rfl rfl)
theorem dX0_cheapest_1 : decode cX0_cheapest 1 = .ok (.iload_n 1, 1) := dk_27 (dk_at dksX0_cheapest_0 1 rfl rfl)
theorem dX0_cheapest_2 : decode cX0_cheapest 2 = .ok (.invokevirtual 35, 3) := dk_182 0 35 (dk_at dksX0_cheapest_0 2 rfl rfl)
theorem dX0_cheapest_5 : decode cX0_cheapest 5 = .ok (.ifCond .eq 11, 3) := dk_153 0 11 (dk_at dksX0_cheapest_0 5 rfl rfl)
theorem dX0_cheapest_8 : decode cX0_cheapest 8 = .ok (.aload_n 0, 1) := dk_42 (dk_at dksX0_cheapest_0 8 rfl rfl)
theorem dX0_cheapest_9 : decode cX0_cheapest 9 = .ok (.iload_n 2, 1) := dk_28 (dk_at dksX0_cheapest_0 9 rfl rfl)
theorem dX0_cheapest_10 : decode cX0_cheapest 10 = .ok (.invokevirtual 31, 3) := dk_182 0 31 (dk_at dksX0_cheapest_0 10 rfl rfl)
theorem dX0_cheapest_13 : decode cX0_cheapest 13 = .ok (.ifCond .ne 6, 3) := dk_154 0 6 (dk_at dksX0_cheapest_0 13 rfl rfl)
theorem dX0_cheapest_16 : decode cX0_cheapest 16 = .ok (.bipush (-2), 2) := dk_16 254 (dk_at dksX0_cheapest_0 16 rfl rfl)
theorem dX0_cheapest_18 : decode cX0_cheapest 18 = .ok (.ireturn, 1) := dk_172 (dk_at dksX0_cheapest_0 18 rfl rfl)
theorem dX0_cheapest_19 : decode cX0_cheapest 19 = .ok (.iload_n 3, 1) := dk_29 (dk_at dksX0_cheapest_0 19 rfl rfl)
theorem dX0_cheapest_20 : decode cX0_cheapest 20 = .ok (.i2l, 1) := dk_133 (dk_at dksX0_cheapest_0 20 rfl rfl)
theorem dX0_cheapest_21 : decode cX0_cheapest 21 = .ok (.lconst 0, 1) := dk_9 (dk_at dksX0_cheapest_0 21 rfl rfl)
theorem dX0_cheapest_22 : decode cX0_cheapest 22 = .ok (.lconst 1, 1) := dk_10 (dk_at dksX0_cheapest_0 22 rfl rfl)
theorem dX0_cheapest_23 : decode cX0_cheapest 23 = .ok (.invokestatic 5, 3) := dk_184 0 5 (dk_at dksX0_cheapest_1 0 rfl rfl)
theorem dX0_cheapest_26 : decode cX0_cheapest 26 = .ok (.ifCond .ne 6, 3) := dk_154 0 6 (dk_at dksX0_cheapest_1 3 rfl rfl)
theorem dX0_cheapest_29 : decode cX0_cheapest 29 = .ok (.bipush (-3), 2) := dk_16 253 (dk_at dksX0_cheapest_1 6 rfl rfl)
theorem dX0_cheapest_31 : decode cX0_cheapest 31 = .ok (.ireturn, 1) := dk_172 (dk_at dksX0_cheapest_1 8 rfl rfl)
theorem dX0_cheapest_32 : decode cX0_cheapest 32 = .ok (.aload_n 0, 1) := dk_42 (dk_at dksX0_cheapest_1 9 rfl rfl)
theorem dX0_cheapest_33 : decode cX0_cheapest 33 = .ok (.getfield 183, 3) := dk_180 0 183 (dk_at dksX0_cheapest_1 10 rfl rfl)
theorem dX0_cheapest_36 : decode cX0_cheapest 36 = .ok (.aload_n 0, 1) := dk_42 (dk_at dksX0_cheapest_1 13 rfl rfl)
theorem dX0_cheapest_37 : decode cX0_cheapest 37 = .ok (.getfield 82, 3) := dk_180 0 82 (dk_at dksX0_cheapest_1 14 rfl rfl)
theorem dX0_cheapest_40 : decode cX0_cheapest 40 = .ok (.invokevirtual 270, 3) := dk_182 1 14 (dk_at dksX0_cheapest_1 17 rfl rfl)
theorem dX0_cheapest_43 : decode cX0_cheapest 43 = .ok (.iconst 0, 1) := dk_3 (dk_at dksX0_cheapest_1 20 rfl rfl)
theorem dX0_cheapest_44 : decode cX0_cheapest 44 = .ok (.istore 4, 2) := dk_54 4 (dk_at dksX0_cheapest_1 21 rfl rfl)
theorem dX0_cheapest_46 : decode cX0_cheapest 46 = .ok (.iload 4, 2) := dk_21 4 (dk_at dksX0_cheapest_2 0 rfl rfl)
theorem dX0_cheapest_48 : decode cX0_cheapest 48 = .ok (.bipush 21, 2) := dk_16 21 (dk_at dksX0_cheapest_2 2 rfl rfl)
theorem dX0_cheapest_50 : decode cX0_cheapest 50 = .ok (.if_icmp .ge 33, 3) := dk_162 0 33 (dk_at dksX0_cheapest_2 4 rfl rfl)
theorem dX0_cheapest_53 : decode cX0_cheapest 53 = .ok (.aload_n 0, 1) := dk_42 (dk_at dksX0_cheapest_2 7 rfl rfl)
theorem dX0_cheapest_54 : decode cX0_cheapest 54 = .ok (.getfield 183, 3) := dk_180 0 183 (dk_at dksX0_cheapest_2 8 rfl rfl)
theorem dX0_cheapest_57 : decode cX0_cheapest 57 = .ok (.iload 4, 2) := dk_21 4 (dk_at dksX0_cheapest_2 11 rfl rfl)
theorem dX0_cheapest_59 : decode cX0_cheapest 59 = .ok (.iload_n 1, 1) := dk_27 (dk_at dksX0_cheapest_2 13 rfl rfl)
theorem dX0_cheapest_60 : decode cX0_cheapest 60 = .ok (.invokevirtual 273, 3) := dk_182 1 17 (dk_at dksX0_cheapest_2 14 rfl rfl)
theorem dX0_cheapest_63 : decode cX0_cheapest 63 = .ok (.aload_n 0, 1) := dk_42 (dk_at dksX0_cheapest_2 17 rfl rfl)
theorem dX0_cheapest_64 : decode cX0_cheapest 64 = .ok (.getfield 183, 3) := dk_180 0 183 (dk_at dksX0_cheapest_2 18 rfl rfl)
theorem dX0_cheapest_67 : decode cX0_cheapest 67 = .ok (.getfield 25, 3) := dk_180 0 25 (dk_at dksX0_cheapest_2 21 rfl rfl)
theorem dX0_cheapest_70 : decode cX0_cheapest 70 = .ok (.iload 4, 2) := dk_21 4 (dk_at dksX0_cheapest_3 0 rfl rfl)
theorem dX0_cheapest_72 : decode cX0_cheapest 72 = .ok (.aaload, 1) := dk_50 (dk_at dksX0_cheapest_3 2 rfl rfl)
theorem dX0_cheapest_73 : decode cX0_cheapest 73 = .ok (.iload_n 2, 1) := dk_28 (dk_at dksX0_cheapest_3 3 rfl rfl)
theorem dX0_cheapest_74 : decode cX0_cheapest 74 = .ok (.iload_n 1, 1) := dk_27 (dk_at dksX0_cheapest_3 4 rfl rfl)
theorem dX0_cheapest_75 : decode cX0_cheapest 75 = .ok (.i2b, 1) := dk_145 (dk_at dksX0_cheapest_3 5 rfl rfl)
theorem dX0_cheapest_76 : decode cX0_cheapest 76 = .ok (.bastore, 1) := dk_84 (dk_at dksX0_cheapest_3 6 rfl rfl)
theorem dX0_cheapest_77 : decode cX0_cheapest 77 = .ok (.iinc 4 1, 3) := dk_132 4 1 (dk_at dksX0_cheapest_3 7 rfl rfl)
theorem dX0_cheapest_80 : decode cX0_cheapest 80 = .ok (.goto (-34), 3) := dk_167 255 222 (dk_at dksX0_cheapest_3 10 rfl rfl)
theorem dX0_cheapest_83 : decode cX0_cheapest 83 = .ok (.iconst 0, 1) := dk_3 (dk_at dksX0_cheapest_3 13 rfl rfl)
theorem dX0_cheapest_84 : decode cX0_cheapest 84 = .ok (.istore 4, 2) := dk_54 4 (dk_at dksX0_cheapest_3 14 rfl rfl)
theorem dX0_cheapest_86 : decode cX0_cheapest 86 = .ok (.ldc_w 276, 3) := dk_19 1 20 (dk_at dksX0_cheapest_3 16 rfl rfl)
theorem dX0_cheapest_89 : decode cX0_cheapest 89 = .ok (.istore 5, 2) := dk_54 5 (dk_at dksX0_cheapest_3 19 rfl rfl)
theorem dX0_cheapest_91 : decode cX0_cheapest 91 = .ok (.iconst 0, 1) := dk_3 (dk_at dksX0_cheapest_3 21 rfl rfl)
theorem dX0_cheapest_92 : decode cX0_cheapest 92 = .ok (.istore 6, 2) := dk_54 6 (dk_at dksX0_cheapest_3 22 rfl rfl)
theorem dX0_cheapest_94 : decode cX0_cheapest 94 = .ok (.iload 6, 2) := dk_21 6 (dk_at dksX0_cheapest_4 0 rfl rfl)
theorem dX0_cheapest_96 : decode cX0_cheapest 96 = .ok (.bipush 21, 2) := dk_16 21 (dk_at dksX0_cheapest_4 2 rfl rfl)
theorem dX0_cheapest_98 : decode cX0_cheapest 98 = .ok (.if_icmp .gt 90, 3) := dk_163 0 90 (dk_at dksX0_cheapest_4 4 rfl rfl)
theorem dX0_cheapest_101 : decode cX0_cheapest 101 = .ok (.iconst 0, 1) := dk_3 (dk_at dksX0_cheapest_4 7 rfl rfl)
theorem dX0_cheapest_102 : decode cX0_cheapest 102 = .ok (.istore 7, 2) := dk_54 7 (dk_at dksX0_cheapest_4 8 rfl rfl)
theorem dX0_cheapest_104 : decode cX0_cheapest 104 = .ok (.iload 7, 2) := dk_21 7 (dk_at dksX0_cheapest_4 10 rfl rfl)
theorem dX0_cheapest_106 : decode cX0_cheapest 106 = .ok (.bipush 21, 2) := dk_16 21 (dk_at dksX0_cheapest_4 12 rfl rfl)
theorem dX0_cheapest_108 : decode cX0_cheapest 108 = .ok (.if_icmp .ge 39, 3) := dk_162 0 39 (dk_at dksX0_cheapest_4 14 rfl rfl)
theorem dX0_cheapest_111 : decode cX0_cheapest 111 = .ok (.aload_n 0, 1) := dk_42 (dk_at dksX0_cheapest_4 17 rfl rfl)
theorem dX0_cheapest_112 : decode cX0_cheapest 112 = .ok (.getfield 183, 3) := dk_180 0 183 (dk_at dksX0_cheapest_4 18 rfl rfl)
theorem dX0_cheapest_115 : decode cX0_cheapest 115 = .ok (.getfield 38, 3) := dk_180 0 38 (dk_at dksX0_cheapest_4 21 rfl rfl)
theorem dX0_cheapest_118 : decode cX0_cheapest 118 = .ok (.iload 7, 2) := dk_21 7 (dk_at dksX0_cheapest_5 0 rfl rfl)
theorem dX0_cheapest_120 : decode cX0_cheapest 120 = .ok (.aaload, 1) := dk_50 (dk_at dksX0_cheapest_5 2 rfl rfl)
theorem dX0_cheapest_121 : decode cX0_cheapest 121 = .ok (.iload_n 1, 1) := dk_27 (dk_at dksX0_cheapest_5 3 rfl rfl)
theorem dX0_cheapest_122 : decode cX0_cheapest 122 = .ok (.iload 6, 2) := dk_21 6 (dk_at dksX0_cheapest_5 4 rfl rfl)
theorem dX0_cheapest_124 : decode cX0_cheapest 124 = .ok (.ifCond .le 15, 3) := dk_158 0 15 (dk_at dksX0_cheapest_5 6 rfl rfl)
theorem dX0_cheapest_127 : decode cX0_cheapest 127 = .ok (.iload 7, 2) := dk_21 7 (dk_at dksX0_cheapest_5 9 rfl rfl)
theorem dX0_cheapest_129 : decode cX0_cheapest 129 = .ok (.iload 6, 2) := dk_21 6 (dk_at dksX0_cheapest_5 11 rfl rfl)
theorem dX0_cheapest_131 : decode cX0_cheapest 131 = .ok (.irem, 1) := dk_112 (dk_at dksX0_cheapest_5 13 rfl rfl)
theorem dX0_cheapest_132 : decode cX0_cheapest 132 = .ok (.ifCond .ne 7, 3) := dk_154 0 7 (dk_at dksX0_cheapest_5 14 rfl rfl)
theorem dX0_cheapest_135 : decode cX0_cheapest 135 = .ok (.iconst 1, 1) := dk_4 (dk_at dksX0_cheapest_5 17 rfl rfl)
theorem dX0_cheapest_136 : decode cX0_cheapest 136 = .ok (.goto 4, 3) := dk_167 0 4 (dk_at dksX0_cheapest_5 18 rfl rfl)
theorem dX0_cheapest_139 : decode cX0_cheapest 139 = .ok (.iconst 0, 1) := dk_3 (dk_at dksX0_cheapest_5 21 rfl rfl)
theorem dX0_cheapest_140 : decode cX0_cheapest 140 = .ok (.bastore, 1) := dk_84 (dk_at dksX0_cheapest_5 22 rfl rfl)
theorem dX0_cheapest_141 : decode cX0_cheapest 141 = .ok (.iinc 7 1, 3) := dk_132 7 1 (dk_at dksX0_cheapest_6 0 rfl rfl)
theorem dX0_cheapest_144 : decode cX0_cheapest 144 = .ok (.goto (-40), 3) := dk_167 255 216 (dk_at dksX0_cheapest_6 3 rfl rfl)
theorem dX0_cheapest_147 : decode cX0_cheapest 147 = .ok (.aload_n 0, 1) := dk_42 (dk_at dksX0_cheapest_6 6 rfl rfl)
theorem dX0_cheapest_148 : decode cX0_cheapest 148 = .ok (.aload_n 0, 1) := dk_42 (dk_at dksX0_cheapest_6 7 rfl rfl)
theorem dX0_cheapest_149 : decode cX0_cheapest 149 = .ok (.getfield 183, 3) := dk_180 0 183 (dk_at dksX0_cheapest_6 8 rfl rfl)
theorem dX0_cheapest_152 : decode cX0_cheapest 152 = .ok (.invokevirtual 257, 3) := dk_182 1 1 (dk_at dksX0_cheapest_6 11 rfl rfl)
theorem dX0_cheapest_155 : decode cX0_cheapest 155 = .ok (.istore 7, 2) := dk_54 7 (dk_at dksX0_cheapest_6 14 rfl rfl)
theorem dX0_cheapest_157 : decode cX0_cheapest 157 = .ok (.iload 7, 2) := dk_21 7 (dk_at dksX0_cheapest_6 16 rfl rfl)
theorem dX0_cheapest_159 : decode cX0_cheapest 159 = .ok (.iload 5, 2) := dk_21 5 (dk_at dksX0_cheapest_6 18 rfl rfl)
theorem dX0_cheapest_161 : decode cX0_cheapest 161 = .ok (.if_icmp .ge 8, 3) := dk_162 0 8 (dk_at dksX0_cheapest_6 20 rfl rfl)
theorem dX0_cheapest_164 : decode cX0_cheapest 164 = .ok (.iload 6, 2) := dk_21 6 (dk_at dksX0_cheapest_7 0 rfl rfl)
theorem dX0_cheapest_166 : decode cX0_cheapest 166 = .ok (.goto 5, 3) := dk_167 0 5 (dk_at dksX0_cheapest_7 2 rfl rfl)
theorem dX0_cheapest_169 : decode cX0_cheapest 169 = .ok (.iload 4, 2) := dk_21 4 (dk_at dksX0_cheapest_7 5 rfl rfl)
theorem dX0_cheapest_171 : decode cX0_cheapest 171 = .ok (.istore 4, 2) := dk_54 4 (dk_at dksX0_cheapest_7 7 rfl rfl)
theorem dX0_cheapest_173 : decode cX0_cheapest 173 = .ok (.iload 7, 2) := dk_21 7 (dk_at dksX0_cheapest_7 9 rfl rfl)
theorem dX0_cheapest_175 : decode cX0_cheapest 175 = .ok (.iload 5, 2) := dk_21 5 (dk_at dksX0_cheapest_7 11 rfl rfl)
theorem dX0_cheapest_177 : decode cX0_cheapest 177 = .ok (.invokestatic 133, 3) := dk_184 0 133 (dk_at dksX0_cheapest_7 13 rfl rfl)
theorem dX0_cheapest_180 : decode cX0_cheapest 180 = .ok (.istore 5, 2) := dk_54 5 (dk_at dksX0_cheapest_7 16 rfl rfl)
theorem dX0_cheapest_182 : decode cX0_cheapest 182 = .ok (.iinc 6 1, 3) := dk_132 6 1 (dk_at dksX0_cheapest_7 18 rfl rfl)
theorem dX0_cheapest_185 : decode cX0_cheapest 185 = .ok (.goto (-91), 3) := dk_167 255 165 (dk_at dksX0_cheapest_7 21 rfl rfl)
theorem dX0_cheapest_188 : decode cX0_cheapest 188 = .ok (.iload_n 3, 1) := dk_29 (dk_at dksX0_cheapest_8 0 rfl rfl)
theorem dX0_cheapest_189 : decode cX0_cheapest 189 = .ok (.ifCond .ne 8, 3) := dk_154 0 8 (dk_at dksX0_cheapest_8 1 rfl rfl)
theorem dX0_cheapest_192 : decode cX0_cheapest 192 = .ok (.iload 4, 2) := dk_21 4 (dk_at dksX0_cheapest_8 4 rfl rfl)
theorem dX0_cheapest_194 : decode cX0_cheapest 194 = .ok (.goto 5, 3) := dk_167 0 5 (dk_at dksX0_cheapest_8 6 rfl rfl)
theorem dX0_cheapest_197 : decode cX0_cheapest 197 = .ok (.iload 5, 2) := dk_21 5 (dk_at dksX0_cheapest_8 9 rfl rfl)
theorem dX0_cheapest_199 : decode cX0_cheapest 199 = .ok (.ireturn, 1) := dk_172 (dk_at dksX0_cheapest_8 11 rfl rfl)
abbrev cX0_saved : ByteArray := prog_1_method_32_code
def yX0_saved : MethodName := ⟨RX0, "saved", "(I)I"⟩
def dkwX0_saved_1 : List UInt8 := [19, 1, 26, 96, 167, 0, 5, 16, 253, 172]
abbrev dktX0_saved_1 : List UInt8 := dkwX0_saved_1 ++ []
def dkwX0_saved_0 : List UInt8 := [27, 133, 9, 20, 1, 21, 184, 0, 5, 153, 0, 21, 42, 3, 182, 1, 23, 42, 27, 182, 1, 23, 100]
abbrev dktX0_saved_0 : List UInt8 := dkwX0_saved_0 ++ dktX0_saved_1
theorem dksX0_saved_0 : cX0_saved.data.toList.drop 0 = dktX0_saved_0 := by decide +kernel
theorem dksX0_saved_1 : cX0_saved.data.toList.drop 23 = dktX0_saved_1 := dk_seg dksX0_saved_0 23 rfl rfl
theorem dX0_saved_0 : decode cX0_saved 0 = .ok (.iload_n 1, 1) := dk_27 (dk_at dksX0_saved_0 0 rfl rfl)
theorem dX0_saved_1 : decode cX0_saved 1 = .ok (.i2l, 1) := dk_133 (dk_at dksX0_saved_0 1 rfl rfl)
theorem dX0_saved_2 : decode cX0_saved 2 = .ok (.lconst 0, 1) := dk_9 (dk_at dksX0_saved_0 2 rfl rfl)
theorem dX0_saved_3 : decode cX0_saved 3 = .ok (.ldc2_w 277, 3) := dk_20 1 21 (dk_at dksX0_saved_0 3 rfl rfl)
theorem dX0_saved_6 : decode cX0_saved 6 = .ok (.invokestatic 5, 3) := dk_184 0 5 (dk_at dksX0_saved_0 6 rfl rfl)
theorem dX0_saved_9 : decode cX0_saved 9 = .ok (.ifCond .eq 21, 3) := dk_153 0 21 (dk_at dksX0_saved_0 9 rfl rfl)
theorem dX0_saved_12 : decode cX0_saved 12 = .ok (.aload_n 0, 1) := dk_42 (dk_at dksX0_saved_0 12 rfl rfl)
theorem dX0_saved_13 : decode cX0_saved 13 = .ok (.iconst 0, 1) := dk_3 (dk_at dksX0_saved_0 13 rfl rfl)
theorem dX0_saved_14 : decode cX0_saved 14 = .ok (.invokevirtual 279, 3) := dk_182 1 23 (dk_at dksX0_saved_0 14 rfl rfl)
theorem dX0_saved_17 : decode cX0_saved 17 = .ok (.aload_n 0, 1) := dk_42 (dk_at dksX0_saved_0 17 rfl rfl)
theorem dX0_saved_18 : decode cX0_saved 18 = .ok (.iload_n 1, 1) := dk_27 (dk_at dksX0_saved_0 18 rfl rfl)
theorem dX0_saved_19 : decode cX0_saved 19 = .ok (.invokevirtual 279, 3) := dk_182 1 23 (dk_at dksX0_saved_0 19 rfl rfl)
theorem dX0_saved_22 : decode cX0_saved 22 = .ok (.isub, 1) := dk_100 (dk_at dksX0_saved_0 22 rfl rfl)
theorem dX0_saved_23 : decode cX0_saved 23 = .ok (.ldc_w 282, 3) := dk_19 1 26 (dk_at dksX0_saved_1 0 rfl rfl)
theorem dX0_saved_26 : decode cX0_saved 26 = .ok (.iadd, 1) := dk_96 (dk_at dksX0_saved_1 3 rfl rfl)
theorem dX0_saved_27 : decode cX0_saved 27 = .ok (.goto 5, 3) := dk_167 0 5 (dk_at dksX0_saved_1 4 rfl rfl)
theorem dX0_saved_30 : decode cX0_saved 30 = .ok (.bipush (-3), 2) := dk_16 253 (dk_at dksX0_saved_1 7 rfl rfl)
theorem dX0_saved_32 : decode cX0_saved 32 = .ok (.ireturn, 1) := dk_172 (dk_at dksX0_saved_1 9 rfl rfl)
abbrev cX0_lossOf : ByteArray := prog_1_method_31_code
def yX0_lossOf : MethodName := ⟨RX0, "lossOf", "(I)I"⟩
def dkwX0_lossOf_5 : List UInt8 := [172]
abbrev dktX0_lossOf_5 : List UInt8 := dkwX0_lossOf_5 ++ []
def dkwX0_lossOf_4 : List UInt8 := [167, 255, 185, 132, 2, 1, 167, 255, 171, 42, 180, 0, 45, 42, 180, 0, 183, 42, 180, 0, 21, 182, 0, 49]
abbrev dktX0_lossOf_4 : List UInt8 := dkwX0_lossOf_4 ++ dktX0_lossOf_5
def dkwX0_lossOf_3 : List UInt8 := [153, 0, 17, 42, 180, 0, 183, 180, 0, 25, 28, 50, 29, 51, 167, 0, 4, 2, 84, 132, 3, 1]
abbrev dktX0_lossOf_3 : List UInt8 := dkwX0_lossOf_3 ++ dktX0_lossOf_4
def dkwX0_lossOf_2 : List UInt8 := [4, 160, 0, 7, 4, 167, 0, 4, 3, 54, 4, 42, 180, 0, 183, 180, 0, 25, 28, 50, 29, 21, 4]
abbrev dktX0_lossOf_2 : List UInt8 := dkwX0_lossOf_2 ++ dktX0_lossOf_3
def dkwX0_lossOf_1 : List UInt8 := [162, 0, 72, 42, 29, 182, 0, 31, 153, 0, 24, 27, 42, 180, 0, 9, 29, 50, 180, 0, 227, 122, 4, 126]
abbrev dktX0_lossOf_1 : List UInt8 := dkwX0_lossOf_1 ++ dktX0_lossOf_2
def dkwX0_lossOf_0 : List UInt8 := [42, 180, 0, 183, 42, 180, 0, 82, 182, 1, 14, 3, 61, 28, 16, 21, 162, 0, 85, 3, 62, 29, 7]
abbrev dktX0_lossOf_0 : List UInt8 := dkwX0_lossOf_0 ++ dktX0_lossOf_1
theorem dksX0_lossOf_0 : cX0_lossOf.data.toList.drop 0 = dktX0_lossOf_0 := by decide +kernel
theorem dksX0_lossOf_1 : cX0_lossOf.data.toList.drop 23 = dktX0_lossOf_1 := dk_seg dksX0_lossOf_0 23 rfl rfl
theorem dksX0_lossOf_2 : cX0_lossOf.data.toList.drop 47 = dktX0_lossOf_2 := dk_seg dksX0_lossOf_1 24 rfl rfl
theorem dksX0_lossOf_3 : cX0_lossOf.data.toList.drop 70 = dktX0_lossOf_3 := dk_seg dksX0_lossOf_2 23 rfl rfl
theorem dksX0_lossOf_4 : cX0_lossOf.data.toList.drop 92 = dktX0_lossOf_4 := dk_seg dksX0_lossOf_3 22 rfl rfl
theorem dksX0_lossOf_5 : cX0_lossOf.data.toList.drop 116 = dktX0_lossOf_5 := dk_seg dksX0_lossOf_4 24 rfl rfl
theorem dX0_lossOf_0 : decode cX0_lossOf 0 = .ok (.aload_n 0, 1) := dk_42 (dk_at dksX0_lossOf_0 0 rfl rfl)
theorem dX0_lossOf_1 : decode cX0_lossOf 1 = .ok (.getfield 183, 3) := dk_180 0 183 (dk_at dksX0_lossOf_0 1 rfl rfl)
theorem dX0_lossOf_4 : decode cX0_lossOf 4 = .ok (.aload_n 0, 1) := dk_42 (dk_at dksX0_lossOf_0 4 rfl rfl)
theorem dX0_lossOf_5 : decode cX0_lossOf 5 = .ok (.getfield 82, 3) := dk_180 0 82 (dk_at dksX0_lossOf_0 5 rfl rfl)
theorem dX0_lossOf_8 : decode cX0_lossOf 8 = .ok (.invokevirtual 270, 3) := dk_182 1 14 (dk_at dksX0_lossOf_0 8 rfl rfl)
theorem dX0_lossOf_11 : decode cX0_lossOf 11 = .ok (.iconst 0, 1) := dk_3 (dk_at dksX0_lossOf_0 11 rfl rfl)
theorem dX0_lossOf_12 : decode cX0_lossOf 12 = .ok (.istore_n 2, 1) := dk_61 (dk_at dksX0_lossOf_0 12 rfl rfl)
theorem dX0_lossOf_13 : decode cX0_lossOf 13 = .ok (.iload_n 2, 1) := dk_28 (dk_at dksX0_lossOf_0 13 rfl rfl)
theorem dX0_lossOf_14 : decode cX0_lossOf 14 = .ok (.bipush 21, 2) := dk_16 21 (dk_at dksX0_lossOf_0 14 rfl rfl)
theorem dX0_lossOf_16 : decode cX0_lossOf 16 = .ok (.if_icmp .ge 85, 3) := dk_162 0 85 (dk_at dksX0_lossOf_0 16 rfl rfl)
theorem dX0_lossOf_19 : decode cX0_lossOf 19 = .ok (.iconst 0, 1) := dk_3 (dk_at dksX0_lossOf_0 19 rfl rfl)
theorem dX0_lossOf_20 : decode cX0_lossOf 20 = .ok (.istore_n 3, 1) := dk_62 (dk_at dksX0_lossOf_0 20 rfl rfl)
theorem dX0_lossOf_21 : decode cX0_lossOf 21 = .ok (.iload_n 3, 1) := dk_29 (dk_at dksX0_lossOf_0 21 rfl rfl)
theorem dX0_lossOf_22 : decode cX0_lossOf 22 = .ok (.iconst 4, 1) := dk_7 (dk_at dksX0_lossOf_0 22 rfl rfl)
theorem dX0_lossOf_23 : decode cX0_lossOf 23 = .ok (.if_icmp .ge 72, 3) := dk_162 0 72 (dk_at dksX0_lossOf_1 0 rfl rfl)
theorem dX0_lossOf_26 : decode cX0_lossOf 26 = .ok (.aload_n 0, 1) := dk_42 (dk_at dksX0_lossOf_1 3 rfl rfl)
theorem dX0_lossOf_27 : decode cX0_lossOf 27 = .ok (.iload_n 3, 1) := dk_29 (dk_at dksX0_lossOf_1 4 rfl rfl)
theorem dX0_lossOf_28 : decode cX0_lossOf 28 = .ok (.invokevirtual 31, 3) := dk_182 0 31 (dk_at dksX0_lossOf_1 5 rfl rfl)
theorem dX0_lossOf_31 : decode cX0_lossOf 31 = .ok (.ifCond .eq 24, 3) := dk_153 0 24 (dk_at dksX0_lossOf_1 8 rfl rfl)
theorem dX0_lossOf_34 : decode cX0_lossOf 34 = .ok (.iload_n 1, 1) := dk_27 (dk_at dksX0_lossOf_1 11 rfl rfl)
theorem dX0_lossOf_35 : decode cX0_lossOf 35 = .ok (.aload_n 0, 1) := dk_42 (dk_at dksX0_lossOf_1 12 rfl rfl)
theorem dX0_lossOf_36 : decode cX0_lossOf 36 = .ok (.getfield 9, 3) := dk_180 0 9 (dk_at dksX0_lossOf_1 13 rfl rfl)
theorem dX0_lossOf_39 : decode cX0_lossOf 39 = .ok (.iload_n 3, 1) := dk_29 (dk_at dksX0_lossOf_1 16 rfl rfl)
theorem dX0_lossOf_40 : decode cX0_lossOf 40 = .ok (.aaload, 1) := dk_50 (dk_at dksX0_lossOf_1 17 rfl rfl)
theorem dX0_lossOf_41 : decode cX0_lossOf 41 = .ok (.getfield 227, 3) := dk_180 0 227 (dk_at dksX0_lossOf_1 18 rfl rfl)
theorem dX0_lossOf_44 : decode cX0_lossOf 44 = .ok (.ishr, 1) := dk_122 (dk_at dksX0_lossOf_1 21 rfl rfl)
theorem dX0_lossOf_45 : decode cX0_lossOf 45 = .ok (.iconst 1, 1) := dk_4 (dk_at dksX0_lossOf_1 22 rfl rfl)
theorem dX0_lossOf_46 : decode cX0_lossOf 46 = .ok (.iand, 1) := dk_126 (dk_at dksX0_lossOf_1 23 rfl rfl)
theorem dX0_lossOf_47 : decode cX0_lossOf 47 = .ok (.iconst 1, 1) := dk_4 (dk_at dksX0_lossOf_2 0 rfl rfl)
theorem dX0_lossOf_48 : decode cX0_lossOf 48 = .ok (.if_icmp .ne 7, 3) := dk_160 0 7 (dk_at dksX0_lossOf_2 1 rfl rfl)
theorem dX0_lossOf_51 : decode cX0_lossOf 51 = .ok (.iconst 1, 1) := dk_4 (dk_at dksX0_lossOf_2 4 rfl rfl)
theorem dX0_lossOf_52 : decode cX0_lossOf 52 = .ok (.goto 4, 3) := dk_167 0 4 (dk_at dksX0_lossOf_2 5 rfl rfl)
theorem dX0_lossOf_55 : decode cX0_lossOf 55 = .ok (.iconst 0, 1) := dk_3 (dk_at dksX0_lossOf_2 8 rfl rfl)
theorem dX0_lossOf_56 : decode cX0_lossOf 56 = .ok (.istore 4, 2) := dk_54 4 (dk_at dksX0_lossOf_2 9 rfl rfl)
theorem dX0_lossOf_58 : decode cX0_lossOf 58 = .ok (.aload_n 0, 1) := dk_42 (dk_at dksX0_lossOf_2 11 rfl rfl)
theorem dX0_lossOf_59 : decode cX0_lossOf 59 = .ok (.getfield 183, 3) := dk_180 0 183 (dk_at dksX0_lossOf_2 12 rfl rfl)
theorem dX0_lossOf_62 : decode cX0_lossOf 62 = .ok (.getfield 25, 3) := dk_180 0 25 (dk_at dksX0_lossOf_2 15 rfl rfl)
theorem dX0_lossOf_65 : decode cX0_lossOf 65 = .ok (.iload_n 2, 1) := dk_28 (dk_at dksX0_lossOf_2 18 rfl rfl)
theorem dX0_lossOf_66 : decode cX0_lossOf 66 = .ok (.aaload, 1) := dk_50 (dk_at dksX0_lossOf_2 19 rfl rfl)
theorem dX0_lossOf_67 : decode cX0_lossOf 67 = .ok (.iload_n 3, 1) := dk_29 (dk_at dksX0_lossOf_2 20 rfl rfl)
theorem dX0_lossOf_68 : decode cX0_lossOf 68 = .ok (.iload 4, 2) := dk_21 4 (dk_at dksX0_lossOf_2 21 rfl rfl)
theorem dX0_lossOf_70 : decode cX0_lossOf 70 = .ok (.ifCond .eq 17, 3) := dk_153 0 17 (dk_at dksX0_lossOf_3 0 rfl rfl)
theorem dX0_lossOf_73 : decode cX0_lossOf 73 = .ok (.aload_n 0, 1) := dk_42 (dk_at dksX0_lossOf_3 3 rfl rfl)
theorem dX0_lossOf_74 : decode cX0_lossOf 74 = .ok (.getfield 183, 3) := dk_180 0 183 (dk_at dksX0_lossOf_3 4 rfl rfl)
theorem dX0_lossOf_77 : decode cX0_lossOf 77 = .ok (.getfield 25, 3) := dk_180 0 25 (dk_at dksX0_lossOf_3 7 rfl rfl)
theorem dX0_lossOf_80 : decode cX0_lossOf 80 = .ok (.iload_n 2, 1) := dk_28 (dk_at dksX0_lossOf_3 10 rfl rfl)
theorem dX0_lossOf_81 : decode cX0_lossOf 81 = .ok (.aaload, 1) := dk_50 (dk_at dksX0_lossOf_3 11 rfl rfl)
theorem dX0_lossOf_82 : decode cX0_lossOf 82 = .ok (.iload_n 3, 1) := dk_29 (dk_at dksX0_lossOf_3 12 rfl rfl)
theorem dX0_lossOf_83 : decode cX0_lossOf 83 = .ok (.baload, 1) := dk_51 (dk_at dksX0_lossOf_3 13 rfl rfl)
theorem dX0_lossOf_84 : decode cX0_lossOf 84 = .ok (.goto 4, 3) := dk_167 0 4 (dk_at dksX0_lossOf_3 14 rfl rfl)
theorem dX0_lossOf_87 : decode cX0_lossOf 87 = .ok (.iconst (-1), 1) := dk_2 (dk_at dksX0_lossOf_3 17 rfl rfl)
theorem dX0_lossOf_88 : decode cX0_lossOf 88 = .ok (.bastore, 1) := dk_84 (dk_at dksX0_lossOf_3 18 rfl rfl)
theorem dX0_lossOf_89 : decode cX0_lossOf 89 = .ok (.iinc 3 1, 3) := dk_132 3 1 (dk_at dksX0_lossOf_3 19 rfl rfl)
theorem dX0_lossOf_92 : decode cX0_lossOf 92 = .ok (.goto (-71), 3) := dk_167 255 185 (dk_at dksX0_lossOf_4 0 rfl rfl)
theorem dX0_lossOf_95 : decode cX0_lossOf 95 = .ok (.iinc 2 1, 3) := dk_132 2 1 (dk_at dksX0_lossOf_4 3 rfl rfl)
theorem dX0_lossOf_98 : decode cX0_lossOf 98 = .ok (.goto (-85), 3) := dk_167 255 171 (dk_at dksX0_lossOf_4 6 rfl rfl)
theorem dX0_lossOf_101 : decode cX0_lossOf 101 = .ok (.aload_n 0, 1) := dk_42 (dk_at dksX0_lossOf_4 9 rfl rfl)
theorem dX0_lossOf_102 : decode cX0_lossOf 102 = .ok (.getfield 45, 3) := dk_180 0 45 (dk_at dksX0_lossOf_4 10 rfl rfl)
theorem dX0_lossOf_105 : decode cX0_lossOf 105 = .ok (.aload_n 0, 1) := dk_42 (dk_at dksX0_lossOf_4 13 rfl rfl)
theorem dX0_lossOf_106 : decode cX0_lossOf 106 = .ok (.getfield 183, 3) := dk_180 0 183 (dk_at dksX0_lossOf_4 14 rfl rfl)
theorem dX0_lossOf_109 : decode cX0_lossOf 109 = .ok (.aload_n 0, 1) := dk_42 (dk_at dksX0_lossOf_4 17 rfl rfl)
theorem dX0_lossOf_110 : decode cX0_lossOf 110 = .ok (.getfield 21, 3) := dk_180 0 21 (dk_at dksX0_lossOf_4 18 rfl rfl)
theorem dX0_lossOf_113 : decode cX0_lossOf 113 = .ok (.invokevirtual 49, 3) := dk_182 0 49 (dk_at dksX0_lossOf_4 21 rfl rfl)
theorem dX0_lossOf_116 : decode cX0_lossOf 116 = .ok (.ireturn, 1) := dk_172 (dk_at dksX0_lossOf_5 0 rfl rfl)
abbrev cX0_fair : ByteArray := prog_1_method_34_code
def yX0_fair : MethodName := ⟨RX0, "fair", "(II)I"⟩
def dkwX0_fair_5 : List UInt8 := [184, 1, 33, 136, 172]
abbrev dktX0_fair_5 : List UInt8 := dkwX0_fair_5 ++ []
def dkwX0_fair_4 : List UInt8 := [182, 1, 23, 100, 104, 96, 62, 132, 4, 1, 167, 255, 188, 29, 19, 1, 30, 96, 133, 20, 1, 31, 28]
abbrev dktX0_fair_4 : List UInt8 := dkwX0_fair_4 ++ dktX0_fair_5
def dkwX0_fair_3 : List UInt8 := [167, 0, 4, 5, 54, 6, 29, 21, 6, 42, 21, 4, 182, 1, 23, 42, 21, 4, 4, 27, 120, 128]
abbrev dktX0_fair_3 : List UInt8 := dkwX0_fair_3 ++ dktX0_fair_4
def dkwX0_fair_2 : List UInt8 := [154, 0, 52, 21, 4, 184, 1, 27, 54, 5, 21, 5, 153, 0, 9, 21, 5, 6, 160, 0, 8, 16, 6]
abbrev dktX0_fair_2 : List UInt8 := dkwX0_fair_2 ++ dktX0_fair_3
def dkwX0_fair_1 : List UInt8 := [154, 0, 6, 16, 253, 172, 3, 62, 3, 54, 4, 21, 4, 16, 15, 163, 0, 67, 21, 4, 27, 122, 4, 126]
abbrev dktX0_fair_1 : List UInt8 := dkwX0_fair_1 ++ dktX0_fair_2
def dkwX0_fair_0 : List UInt8 := [27, 133, 9, 20, 0, 3, 184, 0, 5, 154, 0, 6, 16, 254, 172, 28, 133, 9, 10, 184, 0, 5]
abbrev dktX0_fair_0 : List UInt8 := dkwX0_fair_0 ++ dktX0_fair_1
theorem dksX0_fair_0 : cX0_fair.data.toList.drop 0 = dktX0_fair_0 := by decide +kernel
theorem dksX0_fair_1 : cX0_fair.data.toList.drop 22 = dktX0_fair_1 := dk_seg dksX0_fair_0 22 rfl rfl
theorem dksX0_fair_2 : cX0_fair.data.toList.drop 46 = dktX0_fair_2 := dk_seg dksX0_fair_1 24 rfl rfl
theorem dksX0_fair_3 : cX0_fair.data.toList.drop 69 = dktX0_fair_3 := dk_seg dksX0_fair_2 23 rfl rfl
theorem dksX0_fair_4 : cX0_fair.data.toList.drop 91 = dktX0_fair_4 := dk_seg dksX0_fair_3 22 rfl rfl
theorem dksX0_fair_5 : cX0_fair.data.toList.drop 114 = dktX0_fair_5 := dk_seg dksX0_fair_4 23 rfl rfl
theorem dX0_fair_0 : decode cX0_fair 0 = .ok (.iload_n 1, 1) := dk_27 (dk_at dksX0_fair_0 0 rfl rfl)
theorem dX0_fair_1 : decode cX0_fair 1 = .ok (.i2l, 1) := dk_133 (dk_at dksX0_fair_0 1 rfl rfl)
theorem dX0_fair_2 : decode cX0_fair 2 = .ok (.lconst 0, 1) := dk_9 (dk_at dksX0_fair_0 2 rfl rfl)
theorem dX0_fair_3 : decode cX0_fair 3 = .ok (.ldc2_w 3, 3) := dk_20 0 3 (dk_at dksX0_fair_0 3 rfl rfl)
theorem dX0_fair_6 : decode cX0_fair 6 = .ok (.invokestatic 5, 3) := dk_184 0 5 (dk_at dksX0_fair_0 6 rfl rfl)
theorem dX0_fair_9 : decode cX0_fair 9 = .ok (.ifCond .ne 6, 3) := dk_154 0 6 (dk_at dksX0_fair_0 9 rfl rfl)
theorem dX0_fair_12 : decode cX0_fair 12 = .ok (.bipush (-2), 2) := dk_16 254 (dk_at dksX0_fair_0 12 rfl rfl)
theorem dX0_fair_14 : decode cX0_fair 14 = .ok (.ireturn, 1) := dk_172 (dk_at dksX0_fair_0 14 rfl rfl)
theorem dX0_fair_15 : decode cX0_fair 15 = .ok (.iload_n 2, 1) := dk_28 (dk_at dksX0_fair_0 15 rfl rfl)
theorem dX0_fair_16 : decode cX0_fair 16 = .ok (.i2l, 1) := dk_133 (dk_at dksX0_fair_0 16 rfl rfl)
theorem dX0_fair_17 : decode cX0_fair 17 = .ok (.lconst 0, 1) := dk_9 (dk_at dksX0_fair_0 17 rfl rfl)
theorem dX0_fair_18 : decode cX0_fair 18 = .ok (.lconst 1, 1) := dk_10 (dk_at dksX0_fair_0 18 rfl rfl)
theorem dX0_fair_19 : decode cX0_fair 19 = .ok (.invokestatic 5, 3) := dk_184 0 5 (dk_at dksX0_fair_0 19 rfl rfl)
theorem dX0_fair_22 : decode cX0_fair 22 = .ok (.ifCond .ne 6, 3) := dk_154 0 6 (dk_at dksX0_fair_1 0 rfl rfl)
theorem dX0_fair_25 : decode cX0_fair 25 = .ok (.bipush (-3), 2) := dk_16 253 (dk_at dksX0_fair_1 3 rfl rfl)
theorem dX0_fair_27 : decode cX0_fair 27 = .ok (.ireturn, 1) := dk_172 (dk_at dksX0_fair_1 5 rfl rfl)
theorem dX0_fair_28 : decode cX0_fair 28 = .ok (.iconst 0, 1) := dk_3 (dk_at dksX0_fair_1 6 rfl rfl)
theorem dX0_fair_29 : decode cX0_fair 29 = .ok (.istore_n 3, 1) := dk_62 (dk_at dksX0_fair_1 7 rfl rfl)
theorem dX0_fair_30 : decode cX0_fair 30 = .ok (.iconst 0, 1) := dk_3 (dk_at dksX0_fair_1 8 rfl rfl)
theorem dX0_fair_31 : decode cX0_fair 31 = .ok (.istore 4, 2) := dk_54 4 (dk_at dksX0_fair_1 9 rfl rfl)
theorem dX0_fair_33 : decode cX0_fair 33 = .ok (.iload 4, 2) := dk_21 4 (dk_at dksX0_fair_1 11 rfl rfl)
theorem dX0_fair_35 : decode cX0_fair 35 = .ok (.bipush 15, 2) := dk_16 15 (dk_at dksX0_fair_1 13 rfl rfl)
theorem dX0_fair_37 : decode cX0_fair 37 = .ok (.if_icmp .gt 67, 3) := dk_163 0 67 (dk_at dksX0_fair_1 15 rfl rfl)
theorem dX0_fair_40 : decode cX0_fair 40 = .ok (.iload 4, 2) := dk_21 4 (dk_at dksX0_fair_1 18 rfl rfl)
theorem dX0_fair_42 : decode cX0_fair 42 = .ok (.iload_n 1, 1) := dk_27 (dk_at dksX0_fair_1 20 rfl rfl)
theorem dX0_fair_43 : decode cX0_fair 43 = .ok (.ishr, 1) := dk_122 (dk_at dksX0_fair_1 21 rfl rfl)
theorem dX0_fair_44 : decode cX0_fair 44 = .ok (.iconst 1, 1) := dk_4 (dk_at dksX0_fair_1 22 rfl rfl)
theorem dX0_fair_45 : decode cX0_fair 45 = .ok (.iand, 1) := dk_126 (dk_at dksX0_fair_1 23 rfl rfl)
theorem dX0_fair_46 : decode cX0_fair 46 = .ok (.ifCond .ne 52, 3) := dk_154 0 52 (dk_at dksX0_fair_2 0 rfl rfl)
theorem dX0_fair_49 : decode cX0_fair 49 = .ok (.iload 4, 2) := dk_21 4 (dk_at dksX0_fair_2 3 rfl rfl)
theorem dX0_fair_51 : decode cX0_fair 51 = .ok (.invokestatic 283, 3) := dk_184 1 27 (dk_at dksX0_fair_2 5 rfl rfl)
theorem dX0_fair_54 : decode cX0_fair 54 = .ok (.istore 5, 2) := dk_54 5 (dk_at dksX0_fair_2 8 rfl rfl)
theorem dX0_fair_56 : decode cX0_fair 56 = .ok (.iload 5, 2) := dk_21 5 (dk_at dksX0_fair_2 10 rfl rfl)
theorem dX0_fair_58 : decode cX0_fair 58 = .ok (.ifCond .eq 9, 3) := dk_153 0 9 (dk_at dksX0_fair_2 12 rfl rfl)
theorem dX0_fair_61 : decode cX0_fair 61 = .ok (.iload 5, 2) := dk_21 5 (dk_at dksX0_fair_2 15 rfl rfl)
theorem dX0_fair_63 : decode cX0_fair 63 = .ok (.iconst 3, 1) := dk_6 (dk_at dksX0_fair_2 17 rfl rfl)
theorem dX0_fair_64 : decode cX0_fair 64 = .ok (.if_icmp .ne 8, 3) := dk_160 0 8 (dk_at dksX0_fair_2 18 rfl rfl)
theorem dX0_fair_67 : decode cX0_fair 67 = .ok (.bipush 6, 2) := dk_16 6 (dk_at dksX0_fair_2 21 rfl rfl)
theorem dX0_fair_69 : decode cX0_fair 69 = .ok (.goto 4, 3) := dk_167 0 4 (dk_at dksX0_fair_3 0 rfl rfl)
theorem dX0_fair_72 : decode cX0_fair 72 = .ok (.iconst 2, 1) := dk_5 (dk_at dksX0_fair_3 3 rfl rfl)
theorem dX0_fair_73 : decode cX0_fair 73 = .ok (.istore 6, 2) := dk_54 6 (dk_at dksX0_fair_3 4 rfl rfl)
theorem dX0_fair_75 : decode cX0_fair 75 = .ok (.iload_n 3, 1) := dk_29 (dk_at dksX0_fair_3 6 rfl rfl)
theorem dX0_fair_76 : decode cX0_fair 76 = .ok (.iload 6, 2) := dk_21 6 (dk_at dksX0_fair_3 7 rfl rfl)
theorem dX0_fair_78 : decode cX0_fair 78 = .ok (.aload_n 0, 1) := dk_42 (dk_at dksX0_fair_3 9 rfl rfl)
theorem dX0_fair_79 : decode cX0_fair 79 = .ok (.iload 4, 2) := dk_21 4 (dk_at dksX0_fair_3 10 rfl rfl)
theorem dX0_fair_81 : decode cX0_fair 81 = .ok (.invokevirtual 279, 3) := dk_182 1 23 (dk_at dksX0_fair_3 12 rfl rfl)
theorem dX0_fair_84 : decode cX0_fair 84 = .ok (.aload_n 0, 1) := dk_42 (dk_at dksX0_fair_3 15 rfl rfl)
theorem dX0_fair_85 : decode cX0_fair 85 = .ok (.iload 4, 2) := dk_21 4 (dk_at dksX0_fair_3 16 rfl rfl)
theorem dX0_fair_87 : decode cX0_fair 87 = .ok (.iconst 1, 1) := dk_4 (dk_at dksX0_fair_3 18 rfl rfl)
theorem dX0_fair_88 : decode cX0_fair 88 = .ok (.iload_n 1, 1) := dk_27 (dk_at dksX0_fair_3 19 rfl rfl)
theorem dX0_fair_89 : decode cX0_fair 89 = .ok (.ishl, 1) := dk_120 (dk_at dksX0_fair_3 20 rfl rfl)
theorem dX0_fair_90 : decode cX0_fair 90 = .ok (.ior, 1) := dk_128 (dk_at dksX0_fair_3 21 rfl rfl)
theorem dX0_fair_91 : decode cX0_fair 91 = .ok (.invokevirtual 279, 3) := dk_182 1 23 (dk_at dksX0_fair_4 0 rfl rfl)
theorem dX0_fair_94 : decode cX0_fair 94 = .ok (.isub, 1) := dk_100 (dk_at dksX0_fair_4 3 rfl rfl)
theorem dX0_fair_95 : decode cX0_fair 95 = .ok (.imul, 1) := dk_104 (dk_at dksX0_fair_4 4 rfl rfl)
theorem dX0_fair_96 : decode cX0_fair 96 = .ok (.iadd, 1) := dk_96 (dk_at dksX0_fair_4 5 rfl rfl)
theorem dX0_fair_97 : decode cX0_fair 97 = .ok (.istore_n 3, 1) := dk_62 (dk_at dksX0_fair_4 6 rfl rfl)
theorem dX0_fair_98 : decode cX0_fair 98 = .ok (.iinc 4 1, 3) := dk_132 4 1 (dk_at dksX0_fair_4 7 rfl rfl)
theorem dX0_fair_101 : decode cX0_fair 101 = .ok (.goto (-68), 3) := dk_167 255 188 (dk_at dksX0_fair_4 10 rfl rfl)
theorem dX0_fair_104 : decode cX0_fair 104 = .ok (.iload_n 3, 1) := dk_29 (dk_at dksX0_fair_4 13 rfl rfl)
theorem dX0_fair_105 : decode cX0_fair 105 = .ok (.ldc_w 286, 3) := dk_19 1 30 (dk_at dksX0_fair_4 14 rfl rfl)
theorem dX0_fair_108 : decode cX0_fair 108 = .ok (.iadd, 1) := dk_96 (dk_at dksX0_fair_4 17 rfl rfl)
theorem dX0_fair_109 : decode cX0_fair 109 = .ok (.i2l, 1) := dk_133 (dk_at dksX0_fair_4 18 rfl rfl)
theorem dX0_fair_110 : decode cX0_fair 110 = .ok (.ldc2_w 287, 3) := dk_20 1 31 (dk_at dksX0_fair_4 19 rfl rfl)
theorem dX0_fair_113 : decode cX0_fair 113 = .ok (.iload_n 2, 1) := dk_28 (dk_at dksX0_fair_4 22 rfl rfl)
theorem dX0_fair_114 : decode cX0_fair 114 = .ok (.invokestatic 289, 3) := dk_184 1 33 (dk_at dksX0_fair_5 0 rfl rfl)
theorem dX0_fair_117 : decode cX0_fair 117 = .ok (.l2i, 1) := dk_136 (dk_at dksX0_fair_5 3 rfl rfl)
theorem dX0_fair_118 : decode cX0_fair 118 = .ok (.ireturn, 1) := dk_172 (dk_at dksX0_fair_5 4 rfl rfl)
abbrev cX0_part : ByteArray := prog_1_method_33_code
def yX0_part : MethodName := ⟨RX0, "part", "(JJI)J"⟩
def dkwX0_part_1 : List UInt8 := [22, 9, 55, 7, 167, 255, 234, 21, 4, 154, 0, 7, 30, 167, 0, 4, 32, 22, 5, 109, 173]
abbrev dktX0_part_1 : List UInt8 := dkwX0_part_1 ++ []
def dkwX0_part_0 : List UInt8 := [30, 55, 5, 32, 55, 7, 22, 7, 9, 148, 153, 0, 21, 22, 5, 22, 7, 113, 55, 9, 22, 7, 55, 5]
abbrev dktX0_part_0 : List UInt8 := dkwX0_part_0 ++ dktX0_part_1
theorem dksX0_part_0 : cX0_part.data.toList.drop 0 = dktX0_part_0 := by decide +kernel
theorem dksX0_part_1 : cX0_part.data.toList.drop 24 = dktX0_part_1 := dk_seg dksX0_part_0 24 rfl rfl
theorem dX0_part_0 : decode cX0_part 0 = .ok (.lload_n 0, 1) := dk_30 (dk_at dksX0_part_0 0 rfl rfl)
theorem dX0_part_1 : decode cX0_part 1 = .ok (.lstore 5, 2) := dk_55 5 (dk_at dksX0_part_0 1 rfl rfl)
theorem dX0_part_3 : decode cX0_part 3 = .ok (.lload_n 2, 1) := dk_32 (dk_at dksX0_part_0 3 rfl rfl)
theorem dX0_part_4 : decode cX0_part 4 = .ok (.lstore 7, 2) := dk_55 7 (dk_at dksX0_part_0 4 rfl rfl)
theorem dX0_part_6 : decode cX0_part 6 = .ok (.lload 7, 2) := dk_22 7 (dk_at dksX0_part_0 6 rfl rfl)
theorem dX0_part_8 : decode cX0_part 8 = .ok (.lconst 0, 1) := dk_9 (dk_at dksX0_part_0 8 rfl rfl)
theorem dX0_part_9 : decode cX0_part 9 = .ok (.lcmp, 1) := dk_148 (dk_at dksX0_part_0 9 rfl rfl)
theorem dX0_part_10 : decode cX0_part 10 = .ok (.ifCond .eq 21, 3) := dk_153 0 21 (dk_at dksX0_part_0 10 rfl rfl)
theorem dX0_part_13 : decode cX0_part 13 = .ok (.lload 5, 2) := dk_22 5 (dk_at dksX0_part_0 13 rfl rfl)
theorem dX0_part_15 : decode cX0_part 15 = .ok (.lload 7, 2) := dk_22 7 (dk_at dksX0_part_0 15 rfl rfl)
theorem dX0_part_17 : decode cX0_part 17 = .ok (.lrem, 1) := dk_113 (dk_at dksX0_part_0 17 rfl rfl)
theorem dX0_part_18 : decode cX0_part 18 = .ok (.lstore 9, 2) := dk_55 9 (dk_at dksX0_part_0 18 rfl rfl)
theorem dX0_part_20 : decode cX0_part 20 = .ok (.lload 7, 2) := dk_22 7 (dk_at dksX0_part_0 20 rfl rfl)
theorem dX0_part_22 : decode cX0_part 22 = .ok (.lstore 5, 2) := dk_55 5 (dk_at dksX0_part_0 22 rfl rfl)
theorem dX0_part_24 : decode cX0_part 24 = .ok (.lload 9, 2) := dk_22 9 (dk_at dksX0_part_1 0 rfl rfl)
theorem dX0_part_26 : decode cX0_part 26 = .ok (.lstore 7, 2) := dk_55 7 (dk_at dksX0_part_1 2 rfl rfl)
theorem dX0_part_28 : decode cX0_part 28 = .ok (.goto (-22), 3) := dk_167 255 234 (dk_at dksX0_part_1 4 rfl rfl)
theorem dX0_part_31 : decode cX0_part 31 = .ok (.iload 4, 2) := dk_21 4 (dk_at dksX0_part_1 7 rfl rfl)
theorem dX0_part_33 : decode cX0_part 33 = .ok (.ifCond .ne 7, 3) := dk_154 0 7 (dk_at dksX0_part_1 9 rfl rfl)
theorem dX0_part_36 : decode cX0_part 36 = .ok (.lload_n 0, 1) := dk_30 (dk_at dksX0_part_1 12 rfl rfl)
theorem dX0_part_37 : decode cX0_part 37 = .ok (.goto 4, 3) := dk_167 0 4 (dk_at dksX0_part_1 13 rfl rfl)
theorem dX0_part_40 : decode cX0_part 40 = .ok (.lload_n 2, 1) := dk_32 (dk_at dksX0_part_1 16 rfl rfl)
theorem dX0_part_41 : decode cX0_part 41 = .ok (.lload 5, 2) := dk_22 5 (dk_at dksX0_part_1 17 rfl rfl)
theorem dX0_part_43 : decode cX0_part 43 = .ok (.ldiv, 1) := dk_109 (dk_at dksX0_part_1 19 rfl rfl)
theorem dX0_part_44 : decode cX0_part 44 = .ok (.lreturn, 1) := dk_173 (dk_at dksX0_part_1 20 rfl rfl)
abbrev cX0_free : ByteArray := prog_1_method_36_code
def yX0_free : MethodName := ⟨RX0, "free", "(I)I"⟩
def dkwX0_free_1 : List UInt8 := [126, 182, 1, 37, 61, 28, 42, 27, 3, 182, 1, 37, 100, 19, 1, 26, 96, 172]
abbrev dktX0_free_1 : List UInt8 := dkwX0_free_1 ++ []
def dkwX0_free_0 : List UInt8 := [27, 133, 9, 20, 0, 3, 184, 0, 5, 154, 0, 6, 16, 254, 172, 42, 27, 16, 15, 4, 27, 120, 2, 130]
abbrev dktX0_free_0 : List UInt8 := dkwX0_free_0 ++ dktX0_free_1
theorem dksX0_free_0 : cX0_free.data.toList.drop 0 = dktX0_free_0 := by decide +kernel
theorem dksX0_free_1 : cX0_free.data.toList.drop 24 = dktX0_free_1 := dk_seg dksX0_free_0 24 rfl rfl
theorem dX0_free_0 : decode cX0_free 0 = .ok (.iload_n 1, 1) := dk_27 (dk_at dksX0_free_0 0 rfl rfl)
theorem dX0_free_1 : decode cX0_free 1 = .ok (.i2l, 1) := dk_133 (dk_at dksX0_free_0 1 rfl rfl)
theorem dX0_free_2 : decode cX0_free 2 = .ok (.lconst 0, 1) := dk_9 (dk_at dksX0_free_0 2 rfl rfl)
theorem dX0_free_3 : decode cX0_free 3 = .ok (.ldc2_w 3, 3) := dk_20 0 3 (dk_at dksX0_free_0 3 rfl rfl)
theorem dX0_free_6 : decode cX0_free 6 = .ok (.invokestatic 5, 3) := dk_184 0 5 (dk_at dksX0_free_0 6 rfl rfl)
theorem dX0_free_9 : decode cX0_free 9 = .ok (.ifCond .ne 6, 3) := dk_154 0 6 (dk_at dksX0_free_0 9 rfl rfl)
theorem dX0_free_12 : decode cX0_free 12 = .ok (.bipush (-2), 2) := dk_16 254 (dk_at dksX0_free_0 12 rfl rfl)
theorem dX0_free_14 : decode cX0_free 14 = .ok (.ireturn, 1) := dk_172 (dk_at dksX0_free_0 14 rfl rfl)
theorem dX0_free_15 : decode cX0_free 15 = .ok (.aload_n 0, 1) := dk_42 (dk_at dksX0_free_0 15 rfl rfl)
theorem dX0_free_16 : decode cX0_free 16 = .ok (.iload_n 1, 1) := dk_27 (dk_at dksX0_free_0 16 rfl rfl)
theorem dX0_free_17 : decode cX0_free 17 = .ok (.bipush 15, 2) := dk_16 15 (dk_at dksX0_free_0 17 rfl rfl)
theorem dX0_free_19 : decode cX0_free 19 = .ok (.iconst 1, 1) := dk_4 (dk_at dksX0_free_0 19 rfl rfl)
theorem dX0_free_20 : decode cX0_free 20 = .ok (.iload_n 1, 1) := dk_27 (dk_at dksX0_free_0 20 rfl rfl)
theorem dX0_free_21 : decode cX0_free 21 = .ok (.ishl, 1) := dk_120 (dk_at dksX0_free_0 21 rfl rfl)
theorem dX0_free_22 : decode cX0_free 22 = .ok (.iconst (-1), 1) := dk_2 (dk_at dksX0_free_0 22 rfl rfl)
theorem dX0_free_23 : decode cX0_free 23 = .ok (.ixor, 1) := dk_130 (dk_at dksX0_free_0 23 rfl rfl)
theorem dX0_free_24 : decode cX0_free 24 = .ok (.iand, 1) := dk_126 (dk_at dksX0_free_1 0 rfl rfl)
theorem dX0_free_25 : decode cX0_free 25 = .ok (.invokevirtual 293, 3) := dk_182 1 37 (dk_at dksX0_free_1 1 rfl rfl)
theorem dX0_free_28 : decode cX0_free 28 = .ok (.istore_n 2, 1) := dk_61 (dk_at dksX0_free_1 4 rfl rfl)
theorem dX0_free_29 : decode cX0_free 29 = .ok (.iload_n 2, 1) := dk_28 (dk_at dksX0_free_1 5 rfl rfl)
theorem dX0_free_30 : decode cX0_free 30 = .ok (.aload_n 0, 1) := dk_42 (dk_at dksX0_free_1 6 rfl rfl)
theorem dX0_free_31 : decode cX0_free 31 = .ok (.iload_n 1, 1) := dk_27 (dk_at dksX0_free_1 7 rfl rfl)
theorem dX0_free_32 : decode cX0_free 32 = .ok (.iconst 0, 1) := dk_3 (dk_at dksX0_free_1 8 rfl rfl)
theorem dX0_free_33 : decode cX0_free 33 = .ok (.invokevirtual 293, 3) := dk_182 1 37 (dk_at dksX0_free_1 9 rfl rfl)
theorem dX0_free_36 : decode cX0_free 36 = .ok (.isub, 1) := dk_100 (dk_at dksX0_free_1 12 rfl rfl)
theorem dX0_free_37 : decode cX0_free 37 = .ok (.ldc_w 282, 3) := dk_19 1 26 (dk_at dksX0_free_1 13 rfl rfl)
theorem dX0_free_40 : decode cX0_free 40 = .ok (.iadd, 1) := dk_96 (dk_at dksX0_free_1 16 rfl rfl)
theorem dX0_free_41 : decode cX0_free 41 = .ok (.ireturn, 1) := dk_172 (dk_at dksX0_free_1 17 rfl rfl)
abbrev cX0_lossIn : ByteArray := prog_1_method_35_code
def yX0_lossIn : MethodName := ⟨RX0, "lossIn", "(II)I"⟩
def dkwX0_lossIn_3 : List UInt8 := [167, 255, 196, 29, 172]
abbrev dktX0_lossIn_3 : List UInt8 := dkwX0_lossIn_3 ++ []
def dkwX0_lossIn_2 : List UInt8 := [180, 0, 221, 42, 180, 0, 45, 180, 0, 252, 21, 4, 46, 100, 167, 0, 4, 3, 100, 62, 132, 4, 1]
abbrev dktX0_lossIn_2 : List UInt8 := dkwX0_lossIn_2 ++ dktX0_lossIn_3
def dkwX0_lossIn_1 : List UInt8 := [153, 0, 41, 42, 180, 0, 9, 21, 4, 50, 180, 0, 227, 27, 159, 0, 27, 42, 180, 0, 9, 21, 4, 50]
abbrev dktX0_lossIn_1 : List UInt8 := dkwX0_lossIn_1 ++ dktX0_lossIn_2
def dkwX0_lossIn_0 : List UInt8 := [42, 28, 182, 1, 23, 62, 3, 54, 4, 21, 4, 7, 162, 0, 60, 29, 42, 21, 4, 182, 0, 31]
abbrev dktX0_lossIn_0 : List UInt8 := dkwX0_lossIn_0 ++ dktX0_lossIn_1
theorem dksX0_lossIn_0 : cX0_lossIn.data.toList.drop 0 = dktX0_lossIn_0 := by decide +kernel
theorem dksX0_lossIn_1 : cX0_lossIn.data.toList.drop 22 = dktX0_lossIn_1 := dk_seg dksX0_lossIn_0 22 rfl rfl
theorem dksX0_lossIn_2 : cX0_lossIn.data.toList.drop 46 = dktX0_lossIn_2 := dk_seg dksX0_lossIn_1 24 rfl rfl
theorem dksX0_lossIn_3 : cX0_lossIn.data.toList.drop 69 = dktX0_lossIn_3 := dk_seg dksX0_lossIn_2 23 rfl rfl
theorem dX0_lossIn_0 : decode cX0_lossIn 0 = .ok (.aload_n 0, 1) := dk_42 (dk_at dksX0_lossIn_0 0 rfl rfl)
theorem dX0_lossIn_1 : decode cX0_lossIn 1 = .ok (.iload_n 2, 1) := dk_28 (dk_at dksX0_lossIn_0 1 rfl rfl)
theorem dX0_lossIn_2 : decode cX0_lossIn 2 = .ok (.invokevirtual 279, 3) := dk_182 1 23 (dk_at dksX0_lossIn_0 2 rfl rfl)
theorem dX0_lossIn_5 : decode cX0_lossIn 5 = .ok (.istore_n 3, 1) := dk_62 (dk_at dksX0_lossIn_0 5 rfl rfl)
theorem dX0_lossIn_6 : decode cX0_lossIn 6 = .ok (.iconst 0, 1) := dk_3 (dk_at dksX0_lossIn_0 6 rfl rfl)
theorem dX0_lossIn_7 : decode cX0_lossIn 7 = .ok (.istore 4, 2) := dk_54 4 (dk_at dksX0_lossIn_0 7 rfl rfl)
theorem dX0_lossIn_9 : decode cX0_lossIn 9 = .ok (.iload 4, 2) := dk_21 4 (dk_at dksX0_lossIn_0 9 rfl rfl)
theorem dX0_lossIn_11 : decode cX0_lossIn 11 = .ok (.iconst 4, 1) := dk_7 (dk_at dksX0_lossIn_0 11 rfl rfl)
theorem dX0_lossIn_12 : decode cX0_lossIn 12 = .ok (.if_icmp .ge 60, 3) := dk_162 0 60 (dk_at dksX0_lossIn_0 12 rfl rfl)
theorem dX0_lossIn_15 : decode cX0_lossIn 15 = .ok (.iload_n 3, 1) := dk_29 (dk_at dksX0_lossIn_0 15 rfl rfl)
theorem dX0_lossIn_16 : decode cX0_lossIn 16 = .ok (.aload_n 0, 1) := dk_42 (dk_at dksX0_lossIn_0 16 rfl rfl)
theorem dX0_lossIn_17 : decode cX0_lossIn 17 = .ok (.iload 4, 2) := dk_21 4 (dk_at dksX0_lossIn_0 17 rfl rfl)
theorem dX0_lossIn_19 : decode cX0_lossIn 19 = .ok (.invokevirtual 31, 3) := dk_182 0 31 (dk_at dksX0_lossIn_0 19 rfl rfl)
theorem dX0_lossIn_22 : decode cX0_lossIn 22 = .ok (.ifCond .eq 41, 3) := dk_153 0 41 (dk_at dksX0_lossIn_1 0 rfl rfl)
theorem dX0_lossIn_25 : decode cX0_lossIn 25 = .ok (.aload_n 0, 1) := dk_42 (dk_at dksX0_lossIn_1 3 rfl rfl)
theorem dX0_lossIn_26 : decode cX0_lossIn 26 = .ok (.getfield 9, 3) := dk_180 0 9 (dk_at dksX0_lossIn_1 4 rfl rfl)
theorem dX0_lossIn_29 : decode cX0_lossIn 29 = .ok (.iload 4, 2) := dk_21 4 (dk_at dksX0_lossIn_1 7 rfl rfl)
theorem dX0_lossIn_31 : decode cX0_lossIn 31 = .ok (.aaload, 1) := dk_50 (dk_at dksX0_lossIn_1 9 rfl rfl)
theorem dX0_lossIn_32 : decode cX0_lossIn 32 = .ok (.getfield 227, 3) := dk_180 0 227 (dk_at dksX0_lossIn_1 10 rfl rfl)
theorem dX0_lossIn_35 : decode cX0_lossIn 35 = .ok (.iload_n 1, 1) := dk_27 (dk_at dksX0_lossIn_1 13 rfl rfl)
theorem dX0_lossIn_36 : decode cX0_lossIn 36 = .ok (.if_icmp .eq 27, 3) := dk_159 0 27 (dk_at dksX0_lossIn_1 14 rfl rfl)
theorem dX0_lossIn_39 : decode cX0_lossIn 39 = .ok (.aload_n 0, 1) := dk_42 (dk_at dksX0_lossIn_1 17 rfl rfl)
theorem dX0_lossIn_40 : decode cX0_lossIn 40 = .ok (.getfield 9, 3) := dk_180 0 9 (dk_at dksX0_lossIn_1 18 rfl rfl)
theorem dX0_lossIn_43 : decode cX0_lossIn 43 = .ok (.iload 4, 2) := dk_21 4 (dk_at dksX0_lossIn_1 21 rfl rfl)
theorem dX0_lossIn_45 : decode cX0_lossIn 45 = .ok (.aaload, 1) := dk_50 (dk_at dksX0_lossIn_1 23 rfl rfl)
theorem dX0_lossIn_46 : decode cX0_lossIn 46 = .ok (.getfield 221, 3) := dk_180 0 221 (dk_at dksX0_lossIn_2 0 rfl rfl)
theorem dX0_lossIn_49 : decode cX0_lossIn 49 = .ok (.aload_n 0, 1) := dk_42 (dk_at dksX0_lossIn_2 3 rfl rfl)
theorem dX0_lossIn_50 : decode cX0_lossIn 50 = .ok (.getfield 45, 3) := dk_180 0 45 (dk_at dksX0_lossIn_2 4 rfl rfl)
theorem dX0_lossIn_53 : decode cX0_lossIn 53 = .ok (.getfield 252, 3) := dk_180 0 252 (dk_at dksX0_lossIn_2 7 rfl rfl)
theorem dX0_lossIn_56 : decode cX0_lossIn 56 = .ok (.iload 4, 2) := dk_21 4 (dk_at dksX0_lossIn_2 10 rfl rfl)
theorem dX0_lossIn_58 : decode cX0_lossIn 58 = .ok (.iaload, 1) := dk_46 (dk_at dksX0_lossIn_2 12 rfl rfl)
theorem dX0_lossIn_59 : decode cX0_lossIn 59 = .ok (.isub, 1) := dk_100 (dk_at dksX0_lossIn_2 13 rfl rfl)
theorem dX0_lossIn_60 : decode cX0_lossIn 60 = .ok (.goto 4, 3) := dk_167 0 4 (dk_at dksX0_lossIn_2 14 rfl rfl)
theorem dX0_lossIn_63 : decode cX0_lossIn 63 = .ok (.iconst 0, 1) := dk_3 (dk_at dksX0_lossIn_2 17 rfl rfl)
theorem dX0_lossIn_64 : decode cX0_lossIn 64 = .ok (.isub, 1) := dk_100 (dk_at dksX0_lossIn_2 18 rfl rfl)
theorem dX0_lossIn_65 : decode cX0_lossIn 65 = .ok (.istore_n 3, 1) := dk_62 (dk_at dksX0_lossIn_2 19 rfl rfl)
theorem dX0_lossIn_66 : decode cX0_lossIn 66 = .ok (.iinc 4 1, 3) := dk_132 4 1 (dk_at dksX0_lossIn_2 20 rfl rfl)
theorem dX0_lossIn_69 : decode cX0_lossIn 69 = .ok (.goto (-60), 3) := dk_167 255 196 (dk_at dksX0_lossIn_3 0 rfl rfl)
theorem dX0_lossIn_72 : decode cX0_lossIn 72 = .ok (.iload_n 3, 1) := dk_29 (dk_at dksX0_lossIn_3 3 rfl rfl)
theorem dX0_lossIn_73 : decode cX0_lossIn 73 = .ok (.ireturn, 1) := dk_172 (dk_at dksX0_lossIn_3 4 rfl rfl)
abbrev cX0_matters : ByteArray := prog_1_method_37_code
def yX0_matters : MethodName := ⟨RX0, "matters", "()I"⟩
def dkwX0_matters_4 : List UInt8 := [29, 120, 167, 0, 4, 3, 128, 61, 132, 3, 1, 167, 255, 174, 28, 172]
abbrev dktX0_matters_4 : List UInt8 := dkwX0_matters_4 ++ []
def dkwX0_matters_3 : List UInt8 := [167, 255, 236, 28, 42, 180, 0, 45, 42, 180, 0, 183, 42, 180, 0, 21, 182, 0, 49, 27, 159, 0, 9, 4]
abbrev dktX0_matters_3 : List UInt8 := dkwX0_matters_3 ++ dktX0_matters_4
def dkwX0_matters_2 : List UInt8 := [54, 4, 21, 4, 16, 21, 162, 0, 19, 42, 180, 0, 183, 21, 4, 29, 182, 1, 17, 132, 4, 1]
abbrev dktX0_matters_2 : List UInt8 := dkwX0_matters_2 ++ dktX0_matters_3
def dkwX0_matters_1 : List UInt8 := [162, 0, 83, 42, 29, 182, 0, 35, 153, 0, 69, 42, 180, 0, 183, 42, 180, 0, 82, 182, 1, 14, 3]
abbrev dktX0_matters_1 : List UInt8 := dkwX0_matters_1 ++ dktX0_matters_2
def dkwX0_matters_0 : List UInt8 := [42, 180, 0, 45, 42, 180, 0, 82, 42, 180, 0, 21, 182, 0, 49, 60, 3, 61, 3, 62, 29, 7]
abbrev dktX0_matters_0 : List UInt8 := dkwX0_matters_0 ++ dktX0_matters_1
theorem dksX0_matters_0 : cX0_matters.data.toList.drop 0 = dktX0_matters_0 := by decide +kernel
theorem dksX0_matters_1 : cX0_matters.data.toList.drop 22 = dktX0_matters_1 := dk_seg dksX0_matters_0 22 rfl rfl
theorem dksX0_matters_2 : cX0_matters.data.toList.drop 45 = dktX0_matters_2 := dk_seg dksX0_matters_1 23 rfl rfl
theorem dksX0_matters_3 : cX0_matters.data.toList.drop 67 = dktX0_matters_3 := dk_seg dksX0_matters_2 22 rfl rfl
theorem dksX0_matters_4 : cX0_matters.data.toList.drop 91 = dktX0_matters_4 := dk_seg dksX0_matters_3 24 rfl rfl
theorem dX0_matters_0 : decode cX0_matters 0 = .ok (.aload_n 0, 1) := dk_42 (dk_at dksX0_matters_0 0 rfl rfl)
theorem dX0_matters_1 : decode cX0_matters 1 = .ok (.getfield 45, 3) := dk_180 0 45 (dk_at dksX0_matters_0 1 rfl rfl)
theorem dX0_matters_4 : decode cX0_matters 4 = .ok (.aload_n 0, 1) := dk_42 (dk_at dksX0_matters_0 4 rfl rfl)
theorem dX0_matters_5 : decode cX0_matters 5 = .ok (.getfield 82, 3) := dk_180 0 82 (dk_at dksX0_matters_0 5 rfl rfl)
theorem dX0_matters_8 : decode cX0_matters 8 = .ok (.aload_n 0, 1) := dk_42 (dk_at dksX0_matters_0 8 rfl rfl)
theorem dX0_matters_9 : decode cX0_matters 9 = .ok (.getfield 21, 3) := dk_180 0 21 (dk_at dksX0_matters_0 9 rfl rfl)
theorem dX0_matters_12 : decode cX0_matters 12 = .ok (.invokevirtual 49, 3) := dk_182 0 49 (dk_at dksX0_matters_0 12 rfl rfl)
theorem dX0_matters_15 : decode cX0_matters 15 = .ok (.istore_n 1, 1) := dk_60 (dk_at dksX0_matters_0 15 rfl rfl)
theorem dX0_matters_16 : decode cX0_matters 16 = .ok (.iconst 0, 1) := dk_3 (dk_at dksX0_matters_0 16 rfl rfl)
theorem dX0_matters_17 : decode cX0_matters 17 = .ok (.istore_n 2, 1) := dk_61 (dk_at dksX0_matters_0 17 rfl rfl)
theorem dX0_matters_18 : decode cX0_matters 18 = .ok (.iconst 0, 1) := dk_3 (dk_at dksX0_matters_0 18 rfl rfl)
theorem dX0_matters_19 : decode cX0_matters 19 = .ok (.istore_n 3, 1) := dk_62 (dk_at dksX0_matters_0 19 rfl rfl)
theorem dX0_matters_20 : decode cX0_matters 20 = .ok (.iload_n 3, 1) := dk_29 (dk_at dksX0_matters_0 20 rfl rfl)
theorem dX0_matters_21 : decode cX0_matters 21 = .ok (.iconst 4, 1) := dk_7 (dk_at dksX0_matters_0 21 rfl rfl)
theorem dX0_matters_22 : decode cX0_matters 22 = .ok (.if_icmp .ge 83, 3) := dk_162 0 83 (dk_at dksX0_matters_1 0 rfl rfl)
theorem dX0_matters_25 : decode cX0_matters 25 = .ok (.aload_n 0, 1) := dk_42 (dk_at dksX0_matters_1 3 rfl rfl)
theorem dX0_matters_26 : decode cX0_matters 26 = .ok (.iload_n 3, 1) := dk_29 (dk_at dksX0_matters_1 4 rfl rfl)
theorem dX0_matters_27 : decode cX0_matters 27 = .ok (.invokevirtual 35, 3) := dk_182 0 35 (dk_at dksX0_matters_1 5 rfl rfl)
theorem dX0_matters_30 : decode cX0_matters 30 = .ok (.ifCond .eq 69, 3) := dk_153 0 69 (dk_at dksX0_matters_1 8 rfl rfl)
theorem dX0_matters_33 : decode cX0_matters 33 = .ok (.aload_n 0, 1) := dk_42 (dk_at dksX0_matters_1 11 rfl rfl)
theorem dX0_matters_34 : decode cX0_matters 34 = .ok (.getfield 183, 3) := dk_180 0 183 (dk_at dksX0_matters_1 12 rfl rfl)
theorem dX0_matters_37 : decode cX0_matters 37 = .ok (.aload_n 0, 1) := dk_42 (dk_at dksX0_matters_1 15 rfl rfl)
theorem dX0_matters_38 : decode cX0_matters 38 = .ok (.getfield 82, 3) := dk_180 0 82 (dk_at dksX0_matters_1 16 rfl rfl)
theorem dX0_matters_41 : decode cX0_matters 41 = .ok (.invokevirtual 270, 3) := dk_182 1 14 (dk_at dksX0_matters_1 19 rfl rfl)
theorem dX0_matters_44 : decode cX0_matters 44 = .ok (.iconst 0, 1) := dk_3 (dk_at dksX0_matters_1 22 rfl rfl)
theorem dX0_matters_45 : decode cX0_matters 45 = .ok (.istore 4, 2) := dk_54 4 (dk_at dksX0_matters_2 0 rfl rfl)
theorem dX0_matters_47 : decode cX0_matters 47 = .ok (.iload 4, 2) := dk_21 4 (dk_at dksX0_matters_2 2 rfl rfl)
theorem dX0_matters_49 : decode cX0_matters 49 = .ok (.bipush 21, 2) := dk_16 21 (dk_at dksX0_matters_2 4 rfl rfl)
theorem dX0_matters_51 : decode cX0_matters 51 = .ok (.if_icmp .ge 19, 3) := dk_162 0 19 (dk_at dksX0_matters_2 6 rfl rfl)
theorem dX0_matters_54 : decode cX0_matters 54 = .ok (.aload_n 0, 1) := dk_42 (dk_at dksX0_matters_2 9 rfl rfl)
theorem dX0_matters_55 : decode cX0_matters 55 = .ok (.getfield 183, 3) := dk_180 0 183 (dk_at dksX0_matters_2 10 rfl rfl)
theorem dX0_matters_58 : decode cX0_matters 58 = .ok (.iload 4, 2) := dk_21 4 (dk_at dksX0_matters_2 13 rfl rfl)
theorem dX0_matters_60 : decode cX0_matters 60 = .ok (.iload_n 3, 1) := dk_29 (dk_at dksX0_matters_2 15 rfl rfl)
theorem dX0_matters_61 : decode cX0_matters 61 = .ok (.invokevirtual 273, 3) := dk_182 1 17 (dk_at dksX0_matters_2 16 rfl rfl)
theorem dX0_matters_64 : decode cX0_matters 64 = .ok (.iinc 4 1, 3) := dk_132 4 1 (dk_at dksX0_matters_2 19 rfl rfl)
theorem dX0_matters_67 : decode cX0_matters 67 = .ok (.goto (-20), 3) := dk_167 255 236 (dk_at dksX0_matters_3 0 rfl rfl)
theorem dX0_matters_70 : decode cX0_matters 70 = .ok (.iload_n 2, 1) := dk_28 (dk_at dksX0_matters_3 3 rfl rfl)
theorem dX0_matters_71 : decode cX0_matters 71 = .ok (.aload_n 0, 1) := dk_42 (dk_at dksX0_matters_3 4 rfl rfl)
theorem dX0_matters_72 : decode cX0_matters 72 = .ok (.getfield 45, 3) := dk_180 0 45 (dk_at dksX0_matters_3 5 rfl rfl)
theorem dX0_matters_75 : decode cX0_matters 75 = .ok (.aload_n 0, 1) := dk_42 (dk_at dksX0_matters_3 8 rfl rfl)
theorem dX0_matters_76 : decode cX0_matters 76 = .ok (.getfield 183, 3) := dk_180 0 183 (dk_at dksX0_matters_3 9 rfl rfl)
theorem dX0_matters_79 : decode cX0_matters 79 = .ok (.aload_n 0, 1) := dk_42 (dk_at dksX0_matters_3 12 rfl rfl)
theorem dX0_matters_80 : decode cX0_matters 80 = .ok (.getfield 21, 3) := dk_180 0 21 (dk_at dksX0_matters_3 13 rfl rfl)
theorem dX0_matters_83 : decode cX0_matters 83 = .ok (.invokevirtual 49, 3) := dk_182 0 49 (dk_at dksX0_matters_3 16 rfl rfl)
theorem dX0_matters_86 : decode cX0_matters 86 = .ok (.iload_n 1, 1) := dk_27 (dk_at dksX0_matters_3 19 rfl rfl)
theorem dX0_matters_87 : decode cX0_matters 87 = .ok (.if_icmp .eq 9, 3) := dk_159 0 9 (dk_at dksX0_matters_3 20 rfl rfl)
theorem dX0_matters_90 : decode cX0_matters 90 = .ok (.iconst 1, 1) := dk_4 (dk_at dksX0_matters_3 23 rfl rfl)
theorem dX0_matters_91 : decode cX0_matters 91 = .ok (.iload_n 3, 1) := dk_29 (dk_at dksX0_matters_4 0 rfl rfl)
theorem dX0_matters_92 : decode cX0_matters 92 = .ok (.ishl, 1) := dk_120 (dk_at dksX0_matters_4 1 rfl rfl)
theorem dX0_matters_93 : decode cX0_matters 93 = .ok (.goto 4, 3) := dk_167 0 4 (dk_at dksX0_matters_4 2 rfl rfl)
theorem dX0_matters_96 : decode cX0_matters 96 = .ok (.iconst 0, 1) := dk_3 (dk_at dksX0_matters_4 5 rfl rfl)
theorem dX0_matters_97 : decode cX0_matters 97 = .ok (.ior, 1) := dk_128 (dk_at dksX0_matters_4 6 rfl rfl)
theorem dX0_matters_98 : decode cX0_matters 98 = .ok (.istore_n 2, 1) := dk_61 (dk_at dksX0_matters_4 7 rfl rfl)
theorem dX0_matters_99 : decode cX0_matters 99 = .ok (.iinc 3 1, 3) := dk_132 3 1 (dk_at dksX0_matters_4 8 rfl rfl)
theorem dX0_matters_102 : decode cX0_matters 102 = .ok (.goto (-82), 3) := dk_167 255 174 (dk_at dksX0_matters_4 11 rfl rfl)
theorem dX0_matters_105 : decode cX0_matters 105 = .ok (.iload_n 2, 1) := dk_28 (dk_at dksX0_matters_4 14 rfl rfl)
theorem dX0_matters_106 : decode cX0_matters 106 = .ok (.ireturn, 1) := dk_172 (dk_at dksX0_matters_4 15 rfl rfl)
abbrev cX0_counted : ByteArray := prog_1_method_38_code
def yX0_counted : MethodName := ⟨RX0, "counted", "(III)I"⟩
def dkwX0_counted_3 : List UInt8 := [183, 1, 40, 182, 1, 41, 87, 42, 180, 0, 142, 182, 0, 146, 172]
abbrev dktX0_counted_3 : List UInt8 := dkwX0_counted_3 ++ []
def dkwX0_counted_2 : List UInt8 := [182, 0, 146, 16, 12, 160, 0, 6, 16, 251, 172, 42, 180, 0, 142, 187, 0, 156, 89, 27, 28, 29]
abbrev dktX0_counted_2 : List UInt8 := dkwX0_counted_2 ++ dktX0_counted_3
def dkwX0_counted_1 : List UInt8 := [16, 254, 172, 29, 133, 9, 20, 1, 9, 184, 0, 5, 154, 0, 6, 16, 253, 172, 42, 180, 0, 142]
abbrev dktX0_counted_1 : List UInt8 := dkwX0_counted_1 ++ dktX0_counted_2
def dkwX0_counted_0 : List UInt8 := [27, 133, 9, 20, 0, 242, 184, 0, 5, 153, 0, 15, 28, 133, 9, 20, 0, 3, 184, 0, 5, 154, 0, 6]
abbrev dktX0_counted_0 : List UInt8 := dkwX0_counted_0 ++ dktX0_counted_1
theorem dksX0_counted_0 : cX0_counted.data.toList.drop 0 = dktX0_counted_0 := by decide +kernel
theorem dksX0_counted_1 : cX0_counted.data.toList.drop 24 = dktX0_counted_1 := dk_seg dksX0_counted_0 24 rfl rfl
theorem dksX0_counted_2 : cX0_counted.data.toList.drop 46 = dktX0_counted_2 := dk_seg dksX0_counted_1 22 rfl rfl
theorem dksX0_counted_3 : cX0_counted.data.toList.drop 68 = dktX0_counted_3 := dk_seg dksX0_counted_2 22 rfl rfl
theorem dX0_counted_0 : decode cX0_counted 0 = .ok (.iload_n 1, 1) := dk_27 (dk_at dksX0_counted_0 0 rfl rfl)
theorem dX0_counted_1 : decode cX0_counted 1 = .ok (.i2l, 1) := dk_133 (dk_at dksX0_counted_0 1 rfl rfl)
theorem dX0_counted_2 : decode cX0_counted 2 = .ok (.lconst 0, 1) := dk_9 (dk_at dksX0_counted_0 2 rfl rfl)
theorem dX0_counted_3 : decode cX0_counted 3 = .ok (.ldc2_w 242, 3) := dk_20 0 242 (dk_at dksX0_counted_0 3 rfl rfl)
theorem dX0_counted_6 : decode cX0_counted 6 = .ok (.invokestatic 5, 3) := dk_184 0 5 (dk_at dksX0_counted_0 6 rfl rfl)
theorem dX0_counted_9 : decode cX0_counted 9 = .ok (.ifCond .eq 15, 3) := dk_153 0 15 (dk_at dksX0_counted_0 9 rfl rfl)
theorem dX0_counted_12 : decode cX0_counted 12 = .ok (.iload_n 2, 1) := dk_28 (dk_at dksX0_counted_0 12 rfl rfl)
theorem dX0_counted_13 : decode cX0_counted 13 = .ok (.i2l, 1) := dk_133 (dk_at dksX0_counted_0 13 rfl rfl)
theorem dX0_counted_14 : decode cX0_counted 14 = .ok (.lconst 0, 1) := dk_9 (dk_at dksX0_counted_0 14 rfl rfl)
theorem dX0_counted_15 : decode cX0_counted 15 = .ok (.ldc2_w 3, 3) := dk_20 0 3 (dk_at dksX0_counted_0 15 rfl rfl)
theorem dX0_counted_18 : decode cX0_counted 18 = .ok (.invokestatic 5, 3) := dk_184 0 5 (dk_at dksX0_counted_0 18 rfl rfl)
theorem dX0_counted_21 : decode cX0_counted 21 = .ok (.ifCond .ne 6, 3) := dk_154 0 6 (dk_at dksX0_counted_0 21 rfl rfl)
theorem dX0_counted_24 : decode cX0_counted 24 = .ok (.bipush (-2), 2) := dk_16 254 (dk_at dksX0_counted_1 0 rfl rfl)
theorem dX0_counted_26 : decode cX0_counted 26 = .ok (.ireturn, 1) := dk_172 (dk_at dksX0_counted_1 2 rfl rfl)
theorem dX0_counted_27 : decode cX0_counted 27 = .ok (.iload_n 3, 1) := dk_29 (dk_at dksX0_counted_1 3 rfl rfl)
theorem dX0_counted_28 : decode cX0_counted 28 = .ok (.i2l, 1) := dk_133 (dk_at dksX0_counted_1 4 rfl rfl)
theorem dX0_counted_29 : decode cX0_counted 29 = .ok (.lconst 0, 1) := dk_9 (dk_at dksX0_counted_1 5 rfl rfl)
theorem dX0_counted_30 : decode cX0_counted 30 = .ok (.ldc2_w 265, 3) := dk_20 1 9 (dk_at dksX0_counted_1 6 rfl rfl)
theorem dX0_counted_33 : decode cX0_counted 33 = .ok (.invokestatic 5, 3) := dk_184 0 5 (dk_at dksX0_counted_1 9 rfl rfl)
theorem dX0_counted_36 : decode cX0_counted 36 = .ok (.ifCond .ne 6, 3) := dk_154 0 6 (dk_at dksX0_counted_1 12 rfl rfl)
theorem dX0_counted_39 : decode cX0_counted 39 = .ok (.bipush (-3), 2) := dk_16 253 (dk_at dksX0_counted_1 15 rfl rfl)
theorem dX0_counted_41 : decode cX0_counted 41 = .ok (.ireturn, 1) := dk_172 (dk_at dksX0_counted_1 17 rfl rfl)
theorem dX0_counted_42 : decode cX0_counted 42 = .ok (.aload_n 0, 1) := dk_42 (dk_at dksX0_counted_1 18 rfl rfl)
theorem dX0_counted_43 : decode cX0_counted 43 = .ok (.getfield 142, 3) := dk_180 0 142 (dk_at dksX0_counted_1 19 rfl rfl)
theorem dX0_counted_46 : decode cX0_counted 46 = .ok (.invokevirtual 146, 3) := dk_182 0 146 (dk_at dksX0_counted_2 0 rfl rfl)
theorem dX0_counted_49 : decode cX0_counted 49 = .ok (.bipush 12, 2) := dk_16 12 (dk_at dksX0_counted_2 3 rfl rfl)
theorem dX0_counted_51 : decode cX0_counted 51 = .ok (.if_icmp .ne 6, 3) := dk_160 0 6 (dk_at dksX0_counted_2 5 rfl rfl)
theorem dX0_counted_54 : decode cX0_counted 54 = .ok (.bipush (-5), 2) := dk_16 251 (dk_at dksX0_counted_2 8 rfl rfl)
theorem dX0_counted_56 : decode cX0_counted 56 = .ok (.ireturn, 1) := dk_172 (dk_at dksX0_counted_2 10 rfl rfl)
theorem dX0_counted_57 : decode cX0_counted 57 = .ok (.aload_n 0, 1) := dk_42 (dk_at dksX0_counted_2 11 rfl rfl)
theorem dX0_counted_58 : decode cX0_counted 58 = .ok (.getfield 142, 3) := dk_180 0 142 (dk_at dksX0_counted_2 12 rfl rfl)
theorem dX0_counted_61 : decode cX0_counted 61 = .ok (.new 156, 3) := dk_187 0 156 (dk_at dksX0_counted_2 15 rfl rfl)
theorem dX0_counted_64 : decode cX0_counted 64 = .ok (.dup, 1) := dk_89 (dk_at dksX0_counted_2 18 rfl rfl)
theorem dX0_counted_65 : decode cX0_counted 65 = .ok (.iload_n 1, 1) := dk_27 (dk_at dksX0_counted_2 19 rfl rfl)
theorem dX0_counted_66 : decode cX0_counted 66 = .ok (.iload_n 2, 1) := dk_28 (dk_at dksX0_counted_2 20 rfl rfl)
theorem dX0_counted_67 : decode cX0_counted 67 = .ok (.iload_n 3, 1) := dk_29 (dk_at dksX0_counted_2 21 rfl rfl)
theorem dX0_counted_68 : decode cX0_counted 68 = .ok (.invokespecial 296, 3) := dk_183 1 40 (dk_at dksX0_counted_3 0 rfl rfl)
theorem dX0_counted_71 : decode cX0_counted 71 = .ok (.invokevirtual 297, 3) := dk_182 1 41 (dk_at dksX0_counted_3 3 rfl rfl)
theorem dX0_counted_74 : decode cX0_counted 74 = .ok (.pop, 1) := dk_87 (dk_at dksX0_counted_3 6 rfl rfl)
theorem dX0_counted_75 : decode cX0_counted 75 = .ok (.aload_n 0, 1) := dk_42 (dk_at dksX0_counted_3 7 rfl rfl)
theorem dX0_counted_76 : decode cX0_counted 76 = .ok (.getfield 142, 3) := dk_180 0 142 (dk_at dksX0_counted_3 8 rfl rfl)
theorem dX0_counted_79 : decode cX0_counted 79 = .ok (.invokevirtual 146, 3) := dk_182 0 146 (dk_at dksX0_counted_3 11 rfl rfl)
theorem dX0_counted_82 : decode cX0_counted 82 = .ok (.ireturn, 1) := dk_172 (dk_at dksX0_counted_3 14 rfl rfl)
abbrev cX0_learnt : ByteArray := prog_1_method_39_code
def yX0_learnt : MethodName := ⟨RX0, "learnt", "(I)I"⟩
def dkwX0_learnt_5 : List UInt8 := [112, 172]
abbrev dktX0_learnt_5 : List UInt8 := dkwX0_learnt_5 ++ []
def dkwX0_learnt_4 : List UInt8 := [160, 0, 7, 2, 167, 0, 21, 27, 4, 160, 0, 11, 29, 17, 3, 232, 108, 167, 0, 8, 29, 17, 3, 232]
abbrev dktX0_learnt_4 : List UInt8 := dkwX0_learnt_4 ++ dktX0_learnt_5
def dkwX0_learnt_3 : List UInt8 := [132, 5, 10, 167, 255, 214, 132, 4, 1, 167, 255, 198, 27, 154, 0, 7, 28, 167, 0, 30, 29, 2]
abbrev dktX0_learnt_3 : List UInt8 := dkwX0_learnt_3 ++ dktX0_learnt_4
def dkwX0_learnt_2 : List UInt8 := [153, 0, 24, 28, 154, 0, 15, 17, 3, 232, 21, 4, 104, 21, 5, 96, 167, 0, 4, 29, 62, 132, 2, 1]
abbrev dktX0_learnt_2 : List UInt8 := dkwX0_learnt_2 ++ dktX0_learnt_3
def dkwX0_learnt_1 : List UInt8 := [16, 100, 162, 0, 57, 3, 54, 5, 21, 5, 16, 100, 163, 0, 41, 42, 21, 4, 21, 5, 182, 1, 45]
abbrev dktX0_learnt_1 : List UInt8 := dkwX0_learnt_1 ++ dktX0_learnt_2
def dkwX0_learnt_0 : List UInt8 := [27, 133, 9, 20, 1, 4, 184, 0, 5, 154, 0, 6, 16, 253, 172, 3, 61, 2, 62, 3, 54, 4, 21, 4]
abbrev dktX0_learnt_0 : List UInt8 := dkwX0_learnt_0 ++ dktX0_learnt_1
theorem dksX0_learnt_0 : cX0_learnt.data.toList.drop 0 = dktX0_learnt_0 := by decide +kernel
theorem dksX0_learnt_1 : cX0_learnt.data.toList.drop 24 = dktX0_learnt_1 := dk_seg dksX0_learnt_0 24 rfl rfl
theorem dksX0_learnt_2 : cX0_learnt.data.toList.drop 47 = dktX0_learnt_2 := dk_seg dksX0_learnt_1 23 rfl rfl
theorem dksX0_learnt_3 : cX0_learnt.data.toList.drop 71 = dktX0_learnt_3 := dk_seg dksX0_learnt_2 24 rfl rfl
theorem dksX0_learnt_4 : cX0_learnt.data.toList.drop 93 = dktX0_learnt_4 := dk_seg dksX0_learnt_3 22 rfl rfl
theorem dksX0_learnt_5 : cX0_learnt.data.toList.drop 117 = dktX0_learnt_5 := dk_seg dksX0_learnt_4 24 rfl rfl
theorem dX0_learnt_0 : decode cX0_learnt 0 = .ok (.iload_n 1, 1) := dk_27 (dk_at dksX0_learnt_0 0 rfl rfl)
theorem dX0_learnt_1 : decode cX0_learnt 1 = .ok (.i2l, 1) := dk_133 (dk_at dksX0_learnt_0 1 rfl rfl)
theorem dX0_learnt_2 : decode cX0_learnt 2 = .ok (.lconst 0, 1) := dk_9 (dk_at dksX0_learnt_0 2 rfl rfl)
theorem dX0_learnt_3 : decode cX0_learnt 3 = .ok (.ldc2_w 260, 3) := dk_20 1 4 (dk_at dksX0_learnt_0 3 rfl rfl)
theorem dX0_learnt_6 : decode cX0_learnt 6 = .ok (.invokestatic 5, 3) := dk_184 0 5 (dk_at dksX0_learnt_0 6 rfl rfl)
theorem dX0_learnt_9 : decode cX0_learnt 9 = .ok (.ifCond .ne 6, 3) := dk_154 0 6 (dk_at dksX0_learnt_0 9 rfl rfl)
theorem dX0_learnt_12 : decode cX0_learnt 12 = .ok (.bipush (-3), 2) := dk_16 253 (dk_at dksX0_learnt_0 12 rfl rfl)
theorem dX0_learnt_14 : decode cX0_learnt 14 = .ok (.ireturn, 1) := dk_172 (dk_at dksX0_learnt_0 14 rfl rfl)
theorem dX0_learnt_15 : decode cX0_learnt 15 = .ok (.iconst 0, 1) := dk_3 (dk_at dksX0_learnt_0 15 rfl rfl)
theorem dX0_learnt_16 : decode cX0_learnt 16 = .ok (.istore_n 2, 1) := dk_61 (dk_at dksX0_learnt_0 16 rfl rfl)
theorem dX0_learnt_17 : decode cX0_learnt 17 = .ok (.iconst (-1), 1) := dk_2 (dk_at dksX0_learnt_0 17 rfl rfl)
theorem dX0_learnt_18 : decode cX0_learnt 18 = .ok (.istore_n 3, 1) := dk_62 (dk_at dksX0_learnt_0 18 rfl rfl)
theorem dX0_learnt_19 : decode cX0_learnt 19 = .ok (.iconst 0, 1) := dk_3 (dk_at dksX0_learnt_0 19 rfl rfl)
theorem dX0_learnt_20 : decode cX0_learnt 20 = .ok (.istore 4, 2) := dk_54 4 (dk_at dksX0_learnt_0 20 rfl rfl)
theorem dX0_learnt_22 : decode cX0_learnt 22 = .ok (.iload 4, 2) := dk_21 4 (dk_at dksX0_learnt_0 22 rfl rfl)
theorem dX0_learnt_24 : decode cX0_learnt 24 = .ok (.bipush 100, 2) := dk_16 100 (dk_at dksX0_learnt_1 0 rfl rfl)
theorem dX0_learnt_26 : decode cX0_learnt 26 = .ok (.if_icmp .ge 57, 3) := dk_162 0 57 (dk_at dksX0_learnt_1 2 rfl rfl)
theorem dX0_learnt_29 : decode cX0_learnt 29 = .ok (.iconst 0, 1) := dk_3 (dk_at dksX0_learnt_1 5 rfl rfl)
theorem dX0_learnt_30 : decode cX0_learnt 30 = .ok (.istore 5, 2) := dk_54 5 (dk_at dksX0_learnt_1 6 rfl rfl)
theorem dX0_learnt_32 : decode cX0_learnt 32 = .ok (.iload 5, 2) := dk_21 5 (dk_at dksX0_learnt_1 8 rfl rfl)
theorem dX0_learnt_34 : decode cX0_learnt 34 = .ok (.bipush 100, 2) := dk_16 100 (dk_at dksX0_learnt_1 10 rfl rfl)
theorem dX0_learnt_36 : decode cX0_learnt 36 = .ok (.if_icmp .gt 41, 3) := dk_163 0 41 (dk_at dksX0_learnt_1 12 rfl rfl)
theorem dX0_learnt_39 : decode cX0_learnt 39 = .ok (.aload_n 0, 1) := dk_42 (dk_at dksX0_learnt_1 15 rfl rfl)
theorem dX0_learnt_40 : decode cX0_learnt 40 = .ok (.iload 4, 2) := dk_21 4 (dk_at dksX0_learnt_1 16 rfl rfl)
theorem dX0_learnt_42 : decode cX0_learnt 42 = .ok (.iload 5, 2) := dk_21 5 (dk_at dksX0_learnt_1 18 rfl rfl)
theorem dX0_learnt_44 : decode cX0_learnt 44 = .ok (.invokevirtual 301, 3) := dk_182 1 45 (dk_at dksX0_learnt_1 20 rfl rfl)
theorem dX0_learnt_47 : decode cX0_learnt 47 = .ok (.ifCond .eq 24, 3) := dk_153 0 24 (dk_at dksX0_learnt_2 0 rfl rfl)
theorem dX0_learnt_50 : decode cX0_learnt 50 = .ok (.iload_n 2, 1) := dk_28 (dk_at dksX0_learnt_2 3 rfl rfl)
theorem dX0_learnt_51 : decode cX0_learnt 51 = .ok (.ifCond .ne 15, 3) := dk_154 0 15 (dk_at dksX0_learnt_2 4 rfl rfl)
theorem dX0_learnt_54 : decode cX0_learnt 54 = .ok (.sipush 1000, 3) := dk_17 3 232 (dk_at dksX0_learnt_2 7 rfl rfl)
theorem dX0_learnt_57 : decode cX0_learnt 57 = .ok (.iload 4, 2) := dk_21 4 (dk_at dksX0_learnt_2 10 rfl rfl)
theorem dX0_learnt_59 : decode cX0_learnt 59 = .ok (.imul, 1) := dk_104 (dk_at dksX0_learnt_2 12 rfl rfl)
theorem dX0_learnt_60 : decode cX0_learnt 60 = .ok (.iload 5, 2) := dk_21 5 (dk_at dksX0_learnt_2 13 rfl rfl)
theorem dX0_learnt_62 : decode cX0_learnt 62 = .ok (.iadd, 1) := dk_96 (dk_at dksX0_learnt_2 15 rfl rfl)
theorem dX0_learnt_63 : decode cX0_learnt 63 = .ok (.goto 4, 3) := dk_167 0 4 (dk_at dksX0_learnt_2 16 rfl rfl)
theorem dX0_learnt_66 : decode cX0_learnt 66 = .ok (.iload_n 3, 1) := dk_29 (dk_at dksX0_learnt_2 19 rfl rfl)
theorem dX0_learnt_67 : decode cX0_learnt 67 = .ok (.istore_n 3, 1) := dk_62 (dk_at dksX0_learnt_2 20 rfl rfl)
theorem dX0_learnt_68 : decode cX0_learnt 68 = .ok (.iinc 2 1, 3) := dk_132 2 1 (dk_at dksX0_learnt_2 21 rfl rfl)
theorem dX0_learnt_71 : decode cX0_learnt 71 = .ok (.iinc 5 10, 3) := dk_132 5 10 (dk_at dksX0_learnt_3 0 rfl rfl)
theorem dX0_learnt_74 : decode cX0_learnt 74 = .ok (.goto (-42), 3) := dk_167 255 214 (dk_at dksX0_learnt_3 3 rfl rfl)
theorem dX0_learnt_77 : decode cX0_learnt 77 = .ok (.iinc 4 1, 3) := dk_132 4 1 (dk_at dksX0_learnt_3 6 rfl rfl)
theorem dX0_learnt_80 : decode cX0_learnt 80 = .ok (.goto (-58), 3) := dk_167 255 198 (dk_at dksX0_learnt_3 9 rfl rfl)
theorem dX0_learnt_83 : decode cX0_learnt 83 = .ok (.iload_n 1, 1) := dk_27 (dk_at dksX0_learnt_3 12 rfl rfl)
theorem dX0_learnt_84 : decode cX0_learnt 84 = .ok (.ifCond .ne 7, 3) := dk_154 0 7 (dk_at dksX0_learnt_3 13 rfl rfl)
theorem dX0_learnt_87 : decode cX0_learnt 87 = .ok (.iload_n 2, 1) := dk_28 (dk_at dksX0_learnt_3 16 rfl rfl)
theorem dX0_learnt_88 : decode cX0_learnt 88 = .ok (.goto 30, 3) := dk_167 0 30 (dk_at dksX0_learnt_3 17 rfl rfl)
theorem dX0_learnt_91 : decode cX0_learnt 91 = .ok (.iload_n 3, 1) := dk_29 (dk_at dksX0_learnt_3 20 rfl rfl)
theorem dX0_learnt_92 : decode cX0_learnt 92 = .ok (.iconst (-1), 1) := dk_2 (dk_at dksX0_learnt_3 21 rfl rfl)
theorem dX0_learnt_93 : decode cX0_learnt 93 = .ok (.if_icmp .ne 7, 3) := dk_160 0 7 (dk_at dksX0_learnt_4 0 rfl rfl)
theorem dX0_learnt_96 : decode cX0_learnt 96 = .ok (.iconst (-1), 1) := dk_2 (dk_at dksX0_learnt_4 3 rfl rfl)
theorem dX0_learnt_97 : decode cX0_learnt 97 = .ok (.goto 21, 3) := dk_167 0 21 (dk_at dksX0_learnt_4 4 rfl rfl)
theorem dX0_learnt_100 : decode cX0_learnt 100 = .ok (.iload_n 1, 1) := dk_27 (dk_at dksX0_learnt_4 7 rfl rfl)
theorem dX0_learnt_101 : decode cX0_learnt 101 = .ok (.iconst 1, 1) := dk_4 (dk_at dksX0_learnt_4 8 rfl rfl)
theorem dX0_learnt_102 : decode cX0_learnt 102 = .ok (.if_icmp .ne 11, 3) := dk_160 0 11 (dk_at dksX0_learnt_4 9 rfl rfl)
theorem dX0_learnt_105 : decode cX0_learnt 105 = .ok (.iload_n 3, 1) := dk_29 (dk_at dksX0_learnt_4 12 rfl rfl)
theorem dX0_learnt_106 : decode cX0_learnt 106 = .ok (.sipush 1000, 3) := dk_17 3 232 (dk_at dksX0_learnt_4 13 rfl rfl)
theorem dX0_learnt_109 : decode cX0_learnt 109 = .ok (.idiv, 1) := dk_108 (dk_at dksX0_learnt_4 16 rfl rfl)
theorem dX0_learnt_110 : decode cX0_learnt 110 = .ok (.goto 8, 3) := dk_167 0 8 (dk_at dksX0_learnt_4 17 rfl rfl)
theorem dX0_learnt_113 : decode cX0_learnt 113 = .ok (.iload_n 3, 1) := dk_29 (dk_at dksX0_learnt_4 20 rfl rfl)
theorem dX0_learnt_114 : decode cX0_learnt 114 = .ok (.sipush 1000, 3) := dk_17 3 232 (dk_at dksX0_learnt_4 21 rfl rfl)
theorem dX0_learnt_117 : decode cX0_learnt 117 = .ok (.irem, 1) := dk_112 (dk_at dksX0_learnt_5 0 rfl rfl)
theorem dX0_learnt_118 : decode cX0_learnt 118 = .ok (.ireturn, 1) := dk_172 (dk_at dksX0_learnt_5 1 rfl rfl)
abbrev cX0_holds : ByteArray := prog_1_method_11_code
def yX0_holds : MethodName := ⟨RX0, "holds", "(II)Z"⟩
def dkwX0_holds_5 : List UInt8 := [3, 159, 0, 5, 3, 172, 132, 4, 1, 167, 255, 183, 132, 3, 1, 167, 255, 134, 4, 172]
abbrev dktX0_holds_5 : List UInt8 := dkwX0_holds_5 ++ []
def dkwX0_holds_4 : List UInt8 := [29, 42, 180, 0, 21, 162, 0, 19, 42, 180, 0, 45, 180, 0, 164, 25, 5, 180, 0, 168, 46, 167, 0, 4]
abbrev dktX0_holds_4 : List UInt8 := dkwX0_holds_4 ++ dktX0_holds_5
def dkwX0_holds_3 : List UInt8 := [21, 4, 182, 0, 152, 192, 0, 156, 58, 5, 25, 5, 180, 0, 158, 29, 160, 0, 38, 25, 5, 180, 0, 161]
abbrev dktX0_holds_3 : List UInt8 := dkwX0_holds_3 ++ dktX0_holds_4
def dkwX0_holds_2 : List UInt8 := [50, 182, 0, 106, 87, 3, 54, 4, 21, 4, 42, 180, 0, 142, 182, 0, 146, 162, 0, 67, 42, 180, 0, 142]
abbrev dktX0_holds_2 : List UInt8 := dkwX0_holds_2 ++ dktX0_holds_3
def dkwX0_holds_1 : List UInt8 := [162, 0, 29, 42, 180, 0, 45, 42, 180, 0, 82, 180, 0, 25, 29, 50, 42, 180, 0, 82, 180, 0, 38, 29]
abbrev dktX0_holds_1 : List UInt8 := dkwX0_holds_1 ++ dktX0_holds_2
def dkwX0_holds_0 : List UInt8 := [42, 180, 0, 45, 27, 28, 182, 0, 139, 3, 62, 29, 16, 21, 162, 0, 122, 29, 42, 180, 0, 21]
abbrev dktX0_holds_0 : List UInt8 := dkwX0_holds_0 ++ dktX0_holds_1
theorem dksX0_holds_0 : cX0_holds.data.toList.drop 0 = dktX0_holds_0 := by decide +kernel
theorem dksX0_holds_1 : cX0_holds.data.toList.drop 22 = dktX0_holds_1 := dk_seg dksX0_holds_0 22 rfl rfl
theorem dksX0_holds_2 : cX0_holds.data.toList.drop 46 = dktX0_holds_2 := dk_seg dksX0_holds_1 24 rfl rfl
theorem dksX0_holds_3 : cX0_holds.data.toList.drop 70 = dktX0_holds_3 := dk_seg dksX0_holds_2 24 rfl rfl
theorem dksX0_holds_4 : cX0_holds.data.toList.drop 94 = dktX0_holds_4 := dk_seg dksX0_holds_3 24 rfl rfl
theorem dksX0_holds_5 : cX0_holds.data.toList.drop 118 = dktX0_holds_5 := dk_seg dksX0_holds_4 24 rfl rfl
theorem dX0_holds_0 : decode cX0_holds 0 = .ok (.aload_n 0, 1) := dk_42 (dk_at dksX0_holds_0 0 rfl rfl)
theorem dX0_holds_1 : decode cX0_holds 1 = .ok (.getfield 45, 3) := dk_180 0 45 (dk_at dksX0_holds_0 1 rfl rfl)
theorem dX0_holds_4 : decode cX0_holds 4 = .ok (.iload_n 1, 1) := dk_27 (dk_at dksX0_holds_0 4 rfl rfl)
theorem dX0_holds_5 : decode cX0_holds 5 = .ok (.iload_n 2, 1) := dk_28 (dk_at dksX0_holds_0 5 rfl rfl)
theorem dX0_holds_6 : decode cX0_holds 6 = .ok (.invokevirtual 139, 3) := dk_182 0 139 (dk_at dksX0_holds_0 6 rfl rfl)
theorem dX0_holds_9 : decode cX0_holds 9 = .ok (.iconst 0, 1) := dk_3 (dk_at dksX0_holds_0 9 rfl rfl)
theorem dX0_holds_10 : decode cX0_holds 10 = .ok (.istore_n 3, 1) := dk_62 (dk_at dksX0_holds_0 10 rfl rfl)
theorem dX0_holds_11 : decode cX0_holds 11 = .ok (.iload_n 3, 1) := dk_29 (dk_at dksX0_holds_0 11 rfl rfl)
theorem dX0_holds_12 : decode cX0_holds 12 = .ok (.bipush 21, 2) := dk_16 21 (dk_at dksX0_holds_0 12 rfl rfl)
theorem dX0_holds_14 : decode cX0_holds 14 = .ok (.if_icmp .ge 122, 3) := dk_162 0 122 (dk_at dksX0_holds_0 14 rfl rfl)
theorem dX0_holds_17 : decode cX0_holds 17 = .ok (.iload_n 3, 1) := dk_29 (dk_at dksX0_holds_0 17 rfl rfl)
theorem dX0_holds_18 : decode cX0_holds 18 = .ok (.aload_n 0, 1) := dk_42 (dk_at dksX0_holds_0 18 rfl rfl)
theorem dX0_holds_19 : decode cX0_holds 19 = .ok (.getfield 21, 3) := dk_180 0 21 (dk_at dksX0_holds_0 19 rfl rfl)
theorem dX0_holds_22 : decode cX0_holds 22 = .ok (.if_icmp .ge 29, 3) := dk_162 0 29 (dk_at dksX0_holds_1 0 rfl rfl)
theorem dX0_holds_25 : decode cX0_holds 25 = .ok (.aload_n 0, 1) := dk_42 (dk_at dksX0_holds_1 3 rfl rfl)
theorem dX0_holds_26 : decode cX0_holds 26 = .ok (.getfield 45, 3) := dk_180 0 45 (dk_at dksX0_holds_1 4 rfl rfl)
theorem dX0_holds_29 : decode cX0_holds 29 = .ok (.aload_n 0, 1) := dk_42 (dk_at dksX0_holds_1 7 rfl rfl)
theorem dX0_holds_30 : decode cX0_holds 30 = .ok (.getfield 82, 3) := dk_180 0 82 (dk_at dksX0_holds_1 8 rfl rfl)
theorem dX0_holds_33 : decode cX0_holds 33 = .ok (.getfield 25, 3) := dk_180 0 25 (dk_at dksX0_holds_1 11 rfl rfl)
theorem dX0_holds_36 : decode cX0_holds 36 = .ok (.iload_n 3, 1) := dk_29 (dk_at dksX0_holds_1 14 rfl rfl)
theorem dX0_holds_37 : decode cX0_holds 37 = .ok (.aaload, 1) := dk_50 (dk_at dksX0_holds_1 15 rfl rfl)
theorem dX0_holds_38 : decode cX0_holds 38 = .ok (.aload_n 0, 1) := dk_42 (dk_at dksX0_holds_1 16 rfl rfl)
theorem dX0_holds_39 : decode cX0_holds 39 = .ok (.getfield 82, 3) := dk_180 0 82 (dk_at dksX0_holds_1 17 rfl rfl)
theorem dX0_holds_42 : decode cX0_holds 42 = .ok (.getfield 38, 3) := dk_180 0 38 (dk_at dksX0_holds_1 20 rfl rfl)
theorem dX0_holds_45 : decode cX0_holds 45 = .ok (.iload_n 3, 1) := dk_29 (dk_at dksX0_holds_1 23 rfl rfl)
theorem dX0_holds_46 : decode cX0_holds 46 = .ok (.aaload, 1) := dk_50 (dk_at dksX0_holds_2 0 rfl rfl)
theorem dX0_holds_47 : decode cX0_holds 47 = .ok (.invokevirtual 106, 3) := dk_182 0 106 (dk_at dksX0_holds_2 1 rfl rfl)
theorem dX0_holds_50 : decode cX0_holds 50 = .ok (.pop, 1) := dk_87 (dk_at dksX0_holds_2 4 rfl rfl)
theorem dX0_holds_51 : decode cX0_holds 51 = .ok (.iconst 0, 1) := dk_3 (dk_at dksX0_holds_2 5 rfl rfl)
theorem dX0_holds_52 : decode cX0_holds 52 = .ok (.istore 4, 2) := dk_54 4 (dk_at dksX0_holds_2 6 rfl rfl)
theorem dX0_holds_54 : decode cX0_holds 54 = .ok (.iload 4, 2) := dk_21 4 (dk_at dksX0_holds_2 8 rfl rfl)
theorem dX0_holds_56 : decode cX0_holds 56 = .ok (.aload_n 0, 1) := dk_42 (dk_at dksX0_holds_2 10 rfl rfl)
theorem dX0_holds_57 : decode cX0_holds 57 = .ok (.getfield 142, 3) := dk_180 0 142 (dk_at dksX0_holds_2 11 rfl rfl)
theorem dX0_holds_60 : decode cX0_holds 60 = .ok (.invokevirtual 146, 3) := dk_182 0 146 (dk_at dksX0_holds_2 14 rfl rfl)
theorem dX0_holds_63 : decode cX0_holds 63 = .ok (.if_icmp .ge 67, 3) := dk_162 0 67 (dk_at dksX0_holds_2 17 rfl rfl)
theorem dX0_holds_66 : decode cX0_holds 66 = .ok (.aload_n 0, 1) := dk_42 (dk_at dksX0_holds_2 20 rfl rfl)
theorem dX0_holds_67 : decode cX0_holds 67 = .ok (.getfield 142, 3) := dk_180 0 142 (dk_at dksX0_holds_2 21 rfl rfl)
theorem dX0_holds_70 : decode cX0_holds 70 = .ok (.iload 4, 2) := dk_21 4 (dk_at dksX0_holds_3 0 rfl rfl)
theorem dX0_holds_72 : decode cX0_holds 72 = .ok (.invokevirtual 152, 3) := dk_182 0 152 (dk_at dksX0_holds_3 2 rfl rfl)
theorem dX0_holds_75 : decode cX0_holds 75 = .ok (.checkcast 156, 3) := dk_192 0 156 (dk_at dksX0_holds_3 5 rfl rfl)
theorem dX0_holds_78 : decode cX0_holds 78 = .ok (.astore 5, 2) := dk_58 5 (dk_at dksX0_holds_3 8 rfl rfl)
theorem dX0_holds_80 : decode cX0_holds 80 = .ok (.aload 5, 2) := dk_25 5 (dk_at dksX0_holds_3 10 rfl rfl)
theorem dX0_holds_82 : decode cX0_holds 82 = .ok (.getfield 158, 3) := dk_180 0 158 (dk_at dksX0_holds_3 12 rfl rfl)
theorem dX0_holds_85 : decode cX0_holds 85 = .ok (.iload_n 3, 1) := dk_29 (dk_at dksX0_holds_3 15 rfl rfl)
theorem dX0_holds_86 : decode cX0_holds 86 = .ok (.if_icmp .ne 38, 3) := dk_160 0 38 (dk_at dksX0_holds_3 16 rfl rfl)
theorem dX0_holds_89 : decode cX0_holds 89 = .ok (.aload 5, 2) := dk_25 5 (dk_at dksX0_holds_3 19 rfl rfl)
theorem dX0_holds_91 : decode cX0_holds 91 = .ok (.getfield 161, 3) := dk_180 0 161 (dk_at dksX0_holds_3 21 rfl rfl)
theorem dX0_holds_94 : decode cX0_holds 94 = .ok (.iload_n 3, 1) := dk_29 (dk_at dksX0_holds_4 0 rfl rfl)
theorem dX0_holds_95 : decode cX0_holds 95 = .ok (.aload_n 0, 1) := dk_42 (dk_at dksX0_holds_4 1 rfl rfl)
theorem dX0_holds_96 : decode cX0_holds 96 = .ok (.getfield 21, 3) := dk_180 0 21 (dk_at dksX0_holds_4 2 rfl rfl)
theorem dX0_holds_99 : decode cX0_holds 99 = .ok (.if_icmp .ge 19, 3) := dk_162 0 19 (dk_at dksX0_holds_4 5 rfl rfl)
theorem dX0_holds_102 : decode cX0_holds 102 = .ok (.aload_n 0, 1) := dk_42 (dk_at dksX0_holds_4 8 rfl rfl)
theorem dX0_holds_103 : decode cX0_holds 103 = .ok (.getfield 45, 3) := dk_180 0 45 (dk_at dksX0_holds_4 9 rfl rfl)
theorem dX0_holds_106 : decode cX0_holds 106 = .ok (.getfield 164, 3) := dk_180 0 164 (dk_at dksX0_holds_4 12 rfl rfl)
theorem dX0_holds_109 : decode cX0_holds 109 = .ok (.aload 5, 2) := dk_25 5 (dk_at dksX0_holds_4 15 rfl rfl)
theorem dX0_holds_111 : decode cX0_holds 111 = .ok (.getfield 168, 3) := dk_180 0 168 (dk_at dksX0_holds_4 17 rfl rfl)
theorem dX0_holds_114 : decode cX0_holds 114 = .ok (.iaload, 1) := dk_46 (dk_at dksX0_holds_4 20 rfl rfl)
theorem dX0_holds_115 : decode cX0_holds 115 = .ok (.goto 4, 3) := dk_167 0 4 (dk_at dksX0_holds_4 21 rfl rfl)
theorem dX0_holds_118 : decode cX0_holds 118 = .ok (.iconst 0, 1) := dk_3 (dk_at dksX0_holds_5 0 rfl rfl)
theorem dX0_holds_119 : decode cX0_holds 119 = .ok (.if_icmp .eq 5, 3) := dk_159 0 5 (dk_at dksX0_holds_5 1 rfl rfl)
theorem dX0_holds_122 : decode cX0_holds 122 = .ok (.iconst 0, 1) := dk_3 (dk_at dksX0_holds_5 4 rfl rfl)
theorem dX0_holds_123 : decode cX0_holds 123 = .ok (.ireturn, 1) := dk_172 (dk_at dksX0_holds_5 5 rfl rfl)
theorem dX0_holds_124 : decode cX0_holds 124 = .ok (.iinc 4 1, 3) := dk_132 4 1 (dk_at dksX0_holds_5 6 rfl rfl)
theorem dX0_holds_127 : decode cX0_holds 127 = .ok (.goto (-73), 3) := dk_167 255 183 (dk_at dksX0_holds_5 9 rfl rfl)
theorem dX0_holds_130 : decode cX0_holds 130 = .ok (.iinc 3 1, 3) := dk_132 3 1 (dk_at dksX0_holds_5 12 rfl rfl)
theorem dX0_holds_133 : decode cX0_holds 133 = .ok (.goto (-122), 3) := dk_167 255 134 (dk_at dksX0_holds_5 15 rfl rfl)
theorem dX0_holds_136 : decode cX0_holds 136 = .ok (.iconst 1, 1) := dk_4 (dk_at dksX0_holds_5 18 rfl rfl)
theorem dX0_holds_137 : decode cX0_holds 137 = .ok (.ireturn, 1) := dk_172 (dk_at dksX0_holds_5 19 rfl rfl)
abbrev cX0_count : ByteArray := prog_1_method_41_code
def yX0_count : MethodName := ⟨RX0, "count", "(I)I"⟩
def dkwX0_count_4 : List UInt8 := [172, 42, 180, 0, 142, 182, 0, 146, 172, 16, 253, 172]
abbrev dktX0_count_4 : List UInt8 := dkwX0_count_4 ++ []
def dkwX0_count_3 : List UInt8 := [42, 180, 0, 196, 172, 42, 180, 0, 79, 172, 42, 180, 0, 42, 172, 42, 180, 0, 55, 172, 42, 180, 0, 21]
abbrev dktX0_count_3 : List UInt8 := dkwX0_count_3 ++ dktX0_count_4
def dkwX0_count_2 : List UInt8 := [42, 180, 0, 9, 184, 1, 49, 172, 42, 180, 0, 13, 184, 1, 49, 172, 42, 180, 0, 17, 184, 1, 49, 172]
abbrev dktX0_count_2 : List UInt8 := dkwX0_count_2 ++ dktX0_count_3
def dkwX0_count_1 : List UInt8 := [170, 0, 0, 0, 0, 0, 108, 0, 0, 0, 0, 0, 0, 0, 8, 0, 0, 0, 51, 0, 0, 0, 59, 0, 0, 0, 67, 0, 0, 0, 75, 0, 0, 0, 80, 0, 0, 0, 85, 0, 0, 0, 90, 0, 0, 0, 95, 0, 0, 0, 100]
abbrev dktX0_count_1 : List UInt8 := dkwX0_count_1 ++ dktX0_count_2
def dkwX0_count_0 : List UInt8 := [27]
abbrev dktX0_count_0 : List UInt8 := dkwX0_count_0 ++ dktX0_count_1
theorem dksX0_count_0 : cX0_count.data.toList.drop 0 = dktX0_count_0 := by decide +kernel
theorem dksX0_count_1 : cX0_count.data.toList.drop 1 = dktX0_count_1 := dk_seg dksX0_count_0 1 rfl rfl
theorem dksX0_count_2 : cX0_count.data.toList.drop 52 = dktX0_count_2 := dk_seg dksX0_count_1 51 rfl rfl
theorem dksX0_count_3 : cX0_count.data.toList.drop 76 = dktX0_count_3 := dk_seg dksX0_count_2 24 rfl rfl
theorem dksX0_count_4 : cX0_count.data.toList.drop 100 = dktX0_count_4 := dk_seg dksX0_count_3 24 rfl rfl
theorem dX0_count_0 : decode cX0_count 0 = .ok (.iload_n 1, 1) := dk_27 (dk_at dksX0_count_0 0 rfl rfl)
theorem dX0_count_1 : decode cX0_count 1 = .ok (.tableswitch 108 0 8 #[51, 59, 67, 75, 80, 85, 90, 95, 100], 51) := by decide +kernel
theorem dX0_count_52 : decode cX0_count 52 = .ok (.aload_n 0, 1) := dk_42 (dk_at dksX0_count_2 0 rfl rfl)
theorem dX0_count_53 : decode cX0_count 53 = .ok (.getfield 9, 3) := dk_180 0 9 (dk_at dksX0_count_2 1 rfl rfl)
theorem dX0_count_56 : decode cX0_count 56 = .ok (.invokestatic 305, 3) := dk_184 1 49 (dk_at dksX0_count_2 4 rfl rfl)
theorem dX0_count_59 : decode cX0_count 59 = .ok (.ireturn, 1) := dk_172 (dk_at dksX0_count_2 7 rfl rfl)
theorem dX0_count_60 : decode cX0_count 60 = .ok (.aload_n 0, 1) := dk_42 (dk_at dksX0_count_2 8 rfl rfl)
theorem dX0_count_61 : decode cX0_count 61 = .ok (.getfield 13, 3) := dk_180 0 13 (dk_at dksX0_count_2 9 rfl rfl)
theorem dX0_count_64 : decode cX0_count 64 = .ok (.invokestatic 305, 3) := dk_184 1 49 (dk_at dksX0_count_2 12 rfl rfl)
theorem dX0_count_67 : decode cX0_count 67 = .ok (.ireturn, 1) := dk_172 (dk_at dksX0_count_2 15 rfl rfl)
theorem dX0_count_68 : decode cX0_count 68 = .ok (.aload_n 0, 1) := dk_42 (dk_at dksX0_count_2 16 rfl rfl)
theorem dX0_count_69 : decode cX0_count 69 = .ok (.getfield 17, 3) := dk_180 0 17 (dk_at dksX0_count_2 17 rfl rfl)
theorem dX0_count_72 : decode cX0_count 72 = .ok (.invokestatic 305, 3) := dk_184 1 49 (dk_at dksX0_count_2 20 rfl rfl)
theorem dX0_count_75 : decode cX0_count 75 = .ok (.ireturn, 1) := dk_172 (dk_at dksX0_count_2 23 rfl rfl)
theorem dX0_count_76 : decode cX0_count 76 = .ok (.aload_n 0, 1) := dk_42 (dk_at dksX0_count_3 0 rfl rfl)
theorem dX0_count_77 : decode cX0_count 77 = .ok (.getfield 196, 3) := dk_180 0 196 (dk_at dksX0_count_3 1 rfl rfl)
theorem dX0_count_80 : decode cX0_count 80 = .ok (.ireturn, 1) := dk_172 (dk_at dksX0_count_3 4 rfl rfl)
theorem dX0_count_81 : decode cX0_count 81 = .ok (.aload_n 0, 1) := dk_42 (dk_at dksX0_count_3 5 rfl rfl)
theorem dX0_count_82 : decode cX0_count 82 = .ok (.getfield 79, 3) := dk_180 0 79 (dk_at dksX0_count_3 6 rfl rfl)
theorem dX0_count_85 : decode cX0_count 85 = .ok (.ireturn, 1) := dk_172 (dk_at dksX0_count_3 9 rfl rfl)
theorem dX0_count_86 : decode cX0_count 86 = .ok (.aload_n 0, 1) := dk_42 (dk_at dksX0_count_3 10 rfl rfl)
theorem dX0_count_87 : decode cX0_count 87 = .ok (.getfield 42, 3) := dk_180 0 42 (dk_at dksX0_count_3 11 rfl rfl)
theorem dX0_count_90 : decode cX0_count 90 = .ok (.ireturn, 1) := dk_172 (dk_at dksX0_count_3 14 rfl rfl)
theorem dX0_count_91 : decode cX0_count 91 = .ok (.aload_n 0, 1) := dk_42 (dk_at dksX0_count_3 15 rfl rfl)
theorem dX0_count_92 : decode cX0_count 92 = .ok (.getfield 55, 3) := dk_180 0 55 (dk_at dksX0_count_3 16 rfl rfl)
theorem dX0_count_95 : decode cX0_count 95 = .ok (.ireturn, 1) := dk_172 (dk_at dksX0_count_3 19 rfl rfl)
theorem dX0_count_96 : decode cX0_count 96 = .ok (.aload_n 0, 1) := dk_42 (dk_at dksX0_count_3 20 rfl rfl)
theorem dX0_count_97 : decode cX0_count 97 = .ok (.getfield 21, 3) := dk_180 0 21 (dk_at dksX0_count_3 21 rfl rfl)
theorem dX0_count_100 : decode cX0_count 100 = .ok (.ireturn, 1) := dk_172 (dk_at dksX0_count_4 0 rfl rfl)
theorem dX0_count_101 : decode cX0_count 101 = .ok (.aload_n 0, 1) := dk_42 (dk_at dksX0_count_4 1 rfl rfl)
theorem dX0_count_102 : decode cX0_count 102 = .ok (.getfield 142, 3) := dk_180 0 142 (dk_at dksX0_count_4 2 rfl rfl)
theorem dX0_count_105 : decode cX0_count 105 = .ok (.invokevirtual 146, 3) := dk_182 0 146 (dk_at dksX0_count_4 5 rfl rfl)
theorem dX0_count_108 : decode cX0_count 108 = .ok (.ireturn, 1) := dk_172 (dk_at dksX0_count_4 8 rfl rfl)
theorem dX0_count_109 : decode cX0_count 109 = .ok (.bipush (-3), 2) := dk_16 253 (dk_at dksX0_count_4 9 rfl rfl)
theorem dX0_count_111 : decode cX0_count 111 = .ok (.ireturn, 1) := dk_172 (dk_at dksX0_count_4 11 rfl rfl)
abbrev cX0_toldOf : ByteArray := prog_1_method_40_code
def yX0_toldOf : MethodName := ⟨RX0, "toldOf", "([Ljava/lang/Object;)I"⟩
def dkwX0_toldOf_1 : List UInt8 := [25, 5, 199, 0, 7, 3, 167, 0, 4, 4, 96, 60, 132, 4, 1, 167, 255, 228, 27, 172]
abbrev dktX0_toldOf_1 : List UInt8 := dkwX0_toldOf_1 ++ []
def dkwX0_toldOf_0 : List UInt8 := [3, 60, 42, 77, 44, 190, 62, 3, 54, 4, 21, 4, 29, 162, 0, 28, 44, 21, 4, 50, 58, 5, 27]
abbrev dktX0_toldOf_0 : List UInt8 := dkwX0_toldOf_0 ++ dktX0_toldOf_1
theorem dksX0_toldOf_0 : cX0_toldOf.data.toList.drop 0 = dktX0_toldOf_0 := by decide +kernel
theorem dksX0_toldOf_1 : cX0_toldOf.data.toList.drop 23 = dktX0_toldOf_1 := dk_seg dksX0_toldOf_0 23 rfl rfl
theorem dX0_toldOf_0 : decode cX0_toldOf 0 = .ok (.iconst 0, 1) := dk_3 (dk_at dksX0_toldOf_0 0 rfl rfl)
theorem dX0_toldOf_1 : decode cX0_toldOf 1 = .ok (.istore_n 1, 1) := dk_60 (dk_at dksX0_toldOf_0 1 rfl rfl)
theorem dX0_toldOf_2 : decode cX0_toldOf 2 = .ok (.aload_n 0, 1) := dk_42 (dk_at dksX0_toldOf_0 2 rfl rfl)
theorem dX0_toldOf_3 : decode cX0_toldOf 3 = .ok (.astore_n 2, 1) := dk_77 (dk_at dksX0_toldOf_0 3 rfl rfl)
theorem dX0_toldOf_4 : decode cX0_toldOf 4 = .ok (.aload_n 2, 1) := dk_44 (dk_at dksX0_toldOf_0 4 rfl rfl)
theorem dX0_toldOf_5 : decode cX0_toldOf 5 = .ok (.arraylength, 1) := dk_190 (dk_at dksX0_toldOf_0 5 rfl rfl)
theorem dX0_toldOf_6 : decode cX0_toldOf 6 = .ok (.istore_n 3, 1) := dk_62 (dk_at dksX0_toldOf_0 6 rfl rfl)
theorem dX0_toldOf_7 : decode cX0_toldOf 7 = .ok (.iconst 0, 1) := dk_3 (dk_at dksX0_toldOf_0 7 rfl rfl)
theorem dX0_toldOf_8 : decode cX0_toldOf 8 = .ok (.istore 4, 2) := dk_54 4 (dk_at dksX0_toldOf_0 8 rfl rfl)
theorem dX0_toldOf_10 : decode cX0_toldOf 10 = .ok (.iload 4, 2) := dk_21 4 (dk_at dksX0_toldOf_0 10 rfl rfl)
theorem dX0_toldOf_12 : decode cX0_toldOf 12 = .ok (.iload_n 3, 1) := dk_29 (dk_at dksX0_toldOf_0 12 rfl rfl)
theorem dX0_toldOf_13 : decode cX0_toldOf 13 = .ok (.if_icmp .ge 28, 3) := dk_162 0 28 (dk_at dksX0_toldOf_0 13 rfl rfl)
theorem dX0_toldOf_16 : decode cX0_toldOf 16 = .ok (.aload_n 2, 1) := dk_44 (dk_at dksX0_toldOf_0 16 rfl rfl)
theorem dX0_toldOf_17 : decode cX0_toldOf 17 = .ok (.iload 4, 2) := dk_21 4 (dk_at dksX0_toldOf_0 17 rfl rfl)
theorem dX0_toldOf_19 : decode cX0_toldOf 19 = .ok (.aaload, 1) := dk_50 (dk_at dksX0_toldOf_0 19 rfl rfl)
theorem dX0_toldOf_20 : decode cX0_toldOf 20 = .ok (.astore 5, 2) := dk_58 5 (dk_at dksX0_toldOf_0 20 rfl rfl)
theorem dX0_toldOf_22 : decode cX0_toldOf 22 = .ok (.iload_n 1, 1) := dk_27 (dk_at dksX0_toldOf_0 22 rfl rfl)
theorem dX0_toldOf_23 : decode cX0_toldOf 23 = .ok (.aload 5, 2) := dk_25 5 (dk_at dksX0_toldOf_1 0 rfl rfl)
theorem dX0_toldOf_25 : decode cX0_toldOf 25 = .ok (.ifnonnull 7, 3) := dk_199 0 7 (dk_at dksX0_toldOf_1 2 rfl rfl)
theorem dX0_toldOf_28 : decode cX0_toldOf 28 = .ok (.iconst 0, 1) := dk_3 (dk_at dksX0_toldOf_1 5 rfl rfl)
theorem dX0_toldOf_29 : decode cX0_toldOf 29 = .ok (.goto 4, 3) := dk_167 0 4 (dk_at dksX0_toldOf_1 6 rfl rfl)
theorem dX0_toldOf_32 : decode cX0_toldOf 32 = .ok (.iconst 1, 1) := dk_4 (dk_at dksX0_toldOf_1 9 rfl rfl)
theorem dX0_toldOf_33 : decode cX0_toldOf 33 = .ok (.iadd, 1) := dk_96 (dk_at dksX0_toldOf_1 10 rfl rfl)
theorem dX0_toldOf_34 : decode cX0_toldOf 34 = .ok (.istore_n 1, 1) := dk_60 (dk_at dksX0_toldOf_1 11 rfl rfl)
theorem dX0_toldOf_35 : decode cX0_toldOf 35 = .ok (.iinc 4 1, 3) := dk_132 4 1 (dk_at dksX0_toldOf_1 12 rfl rfl)
theorem dX0_toldOf_38 : decode cX0_toldOf 38 = .ok (.goto (-28), 3) := dk_167 255 228 (dk_at dksX0_toldOf_1 15 rfl rfl)
theorem dX0_toldOf_41 : decode cX0_toldOf 41 = .ok (.iload_n 1, 1) := dk_27 (dk_at dksX0_toldOf_1 18 rfl rfl)
theorem dX0_toldOf_42 : decode cX0_toldOf 42 = .ok (.ireturn, 1) := dk_172 (dk_at dksX0_toldOf_1 19 rfl rfl)
theorem q52 : (Jvm.Cond.initialized "StrawMen") ∈ lw_all := lw_g (lw_at lw_m1 1 rfl) rfl
theorem q86 : (Jvm.Cond.instantiable "StrawMen" (19 : Nat)) ∈ lw_all := lw_g (lw_at lw_m1 35 rfl) rfl
theorem q88 : (Jvm.Cond.instanceMethod ({ cls := "StrawMen", name := "<init>", desc := "()V" } : Jvm.MethodName)) ∈ lw_all := lw_g (lw_at lw_m1 37 rfl) rfl
theorem q89 : (Jvm.Cond.code ({ cls := "StrawMen", name := "<init>", desc := "()V" } : Jvm.MethodName) prog_1_method_12_code (1 : Nat) (Option.none : Option Jvm.ClassFile.FieldType)) ∈ lw_all := lw_g (lw_at lw_m1 38 rfl) rfl
theorem q90 : (Jvm.Cond.methodLink "StrawMen" (171 : Nat) ({ cls := "java/lang/Object", name := "<init>", desc := "()V" } : Jvm.MethodName)) ∈ lw_all := lw_g (lw_at lw_m1 39 rfl) rfl
theorem q93 : (Jvm.Cond.classLink "StrawMen" (62 : Nat) "StrawMen$Field") ∈ lw_all := lw_g (lw_at lw_m1 42 rfl) rfl
theorem q95 : (Jvm.Cond.classLink "StrawMen" (69 : Nat) "java/lang/Integer") ∈ lw_all := lw_g (lw_at lw_m1 44 rfl) rfl
theorem q97 : (Jvm.Cond.classLink "StrawMen" (74 : Nat) "StrawMen$Coat") ∈ lw_all := lw_g (lw_at lw_m1 46 rfl) rfl
theorem q99 : (Jvm.Cond.classLink "StrawMen" (175 : Nat) "StrawMen$Boy") ∈ lw_all := lw_g (lw_at lw_m1 48 rfl) rfl
theorem q101 : (Jvm.Cond.methodLink "StrawMen" (177 : Nat) ({ cls := "StrawMen$Boy", name := "<init>", desc := "()V" } : Jvm.MethodName)) ∈ lw_all := lw_g (lw_at lw_m1 50 rfl) rfl
theorem q112 : (Jvm.Cond.fieldLink "StrawMen" (236 : Nat) "StrawMen$Coat" "fright" "I") ∈ lw_all := lw_g (lw_at lw_m1 61 rfl) rfl
theorem q115 : (Jvm.Cond.fieldLink "StrawMen" (239 : Nat) "StrawMen$Coat" "wane" "I") ∈ lw_all := lw_g (lw_at lw_m1 64 rfl) rfl
theorem q121 : (Jvm.Cond.classLink "StrawMen" (26 : Nat) "StrawMen$Plan") ∈ lw_all := lw_g (lw_at lw_m1 70 rfl) rfl
theorem q123 : (Jvm.Cond.methodLink "StrawMen" (182 : Nat) ({ cls := "StrawMen$Plan", name := "<init>", desc := "()V" } : Jvm.MethodName)) ∈ lw_all := lw_g (lw_at lw_m1 72 rfl) rfl
theorem q135 : (Jvm.Cond.fieldLink "StrawMen" (25 : Nat) "StrawMen$Plan" "stands" "[[B") ∈ lw_all := lw_g (lw_at lw_m1 84 rfl) rfl
theorem q138 : (Jvm.Cond.fieldLink "StrawMen" (38 : Nat) "StrawMen$Plan" "isReal" "[[Z") ∈ lw_all := lw_g (lw_at lw_m1 87 rfl) rfl
theorem q147 : (Jvm.Cond.classLink "StrawMen" (50 : Nat) "StrawMen$World") ∈ lw_all := lw_g (lw_at lw_m1 96 rfl) rfl
theorem q149 : (Jvm.Cond.methodLinkNest "StrawMen" (186 : Nat) ({ cls := "StrawMen$World", name := "<init>", desc := "(LStrawMen;)V" } : Jvm.MethodName) "StrawMen") ∈ lw_tbl := lw_at lw_m1 98 rfl
theorem q156 : (Jvm.Cond.fieldLink "StrawMen" (252 : Nat) "StrawMen$World" "seed" "[I") ∈ lw_all := lw_g (lw_at lw_m1 105 rfl) rfl
theorem q158 : (Jvm.Cond.fieldLink "StrawMen" (254 : Nat) "StrawMen$World" "fear" "[[I") ∈ lw_all := lw_g (lw_at lw_m1 107 rfl) rfl
theorem q160 : (Jvm.Cond.fieldLink "StrawMen" (249 : Nat) "StrawMen$World" "flown" "[I") ∈ lw_all := lw_g (lw_at lw_m1 109 rfl) rfl
theorem q162 : (Jvm.Cond.fieldLink "StrawMen" (164 : Nat) "StrawMen$World" "taken" "[I") ∈ lw_all := lw_g (lw_at lw_m1 111 rfl) rfl
theorem q182 : (Jvm.Cond.classLink "StrawMen" (91 : Nat) "StrawMen$Places") ∈ lw_all := lw_g (lw_at lw_m1 131 rfl) rfl
theorem q184 : (Jvm.Cond.methodLinkNest "StrawMen" (192 : Nat) ({ cls := "StrawMen$Places", name := "<init>", desc := "(LStrawMen;)V" } : Jvm.MethodName) "StrawMen") ∈ lw_tbl := lw_at lw_m1 133 rfl
theorem q189 : (Jvm.Cond.fieldLink "StrawMen" (103 : Nat) "StrawMen$Places" "stands" "[B") ∈ lw_all := lw_g (lw_at lw_m1 138 rfl) rfl
theorem q196 : (Jvm.Cond.classLink "StrawMen" (147 : Nat) "java/util/ArrayList") ∈ lw_all := lw_g (lw_at lw_m1 145 rfl) rfl
theorem q198 : (Jvm.Cond.methodLink "StrawMen" (193 : Nat) ({ cls := "java/util/ArrayList", name := "<init>", desc := "()V" } : Jvm.MethodName)) ∈ lw_all := lw_g (lw_at lw_m1 147 rfl) rfl
theorem q222 : (Jvm.Cond.fieldLink "StrawMen" (9 : Nat) "StrawMen" "fields" "[LStrawMen$Field;") ∈ lw_all := lw_g (lw_at lw_m1 171 rfl) rfl
theorem q224 : (Jvm.Cond.fieldLink "StrawMen" (13 : Nat) "StrawMen" "flocks" "[Ljava/lang/Integer;") ∈ lw_all := lw_g (lw_at lw_m1 173 rfl) rfl
theorem q227 : (Jvm.Cond.fieldLink "StrawMen" (17 : Nat) "StrawMen" "coats" "[LStrawMen$Coat;") ∈ lw_all := lw_g (lw_at lw_m1 176 rfl) rfl
theorem q229 : (Jvm.Cond.fieldLink "StrawMen" (178 : Nat) "StrawMen" "boy" "LStrawMen$Coat;") ∈ lw_all := lw_g (lw_at lw_m1 178 rfl) rfl
theorem q231 : (Jvm.Cond.fieldLink "StrawMen" (79 : Nat) "StrawMen" "tell" "I") ∈ lw_all := lw_g (lw_at lw_m1 180 rfl) rfl
theorem q232 : (Jvm.Cond.fieldLink "StrawMen" (42 : Nat) "StrawMen" "wage" "I") ∈ lw_all := lw_g (lw_at lw_m1 181 rfl) rfl
theorem q233 : (Jvm.Cond.fieldLink "StrawMen" (55 : Nat) "StrawMen" "price" "I") ∈ lw_all := lw_g (lw_at lw_m1 182 rfl) rfl
theorem q234 : (Jvm.Cond.fieldLink "StrawMen" (21 : Nat) "StrawMen" "days" "I") ∈ lw_all := lw_g (lw_at lw_m1 183 rfl) rfl
theorem q235 : (Jvm.Cond.fieldLink "StrawMen" (82 : Nat) "StrawMen" "plan" "LStrawMen$Plan;") ∈ lw_all := lw_g (lw_at lw_m1 184 rfl) rfl
theorem q236 : (Jvm.Cond.fieldLink "StrawMen" (183 : Nat) "StrawMen" "other" "LStrawMen$Plan;") ∈ lw_all := lw_g (lw_at lw_m1 185 rfl) rfl
theorem q237 : (Jvm.Cond.fieldLink "StrawMen" (45 : Nat) "StrawMen" "world" "LStrawMen$World;") ∈ lw_all := lw_g (lw_at lw_m1 186 rfl) rfl
theorem q238 : (Jvm.Cond.fieldLink "StrawMen" (96 : Nat) "StrawMen" "then" "LStrawMen$World;") ∈ lw_all := lw_g (lw_at lw_m1 187 rfl) rfl
theorem q239 : (Jvm.Cond.fieldLink "StrawMen" (130 : Nat) "StrawMen" "last" "LStrawMen$World;") ∈ lw_all := lw_g (lw_at lw_m1 188 rfl) rfl
theorem q241 : (Jvm.Cond.fieldLink "StrawMen" (189 : Nat) "StrawMen" "text" "[B") ∈ lw_all := lw_g (lw_at lw_m1 190 rfl) rfl
theorem q243 : (Jvm.Cond.fieldLink "StrawMen" (196 : Nat) "StrawMen" "bytes" "I") ∈ lw_all := lw_g (lw_at lw_m1 192 rfl) rfl
theorem q244 : (Jvm.Cond.fieldLink "StrawMen" (86 : Nat) "StrawMen" "one" "LStrawMen$Places;") ∈ lw_all := lw_g (lw_at lw_m1 193 rfl) rfl
theorem q245 : (Jvm.Cond.fieldLink "StrawMen" (127 : Nat) "StrawMen" "two" "LStrawMen$Places;") ∈ lw_all := lw_g (lw_at lw_m1 194 rfl) rfl
theorem q246 : (Jvm.Cond.fieldLink "StrawMen" (114 : Nat) "StrawMen" "bestStands" "[B") ∈ lw_all := lw_g (lw_at lw_m1 195 rfl) rfl
theorem q247 : (Jvm.Cond.fieldLink "StrawMen" (142 : Nat) "StrawMen" "rows" "Ljava/util/ArrayList;") ∈ lw_all := lw_g (lw_at lw_m1 196 rfl) rfl
theorem q248 : (Jvm.Cond.laysFinal "StrawMen" "StrawMen" "fields" "[LStrawMen$Field;") ∈ lw_all := lw_g (lw_at lw_m1 197 rfl) rfl
theorem q249 : (Jvm.Cond.soleField "StrawMen" "fields") ∈ lw_all := lw_g (lw_at lw_m1 198 rfl) rfl
theorem q250 : (Jvm.Cond.laysFinal "StrawMen" "StrawMen" "flocks" "[Ljava/lang/Integer;") ∈ lw_all := lw_g (lw_at lw_m1 199 rfl) rfl
theorem q251 : (Jvm.Cond.soleField "StrawMen" "flocks") ∈ lw_all := lw_g (lw_at lw_m1 200 rfl) rfl
theorem q252 : (Jvm.Cond.laysFinal "StrawMen" "StrawMen" "coats" "[LStrawMen$Coat;") ∈ lw_all := lw_g (lw_at lw_m1 201 rfl) rfl
theorem q253 : (Jvm.Cond.soleField "StrawMen" "coats") ∈ lw_all := lw_g (lw_at lw_m1 202 rfl) rfl
theorem q254 : (Jvm.Cond.laysFinal "StrawMen" "StrawMen" "boy" "LStrawMen$Coat;") ∈ lw_all := lw_g (lw_at lw_m1 203 rfl) rfl
theorem q255 : (Jvm.Cond.soleField "StrawMen" "boy") ∈ lw_all := lw_g (lw_at lw_m1 204 rfl) rfl
theorem q256 : (Jvm.Cond.lays "StrawMen" "StrawMen" "tell" "I") ∈ lw_all := lw_g (lw_at lw_m1 205 rfl) rfl
theorem q257 : (Jvm.Cond.soleField "StrawMen" "tell") ∈ lw_all := lw_g (lw_at lw_m1 206 rfl) rfl
theorem q258 : (Jvm.Cond.lays "StrawMen" "StrawMen" "wage" "I") ∈ lw_all := lw_g (lw_at lw_m1 207 rfl) rfl
theorem q259 : (Jvm.Cond.soleField "StrawMen" "wage") ∈ lw_all := lw_g (lw_at lw_m1 208 rfl) rfl
theorem q260 : (Jvm.Cond.lays "StrawMen" "StrawMen" "price" "I") ∈ lw_all := lw_g (lw_at lw_m1 209 rfl) rfl
theorem q261 : (Jvm.Cond.soleField "StrawMen" "price") ∈ lw_all := lw_g (lw_at lw_m1 210 rfl) rfl
theorem q262 : (Jvm.Cond.lays "StrawMen" "StrawMen" "days" "I") ∈ lw_all := lw_g (lw_at lw_m1 211 rfl) rfl
theorem q263 : (Jvm.Cond.soleField "StrawMen" "days") ∈ lw_all := lw_g (lw_at lw_m1 212 rfl) rfl
theorem q264 : (Jvm.Cond.laysFinal "StrawMen" "StrawMen" "plan" "LStrawMen$Plan;") ∈ lw_all := lw_g (lw_at lw_m1 213 rfl) rfl
theorem q265 : (Jvm.Cond.soleField "StrawMen" "plan") ∈ lw_all := lw_g (lw_at lw_m1 214 rfl) rfl
theorem q266 : (Jvm.Cond.laysFinal "StrawMen" "StrawMen" "other" "LStrawMen$Plan;") ∈ lw_all := lw_g (lw_at lw_m1 215 rfl) rfl
theorem q267 : (Jvm.Cond.soleField "StrawMen" "other") ∈ lw_all := lw_g (lw_at lw_m1 216 rfl) rfl
theorem q268 : (Jvm.Cond.laysFinal "StrawMen" "StrawMen" "world" "LStrawMen$World;") ∈ lw_all := lw_g (lw_at lw_m1 217 rfl) rfl
theorem q269 : (Jvm.Cond.soleField "StrawMen" "world") ∈ lw_all := lw_g (lw_at lw_m1 218 rfl) rfl
theorem q270 : (Jvm.Cond.laysFinal "StrawMen" "StrawMen" "then" "LStrawMen$World;") ∈ lw_all := lw_g (lw_at lw_m1 219 rfl) rfl
theorem q271 : (Jvm.Cond.soleField "StrawMen" "then") ∈ lw_all := lw_g (lw_at lw_m1 220 rfl) rfl
theorem q272 : (Jvm.Cond.laysFinal "StrawMen" "StrawMen" "last" "LStrawMen$World;") ∈ lw_all := lw_g (lw_at lw_m1 221 rfl) rfl
theorem q273 : (Jvm.Cond.soleField "StrawMen" "last") ∈ lw_all := lw_g (lw_at lw_m1 222 rfl) rfl
theorem q274 : (Jvm.Cond.laysFinal "StrawMen" "StrawMen" "text" "[B") ∈ lw_all := lw_g (lw_at lw_m1 223 rfl) rfl
theorem q275 : (Jvm.Cond.soleField "StrawMen" "text") ∈ lw_all := lw_g (lw_at lw_m1 224 rfl) rfl
theorem q276 : (Jvm.Cond.lays "StrawMen" "StrawMen" "bytes" "I") ∈ lw_all := lw_g (lw_at lw_m1 225 rfl) rfl
theorem q277 : (Jvm.Cond.soleField "StrawMen" "bytes") ∈ lw_all := lw_g (lw_at lw_m1 226 rfl) rfl
theorem q278 : (Jvm.Cond.laysFinal "StrawMen" "StrawMen" "one" "LStrawMen$Places;") ∈ lw_all := lw_g (lw_at lw_m1 227 rfl) rfl
theorem q279 : (Jvm.Cond.soleField "StrawMen" "one") ∈ lw_all := lw_g (lw_at lw_m1 228 rfl) rfl
theorem q280 : (Jvm.Cond.laysFinal "StrawMen" "StrawMen" "two" "LStrawMen$Places;") ∈ lw_all := lw_g (lw_at lw_m1 229 rfl) rfl
theorem q281 : (Jvm.Cond.soleField "StrawMen" "two") ∈ lw_all := lw_g (lw_at lw_m1 230 rfl) rfl
theorem q282 : (Jvm.Cond.laysFinal "StrawMen" "StrawMen" "bestStands" "[B") ∈ lw_all := lw_g (lw_at lw_m1 231 rfl) rfl
theorem q283 : (Jvm.Cond.soleField "StrawMen" "bestStands") ∈ lw_all := lw_g (lw_at lw_m1 232 rfl) rfl
theorem q284 : (Jvm.Cond.laysFinal "StrawMen" "StrawMen" "rows" "Ljava/util/ArrayList;") ∈ lw_all := lw_g (lw_at lw_m1 233 rfl) rfl
theorem q285 : (Jvm.Cond.soleField "StrawMen" "rows") ∈ lw_all := lw_g (lw_at lw_m1 234 rfl) rfl
theorem q286 : (Jvm.Cond.superclass "StrawMen" "java/lang/Object") ∈ lw_all := lw_g (lw_at lw_m1 235 rfl) rfl
theorem q288 : (Jvm.Cond.instanceMethod ({ cls := "StrawMen", name := "write", desc := "(JI)I" } : Jvm.MethodName)) ∈ lw_all := lw_g (lw_at lw_m1 237 rfl) rfl
theorem q289 : (Jvm.Cond.selects "StrawMen" ({ cls := "StrawMen", name := "write", desc := "(JI)I" } : Jvm.MethodName) ({ cls := "StrawMen", name := "write", desc := "(JI)I" } : Jvm.MethodName)) ∈ lw_all := lw_g (lw_at lw_m1 238 rfl) rfl
theorem q290 : (Jvm.Cond.code ({ cls := "StrawMen", name := "write", desc := "(JI)I" } : Jvm.MethodName) prog_1_method_13_code (5 : Nat) (Option.some Jvm.ClassFile.FieldType.int)) ∈ lw_all := lw_g (lw_at lw_m1 239 rfl) rfl
theorem q291 : (Jvm.Cond.constantLong "StrawMen" (194 : Nat) (8 : Int64)) ∈ lw_all := lw_g (lw_at lw_m2 0 rfl) rfl
theorem q292 : (Jvm.Cond.methodLink "StrawMen" (5 : Nat) ({ cls := "StrawMen", name := "in", desc := "(JJJ)Z" } : Jvm.MethodName)) ∈ lw_all := lw_g (lw_at lw_m2 1 rfl) rfl
theorem q293 : (Jvm.Cond.static ({ cls := "StrawMen", name := "in", desc := "(JJJ)Z" } : Jvm.MethodName)) ∈ lw_all := lw_g (lw_at lw_m2 2 rfl) rfl
theorem q294 : (Jvm.Cond.code ({ cls := "StrawMen", name := "in", desc := "(JJJ)Z" } : Jvm.MethodName) prog_1_method_1_code (6 : Nat) (Option.some Jvm.ClassFile.FieldType.boolean)) ∈ lw_all := lw_g (lw_at lw_m2 3 rfl) rfl
theorem q296 : (Jvm.Cond.instanceMethod ({ cls := "StrawMen", name := "erase", desc := "()I" } : Jvm.MethodName)) ∈ lw_all := lw_g (lw_at lw_m2 5 rfl) rfl
theorem q297 : (Jvm.Cond.selects "StrawMen" ({ cls := "StrawMen", name := "erase", desc := "()I" } : Jvm.MethodName) ({ cls := "StrawMen", name := "erase", desc := "()I" } : Jvm.MethodName)) ∈ lw_all := lw_g (lw_at lw_m2 6 rfl) rfl
theorem q298 : (Jvm.Cond.code ({ cls := "StrawMen", name := "erase", desc := "()I" } : Jvm.MethodName) prog_1_method_14_code (2 : Nat) (Option.some Jvm.ClassFile.FieldType.int)) ∈ lw_all := lw_g (lw_at lw_m2 7 rfl) rfl
theorem q300 : (Jvm.Cond.instanceMethod ({ cls := "StrawMen", name := "fault", desc := "()I" } : Jvm.MethodName)) ∈ lw_all := lw_g (lw_at lw_m2 9 rfl) rfl
theorem q301 : (Jvm.Cond.selects "StrawMen" ({ cls := "StrawMen", name := "fault", desc := "()I" } : Jvm.MethodName) ({ cls := "StrawMen", name := "fault", desc := "()I" } : Jvm.MethodName)) ∈ lw_all := lw_g (lw_at lw_m2 10 rfl) rfl
theorem q302 : (Jvm.Cond.codeWith ({ cls := "StrawMen", name := "fault", desc := "()I" } : Jvm.MethodName) prog_1_method_15_code (2 : Nat) (Option.some Jvm.ClassFile.FieldType.int) [((0 : Nat), (13 : Nat), (14 : Nat), (206 : Nat))]) ∈ lw_all := lw_g (lw_at lw_m2 11 rfl) rfl
theorem q303 : (Jvm.Cond.classLink "StrawMen" (206 : Nat) "StrawMen$Fault") ∈ lw_all := lw_g (lw_at lw_m2 12 rfl) rfl
theorem q304 : (Jvm.Cond.classLink "StrawMen" (199 : Nat) "StrawMen$Reader") ∈ lw_all := lw_g (lw_at lw_m2 13 rfl) rfl
theorem q306 : (Jvm.Cond.methodLinkNest "StrawMen" (201 : Nat) ({ cls := "StrawMen$Reader", name := "<init>", desc := "(LStrawMen;)V" } : Jvm.MethodName) "StrawMen") ∈ lw_tbl := lw_at lw_m2 15 rfl
theorem q316 : (Jvm.Cond.fieldLink "StrawMen" (214 : Nat) "StrawMen$Reader" "told" "[[I") ∈ lw_all := lw_g (lw_at lw_m2 25 rfl) rfl
theorem q318 : (Jvm.Cond.fieldLink "StrawMen" (211 : Nat) "StrawMen$Reader" "many" "I") ∈ lw_all := lw_g (lw_at lw_m2 27 rfl) rfl
theorem q333 : (Jvm.Cond.methodLink "StrawMen" (202 : Nat) ({ cls := "StrawMen$Reader", name := "read", desc := "()LStrawMen$Reader;" } : Jvm.MethodName)) ∈ lw_all := lw_g (lw_at lw_m2 42 rfl) rfl
theorem q542 : (Jvm.Cond.laysStatic "StrawMen" "WORDS" "[Ljava/lang/String;") ∈ lw_tbl := lw_at lw_m3 11 rfl
theorem q602 : (Jvm.Cond.fieldLink "StrawMen" (208 : Nat) "StrawMen$Fault" "at" "I") ∈ lw_all := lw_g (lw_at lw_m3 71 rfl) rfl
theorem q619 : (Jvm.Cond.laysStatic "StrawMen" "MOST" "[[I") ∈ lw_tbl := lw_at lw_m3 88 rfl
theorem q677 : (Jvm.Cond.laysStatic "StrawMen" "LEAST" "[[I") ∈ lw_tbl := lw_at lw_m3 146 rfl
theorem q680 : (Jvm.Cond.instanceMethod ({ cls := "StrawMen", name := "farm", desc := "()I" } : Jvm.MethodName)) ∈ lw_all := lw_g (lw_at lw_m3 149 rfl) rfl
theorem q681 : (Jvm.Cond.selects "StrawMen" ({ cls := "StrawMen", name := "farm", desc := "()I" } : Jvm.MethodName) ({ cls := "StrawMen", name := "farm", desc := "()I" } : Jvm.MethodName)) ∈ lw_all := lw_g (lw_at lw_m3 150 rfl) rfl
theorem q682 : (Jvm.Cond.codeWith ({ cls := "StrawMen", name := "farm", desc := "()I" } : Jvm.MethodName) prog_1_method_16_code (3 : Nat) (Option.some Jvm.ClassFile.FieldType.int) [((9 : Nat), (14 : Nat), (17 : Nat), (206 : Nat))]) ∈ lw_all := lw_g (lw_at lw_m3 151 rfl) rfl
theorem q683 : (Jvm.Cond.methodLink "StrawMen" (218 : Nat) ({ cls := "StrawMen", name := "tell", desc := "([I)V" } : Jvm.MethodName)) ∈ lw_all := lw_g (lw_at lw_m3 152 rfl) rfl
theorem q684 : (Jvm.Cond.privateMethod ({ cls := "StrawMen", name := "tell", desc := "([I)V" } : Jvm.MethodName)) ∈ lw_tbl := lw_at lw_m3 153 rfl
theorem q685 : (Jvm.Cond.instanceMethod ({ cls := "StrawMen", name := "tell", desc := "([I)V" } : Jvm.MethodName)) ∈ lw_all := lw_g (lw_at lw_m3 154 rfl) rfl
theorem q686 : (Jvm.Cond.code ({ cls := "StrawMen", name := "tell", desc := "([I)V" } : Jvm.MethodName) prog_1_method_8_code (2 : Nat) (Option.none : Option Jvm.ClassFile.FieldType)) ∈ lw_all := lw_g (lw_at lw_m3 155 rfl) rfl
theorem q688 : (Jvm.Cond.methodLink "StrawMen" (64 : Nat) ({ cls := "StrawMen$Field", name := "<init>", desc := "(III)V" } : Jvm.MethodName)) ∈ lw_all := lw_g (lw_at lw_m3 157 rfl) rfl
theorem q694 : (Jvm.Cond.fieldLink "StrawMen" (221 : Nat) "StrawMen$Field" "seed" "I") ∈ lw_all := lw_g (lw_at lw_m3 163 rfl) rfl
theorem q697 : (Jvm.Cond.fieldLink "StrawMen" (224 : Nat) "StrawMen$Field" "way" "I") ∈ lw_all := lw_g (lw_at lw_m3 166 rfl) rfl
theorem q699 : (Jvm.Cond.fieldLink "StrawMen" (227 : Nat) "StrawMen$Field" "owner" "I") ∈ lw_all := lw_g (lw_at lw_m3 168 rfl) rfl
theorem q707 : (Jvm.Cond.methodLink "StrawMen" (68 : Nat) ({ cls := "java/lang/Integer", name := "valueOf", desc := "(I)Ljava/lang/Integer;" } : Jvm.MethodName)) ∈ lw_all := lw_g (lw_at lw_m3 176 rfl) rfl
theorem q728 : (Jvm.Cond.methodLink "StrawMen" (76 : Nat) ({ cls := "StrawMen$Coat", name := "<init>", desc := "(II)V" } : Jvm.MethodName)) ∈ lw_all := lw_g (lw_at lw_m3 197 rfl) rfl
theorem q733 : (Jvm.Cond.instanceMethod ({ cls := "StrawMen", name := "field", desc := "(II)I" } : Jvm.MethodName)) ∈ lw_all := lw_g (lw_at lw_m3 202 rfl) rfl
theorem q734 : (Jvm.Cond.selects "StrawMen" ({ cls := "StrawMen", name := "field", desc := "(II)I" } : Jvm.MethodName) ({ cls := "StrawMen", name := "field", desc := "(II)I" } : Jvm.MethodName)) ∈ lw_all := lw_g (lw_at lw_m3 203 rfl) rfl
theorem q735 : (Jvm.Cond.code ({ cls := "StrawMen", name := "field", desc := "(II)I" } : Jvm.MethodName) prog_1_method_17_code (3 : Nat) (Option.some Jvm.ClassFile.FieldType.int)) ∈ lw_all := lw_g (lw_at lw_m3 204 rfl) rfl
theorem q736 : (Jvm.Cond.methodLink "StrawMen" (31 : Nat) ({ cls := "StrawMen", name := "isField", desc := "(I)Z" } : Jvm.MethodName)) ∈ lw_all := lw_g (lw_at lw_m3 205 rfl) rfl
theorem q737 : (Jvm.Cond.privateMethod ({ cls := "StrawMen", name := "isField", desc := "(I)Z" } : Jvm.MethodName)) ∈ lw_tbl := lw_at lw_m3 206 rfl
theorem q738 : (Jvm.Cond.instanceMethod ({ cls := "StrawMen", name := "isField", desc := "(I)Z" } : Jvm.MethodName)) ∈ lw_all := lw_g (lw_at lw_m3 207 rfl) rfl
theorem q739 : (Jvm.Cond.code ({ cls := "StrawMen", name := "isField", desc := "(I)Z" } : Jvm.MethodName) prog_1_method_2_code (2 : Nat) (Option.some Jvm.ClassFile.FieldType.boolean)) ∈ lw_all := lw_g (lw_at lw_m3 208 rfl) rfl
theorem q740 : (Jvm.Cond.constantLong "StrawMen" (3 : Nat) (3 : Int64)) ∈ lw_all := lw_g (lw_at lw_m3 209 rfl) rfl
theorem q742 : (Jvm.Cond.instanceMethod ({ cls := "StrawMen", name := "flock", desc := "(I)I" } : Jvm.MethodName)) ∈ lw_all := lw_g (lw_at lw_m3 211 rfl) rfl
theorem q743 : (Jvm.Cond.selects "StrawMen" ({ cls := "StrawMen", name := "flock", desc := "(I)I" } : Jvm.MethodName) ({ cls := "StrawMen", name := "flock", desc := "(I)I" } : Jvm.MethodName)) ∈ lw_all := lw_g (lw_at lw_m3 212 rfl) rfl
theorem q744 : (Jvm.Cond.code ({ cls := "StrawMen", name := "flock", desc := "(I)I" } : Jvm.MethodName) prog_1_method_18_code (2 : Nat) (Option.some Jvm.ClassFile.FieldType.int)) ∈ lw_all := lw_g (lw_at lw_m3 213 rfl) rfl
theorem q745 : (Jvm.Cond.methodLink "StrawMen" (230 : Nat) ({ cls := "StrawMen", name := "isFlock", desc := "(I)Z" } : Jvm.MethodName)) ∈ lw_all := lw_g (lw_at lw_m3 214 rfl) rfl
theorem q746 : (Jvm.Cond.privateMethod ({ cls := "StrawMen", name := "isFlock", desc := "(I)Z" } : Jvm.MethodName)) ∈ lw_tbl := lw_at lw_m3 215 rfl
theorem q747 : (Jvm.Cond.instanceMethod ({ cls := "StrawMen", name := "isFlock", desc := "(I)Z" } : Jvm.MethodName)) ∈ lw_all := lw_g (lw_at lw_m3 216 rfl) rfl
theorem q748 : (Jvm.Cond.code ({ cls := "StrawMen", name := "isFlock", desc := "(I)Z" } : Jvm.MethodName) prog_1_method_3_code (2 : Nat) (Option.some Jvm.ClassFile.FieldType.boolean)) ∈ lw_all := lw_g (lw_at lw_m3 217 rfl) rfl
theorem q749 : (Jvm.Cond.methodLink "StrawMen" (233 : Nat) ({ cls := "java/lang/Integer", name := "intValue", desc := "()I" } : Jvm.MethodName)) ∈ lw_all := lw_g (lw_at lw_m3 218 rfl) rfl
theorem q754 : (Jvm.Cond.instanceMethod ({ cls := "StrawMen", name := "coat", desc := "(II)I" } : Jvm.MethodName)) ∈ lw_all := lw_g (lw_at lw_m3 223 rfl) rfl
theorem q755 : (Jvm.Cond.selects "StrawMen" ({ cls := "StrawMen", name := "coat", desc := "(II)I" } : Jvm.MethodName) ({ cls := "StrawMen", name := "coat", desc := "(II)I" } : Jvm.MethodName)) ∈ lw_all := lw_g (lw_at lw_m3 224 rfl) rfl
theorem q756 : (Jvm.Cond.code ({ cls := "StrawMen", name := "coat", desc := "(II)I" } : Jvm.MethodName) prog_1_method_19_code (3 : Nat) (Option.some Jvm.ClassFile.FieldType.int)) ∈ lw_all := lw_g (lw_at lw_m3 225 rfl) rfl
theorem q757 : (Jvm.Cond.methodLink "StrawMen" (35 : Nat) ({ cls := "StrawMen", name := "isCoat", desc := "(I)Z" } : Jvm.MethodName)) ∈ lw_all := lw_g (lw_at lw_m3 226 rfl) rfl
theorem q758 : (Jvm.Cond.privateMethod ({ cls := "StrawMen", name := "isCoat", desc := "(I)Z" } : Jvm.MethodName)) ∈ lw_tbl := lw_at lw_m3 227 rfl
theorem q759 : (Jvm.Cond.instanceMethod ({ cls := "StrawMen", name := "isCoat", desc := "(I)Z" } : Jvm.MethodName)) ∈ lw_all := lw_g (lw_at lw_m3 228 rfl) rfl
theorem q760 : (Jvm.Cond.code ({ cls := "StrawMen", name := "isCoat", desc := "(I)Z" } : Jvm.MethodName) prog_1_method_4_code (2 : Nat) (Option.some Jvm.ClassFile.FieldType.boolean)) ∈ lw_all := lw_g (lw_at lw_m3 229 rfl) rfl
theorem q762 : (Jvm.Cond.instanceMethod ({ cls := "StrawMen", name := "place", desc := "(III)I" } : Jvm.MethodName)) ∈ lw_all := lw_g (lw_at lw_m3 231 rfl) rfl
theorem q763 : (Jvm.Cond.selects "StrawMen" ({ cls := "StrawMen", name := "place", desc := "(III)I" } : Jvm.MethodName) ({ cls := "StrawMen", name := "place", desc := "(III)I" } : Jvm.MethodName)) ∈ lw_all := lw_g (lw_at lw_m3 232 rfl) rfl
theorem q764 : (Jvm.Cond.code ({ cls := "StrawMen", name := "place", desc := "(III)I" } : Jvm.MethodName) prog_1_method_20_code (6 : Nat) (Option.some Jvm.ClassFile.FieldType.int)) ∈ lw_all := lw_g (lw_at lw_m3 233 rfl) rfl
theorem q765 : (Jvm.Cond.constantLong "StrawMen" (242 : Nat) (20 : Int64)) ∈ lw_all := lw_g (lw_at lw_m3 234 rfl) rfl
theorem q766 : (Jvm.Cond.constantLong "StrawMen" (244 : Nat) (-1 : Int64)) ∈ lw_all := lw_g (lw_at lw_m3 235 rfl) rfl
theorem q768 : (Jvm.Cond.instanceMethod ({ cls := "StrawMen", name := "real", desc := "(IIZ)I" } : Jvm.MethodName)) ∈ lw_all := lw_g (lw_at lw_m3 237 rfl) rfl
theorem q769 : (Jvm.Cond.selects "StrawMen" ({ cls := "StrawMen", name := "real", desc := "(IIZ)I" } : Jvm.MethodName) ({ cls := "StrawMen", name := "real", desc := "(IIZ)I" } : Jvm.MethodName)) ∈ lw_all := lw_g (lw_at lw_m3 238 rfl) rfl
theorem q770 : (Jvm.Cond.code ({ cls := "StrawMen", name := "real", desc := "(IIZ)I" } : Jvm.MethodName) prog_1_method_21_code (5 : Nat) (Option.some Jvm.ClassFile.FieldType.int)) ∈ lw_all := lw_g (lw_at lw_m3 239 rfl) rfl
theorem q772 : (Jvm.Cond.instanceMethod ({ cls := "StrawMen", name := "went", desc := "(II)I" } : Jvm.MethodName)) ∈ lw_all := lw_g (lw_at lw_m4 1 rfl) rfl
theorem q773 : (Jvm.Cond.selects "StrawMen" ({ cls := "StrawMen", name := "went", desc := "(II)I" } : Jvm.MethodName) ({ cls := "StrawMen", name := "went", desc := "(II)I" } : Jvm.MethodName)) ∈ lw_all := lw_g (lw_at lw_m4 2 rfl) rfl
theorem q774 : (Jvm.Cond.code ({ cls := "StrawMen", name := "went", desc := "(II)I" } : Jvm.MethodName) prog_1_method_22_code (3 : Nat) (Option.some Jvm.ClassFile.FieldType.int)) ∈ lw_all := lw_g (lw_at lw_m4 3 rfl) rfl
theorem q775 : (Jvm.Cond.methodLink "StrawMen" (246 : Nat) ({ cls := "StrawMen", name := "isDay", desc := "(I)Z" } : Jvm.MethodName)) ∈ lw_all := lw_g (lw_at lw_m4 4 rfl) rfl
theorem q776 : (Jvm.Cond.privateMethod ({ cls := "StrawMen", name := "isDay", desc := "(I)Z" } : Jvm.MethodName)) ∈ lw_tbl := lw_at lw_m4 5 rfl
theorem q777 : (Jvm.Cond.instanceMethod ({ cls := "StrawMen", name := "isDay", desc := "(I)Z" } : Jvm.MethodName)) ∈ lw_all := lw_g (lw_at lw_m4 6 rfl) rfl
theorem q778 : (Jvm.Cond.code ({ cls := "StrawMen", name := "isDay", desc := "(I)Z" } : Jvm.MethodName) prog_1_method_5_code (2 : Nat) (Option.some Jvm.ClassFile.FieldType.boolean)) ∈ lw_all := lw_g (lw_at lw_m4 7 rfl) rfl
theorem q779 : (Jvm.Cond.methodLink "StrawMen" (49 : Nat) ({ cls := "StrawMen$World", name := "run", desc := "(LStrawMen$Plan;I)I" } : Jvm.MethodName)) ∈ lw_all := lw_g (lw_at lw_m4 8 rfl) rfl
theorem q826 : (Jvm.Cond.instanceMethod ({ cls := "StrawMen", name := "eaten", desc := "(II)I" } : Jvm.MethodName)) ∈ lw_all := lw_g (lw_at lw_m4 55 rfl) rfl
theorem q827 : (Jvm.Cond.selects "StrawMen" ({ cls := "StrawMen", name := "eaten", desc := "(II)I" } : Jvm.MethodName) ({ cls := "StrawMen", name := "eaten", desc := "(II)I" } : Jvm.MethodName)) ∈ lw_all := lw_g (lw_at lw_m4 56 rfl) rfl
theorem q828 : (Jvm.Cond.code ({ cls := "StrawMen", name := "eaten", desc := "(II)I" } : Jvm.MethodName) prog_1_method_23_code (5 : Nat) (Option.some Jvm.ClassFile.FieldType.int)) ∈ lw_all := lw_g (lw_at lw_m4 57 rfl) rfl
theorem q830 : (Jvm.Cond.instanceMethod ({ cls := "StrawMen", name := "left", desc := "(II)I" } : Jvm.MethodName)) ∈ lw_all := lw_g (lw_at lw_m4 59 rfl) rfl
theorem q831 : (Jvm.Cond.selects "StrawMen" ({ cls := "StrawMen", name := "left", desc := "(II)I" } : Jvm.MethodName) ({ cls := "StrawMen", name := "left", desc := "(II)I" } : Jvm.MethodName)) ∈ lw_all := lw_g (lw_at lw_m4 60 rfl) rfl
theorem q832 : (Jvm.Cond.code ({ cls := "StrawMen", name := "left", desc := "(II)I" } : Jvm.MethodName) prog_1_method_24_code (3 : Nat) (Option.some Jvm.ClassFile.FieldType.int)) ∈ lw_all := lw_g (lw_at lw_m4 61 rfl) rfl
theorem q834 : (Jvm.Cond.instanceMethod ({ cls := "StrawMen", name := "fear", desc := "(III)I" } : Jvm.MethodName)) ∈ lw_all := lw_g (lw_at lw_m4 63 rfl) rfl
theorem q835 : (Jvm.Cond.selects "StrawMen" ({ cls := "StrawMen", name := "fear", desc := "(III)I" } : Jvm.MethodName) ({ cls := "StrawMen", name := "fear", desc := "(III)I" } : Jvm.MethodName)) ∈ lw_all := lw_g (lw_at lw_m4 64 rfl) rfl
theorem q836 : (Jvm.Cond.code ({ cls := "StrawMen", name := "fear", desc := "(III)I" } : Jvm.MethodName) prog_1_method_25_code (4 : Nat) (Option.some Jvm.ClassFile.FieldType.int)) ∈ lw_all := lw_g (lw_at lw_m4 65 rfl) rfl
theorem q838 : (Jvm.Cond.instanceMethod ({ cls := "StrawMen", name := "cost", desc := "(I)I" } : Jvm.MethodName)) ∈ lw_all := lw_g (lw_at lw_m4 67 rfl) rfl
theorem q839 : (Jvm.Cond.selects "StrawMen" ({ cls := "StrawMen", name := "cost", desc := "(I)I" } : Jvm.MethodName) ({ cls := "StrawMen", name := "cost", desc := "(I)I" } : Jvm.MethodName)) ∈ lw_all := lw_g (lw_at lw_m4 68 rfl) rfl
theorem q840 : (Jvm.Cond.code ({ cls := "StrawMen", name := "cost", desc := "(I)I" } : Jvm.MethodName) prog_1_method_26_code (2 : Nat) (Option.some Jvm.ClassFile.FieldType.int)) ∈ lw_all := lw_g (lw_at lw_m4 69 rfl) rfl
theorem q841 : (Jvm.Cond.methodLink "StrawMen" (257 : Nat) ({ cls := "StrawMen", name := "costOf", desc := "(LStrawMen$Plan;)I" } : Jvm.MethodName)) ∈ lw_all := lw_g (lw_at lw_m4 70 rfl) rfl
theorem q842 : (Jvm.Cond.privateMethod ({ cls := "StrawMen", name := "costOf", desc := "(LStrawMen$Plan;)I" } : Jvm.MethodName)) ∈ lw_tbl := lw_at lw_m4 71 rfl
theorem q843 : (Jvm.Cond.instanceMethod ({ cls := "StrawMen", name := "costOf", desc := "(LStrawMen$Plan;)I" } : Jvm.MethodName)) ∈ lw_all := lw_g (lw_at lw_m4 72 rfl) rfl
theorem q844 : (Jvm.Cond.code ({ cls := "StrawMen", name := "costOf", desc := "(LStrawMen$Plan;)I" } : Jvm.MethodName) prog_1_method_7_code (2 : Nat) (Option.some Jvm.ClassFile.FieldType.int)) ∈ lw_all := lw_g (lw_at lw_m4 73 rfl) rfl
theorem q845 : (Jvm.Cond.methodLink "StrawMen" (58 : Nat) ({ cls := "StrawMen", name := "wagesOf", desc := "(LStrawMen$Plan;)I" } : Jvm.MethodName)) ∈ lw_all := lw_g (lw_at lw_m4 74 rfl) rfl
theorem q846 : (Jvm.Cond.privateMethod ({ cls := "StrawMen", name := "wagesOf", desc := "(LStrawMen$Plan;)I" } : Jvm.MethodName)) ∈ lw_tbl := lw_at lw_m4 75 rfl
theorem q847 : (Jvm.Cond.instanceMethod ({ cls := "StrawMen", name := "wagesOf", desc := "(LStrawMen$Plan;)I" } : Jvm.MethodName)) ∈ lw_all := lw_g (lw_at lw_m4 76 rfl) rfl
theorem q848 : (Jvm.Cond.code ({ cls := "StrawMen", name := "wagesOf", desc := "(LStrawMen$Plan;)I" } : Jvm.MethodName) prog_1_method_6_code (6 : Nat) (Option.some Jvm.ClassFile.FieldType.int)) ∈ lw_all := lw_g (lw_at lw_m4 77 rfl) rfl
theorem q850 : (Jvm.Cond.instanceMethod ({ cls := "StrawMen", name := "best", desc := "(III)I" } : Jvm.MethodName)) ∈ lw_all := lw_g (lw_at lw_m4 79 rfl) rfl
theorem q851 : (Jvm.Cond.selects "StrawMen" ({ cls := "StrawMen", name := "best", desc := "(III)I" } : Jvm.MethodName) ({ cls := "StrawMen", name := "best", desc := "(III)I" } : Jvm.MethodName)) ∈ lw_all := lw_g (lw_at lw_m4 80 rfl) rfl
theorem q852 : (Jvm.Cond.code ({ cls := "StrawMen", name := "best", desc := "(III)I" } : Jvm.MethodName) prog_1_method_27_code (5 : Nat) (Option.some Jvm.ClassFile.FieldType.int)) ∈ lw_all := lw_g (lw_at lw_m4 81 rfl) rfl
theorem q853 : (Jvm.Cond.constantLong "StrawMen" (260 : Nat) (2 : Int64)) ∈ lw_all := lw_g (lw_at lw_m4 82 rfl) rfl
theorem q854 : (Jvm.Cond.methodLink "StrawMen" (262 : Nat) ({ cls := "StrawMen", name := "bestOf", desc := "(II)I" } : Jvm.MethodName)) ∈ lw_all := lw_g (lw_at lw_m4 83 rfl) rfl
theorem q855 : (Jvm.Cond.privateMethod ({ cls := "StrawMen", name := "bestOf", desc := "(II)I" } : Jvm.MethodName)) ∈ lw_tbl := lw_at lw_m4 84 rfl
theorem q856 : (Jvm.Cond.instanceMethod ({ cls := "StrawMen", name := "bestOf", desc := "(II)I" } : Jvm.MethodName)) ∈ lw_all := lw_g (lw_at lw_m4 85 rfl) rfl
theorem q857 : (Jvm.Cond.code ({ cls := "StrawMen", name := "bestOf", desc := "(II)I" } : Jvm.MethodName) prog_1_method_9_code (6 : Nat) (Option.some Jvm.ClassFile.FieldType.int)) ∈ lw_all := lw_g (lw_at lw_m4 86 rfl) rfl
theorem q858 : (Jvm.Cond.methodLink "StrawMen" (90 : Nat) ({ cls := "StrawMen$Places", name := "first", desc := "()V" } : Jvm.MethodName)) ∈ lw_all := lw_g (lw_at lw_m4 87 rfl) rfl
theorem q863 : (Jvm.Cond.methodLink "StrawMen" (99 : Nat) ({ cls := "StrawMen$World", name := "copy", desc := "(LStrawMen$World;)V" } : Jvm.MethodName)) ∈ lw_all := lw_g (lw_at lw_m4 92 rfl) rfl
theorem q868 : (Jvm.Cond.methodLink "StrawMen" (106 : Nat) ({ cls := "StrawMen$World", name := "go", desc := "([B[Z)I" } : Jvm.MethodName)) ∈ lw_all := lw_g (lw_at lw_m4 97 rfl) rfl
theorem q869 : (Jvm.Cond.methodLink "StrawMen" (110 : Nat) ({ cls := "StrawMen", name := "bestNext", desc := "(I)I" } : Jvm.MethodName)) ∈ lw_all := lw_g (lw_at lw_m4 98 rfl) rfl
theorem q870 : (Jvm.Cond.privateMethod ({ cls := "StrawMen", name := "bestNext", desc := "(I)I" } : Jvm.MethodName)) ∈ lw_tbl := lw_at lw_m4 99 rfl
theorem q871 : (Jvm.Cond.instanceMethod ({ cls := "StrawMen", name := "bestNext", desc := "(I)I" } : Jvm.MethodName)) ∈ lw_all := lw_g (lw_at lw_m4 100 rfl) rfl
theorem q872 : (Jvm.Cond.code ({ cls := "StrawMen", name := "bestNext", desc := "(I)I" } : Jvm.MethodName) prog_1_method_10_code (5 : Nat) (Option.some Jvm.ClassFile.FieldType.int)) ∈ lw_all := lw_g (lw_at lw_m4 101 rfl) rfl
theorem q873 : (Jvm.Cond.methodLink "StrawMen" (133 : Nat) ({ cls := "java/lang/Math", name := "min", desc := "(II)I" } : Jvm.MethodName)) ∈ lw_all := lw_g (lw_at lw_m4 102 rfl) rfl
theorem q874 : (Jvm.Cond.methodLink "StrawMen" (123 : Nat) ({ cls := "StrawMen$Places", name := "next", desc := "()Z" } : Jvm.MethodName)) ∈ lw_all := lw_g (lw_at lw_m4 103 rfl) rfl
theorem q884 : (Jvm.Cond.methodLink "StrawMen" (117 : Nat) ({ cls := "java/lang/System", name := "arraycopy", desc := "(Ljava/lang/Object;ILjava/lang/Object;II)V" } : Jvm.MethodName)) ∈ lw_all := lw_g (lw_at lw_m4 113 rfl) rfl
theorem q886 : (Jvm.Cond.instanceMethod ({ cls := "StrawMen", name := "seldom", desc := "(II)I" } : Jvm.MethodName)) ∈ lw_all := lw_g (lw_at lw_m4 115 rfl) rfl
theorem q887 : (Jvm.Cond.selects "StrawMen" ({ cls := "StrawMen", name := "seldom", desc := "(II)I" } : Jvm.MethodName) ({ cls := "StrawMen", name := "seldom", desc := "(II)I" } : Jvm.MethodName)) ∈ lw_all := lw_g (lw_at lw_m4 116 rfl) rfl
theorem q888 : (Jvm.Cond.code ({ cls := "StrawMen", name := "seldom", desc := "(II)I" } : Jvm.MethodName) prog_1_method_28_code (5 : Nat) (Option.some Jvm.ClassFile.FieldType.int)) ∈ lw_all := lw_g (lw_at lw_m4 117 rfl) rfl
theorem q889 : (Jvm.Cond.constantLong "StrawMen" (265 : Nat) (999 : Int64)) ∈ lw_all := lw_g (lw_at lw_m4 118 rfl) rfl
theorem q890 : (Jvm.Cond.methodLink "StrawMen" (267 : Nat) ({ cls := "StrawMen$Coat", name := "after", desc := "(II)I" } : Jvm.MethodName)) ∈ lw_all := lw_g (lw_at lw_m4 119 rfl) rfl
theorem q892 : (Jvm.Cond.instanceMethod ({ cls := "StrawMen", name := "lasts", desc := "(II)I" } : Jvm.MethodName)) ∈ lw_all := lw_g (lw_at lw_m4 121 rfl) rfl
theorem q893 : (Jvm.Cond.selects "StrawMen" ({ cls := "StrawMen", name := "lasts", desc := "(II)I" } : Jvm.MethodName) ({ cls := "StrawMen", name := "lasts", desc := "(II)I" } : Jvm.MethodName)) ∈ lw_all := lw_g (lw_at lw_m4 122 rfl) rfl
theorem q894 : (Jvm.Cond.code ({ cls := "StrawMen", name := "lasts", desc := "(II)I" } : Jvm.MethodName) prog_1_method_29_code (6 : Nat) (Option.some Jvm.ClassFile.FieldType.int)) ∈ lw_all := lw_g (lw_at lw_m4 123 rfl) rfl
theorem q896 : (Jvm.Cond.instanceMethod ({ cls := "StrawMen", name := "cheapest", desc := "(III)I" } : Jvm.MethodName)) ∈ lw_all := lw_g (lw_at lw_m4 125 rfl) rfl
theorem q897 : (Jvm.Cond.selects "StrawMen" ({ cls := "StrawMen", name := "cheapest", desc := "(III)I" } : Jvm.MethodName) ({ cls := "StrawMen", name := "cheapest", desc := "(III)I" } : Jvm.MethodName)) ∈ lw_all := lw_g (lw_at lw_m4 126 rfl) rfl
theorem q898 : (Jvm.Cond.code ({ cls := "StrawMen", name := "cheapest", desc := "(III)I" } : Jvm.MethodName) prog_1_method_30_code (8 : Nat) (Option.some Jvm.ClassFile.FieldType.int)) ∈ lw_all := lw_g (lw_at lw_m4 127 rfl) rfl
theorem q899 : (Jvm.Cond.methodLink "StrawMen" (270 : Nat) ({ cls := "StrawMen$Plan", name := "copy", desc := "(LStrawMen$Plan;)V" } : Jvm.MethodName)) ∈ lw_all := lw_g (lw_at lw_m4 128 rfl) rfl
theorem q904 : (Jvm.Cond.methodLink "StrawMen" (273 : Nat) ({ cls := "StrawMen$Plan", name := "takeOff", desc := "(II)V" } : Jvm.MethodName)) ∈ lw_all := lw_g (lw_at lw_m4 133 rfl) rfl
theorem q908 : (Jvm.Cond.constant "StrawMen" (276 : Nat) (2147483647 : Int32)) ∈ lw_all := lw_g (lw_at lw_m4 137 rfl) rfl
theorem q910 : (Jvm.Cond.instanceMethod ({ cls := "StrawMen", name := "saved", desc := "(I)I" } : Jvm.MethodName)) ∈ lw_all := lw_g (lw_at lw_m4 139 rfl) rfl
theorem q911 : (Jvm.Cond.selects "StrawMen" ({ cls := "StrawMen", name := "saved", desc := "(I)I" } : Jvm.MethodName) ({ cls := "StrawMen", name := "saved", desc := "(I)I" } : Jvm.MethodName)) ∈ lw_all := lw_g (lw_at lw_m4 140 rfl) rfl
theorem q912 : (Jvm.Cond.code ({ cls := "StrawMen", name := "saved", desc := "(I)I" } : Jvm.MethodName) prog_1_method_32_code (2 : Nat) (Option.some Jvm.ClassFile.FieldType.int)) ∈ lw_all := lw_g (lw_at lw_m4 141 rfl) rfl
theorem q913 : (Jvm.Cond.constantLong "StrawMen" (277 : Nat) (15 : Int64)) ∈ lw_all := lw_g (lw_at lw_m4 142 rfl) rfl
theorem q914 : (Jvm.Cond.methodLink "StrawMen" (279 : Nat) ({ cls := "StrawMen", name := "lossOf", desc := "(I)I" } : Jvm.MethodName)) ∈ lw_all := lw_g (lw_at lw_m4 143 rfl) rfl
theorem q915 : (Jvm.Cond.privateMethod ({ cls := "StrawMen", name := "lossOf", desc := "(I)I" } : Jvm.MethodName)) ∈ lw_tbl := lw_at lw_m4 144 rfl
theorem q916 : (Jvm.Cond.instanceMethod ({ cls := "StrawMen", name := "lossOf", desc := "(I)I" } : Jvm.MethodName)) ∈ lw_all := lw_g (lw_at lw_m4 145 rfl) rfl
theorem q917 : (Jvm.Cond.code ({ cls := "StrawMen", name := "lossOf", desc := "(I)I" } : Jvm.MethodName) prog_1_method_31_code (5 : Nat) (Option.some Jvm.ClassFile.FieldType.int)) ∈ lw_all := lw_g (lw_at lw_m4 146 rfl) rfl
theorem q918 : (Jvm.Cond.constant "StrawMen" (282 : Nat) (100000 : Int32)) ∈ lw_all := lw_g (lw_at lw_m4 147 rfl) rfl
theorem q920 : (Jvm.Cond.instanceMethod ({ cls := "StrawMen", name := "fair", desc := "(II)I" } : Jvm.MethodName)) ∈ lw_all := lw_g (lw_at lw_m4 149 rfl) rfl
theorem q921 : (Jvm.Cond.selects "StrawMen" ({ cls := "StrawMen", name := "fair", desc := "(II)I" } : Jvm.MethodName) ({ cls := "StrawMen", name := "fair", desc := "(II)I" } : Jvm.MethodName)) ∈ lw_all := lw_g (lw_at lw_m4 150 rfl) rfl
theorem q922 : (Jvm.Cond.code ({ cls := "StrawMen", name := "fair", desc := "(II)I" } : Jvm.MethodName) prog_1_method_34_code (7 : Nat) (Option.some Jvm.ClassFile.FieldType.int)) ∈ lw_all := lw_g (lw_at lw_m4 151 rfl) rfl
theorem q923 : (Jvm.Cond.methodLink "StrawMen" (283 : Nat) ({ cls := "java/lang/Integer", name := "bitCount", desc := "(I)I" } : Jvm.MethodName)) ∈ lw_all := lw_g (lw_at lw_m4 152 rfl) rfl
theorem q929 : (Jvm.Cond.constant "StrawMen" (286 : Nat) (2400000 : Int32)) ∈ lw_all := lw_g (lw_at lw_m4 158 rfl) rfl
theorem q930 : (Jvm.Cond.constantLong "StrawMen" (287 : Nat) (24 : Int64)) ∈ lw_all := lw_g (lw_at lw_m4 159 rfl) rfl
theorem q931 : (Jvm.Cond.methodLink "StrawMen" (289 : Nat) ({ cls := "StrawMen", name := "part", desc := "(JJI)J" } : Jvm.MethodName)) ∈ lw_all := lw_g (lw_at lw_m4 160 rfl) rfl
theorem q932 : (Jvm.Cond.static ({ cls := "StrawMen", name := "part", desc := "(JJI)J" } : Jvm.MethodName)) ∈ lw_all := lw_g (lw_at lw_m4 161 rfl) rfl
theorem q933 : (Jvm.Cond.code ({ cls := "StrawMen", name := "part", desc := "(JJI)J" } : Jvm.MethodName) prog_1_method_33_code (11 : Nat) (Option.some Jvm.ClassFile.FieldType.long)) ∈ lw_all := lw_g (lw_at lw_m4 162 rfl) rfl
theorem q935 : (Jvm.Cond.instanceMethod ({ cls := "StrawMen", name := "free", desc := "(I)I" } : Jvm.MethodName)) ∈ lw_all := lw_g (lw_at lw_m4 164 rfl) rfl
theorem q936 : (Jvm.Cond.selects "StrawMen" ({ cls := "StrawMen", name := "free", desc := "(I)I" } : Jvm.MethodName) ({ cls := "StrawMen", name := "free", desc := "(I)I" } : Jvm.MethodName)) ∈ lw_all := lw_g (lw_at lw_m4 165 rfl) rfl
theorem q937 : (Jvm.Cond.code ({ cls := "StrawMen", name := "free", desc := "(I)I" } : Jvm.MethodName) prog_1_method_36_code (3 : Nat) (Option.some Jvm.ClassFile.FieldType.int)) ∈ lw_all := lw_g (lw_at lw_m4 166 rfl) rfl
theorem q938 : (Jvm.Cond.methodLink "StrawMen" (293 : Nat) ({ cls := "StrawMen", name := "lossIn", desc := "(II)I" } : Jvm.MethodName)) ∈ lw_all := lw_g (lw_at lw_m4 167 rfl) rfl
theorem q939 : (Jvm.Cond.privateMethod ({ cls := "StrawMen", name := "lossIn", desc := "(II)I" } : Jvm.MethodName)) ∈ lw_tbl := lw_at lw_m4 168 rfl
theorem q940 : (Jvm.Cond.instanceMethod ({ cls := "StrawMen", name := "lossIn", desc := "(II)I" } : Jvm.MethodName)) ∈ lw_all := lw_g (lw_at lw_m4 169 rfl) rfl
theorem q941 : (Jvm.Cond.code ({ cls := "StrawMen", name := "lossIn", desc := "(II)I" } : Jvm.MethodName) prog_1_method_35_code (5 : Nat) (Option.some Jvm.ClassFile.FieldType.int)) ∈ lw_all := lw_g (lw_at lw_m4 170 rfl) rfl
theorem q943 : (Jvm.Cond.instanceMethod ({ cls := "StrawMen", name := "matters", desc := "()I" } : Jvm.MethodName)) ∈ lw_all := lw_g (lw_at lw_m4 172 rfl) rfl
theorem q944 : (Jvm.Cond.selects "StrawMen" ({ cls := "StrawMen", name := "matters", desc := "()I" } : Jvm.MethodName) ({ cls := "StrawMen", name := "matters", desc := "()I" } : Jvm.MethodName)) ∈ lw_all := lw_g (lw_at lw_m4 173 rfl) rfl
theorem q945 : (Jvm.Cond.code ({ cls := "StrawMen", name := "matters", desc := "()I" } : Jvm.MethodName) prog_1_method_37_code (5 : Nat) (Option.some Jvm.ClassFile.FieldType.int)) ∈ lw_all := lw_g (lw_at lw_m4 174 rfl) rfl
theorem q947 : (Jvm.Cond.instanceMethod ({ cls := "StrawMen", name := "counted", desc := "(III)I" } : Jvm.MethodName)) ∈ lw_all := lw_g (lw_at lw_m4 176 rfl) rfl
theorem q948 : (Jvm.Cond.selects "StrawMen" ({ cls := "StrawMen", name := "counted", desc := "(III)I" } : Jvm.MethodName) ({ cls := "StrawMen", name := "counted", desc := "(III)I" } : Jvm.MethodName)) ∈ lw_all := lw_g (lw_at lw_m4 177 rfl) rfl
theorem q949 : (Jvm.Cond.code ({ cls := "StrawMen", name := "counted", desc := "(III)I" } : Jvm.MethodName) prog_1_method_38_code (4 : Nat) (Option.some Jvm.ClassFile.FieldType.int)) ∈ lw_all := lw_g (lw_at lw_m4 178 rfl) rfl
theorem q950 : (Jvm.Cond.methodLink "StrawMen" (146 : Nat) ({ cls := "java/util/ArrayList", name := "size", desc := "()I" } : Jvm.MethodName)) ∈ lw_all := lw_g (lw_at lw_m4 179 rfl) rfl
theorem q954 : (Jvm.Cond.classLink "StrawMen" (156 : Nat) "StrawMen$Row") ∈ lw_all := lw_g (lw_at lw_m4 183 rfl) rfl
theorem q956 : (Jvm.Cond.methodLink "StrawMen" (296 : Nat) ({ cls := "StrawMen$Row", name := "<init>", desc := "(III)V" } : Jvm.MethodName)) ∈ lw_all := lw_g (lw_at lw_m4 185 rfl) rfl
theorem q961 : (Jvm.Cond.fieldLink "StrawMen" (158 : Nat) "StrawMen$Row" "day" "I") ∈ lw_all := lw_g (lw_at lw_m4 190 rfl) rfl
theorem q963 : (Jvm.Cond.fieldLink "StrawMen" (168 : Nat) "StrawMen$Row" "field" "I") ∈ lw_all := lw_g (lw_at lw_m4 192 rfl) rfl
theorem q965 : (Jvm.Cond.fieldLink "StrawMen" (161 : Nat) "StrawMen$Row" "eaten" "I") ∈ lw_all := lw_g (lw_at lw_m4 194 rfl) rfl
theorem q973 : (Jvm.Cond.methodLink "StrawMen" (297 : Nat) ({ cls := "java/util/ArrayList", name := "add", desc := "(Ljava/lang/Object;)Z" } : Jvm.MethodName)) ∈ lw_all := lw_g (lw_at lw_m4 202 rfl) rfl
theorem q996 : (Jvm.Cond.selects "StrawMen" ({ cls := "java/lang/Object", name := "getClass", desc := "()Ljava/lang/Class;" } : Jvm.MethodName) ({ cls := "java/lang/Object", name := "getClass", desc := "()Ljava/lang/Class;" } : Jvm.MethodName)) ∈ lw_all := lw_g (lw_at lw_m4 225 rfl) rfl
theorem q1022 : (Jvm.Cond.instanceMethod ({ cls := "StrawMen", name := "learnt", desc := "(I)I" } : Jvm.MethodName)) ∈ lw_all := lw_g (lw_at lw_m5 11 rfl) rfl
theorem q1023 : (Jvm.Cond.selects "StrawMen" ({ cls := "StrawMen", name := "learnt", desc := "(I)I" } : Jvm.MethodName) ({ cls := "StrawMen", name := "learnt", desc := "(I)I" } : Jvm.MethodName)) ∈ lw_all := lw_g (lw_at lw_m5 12 rfl) rfl
theorem q1024 : (Jvm.Cond.code ({ cls := "StrawMen", name := "learnt", desc := "(I)I" } : Jvm.MethodName) prog_1_method_39_code (6 : Nat) (Option.some Jvm.ClassFile.FieldType.int)) ∈ lw_all := lw_g (lw_at lw_m5 13 rfl) rfl
theorem q1025 : (Jvm.Cond.methodLink "StrawMen" (301 : Nat) ({ cls := "StrawMen", name := "holds", desc := "(II)Z" } : Jvm.MethodName)) ∈ lw_all := lw_g (lw_at lw_m5 14 rfl) rfl
theorem q1026 : (Jvm.Cond.privateMethod ({ cls := "StrawMen", name := "holds", desc := "(II)Z" } : Jvm.MethodName)) ∈ lw_tbl := lw_at lw_m5 15 rfl
theorem q1027 : (Jvm.Cond.instanceMethod ({ cls := "StrawMen", name := "holds", desc := "(II)Z" } : Jvm.MethodName)) ∈ lw_all := lw_g (lw_at lw_m5 16 rfl) rfl
theorem q1028 : (Jvm.Cond.code ({ cls := "StrawMen", name := "holds", desc := "(II)Z" } : Jvm.MethodName) prog_1_method_11_code (6 : Nat) (Option.some Jvm.ClassFile.FieldType.boolean)) ∈ lw_all := lw_g (lw_at lw_m5 17 rfl) rfl
theorem q1029 : (Jvm.Cond.methodLink "StrawMen" (139 : Nat) ({ cls := "StrawMen$World", name := "begin", desc := "(II)V" } : Jvm.MethodName)) ∈ lw_all := lw_g (lw_at lw_m5 18 rfl) rfl
theorem q1030 : (Jvm.Cond.methodLink "StrawMen" (152 : Nat) ({ cls := "java/util/ArrayList", name := "get", desc := "(I)Ljava/lang/Object;" } : Jvm.MethodName)) ∈ lw_all := lw_g (lw_at lw_m5 19 rfl) rfl
theorem q1043 : (Jvm.Cond.instanceMethod ({ cls := "StrawMen", name := "count", desc := "(I)I" } : Jvm.MethodName)) ∈ lw_all := lw_g (lw_at lw_m5 32 rfl) rfl
theorem q1044 : (Jvm.Cond.selects "StrawMen" ({ cls := "StrawMen", name := "count", desc := "(I)I" } : Jvm.MethodName) ({ cls := "StrawMen", name := "count", desc := "(I)I" } : Jvm.MethodName)) ∈ lw_all := lw_g (lw_at lw_m5 33 rfl) rfl
theorem q1045 : (Jvm.Cond.code ({ cls := "StrawMen", name := "count", desc := "(I)I" } : Jvm.MethodName) prog_1_method_41_code (2 : Nat) (Option.some Jvm.ClassFile.FieldType.int)) ∈ lw_all := lw_g (lw_at lw_m5 34 rfl) rfl
theorem q1046 : (Jvm.Cond.methodLink "StrawMen" (305 : Nat) ({ cls := "StrawMen", name := "toldOf", desc := "([Ljava/lang/Object;)I" } : Jvm.MethodName)) ∈ lw_all := lw_g (lw_at lw_m5 35 rfl) rfl
theorem q1047 : (Jvm.Cond.static ({ cls := "StrawMen", name := "toldOf", desc := "([Ljava/lang/Object;)I" } : Jvm.MethodName)) ∈ lw_all := lw_g (lw_at lw_m5 36 rfl) rfl
theorem q1048 : (Jvm.Cond.code ({ cls := "StrawMen", name := "toldOf", desc := "([Ljava/lang/Object;)I" } : Jvm.MethodName) prog_1_method_40_code (6 : Nat) (Option.some Jvm.ClassFile.FieldType.int)) ∈ lw_all := lw_g (lw_at lw_m5 37 rfl) rfl
theorem q1437 : (Jvm.Cond.castable "StrawMen" "java/lang/Object") ∈ lw_tbl := lw_at lw_m6 186 rfl
theorem q1465 : (Jvm.Cond.stringRef "StrawMen" (311 : Nat) "field") ∈ lw_tbl := lw_at lw_m6 214 rfl
theorem q1466 : (Jvm.Cond.stringRef "StrawMen" (312 : Nat) "flock") ∈ lw_tbl := lw_at lw_m6 215 rfl
theorem q1467 : (Jvm.Cond.stringRef "StrawMen" (314 : Nat) "coat") ∈ lw_tbl := lw_at lw_m6 216 rfl
theorem q1468 : (Jvm.Cond.stringRef "StrawMen" (316 : Nat) "tell") ∈ lw_tbl := lw_at lw_m6 217 rfl
theorem q1469 : (Jvm.Cond.stringRef "StrawMen" (317 : Nat) "wage") ∈ lw_tbl := lw_at lw_m6 218 rfl
theorem q1470 : (Jvm.Cond.stringRef "StrawMen" (318 : Nat) "price") ∈ lw_tbl := lw_at lw_m6 219 rfl
theorem q1471 : (Jvm.Cond.stringRef "StrawMen" (319 : Nat) "days") ∈ lw_tbl := lw_at lw_m6 220 rfl
theorem q1472 : (Jvm.Cond.stringRef "StrawMen" (320 : Nat) "bare") ∈ lw_tbl := lw_at lw_m6 221 rfl
theorem in_X0 : ∀ w ∈ wsX00, w ∈ lw_all := lw_in wsX00 [248, 250, 252, 254, 256, 258, 260, 262, 264, 266, 268, 270, 272, 274, 276, 278, 280, 282, 284] (by decide +kernel) (by decide +kernel)
